/-! java/lang/Throwable -/
set_option maxRecDepth 100000
def RJ0 : String := "java/lang/Throwable"
def TJ0 : u_T := fun k => match k with
  | 0 => ("java/lang/Throwable", "cause", "Ljava/lang/Throwable;", false)
  | 1 => ("java/lang/Throwable", "stackTrace", "[Ljava/lang/StackTraceElement;", false)
  | 2 => ("java/lang/Throwable", "suppressedExceptions", "Ljava/util/List;", false)
  | 3 => ("java/lang/Throwable", "detailMessage", "Ljava/lang/String;", false)
  | _ => ("java/lang/Throwable", "backtrace", "Ljava/lang/Object;", false)
def tyJ0 : Nat → FieldType := fun k => match k with
  | 0 => .object "java/lang/Throwable"
  | 1 => .array (.object "java/lang/StackTraceElement")
  | 2 => .object "java/util/List"
  | 3 => .object "java/lang/String"
  | _ => .object "java/lang/Object"
abbrev wsJ00 : List Cond := u_ws RJ0 TJ0 5
theorem nmJ0 : ∀ a, a < 5 → ∀ b, b < 5 → a ≠ b → (TJ0 a).2.1 ≠ (TJ0 b).2.1 := by decide +kernel
theorem tyJ0_ok : ∀ k, k < 5 → parseFieldDescriptor (TJ0 k).2.2.1 = some (tyJ0 k) := by decide +kernel
abbrev cJ0_init : ByteArray := prog_32_method_1_code
def yJ0_init : MethodName := ⟨RJ0, "<init>", "()V"⟩
def dkwJ0_init_1 : List UInt8 := [182, 0, 27, 87, 177]
abbrev dktJ0_init_1 : List UInt8 := dkwJ0_init_1 ++ []
def dkwJ0_init_0 : List UInt8 := [42, 183, 0, 1, 42, 42, 181, 0, 7, 42, 178, 0, 13, 181, 0, 17, 42, 178, 0, 20, 181, 0, 24, 42]
abbrev dktJ0_init_0 : List UInt8 := dkwJ0_init_0 ++ dktJ0_init_1
theorem dksJ0_init_0 : cJ0_init.data.toList.drop 0 = dktJ0_init_0 := by decide +kernel
theorem dksJ0_init_1 : cJ0_init.data.toList.drop 24 = dktJ0_init_1 := dk_seg dksJ0_init_0 24 rfl rfl
theorem dJ0_init_0 : decode cJ0_init 0 = .ok (.aload_n 0, 1) := dk_42 (dk_at dksJ0_init_0 0 rfl rfl)
theorem dJ0_init_1 : decode cJ0_init 1 = .ok (.invokespecial 1, 3) := dk_183 0 1 (dk_at dksJ0_init_0 1 rfl rfl)
theorem dJ0_init_4 : decode cJ0_init 4 = .ok (.aload_n 0, 1) := dk_42 (dk_at dksJ0_init_0 4 rfl rfl)
theorem dJ0_init_5 : decode cJ0_init 5 = .ok (.aload_n 0, 1) := dk_42 (dk_at dksJ0_init_0 5 rfl rfl)
theorem dJ0_init_6 : decode cJ0_init 6 = .ok (.putfield 7, 3) := dk_181 0 7 (dk_at dksJ0_init_0 6 rfl rfl)
theorem dJ0_init_9 : decode cJ0_init 9 = .ok (.aload_n 0, 1) := dk_42 (dk_at dksJ0_init_0 9 rfl rfl)
theorem dJ0_init_10 : decode cJ0_init 10 = .ok (.getstatic 13, 3) := dk_178 0 13 (dk_at dksJ0_init_0 10 rfl rfl)
theorem dJ0_init_13 : decode cJ0_init 13 = .ok (.putfield 17, 3) := dk_181 0 17 (dk_at dksJ0_init_0 13 rfl rfl)
theorem dJ0_init_16 : decode cJ0_init 16 = .ok (.aload_n 0, 1) := dk_42 (dk_at dksJ0_init_0 16 rfl rfl)
theorem dJ0_init_17 : decode cJ0_init 17 = .ok (.getstatic 20, 3) := dk_178 0 20 (dk_at dksJ0_init_0 17 rfl rfl)
theorem dJ0_init_20 : decode cJ0_init 20 = .ok (.putfield 24, 3) := dk_181 0 24 (dk_at dksJ0_init_0 20 rfl rfl)
theorem dJ0_init_23 : decode cJ0_init 23 = .ok (.aload_n 0, 1) := dk_42 (dk_at dksJ0_init_0 23 rfl rfl)
theorem dJ0_init_24 : decode cJ0_init 24 = .ok (.invokevirtual 27, 3) := dk_182 0 27 (dk_at dksJ0_init_1 0 rfl rfl)
theorem dJ0_init_27 : decode cJ0_init 27 = .ok (.pop, 1) := dk_87 (dk_at dksJ0_init_1 3 rfl rfl)
theorem dJ0_init_28 : decode cJ0_init 28 = .ok (.return_, 1) := dk_177 (dk_at dksJ0_init_1 4 rfl rfl)
abbrev cJ0_init_2 : ByteArray := prog_32_method_5_code
def yJ0_init_2 : MethodName := ⟨RJ0, "<init>", "(Ljava/lang/String;Ljava/lang/Throwable;ZZ)V"⟩
def dkwJ0_init_2_2 : List UInt8 := [44, 181, 0, 7, 29, 154, 0, 8, 42, 1, 181, 0, 24, 177]
abbrev dktJ0_init_2_2 : List UInt8 := dkwJ0_init_2_2 ++ []
def dkwJ0_init_2_1 : List UInt8 := [21, 4, 153, 0, 11, 42, 182, 0, 27, 87, 167, 0, 8, 42, 1, 181, 0, 17, 42, 43, 181, 0, 31, 42]
abbrev dktJ0_init_2_1 : List UInt8 := dkwJ0_init_2_1 ++ dktJ0_init_2_2
def dkwJ0_init_2_0 : List UInt8 := [42, 183, 0, 1, 42, 42, 181, 0, 7, 42, 178, 0, 13, 181, 0, 17, 42, 178, 0, 20, 181, 0, 24]
abbrev dktJ0_init_2_0 : List UInt8 := dkwJ0_init_2_0 ++ dktJ0_init_2_1
theorem dksJ0_init_2_0 : cJ0_init_2.data.toList.drop 0 = dktJ0_init_2_0 := by decide +kernel
theorem dksJ0_init_2_1 : cJ0_init_2.data.toList.drop 23 = dktJ0_init_2_1 := dk_seg dksJ0_init_2_0 23 rfl rfl
theorem dksJ0_init_2_2 : cJ0_init_2.data.toList.drop 47 = dktJ0_init_2_2 := dk_seg dksJ0_init_2_1 24 rfl rfl
theorem dJ0_init_2_0 : decode cJ0_init_2 0 = .ok (.aload_n 0, 1) := dk_42 (dk_at dksJ0_init_2_0 0 rfl rfl)
theorem dJ0_init_2_1 : decode cJ0_init_2 1 = .ok (.invokespecial 1, 3) := dk_183 0 1 (dk_at dksJ0_init_2_0 1 rfl rfl)
theorem dJ0_init_2_4 : decode cJ0_init_2 4 = .ok (.aload_n 0, 1) := dk_42 (dk_at dksJ0_init_2_0 4 rfl rfl)
theorem dJ0_init_2_5 : decode cJ0_init_2 5 = .ok (.aload_n 0, 1) := dk_42 (dk_at dksJ0_init_2_0 5 rfl rfl)
theorem dJ0_init_2_6 : decode cJ0_init_2 6 = .ok (.putfield 7, 3) := dk_181 0 7 (dk_at dksJ0_init_2_0 6 rfl rfl)
theorem dJ0_init_2_9 : decode cJ0_init_2 9 = .ok (.aload_n 0, 1) := dk_42 (dk_at dksJ0_init_2_0 9 rfl rfl)
theorem dJ0_init_2_10 : decode cJ0_init_2 10 = .ok (.getstatic 13, 3) := dk_178 0 13 (dk_at dksJ0_init_2_0 10 rfl rfl)
theorem dJ0_init_2_13 : decode cJ0_init_2 13 = .ok (.putfield 17, 3) := dk_181 0 17 (dk_at dksJ0_init_2_0 13 rfl rfl)
theorem dJ0_init_2_16 : decode cJ0_init_2 16 = .ok (.aload_n 0, 1) := dk_42 (dk_at dksJ0_init_2_0 16 rfl rfl)
theorem dJ0_init_2_17 : decode cJ0_init_2 17 = .ok (.getstatic 20, 3) := dk_178 0 20 (dk_at dksJ0_init_2_0 17 rfl rfl)
theorem dJ0_init_2_20 : decode cJ0_init_2 20 = .ok (.putfield 24, 3) := dk_181 0 24 (dk_at dksJ0_init_2_0 20 rfl rfl)
theorem dJ0_init_2_23 : decode cJ0_init_2 23 = .ok (.iload 4, 2) := dk_21 4 (dk_at dksJ0_init_2_1 0 rfl rfl)
theorem dJ0_init_2_25 : decode cJ0_init_2 25 = .ok (.ifCond .eq 11, 3) := dk_153 0 11 (dk_at dksJ0_init_2_1 2 rfl rfl)
theorem dJ0_init_2_28 : decode cJ0_init_2 28 = .ok (.aload_n 0, 1) := dk_42 (dk_at dksJ0_init_2_1 5 rfl rfl)
theorem dJ0_init_2_29 : decode cJ0_init_2 29 = .ok (.invokevirtual 27, 3) := dk_182 0 27 (dk_at dksJ0_init_2_1 6 rfl rfl)
theorem dJ0_init_2_32 : decode cJ0_init_2 32 = .ok (.pop, 1) := dk_87 (dk_at dksJ0_init_2_1 9 rfl rfl)
theorem dJ0_init_2_33 : decode cJ0_init_2 33 = .ok (.goto 8, 3) := dk_167 0 8 (dk_at dksJ0_init_2_1 10 rfl rfl)
theorem dJ0_init_2_36 : decode cJ0_init_2 36 = .ok (.aload_n 0, 1) := dk_42 (dk_at dksJ0_init_2_1 13 rfl rfl)
theorem dJ0_init_2_37 : decode cJ0_init_2 37 = .ok (.aconst_null, 1) := dk_1 (dk_at dksJ0_init_2_1 14 rfl rfl)
theorem dJ0_init_2_38 : decode cJ0_init_2 38 = .ok (.putfield 17, 3) := dk_181 0 17 (dk_at dksJ0_init_2_1 15 rfl rfl)
theorem dJ0_init_2_41 : decode cJ0_init_2 41 = .ok (.aload_n 0, 1) := dk_42 (dk_at dksJ0_init_2_1 18 rfl rfl)
theorem dJ0_init_2_42 : decode cJ0_init_2 42 = .ok (.aload_n 1, 1) := dk_43 (dk_at dksJ0_init_2_1 19 rfl rfl)
theorem dJ0_init_2_43 : decode cJ0_init_2 43 = .ok (.putfield 31, 3) := dk_181 0 31 (dk_at dksJ0_init_2_1 20 rfl rfl)
theorem dJ0_init_2_46 : decode cJ0_init_2 46 = .ok (.aload_n 0, 1) := dk_42 (dk_at dksJ0_init_2_1 23 rfl rfl)
theorem dJ0_init_2_47 : decode cJ0_init_2 47 = .ok (.aload_n 2, 1) := dk_44 (dk_at dksJ0_init_2_2 0 rfl rfl)
theorem dJ0_init_2_48 : decode cJ0_init_2 48 = .ok (.putfield 7, 3) := dk_181 0 7 (dk_at dksJ0_init_2_2 1 rfl rfl)
theorem dJ0_init_2_51 : decode cJ0_init_2 51 = .ok (.iload_n 3, 1) := dk_29 (dk_at dksJ0_init_2_2 4 rfl rfl)
theorem dJ0_init_2_52 : decode cJ0_init_2 52 = .ok (.ifCond .ne 8, 3) := dk_154 0 8 (dk_at dksJ0_init_2_2 5 rfl rfl)
theorem dJ0_init_2_55 : decode cJ0_init_2 55 = .ok (.aload_n 0, 1) := dk_42 (dk_at dksJ0_init_2_2 8 rfl rfl)
theorem dJ0_init_2_56 : decode cJ0_init_2 56 = .ok (.aconst_null, 1) := dk_1 (dk_at dksJ0_init_2_2 9 rfl rfl)
theorem dJ0_init_2_57 : decode cJ0_init_2 57 = .ok (.putfield 24, 3) := dk_181 0 24 (dk_at dksJ0_init_2_2 10 rfl rfl)
theorem dJ0_init_2_60 : decode cJ0_init_2 60 = .ok (.return_, 1) := dk_177 (dk_at dksJ0_init_2_2 13 rfl rfl)
theorem q109 : (Jvm.Cond.initialized "java/lang/Throwable") ∈ lw_all := lw_g (lw_at lw_m1 7 rfl) rfl
theorem q361 : (Jvm.Cond.declares ({ cls := "java/lang/Throwable", name := "<init>", desc := "()V" } : Jvm.MethodName)) ∈ lw_tbl := lw_at lw_m2 19 rfl
theorem q362 : (Jvm.Cond.declares ({ cls := "java/lang/Throwable", name := "<init>", desc := "(Ljava/lang/String;)V" } : Jvm.MethodName)) ∈ lw_tbl := lw_at lw_m2 20 rfl
theorem q366 : (Jvm.Cond.lays "java/lang/Throwable" "java/lang/Throwable" "cause" "Ljava/lang/Throwable;") ∈ lw_all := lw_g (lw_at lw_m2 24 rfl) rfl
theorem q368 : (Jvm.Cond.lays "java/lang/Throwable" "java/lang/Throwable" "stackTrace" "[Ljava/lang/StackTraceElement;") ∈ lw_all := lw_g (lw_at lw_m2 26 rfl) rfl
theorem q370 : (Jvm.Cond.lays "java/lang/Throwable" "java/lang/Throwable" "suppressedExceptions" "Ljava/util/List;") ∈ lw_all := lw_g (lw_at lw_m2 28 rfl) rfl
theorem q372 : (Jvm.Cond.lays "java/lang/Throwable" "java/lang/Throwable" "detailMessage" "Ljava/lang/String;") ∈ lw_all := lw_g (lw_at lw_m2 30 rfl) rfl
theorem q374 : (Jvm.Cond.lays "java/lang/Throwable" "java/lang/Throwable" "backtrace" "Ljava/lang/Object;") ∈ lw_all := lw_g (lw_at lw_m2 32 rfl) rfl
theorem q375 : (Jvm.Cond.fieldLink "java/lang/Throwable" (198 : Nat) "java/lang/Throwable" "backtrace" "Ljava/lang/Object;") ∈ lw_all := lw_g (lw_at lw_m2 33 rfl) rfl
theorem q376 : (Jvm.Cond.superclass "java/lang/Throwable" "java/lang/Object") ∈ lw_all := lw_g (lw_at lw_m2 34 rfl) rfl
theorem q377 : (Jvm.Cond.instanceMethod ({ cls := "java/lang/Throwable", name := "<init>", desc := "()V" } : Jvm.MethodName)) ∈ lw_all := lw_g (lw_at lw_m2 35 rfl) rfl
theorem q378 : (Jvm.Cond.code ({ cls := "java/lang/Throwable", name := "<init>", desc := "()V" } : Jvm.MethodName) prog_32_method_1_code (1 : Nat) (Option.none : Option Jvm.ClassFile.FieldType)) ∈ lw_all := lw_g (lw_at lw_m2 36 rfl) rfl
theorem q379 : (Jvm.Cond.methodLink "java/lang/Throwable" (1 : Nat) ({ cls := "java/lang/Object", name := "<init>", desc := "()V" } : Jvm.MethodName)) ∈ lw_all := lw_g (lw_at lw_m2 37 rfl) rfl
theorem q380 : (Jvm.Cond.fieldLink "java/lang/Throwable" (13 : Nat) "java/lang/Throwable" "UNASSIGNED_STACK" "[Ljava/lang/StackTraceElement;") ∈ lw_all := lw_g (lw_at lw_m2 38 rfl) rfl
theorem q381 : (Jvm.Cond.laysStatic "java/lang/Throwable" "UNASSIGNED_STACK" "[Ljava/lang/StackTraceElement;") ∈ lw_tbl := lw_at lw_m2 39 rfl
theorem q382 : (Jvm.Cond.fieldLink "java/lang/Throwable" (20 : Nat) "java/lang/Throwable" "SUPPRESSED_SENTINEL" "Ljava/util/List;") ∈ lw_all := lw_g (lw_at lw_m2 40 rfl) rfl
theorem q383 : (Jvm.Cond.laysStatic "java/lang/Throwable" "SUPPRESSED_SENTINEL" "Ljava/util/List;") ∈ lw_tbl := lw_at lw_m2 41 rfl
theorem q384 : (Jvm.Cond.methodLink "java/lang/Throwable" (27 : Nat) ({ cls := "java/lang/Throwable", name := "fillInStackTrace", desc := "()Ljava/lang/Throwable;" } : Jvm.MethodName)) ∈ lw_all := lw_g (lw_at lw_m2 42 rfl) rfl
theorem q385 : (Jvm.Cond.instanceMethod ({ cls := "java/lang/Throwable", name := "fillInStackTrace", desc := "()Ljava/lang/Throwable;" } : Jvm.MethodName)) ∈ lw_all := lw_g (lw_at lw_m2 43 rfl) rfl
theorem q386 : (Jvm.Cond.sameMethod "java/lang/Throwable" "java/lang/Throwable" "fillInStackTrace" "()Ljava/lang/Throwable;") ∈ lw_all := lw_g (lw_at lw_m2 44 rfl) rfl
theorem q388 : (Jvm.Cond.codeSync ({ cls := "java/lang/Throwable", name := "fillInStackTrace", desc := "()Ljava/lang/Throwable;" } : Jvm.MethodName) prog_32_method_18_code (1 : Nat) (Option.some (Jvm.ClassFile.FieldType.object "java/lang/Throwable"))) ∈ lw_all := lw_g (lw_at lw_m2 46 rfl) rfl
theorem q389 : (Jvm.Cond.methodLink "java/lang/Throwable" (202 : Nat) ({ cls := "java/lang/Throwable", name := "fillInStackTrace", desc := "(I)Ljava/lang/Throwable;" } : Jvm.MethodName)) ∈ lw_all := lw_g (lw_at lw_m2 47 rfl) rfl
theorem q390 : (Jvm.Cond.privateMethod ({ cls := "java/lang/Throwable", name := "fillInStackTrace", desc := "(I)Ljava/lang/Throwable;" } : Jvm.MethodName)) ∈ lw_tbl := lw_at lw_m2 48 rfl
theorem q391 : (Jvm.Cond.instanceMethod ({ cls := "java/lang/Throwable", name := "fillInStackTrace", desc := "(I)Ljava/lang/Throwable;" } : Jvm.MethodName)) ∈ lw_all := lw_g (lw_at lw_m2 49 rfl) rfl
theorem q392 : (Jvm.Cond.instantiable "java/lang/Throwable" (6 : Nat)) ∈ lw_all := lw_g (lw_at lw_m2 50 rfl) rfl
theorem q393 : (Jvm.Cond.native ({ cls := "java/lang/Throwable", name := "fillInStackTrace", desc := "(I)Ljava/lang/Throwable;" } : Jvm.MethodName)) ∈ lw_all := lw_g (lw_at lw_m2 51 rfl) rfl
theorem q404 : (Jvm.Cond.instanceMethod ({ cls := "java/lang/Throwable", name := "<init>", desc := "(Ljava/lang/String;Ljava/lang/Throwable;ZZ)V" } : Jvm.MethodName)) ∈ lw_all := lw_g (lw_at lw_m2 62 rfl) rfl
theorem q405 : (Jvm.Cond.code ({ cls := "java/lang/Throwable", name := "<init>", desc := "(Ljava/lang/String;Ljava/lang/Throwable;ZZ)V" } : Jvm.MethodName) prog_32_method_5_code (5 : Nat) (Option.none : Option Jvm.ClassFile.FieldType)) ∈ lw_all := lw_g (lw_at lw_m2 63 rfl) rfl
theorem q408 : (Jvm.Cond.fieldLink "java/lang/Throwable" (198 : Nat) "java/lang/Throwable" "backtrace" "Ljava/lang/Object;") ∈ lw_all := lw_g (lw_at lw_m2 66 rfl) rfl
theorem q409 : (Jvm.Cond.fieldLink "java/lang/Throwable" (31 : Nat) "java/lang/Throwable" "detailMessage" "Ljava/lang/String;") ∈ lw_all := lw_g (lw_at lw_m2 67 rfl) rfl
theorem q410 : (Jvm.Cond.fieldLink "java/lang/Throwable" (7 : Nat) "java/lang/Throwable" "cause" "Ljava/lang/Throwable;") ∈ lw_all := lw_g (lw_at lw_m2 68 rfl) rfl
theorem q411 : (Jvm.Cond.fieldLink "java/lang/Throwable" (17 : Nat) "java/lang/Throwable" "stackTrace" "[Ljava/lang/StackTraceElement;") ∈ lw_all := lw_g (lw_at lw_m2 69 rfl) rfl
theorem q412 : (Jvm.Cond.fieldLink "java/lang/Throwable" (24 : Nat) "java/lang/Throwable" "suppressedExceptions" "Ljava/util/List;") ∈ lw_all := lw_g (lw_at lw_m2 70 rfl) rfl
theorem q415 : (Jvm.Cond.soleField "java/lang/Throwable" "backtrace") ∈ lw_all := lw_g (lw_at lw_m2 73 rfl) rfl
theorem q416 : (Jvm.Cond.soleField "java/lang/Throwable" "detailMessage") ∈ lw_all := lw_g (lw_at lw_m2 74 rfl) rfl
theorem q417 : (Jvm.Cond.soleField "java/lang/Throwable" "cause") ∈ lw_all := lw_g (lw_at lw_m2 75 rfl) rfl
theorem q418 : (Jvm.Cond.soleField "java/lang/Throwable" "stackTrace") ∈ lw_all := lw_g (lw_at lw_m2 76 rfl) rfl
theorem q420 : (Jvm.Cond.soleField "java/lang/Throwable" "depth") ∈ lw_all := lw_g (lw_at lw_m2 78 rfl) rfl
theorem q421 : (Jvm.Cond.soleField "java/lang/Throwable" "suppressedExceptions") ∈ lw_all := lw_g (lw_at lw_m2 79 rfl) rfl
theorem q1884 : (Jvm.Cond.sameMethod "java/lang/Throwable" "java/lang/Throwable" "fillInStackTrace" "(I)Ljava/lang/Throwable;") ∈ lw_all := lw_g (lw_at lw_m8 102 rfl) rfl
theorem q1913 : (Jvm.Cond.castable "java/lang/Throwable" "java/lang/Object") ∈ lw_tbl := lw_at lw_m8 131 rfl
theorem in_J0 : ∀ w ∈ wsJ00, w ∈ lw_all := lw_in wsJ00 [366, 368, 370, 372, 374] (by decide +kernel) (by decide +kernel)
/-! java/lang/Exception -/
set_option maxRecDepth 100000
def RJ1 : String := "java/lang/Exception"
abbrev cJ1_init : ByteArray := prog_27_method_5_code
def yJ1_init : MethodName := ⟨RJ1, "<init>", "(Ljava/lang/String;Ljava/lang/Throwable;ZZ)V"⟩
def dkwJ1_init_0 : List UInt8 := [42, 43, 44, 29, 21, 4, 183, 0, 16, 177]
abbrev dktJ1_init_0 : List UInt8 := dkwJ1_init_0 ++ []
theorem dksJ1_init_0 : cJ1_init.data.toList.drop 0 = dktJ1_init_0 := by decide +kernel
theorem dJ1_init_0 : decode cJ1_init 0 = .ok (.aload_n 0, 1) := dk_42 (dk_at dksJ1_init_0 0 rfl rfl)
theorem dJ1_init_1 : decode cJ1_init 1 = .ok (.aload_n 1, 1) := dk_43 (dk_at dksJ1_init_0 1 rfl rfl)
theorem dJ1_init_2 : decode cJ1_init 2 = .ok (.aload_n 2, 1) := dk_44 (dk_at dksJ1_init_0 2 rfl rfl)
theorem dJ1_init_3 : decode cJ1_init 3 = .ok (.iload_n 3, 1) := dk_29 (dk_at dksJ1_init_0 3 rfl rfl)
theorem dJ1_init_4 : decode cJ1_init 4 = .ok (.iload 4, 2) := dk_21 4 (dk_at dksJ1_init_0 4 rfl rfl)
theorem dJ1_init_6 : decode cJ1_init 6 = .ok (.invokespecial 16, 3) := dk_183 0 16 (dk_at dksJ1_init_0 6 rfl rfl)
theorem dJ1_init_9 : decode cJ1_init 9 = .ok (.return_, 1) := dk_177 (dk_at dksJ1_init_0 9 rfl rfl)
abbrev cJ1_init_2 : ByteArray := prog_27_method_1_code
def yJ1_init_2 : MethodName := ⟨RJ1, "<init>", "()V"⟩
theorem dJ1_init_2_0 : decode cJ1_init_2 0 = .ok (.aload_n 0, 1) := by decide +kernel
theorem dJ1_init_2_1 : decode cJ1_init_2 1 = .ok (.invokespecial 1, 3) := by decide +kernel
theorem dJ1_init_2_4 : decode cJ1_init_2 4 = .ok (.return_, 1) := by decide +kernel
theorem q110 : (Jvm.Cond.initialized "java/lang/Exception") ∈ lw_all := lw_g (lw_at lw_m1 8 rfl) rfl
theorem q359 : (Jvm.Cond.declares ({ cls := "java/lang/Exception", name := "<init>", desc := "()V" } : Jvm.MethodName)) ∈ lw_tbl := lw_at lw_m2 17 rfl
theorem q360 : (Jvm.Cond.declares ({ cls := "java/lang/Exception", name := "<init>", desc := "(Ljava/lang/String;)V" } : Jvm.MethodName)) ∈ lw_tbl := lw_at lw_m2 18 rfl
theorem q401 : (Jvm.Cond.instanceMethod ({ cls := "java/lang/Exception", name := "<init>", desc := "(Ljava/lang/String;Ljava/lang/Throwable;ZZ)V" } : Jvm.MethodName)) ∈ lw_all := lw_g (lw_at lw_m2 59 rfl) rfl
theorem q402 : (Jvm.Cond.code ({ cls := "java/lang/Exception", name := "<init>", desc := "(Ljava/lang/String;Ljava/lang/Throwable;ZZ)V" } : Jvm.MethodName) prog_27_method_5_code (5 : Nat) (Option.none : Option Jvm.ClassFile.FieldType)) ∈ lw_all := lw_g (lw_at lw_m2 60 rfl) rfl
theorem q403 : (Jvm.Cond.methodLink "java/lang/Exception" (16 : Nat) ({ cls := "java/lang/Throwable", name := "<init>", desc := "(Ljava/lang/String;Ljava/lang/Throwable;ZZ)V" } : Jvm.MethodName)) ∈ lw_all := lw_g (lw_at lw_m2 61 rfl) rfl
theorem q1286 : (Jvm.Cond.instanceMethod ({ cls := "java/lang/Exception", name := "<init>", desc := "()V" } : Jvm.MethodName)) ∈ lw_all := lw_g (lw_at lw_m5 224 rfl) rfl
theorem q1287 : (Jvm.Cond.code ({ cls := "java/lang/Exception", name := "<init>", desc := "()V" } : Jvm.MethodName) prog_27_method_1_code (1 : Nat) (Option.none : Option Jvm.ClassFile.FieldType)) ∈ lw_all := lw_g (lw_at lw_m5 225 rfl) rfl
theorem q1288 : (Jvm.Cond.methodLink "java/lang/Exception" (1 : Nat) ({ cls := "java/lang/Throwable", name := "<init>", desc := "()V" } : Jvm.MethodName)) ∈ lw_all := lw_g (lw_at lw_m5 226 rfl) rfl
/-! java/lang/RuntimeException -/
set_option maxRecDepth 100000
def RJ2 : String := "java/lang/RuntimeException"
abbrev cJ2_init : ByteArray := prog_30_method_5_code
def yJ2_init : MethodName := ⟨RJ2, "<init>", "(Ljava/lang/String;Ljava/lang/Throwable;ZZ)V"⟩
def dkwJ2_init_0 : List UInt8 := [42, 43, 44, 29, 21, 4, 183, 0, 16, 177]
abbrev dktJ2_init_0 : List UInt8 := dkwJ2_init_0 ++ []
theorem dksJ2_init_0 : cJ2_init.data.toList.drop 0 = dktJ2_init_0 := by decide +kernel
theorem dJ2_init_0 : decode cJ2_init 0 = .ok (.aload_n 0, 1) := dk_42 (dk_at dksJ2_init_0 0 rfl rfl)
theorem dJ2_init_1 : decode cJ2_init 1 = .ok (.aload_n 1, 1) := dk_43 (dk_at dksJ2_init_0 1 rfl rfl)
theorem dJ2_init_2 : decode cJ2_init 2 = .ok (.aload_n 2, 1) := dk_44 (dk_at dksJ2_init_0 2 rfl rfl)
theorem dJ2_init_3 : decode cJ2_init 3 = .ok (.iload_n 3, 1) := dk_29 (dk_at dksJ2_init_0 3 rfl rfl)
theorem dJ2_init_4 : decode cJ2_init 4 = .ok (.iload 4, 2) := dk_21 4 (dk_at dksJ2_init_0 4 rfl rfl)
theorem dJ2_init_6 : decode cJ2_init 6 = .ok (.invokespecial 16, 3) := dk_183 0 16 (dk_at dksJ2_init_0 6 rfl rfl)
theorem dJ2_init_9 : decode cJ2_init 9 = .ok (.return_, 1) := dk_177 (dk_at dksJ2_init_0 9 rfl rfl)
abbrev cJ2_init_2 : ByteArray := prog_30_method_1_code
def yJ2_init_2 : MethodName := ⟨RJ2, "<init>", "()V"⟩
theorem dJ2_init_2_0 : decode cJ2_init_2 0 = .ok (.aload_n 0, 1) := by decide +kernel
theorem dJ2_init_2_1 : decode cJ2_init_2 1 = .ok (.invokespecial 1, 3) := by decide +kernel
theorem dJ2_init_2_4 : decode cJ2_init_2 4 = .ok (.return_, 1) := by decide +kernel
theorem q111 : (Jvm.Cond.initialized "java/lang/RuntimeException") ∈ lw_all := lw_g (lw_at lw_m1 9 rfl) rfl
theorem q357 : (Jvm.Cond.declares ({ cls := "java/lang/RuntimeException", name := "<init>", desc := "()V" } : Jvm.MethodName)) ∈ lw_tbl := lw_at lw_m2 15 rfl
theorem q358 : (Jvm.Cond.declares ({ cls := "java/lang/RuntimeException", name := "<init>", desc := "(Ljava/lang/String;)V" } : Jvm.MethodName)) ∈ lw_tbl := lw_at lw_m2 16 rfl
theorem q398 : (Jvm.Cond.instanceMethod ({ cls := "java/lang/RuntimeException", name := "<init>", desc := "(Ljava/lang/String;Ljava/lang/Throwable;ZZ)V" } : Jvm.MethodName)) ∈ lw_all := lw_g (lw_at lw_m2 56 rfl) rfl
theorem q399 : (Jvm.Cond.code ({ cls := "java/lang/RuntimeException", name := "<init>", desc := "(Ljava/lang/String;Ljava/lang/Throwable;ZZ)V" } : Jvm.MethodName) prog_30_method_5_code (5 : Nat) (Option.none : Option Jvm.ClassFile.FieldType)) ∈ lw_all := lw_g (lw_at lw_m2 57 rfl) rfl
theorem q400 : (Jvm.Cond.methodLink "java/lang/RuntimeException" (16 : Nat) ({ cls := "java/lang/Exception", name := "<init>", desc := "(Ljava/lang/String;Ljava/lang/Throwable;ZZ)V" } : Jvm.MethodName)) ∈ lw_all := lw_g (lw_at lw_m2 58 rfl) rfl
theorem q1283 : (Jvm.Cond.instanceMethod ({ cls := "java/lang/RuntimeException", name := "<init>", desc := "()V" } : Jvm.MethodName)) ∈ lw_all := lw_g (lw_at lw_m5 221 rfl) rfl
theorem q1284 : (Jvm.Cond.code ({ cls := "java/lang/RuntimeException", name := "<init>", desc := "()V" } : Jvm.MethodName) prog_30_method_1_code (1 : Nat) (Option.none : Option Jvm.ClassFile.FieldType)) ∈ lw_all := lw_g (lw_at lw_m5 222 rfl) rfl
theorem q1285 : (Jvm.Cond.methodLink "java/lang/RuntimeException" (1 : Nat) ({ cls := "java/lang/Exception", name := "<init>", desc := "()V" } : Jvm.MethodName)) ∈ lw_all := lw_g (lw_at lw_m5 223 rfl) rfl
/-! java/lang/Math -/
set_option maxRecDepth 100000
def RJ3 : String := "java/lang/Math"
abbrev cJ3_max : ByteArray := prog_29_method_65_code
def yJ3_max : MethodName := ⟨RJ3, "max", "(II)I"⟩
def dkwJ3_max_0 : List UInt8 := [26, 27, 161, 0, 7, 26, 167, 0, 4, 27, 172]
abbrev dktJ3_max_0 : List UInt8 := dkwJ3_max_0 ++ []
theorem dksJ3_max_0 : cJ3_max.data.toList.drop 0 = dktJ3_max_0 := by decide +kernel
theorem dJ3_max_0 : decode cJ3_max 0 = .ok (.iload_n 0, 1) := dk_26 (dk_at dksJ3_max_0 0 rfl rfl)
theorem dJ3_max_1 : decode cJ3_max 1 = .ok (.iload_n 1, 1) := dk_27 (dk_at dksJ3_max_0 1 rfl rfl)
theorem dJ3_max_2 : decode cJ3_max 2 = .ok (.if_icmp .lt 7, 3) := dk_161 0 7 (dk_at dksJ3_max_0 2 rfl rfl)
theorem dJ3_max_5 : decode cJ3_max 5 = .ok (.iload_n 0, 1) := dk_26 (dk_at dksJ3_max_0 5 rfl rfl)
theorem dJ3_max_6 : decode cJ3_max 6 = .ok (.goto 4, 3) := dk_167 0 4 (dk_at dksJ3_max_0 6 rfl rfl)
theorem dJ3_max_9 : decode cJ3_max 9 = .ok (.iload_n 1, 1) := dk_27 (dk_at dksJ3_max_0 9 rfl rfl)
theorem dJ3_max_10 : decode cJ3_max 10 = .ok (.ireturn, 1) := dk_172 (dk_at dksJ3_max_0 10 rfl rfl)
abbrev cJ3_min : ByteArray := prog_29_method_69_code
def yJ3_min : MethodName := ⟨RJ3, "min", "(II)I"⟩
def dkwJ3_min_0 : List UInt8 := [26, 27, 163, 0, 7, 26, 167, 0, 4, 27, 172]
abbrev dktJ3_min_0 : List UInt8 := dkwJ3_min_0 ++ []
theorem dksJ3_min_0 : cJ3_min.data.toList.drop 0 = dktJ3_min_0 := by decide +kernel
theorem dJ3_min_0 : decode cJ3_min 0 = .ok (.iload_n 0, 1) := dk_26 (dk_at dksJ3_min_0 0 rfl rfl)
theorem dJ3_min_1 : decode cJ3_min 1 = .ok (.iload_n 1, 1) := dk_27 (dk_at dksJ3_min_0 1 rfl rfl)
theorem dJ3_min_2 : decode cJ3_min 2 = .ok (.if_icmp .gt 7, 3) := dk_163 0 7 (dk_at dksJ3_min_0 2 rfl rfl)
theorem dJ3_min_5 : decode cJ3_min 5 = .ok (.iload_n 0, 1) := dk_26 (dk_at dksJ3_min_0 5 rfl rfl)
theorem dJ3_min_6 : decode cJ3_min 6 = .ok (.goto 4, 3) := dk_167 0 4 (dk_at dksJ3_min_0 6 rfl rfl)
theorem dJ3_min_9 : decode cJ3_min 9 = .ok (.iload_n 1, 1) := dk_27 (dk_at dksJ3_min_0 9 rfl rfl)
theorem dJ3_min_10 : decode cJ3_min 10 = .ok (.ireturn, 1) := dk_172 (dk_at dksJ3_min_0 10 rfl rfl)
abbrev cJ3_min_2 : ByteArray := prog_29_method_70_code
def yJ3_min_2 : MethodName := ⟨RJ3, "min", "(JJ)J"⟩
def dkwJ3_min_2_0 : List UInt8 := [30, 32, 148, 157, 0, 7, 30, 167, 0, 4, 32, 173]
abbrev dktJ3_min_2_0 : List UInt8 := dkwJ3_min_2_0 ++ []
theorem dksJ3_min_2_0 : cJ3_min_2.data.toList.drop 0 = dktJ3_min_2_0 := by decide +kernel
theorem dJ3_min_2_0 : decode cJ3_min_2 0 = .ok (.lload_n 0, 1) := dk_30 (dk_at dksJ3_min_2_0 0 rfl rfl)
theorem dJ3_min_2_1 : decode cJ3_min_2 1 = .ok (.lload_n 2, 1) := dk_32 (dk_at dksJ3_min_2_0 1 rfl rfl)
theorem dJ3_min_2_2 : decode cJ3_min_2 2 = .ok (.lcmp, 1) := dk_148 (dk_at dksJ3_min_2_0 2 rfl rfl)
theorem dJ3_min_2_3 : decode cJ3_min_2 3 = .ok (.ifCond .gt 7, 3) := dk_157 0 7 (dk_at dksJ3_min_2_0 3 rfl rfl)
theorem dJ3_min_2_6 : decode cJ3_min_2 6 = .ok (.lload_n 0, 1) := dk_30 (dk_at dksJ3_min_2_0 6 rfl rfl)
theorem dJ3_min_2_7 : decode cJ3_min_2 7 = .ok (.goto 4, 3) := dk_167 0 4 (dk_at dksJ3_min_2_0 7 rfl rfl)
theorem dJ3_min_2_10 : decode cJ3_min_2 10 = .ok (.lload_n 2, 1) := dk_32 (dk_at dksJ3_min_2_0 10 rfl rfl)
theorem dJ3_min_2_11 : decode cJ3_min_2 11 = .ok (.lreturn, 1) := dk_173 (dk_at dksJ3_min_2_0 11 rfl rfl)
abbrev cJ3_max_2 : ByteArray := prog_29_method_66_code
def yJ3_max_2 : MethodName := ⟨RJ3, "max", "(JJ)J"⟩
def dkwJ3_max_2_0 : List UInt8 := [30, 32, 148, 155, 0, 7, 30, 167, 0, 4, 32, 173]
abbrev dktJ3_max_2_0 : List UInt8 := dkwJ3_max_2_0 ++ []
theorem dksJ3_max_2_0 : cJ3_max_2.data.toList.drop 0 = dktJ3_max_2_0 := by decide +kernel
theorem dJ3_max_2_0 : decode cJ3_max_2 0 = .ok (.lload_n 0, 1) := dk_30 (dk_at dksJ3_max_2_0 0 rfl rfl)
theorem dJ3_max_2_1 : decode cJ3_max_2 1 = .ok (.lload_n 2, 1) := dk_32 (dk_at dksJ3_max_2_0 1 rfl rfl)
theorem dJ3_max_2_2 : decode cJ3_max_2 2 = .ok (.lcmp, 1) := dk_148 (dk_at dksJ3_max_2_0 2 rfl rfl)
theorem dJ3_max_2_3 : decode cJ3_max_2 3 = .ok (.ifCond .lt 7, 3) := dk_155 0 7 (dk_at dksJ3_max_2_0 3 rfl rfl)
theorem dJ3_max_2_6 : decode cJ3_max_2 6 = .ok (.lload_n 0, 1) := dk_30 (dk_at dksJ3_max_2_0 6 rfl rfl)
theorem dJ3_max_2_7 : decode cJ3_max_2 7 = .ok (.goto 4, 3) := dk_167 0 4 (dk_at dksJ3_max_2_0 7 rfl rfl)
theorem dJ3_max_2_10 : decode cJ3_max_2 10 = .ok (.lload_n 2, 1) := dk_32 (dk_at dksJ3_max_2_0 10 rfl rfl)
theorem dJ3_max_2_11 : decode cJ3_max_2 11 = .ok (.lreturn, 1) := dk_173 (dk_at dksJ3_max_2_0 11 rfl rfl)
theorem q128 : (Jvm.Cond.initialized "java/lang/Math") ∈ lw_all := lw_g (lw_at lw_m1 26 rfl) rfl
theorem q794 : (Jvm.Cond.static ({ cls := "java/lang/Math", name := "max", desc := "(II)I" } : Jvm.MethodName)) ∈ lw_all := lw_g (lw_at lw_m3 212 rfl) rfl
theorem q795 : (Jvm.Cond.code ({ cls := "java/lang/Math", name := "max", desc := "(II)I" } : Jvm.MethodName) prog_29_method_65_code (2 : Nat) (Option.some Jvm.ClassFile.FieldType.int)) ∈ lw_all := lw_g (lw_at lw_m3 213 rfl) rfl
theorem q812 : (Jvm.Cond.static ({ cls := "java/lang/Math", name := "min", desc := "(II)I" } : Jvm.MethodName)) ∈ lw_all := lw_g (lw_at lw_m3 230 rfl) rfl
theorem q813 : (Jvm.Cond.code ({ cls := "java/lang/Math", name := "min", desc := "(II)I" } : Jvm.MethodName) prog_29_method_69_code (2 : Nat) (Option.some Jvm.ClassFile.FieldType.int)) ∈ lw_all := lw_g (lw_at lw_m3 231 rfl) rfl
theorem q1240 : (Jvm.Cond.static ({ cls := "java/lang/Math", name := "min", desc := "(JJ)J" } : Jvm.MethodName)) ∈ lw_all := lw_g (lw_at lw_m5 178 rfl) rfl
theorem q1241 : (Jvm.Cond.code ({ cls := "java/lang/Math", name := "min", desc := "(JJ)J" } : Jvm.MethodName) prog_29_method_70_code (4 : Nat) (Option.some Jvm.ClassFile.FieldType.long)) ∈ lw_all := lw_g (lw_at lw_m5 179 rfl) rfl
theorem q1243 : (Jvm.Cond.static ({ cls := "java/lang/Math", name := "max", desc := "(JJ)J" } : Jvm.MethodName)) ∈ lw_all := lw_g (lw_at lw_m5 181 rfl) rfl
theorem q1244 : (Jvm.Cond.code ({ cls := "java/lang/Math", name := "max", desc := "(JJ)J" } : Jvm.MethodName) prog_29_method_66_code (4 : Nat) (Option.some Jvm.ClassFile.FieldType.long)) ∈ lw_all := lw_g (lw_at lw_m5 182 rfl) rfl
/-! java/util/NoSuchElementException -/
set_option maxRecDepth 100000
def RJ4 : String := "java/util/NoSuchElementException"
def TJ4 : u_T := fun k => match k with
  | 0 => ("java/lang/Throwable", "cause", "Ljava/lang/Throwable;", false)
  | 1 => ("java/lang/Throwable", "stackTrace", "[Ljava/lang/StackTraceElement;", false)
  | 2 => ("java/lang/Throwable", "suppressedExceptions", "Ljava/util/List;", false)
  | 3 => ("java/lang/Throwable", "detailMessage", "Ljava/lang/String;", false)
  | 4 => ("java/lang/Throwable", "backtrace", "Ljava/lang/Object;", false)
  | _ => ("java/lang/Throwable", "depth", "I", false)
def tyJ4 : Nat → FieldType := fun k => match k with
  | 0 => .object "java/lang/Throwable"
  | 1 => .array (.object "java/lang/StackTraceElement")
  | 2 => .object "java/util/List"
  | 3 => .object "java/lang/String"
  | 4 => .object "java/lang/Object"
  | _ => .int
abbrev wsJ40 : List Cond := u_ws RJ4 TJ4 6
theorem nmJ4 : ∀ a, a < 6 → ∀ b, b < 6 → a ≠ b → (TJ4 a).2.1 ≠ (TJ4 b).2.1 := by decide +kernel
theorem tyJ4_ok : ∀ k, k < 6 → parseFieldDescriptor (TJ4 k).2.2.1 = some (tyJ4 k) := by decide +kernel
abbrev cJ4_init : ByteArray := prog_33_method_1_code
def yJ4_init : MethodName := ⟨RJ4, "<init>", "()V"⟩
theorem dJ4_init_0 : decode cJ4_init 0 = .ok (.aload_n 0, 1) := by decide +kernel
theorem dJ4_init_1 : decode cJ4_init 1 = .ok (.invokespecial 1, 3) := by decide +kernel
theorem dJ4_init_4 : decode cJ4_init 4 = .ok (.return_, 1) := by decide +kernel
theorem q132 : (Jvm.Cond.initialized "java/util/NoSuchElementException") ∈ lw_all := lw_g (lw_at lw_m1 30 rfl) rfl
theorem q387 : (Jvm.Cond.selects "java/util/NoSuchElementException" ({ cls := "java/lang/Throwable", name := "fillInStackTrace", desc := "()Ljava/lang/Throwable;" } : Jvm.MethodName) ({ cls := "java/lang/Throwable", name := "fillInStackTrace", desc := "()Ljava/lang/Throwable;" } : Jvm.MethodName)) ∈ lw_all := lw_g (lw_at lw_m2 45 rfl) rfl
theorem q1271 : (Jvm.Cond.instantiable "java/util/NoSuchElementException" (6 : Nat)) ∈ lw_all := lw_g (lw_at lw_m5 209 rfl) rfl
theorem q1272 : (Jvm.Cond.castable "java/util/NoSuchElementException" "java/util/NoSuchElementException") ∈ lw_tbl := lw_at lw_m5 210 rfl
theorem q1273 : (Jvm.Cond.selects "java/util/NoSuchElementException" ({ cls := "java/lang/Throwable", name := "fillInStackTrace", desc := "(I)Ljava/lang/Throwable;" } : Jvm.MethodName) ({ cls := "java/lang/Throwable", name := "fillInStackTrace", desc := "(I)Ljava/lang/Throwable;" } : Jvm.MethodName)) ∈ lw_all := lw_g (lw_at lw_m5 211 rfl) rfl
theorem q1274 : (Jvm.Cond.lays "java/util/NoSuchElementException" "java/lang/Throwable" "cause" "Ljava/lang/Throwable;") ∈ lw_all := lw_g (lw_at lw_m5 212 rfl) rfl
theorem q1275 : (Jvm.Cond.lays "java/util/NoSuchElementException" "java/lang/Throwable" "stackTrace" "[Ljava/lang/StackTraceElement;") ∈ lw_all := lw_g (lw_at lw_m5 213 rfl) rfl
theorem q1276 : (Jvm.Cond.lays "java/util/NoSuchElementException" "java/lang/Throwable" "suppressedExceptions" "Ljava/util/List;") ∈ lw_all := lw_g (lw_at lw_m5 214 rfl) rfl
theorem q1277 : (Jvm.Cond.lays "java/util/NoSuchElementException" "java/lang/Throwable" "detailMessage" "Ljava/lang/String;") ∈ lw_all := lw_g (lw_at lw_m5 215 rfl) rfl
theorem q1278 : (Jvm.Cond.lays "java/util/NoSuchElementException" "java/lang/Throwable" "backtrace" "Ljava/lang/Object;") ∈ lw_all := lw_g (lw_at lw_m5 216 rfl) rfl
theorem q1280 : (Jvm.Cond.instanceMethod ({ cls := "java/util/NoSuchElementException", name := "<init>", desc := "()V" } : Jvm.MethodName)) ∈ lw_all := lw_g (lw_at lw_m5 218 rfl) rfl
theorem q1281 : (Jvm.Cond.code ({ cls := "java/util/NoSuchElementException", name := "<init>", desc := "()V" } : Jvm.MethodName) prog_33_method_1_code (1 : Nat) (Option.none : Option Jvm.ClassFile.FieldType)) ∈ lw_all := lw_g (lw_at lw_m5 219 rfl) rfl
theorem q1282 : (Jvm.Cond.methodLink "java/util/NoSuchElementException" (1 : Nat) ({ cls := "java/lang/RuntimeException", name := "<init>", desc := "()V" } : Jvm.MethodName)) ∈ lw_all := lw_g (lw_at lw_m5 220 rfl) rfl
theorem q1289 : (Jvm.Cond.lays "java/util/NoSuchElementException" "java/lang/Throwable" "depth" "I") ∈ lw_all := lw_g (lw_at lw_m5 227 rfl) rfl
theorem q1290 : (Jvm.Cond.superclass "java/util/NoSuchElementException" "java/lang/RuntimeException") ∈ lw_all := lw_g (lw_at lw_m5 228 rfl) rfl
theorem q1911 : (Jvm.Cond.castable "java/util/NoSuchElementException" "java/lang/Object") ∈ lw_tbl := lw_at lw_m8 129 rfl
theorem in_J4 : ∀ w ∈ wsJ40, w ∈ lw_all := lw_in wsJ40 [1274, 1275, 1276, 1277, 1278, 1289] (by decide +kernel) (by decide +kernel)
/-! java/lang/Integer -/
set_option maxRecDepth 100000
def RJ5 : String := "java/lang/Integer"
abbrev cJ5_bitCount : ByteArray := prog_28_method_49_code
def yJ5_bitCount : MethodName := ⟨RJ5, "bitCount", "(I)I"⟩
def dkwJ5_bitCount_2 : List UInt8 := [26, 16, 63, 126, 172]
abbrev dktJ5_bitCount_2 : List UInt8 := dkwJ5_bitCount_2 ++ []
def dkwJ5_bitCount_1 : List UInt8 := [26, 26, 7, 124, 96, 19, 1, 11, 126, 59, 26, 26, 16, 8, 124, 96, 59, 26, 26, 16, 16, 124, 96, 59]
abbrev dktJ5_bitCount_1 : List UInt8 := dkwJ5_bitCount_1 ++ dktJ5_bitCount_2
def dkwJ5_bitCount_0 : List UInt8 := [26, 26, 4, 124, 19, 1, 9, 126, 100, 59, 26, 19, 1, 10, 126, 26, 5, 124, 19, 1, 10, 126, 96, 59]
abbrev dktJ5_bitCount_0 : List UInt8 := dkwJ5_bitCount_0 ++ dktJ5_bitCount_1
theorem dksJ5_bitCount_0 : cJ5_bitCount.data.toList.drop 0 = dktJ5_bitCount_0 := by decide +kernel
theorem dksJ5_bitCount_1 : cJ5_bitCount.data.toList.drop 24 = dktJ5_bitCount_1 := dk_seg dksJ5_bitCount_0 24 rfl rfl
theorem dksJ5_bitCount_2 : cJ5_bitCount.data.toList.drop 48 = dktJ5_bitCount_2 := dk_seg dksJ5_bitCount_1 24 rfl rfl
theorem dJ5_bitCount_0 : decode cJ5_bitCount 0 = .ok (.iload_n 0, 1) := dk_26 (dk_at dksJ5_bitCount_0 0 rfl rfl)
theorem dJ5_bitCount_1 : decode cJ5_bitCount 1 = .ok (.iload_n 0, 1) := dk_26 (dk_at dksJ5_bitCount_0 1 rfl rfl)
theorem dJ5_bitCount_2 : decode cJ5_bitCount 2 = .ok (.iconst 1, 1) := dk_4 (dk_at dksJ5_bitCount_0 2 rfl rfl)
theorem dJ5_bitCount_3 : decode cJ5_bitCount 3 = .ok (.iushr, 1) := dk_124 (dk_at dksJ5_bitCount_0 3 rfl rfl)
theorem dJ5_bitCount_4 : decode cJ5_bitCount 4 = .ok (.ldc_w 265, 3) := dk_19 1 9 (dk_at dksJ5_bitCount_0 4 rfl rfl)
theorem dJ5_bitCount_7 : decode cJ5_bitCount 7 = .ok (.iand, 1) := dk_126 (dk_at dksJ5_bitCount_0 7 rfl rfl)
theorem dJ5_bitCount_8 : decode cJ5_bitCount 8 = .ok (.isub, 1) := dk_100 (dk_at dksJ5_bitCount_0 8 rfl rfl)
theorem dJ5_bitCount_9 : decode cJ5_bitCount 9 = .ok (.istore_n 0, 1) := dk_59 (dk_at dksJ5_bitCount_0 9 rfl rfl)
theorem dJ5_bitCount_10 : decode cJ5_bitCount 10 = .ok (.iload_n 0, 1) := dk_26 (dk_at dksJ5_bitCount_0 10 rfl rfl)
theorem dJ5_bitCount_11 : decode cJ5_bitCount 11 = .ok (.ldc_w 266, 3) := dk_19 1 10 (dk_at dksJ5_bitCount_0 11 rfl rfl)
theorem dJ5_bitCount_14 : decode cJ5_bitCount 14 = .ok (.iand, 1) := dk_126 (dk_at dksJ5_bitCount_0 14 rfl rfl)
theorem dJ5_bitCount_15 : decode cJ5_bitCount 15 = .ok (.iload_n 0, 1) := dk_26 (dk_at dksJ5_bitCount_0 15 rfl rfl)
theorem dJ5_bitCount_16 : decode cJ5_bitCount 16 = .ok (.iconst 2, 1) := dk_5 (dk_at dksJ5_bitCount_0 16 rfl rfl)
theorem dJ5_bitCount_17 : decode cJ5_bitCount 17 = .ok (.iushr, 1) := dk_124 (dk_at dksJ5_bitCount_0 17 rfl rfl)
theorem dJ5_bitCount_18 : decode cJ5_bitCount 18 = .ok (.ldc_w 266, 3) := dk_19 1 10 (dk_at dksJ5_bitCount_0 18 rfl rfl)
theorem dJ5_bitCount_21 : decode cJ5_bitCount 21 = .ok (.iand, 1) := dk_126 (dk_at dksJ5_bitCount_0 21 rfl rfl)
theorem dJ5_bitCount_22 : decode cJ5_bitCount 22 = .ok (.iadd, 1) := dk_96 (dk_at dksJ5_bitCount_0 22 rfl rfl)
theorem dJ5_bitCount_23 : decode cJ5_bitCount 23 = .ok (.istore_n 0, 1) := dk_59 (dk_at dksJ5_bitCount_0 23 rfl rfl)
theorem dJ5_bitCount_24 : decode cJ5_bitCount 24 = .ok (.iload_n 0, 1) := dk_26 (dk_at dksJ5_bitCount_1 0 rfl rfl)
theorem dJ5_bitCount_25 : decode cJ5_bitCount 25 = .ok (.iload_n 0, 1) := dk_26 (dk_at dksJ5_bitCount_1 1 rfl rfl)
theorem dJ5_bitCount_26 : decode cJ5_bitCount 26 = .ok (.iconst 4, 1) := dk_7 (dk_at dksJ5_bitCount_1 2 rfl rfl)
theorem dJ5_bitCount_27 : decode cJ5_bitCount 27 = .ok (.iushr, 1) := dk_124 (dk_at dksJ5_bitCount_1 3 rfl rfl)
theorem dJ5_bitCount_28 : decode cJ5_bitCount 28 = .ok (.iadd, 1) := dk_96 (dk_at dksJ5_bitCount_1 4 rfl rfl)
theorem dJ5_bitCount_29 : decode cJ5_bitCount 29 = .ok (.ldc_w 267, 3) := dk_19 1 11 (dk_at dksJ5_bitCount_1 5 rfl rfl)
theorem dJ5_bitCount_32 : decode cJ5_bitCount 32 = .ok (.iand, 1) := dk_126 (dk_at dksJ5_bitCount_1 8 rfl rfl)
theorem dJ5_bitCount_33 : decode cJ5_bitCount 33 = .ok (.istore_n 0, 1) := dk_59 (dk_at dksJ5_bitCount_1 9 rfl rfl)
theorem dJ5_bitCount_34 : decode cJ5_bitCount 34 = .ok (.iload_n 0, 1) := dk_26 (dk_at dksJ5_bitCount_1 10 rfl rfl)
theorem dJ5_bitCount_35 : decode cJ5_bitCount 35 = .ok (.iload_n 0, 1) := dk_26 (dk_at dksJ5_bitCount_1 11 rfl rfl)
theorem dJ5_bitCount_36 : decode cJ5_bitCount 36 = .ok (.bipush 8, 2) := dk_16 8 (dk_at dksJ5_bitCount_1 12 rfl rfl)
theorem dJ5_bitCount_38 : decode cJ5_bitCount 38 = .ok (.iushr, 1) := dk_124 (dk_at dksJ5_bitCount_1 14 rfl rfl)
theorem dJ5_bitCount_39 : decode cJ5_bitCount 39 = .ok (.iadd, 1) := dk_96 (dk_at dksJ5_bitCount_1 15 rfl rfl)
theorem dJ5_bitCount_40 : decode cJ5_bitCount 40 = .ok (.istore_n 0, 1) := dk_59 (dk_at dksJ5_bitCount_1 16 rfl rfl)
theorem dJ5_bitCount_41 : decode cJ5_bitCount 41 = .ok (.iload_n 0, 1) := dk_26 (dk_at dksJ5_bitCount_1 17 rfl rfl)
theorem dJ5_bitCount_42 : decode cJ5_bitCount 42 = .ok (.iload_n 0, 1) := dk_26 (dk_at dksJ5_bitCount_1 18 rfl rfl)
theorem dJ5_bitCount_43 : decode cJ5_bitCount 43 = .ok (.bipush 16, 2) := dk_16 16 (dk_at dksJ5_bitCount_1 19 rfl rfl)
theorem dJ5_bitCount_45 : decode cJ5_bitCount 45 = .ok (.iushr, 1) := dk_124 (dk_at dksJ5_bitCount_1 21 rfl rfl)
theorem dJ5_bitCount_46 : decode cJ5_bitCount 46 = .ok (.iadd, 1) := dk_96 (dk_at dksJ5_bitCount_1 22 rfl rfl)
theorem dJ5_bitCount_47 : decode cJ5_bitCount 47 = .ok (.istore_n 0, 1) := dk_59 (dk_at dksJ5_bitCount_1 23 rfl rfl)
theorem dJ5_bitCount_48 : decode cJ5_bitCount 48 = .ok (.iload_n 0, 1) := dk_26 (dk_at dksJ5_bitCount_2 0 rfl rfl)
theorem dJ5_bitCount_49 : decode cJ5_bitCount 49 = .ok (.bipush 63, 2) := dk_16 63 (dk_at dksJ5_bitCount_2 1 rfl rfl)
theorem dJ5_bitCount_51 : decode cJ5_bitCount 51 = .ok (.iand, 1) := dk_126 (dk_at dksJ5_bitCount_2 3 rfl rfl)
theorem dJ5_bitCount_52 : decode cJ5_bitCount 52 = .ok (.ireturn, 1) := dk_172 (dk_at dksJ5_bitCount_2 4 rfl rfl)
abbrev cJ5_numberOfTrailingZeros : ByteArray := prog_28_method_48_code
def yJ5_numberOfTrailingZeros : MethodName := ⟨RJ5, "numberOfTrailingZeros", "(I)I"⟩
def dkwJ5_numberOfTrailingZeros_3 : List UInt8 := [5, 124, 59, 27, 26, 4, 124, 96, 172]
abbrev dktJ5_numberOfTrailingZeros_3 : List UInt8 := dkwJ5_numberOfTrailingZeros_3 ++ []
def dkwJ5_numberOfTrailingZeros_2 : List UInt8 := [124, 59, 26, 16, 16, 164, 0, 10, 132, 1, 4, 26, 7, 124, 59, 26, 7, 164, 0, 10, 132, 1, 2, 26]
abbrev dktJ5_numberOfTrailingZeros_2 : List UInt8 := dkwJ5_numberOfTrailingZeros_2 ++ dktJ5_numberOfTrailingZeros_3
def dkwJ5_numberOfTrailingZeros_1 : List UInt8 := [164, 0, 11, 132, 1, 16, 26, 16, 16, 124, 59, 26, 17, 1, 0, 164, 0, 11, 132, 1, 8, 26, 16, 8]
abbrev dktJ5_numberOfTrailingZeros_1 : List UInt8 := dkwJ5_numberOfTrailingZeros_1 ++ dktJ5_numberOfTrailingZeros_2
def dkwJ5_numberOfTrailingZeros_0 : List UInt8 := [26, 2, 130, 26, 4, 100, 126, 59, 26, 157, 0, 8, 26, 16, 32, 126, 172, 4, 60, 26, 19, 1, 8]
abbrev dktJ5_numberOfTrailingZeros_0 : List UInt8 := dkwJ5_numberOfTrailingZeros_0 ++ dktJ5_numberOfTrailingZeros_1
theorem dksJ5_numberOfTrailingZeros_0 : cJ5_numberOfTrailingZeros.data.toList.drop 0 = dktJ5_numberOfTrailingZeros_0 := by decide +kernel
theorem dksJ5_numberOfTrailingZeros_1 : cJ5_numberOfTrailingZeros.data.toList.drop 23 = dktJ5_numberOfTrailingZeros_1 := dk_seg dksJ5_numberOfTrailingZeros_0 23 rfl rfl
theorem dksJ5_numberOfTrailingZeros_2 : cJ5_numberOfTrailingZeros.data.toList.drop 47 = dktJ5_numberOfTrailingZeros_2 := dk_seg dksJ5_numberOfTrailingZeros_1 24 rfl rfl
theorem dksJ5_numberOfTrailingZeros_3 : cJ5_numberOfTrailingZeros.data.toList.drop 71 = dktJ5_numberOfTrailingZeros_3 := dk_seg dksJ5_numberOfTrailingZeros_2 24 rfl rfl
theorem dJ5_numberOfTrailingZeros_0 : decode cJ5_numberOfTrailingZeros 0 = .ok (.iload_n 0, 1) := dk_26 (dk_at dksJ5_numberOfTrailingZeros_0 0 rfl rfl)
theorem dJ5_numberOfTrailingZeros_1 : decode cJ5_numberOfTrailingZeros 1 = .ok (.iconst (-1), 1) := dk_2 (dk_at dksJ5_numberOfTrailingZeros_0 1 rfl rfl)
theorem dJ5_numberOfTrailingZeros_2 : decode cJ5_numberOfTrailingZeros 2 = .ok (.ixor, 1) := dk_130 (dk_at dksJ5_numberOfTrailingZeros_0 2 rfl rfl)
theorem dJ5_numberOfTrailingZeros_3 : decode cJ5_numberOfTrailingZeros 3 = .ok (.iload_n 0, 1) := dk_26 (dk_at dksJ5_numberOfTrailingZeros_0 3 rfl rfl)
theorem dJ5_numberOfTrailingZeros_4 : decode cJ5_numberOfTrailingZeros 4 = .ok (.iconst 1, 1) := dk_4 (dk_at dksJ5_numberOfTrailingZeros_0 4 rfl rfl)
theorem dJ5_numberOfTrailingZeros_5 : decode cJ5_numberOfTrailingZeros 5 = .ok (.isub, 1) := dk_100 (dk_at dksJ5_numberOfTrailingZeros_0 5 rfl rfl)
theorem dJ5_numberOfTrailingZeros_6 : decode cJ5_numberOfTrailingZeros 6 = .ok (.iand, 1) := dk_126 (dk_at dksJ5_numberOfTrailingZeros_0 6 rfl rfl)
theorem dJ5_numberOfTrailingZeros_7 : decode cJ5_numberOfTrailingZeros 7 = .ok (.istore_n 0, 1) := dk_59 (dk_at dksJ5_numberOfTrailingZeros_0 7 rfl rfl)
theorem dJ5_numberOfTrailingZeros_8 : decode cJ5_numberOfTrailingZeros 8 = .ok (.iload_n 0, 1) := dk_26 (dk_at dksJ5_numberOfTrailingZeros_0 8 rfl rfl)
theorem dJ5_numberOfTrailingZeros_9 : decode cJ5_numberOfTrailingZeros 9 = .ok (.ifCond .gt 8, 3) := dk_157 0 8 (dk_at dksJ5_numberOfTrailingZeros_0 9 rfl rfl)
theorem dJ5_numberOfTrailingZeros_12 : decode cJ5_numberOfTrailingZeros 12 = .ok (.iload_n 0, 1) := dk_26 (dk_at dksJ5_numberOfTrailingZeros_0 12 rfl rfl)
theorem dJ5_numberOfTrailingZeros_13 : decode cJ5_numberOfTrailingZeros 13 = .ok (.bipush 32, 2) := dk_16 32 (dk_at dksJ5_numberOfTrailingZeros_0 13 rfl rfl)
theorem dJ5_numberOfTrailingZeros_15 : decode cJ5_numberOfTrailingZeros 15 = .ok (.iand, 1) := dk_126 (dk_at dksJ5_numberOfTrailingZeros_0 15 rfl rfl)
theorem dJ5_numberOfTrailingZeros_16 : decode cJ5_numberOfTrailingZeros 16 = .ok (.ireturn, 1) := dk_172 (dk_at dksJ5_numberOfTrailingZeros_0 16 rfl rfl)
theorem dJ5_numberOfTrailingZeros_17 : decode cJ5_numberOfTrailingZeros 17 = .ok (.iconst 1, 1) := dk_4 (dk_at dksJ5_numberOfTrailingZeros_0 17 rfl rfl)
theorem dJ5_numberOfTrailingZeros_18 : decode cJ5_numberOfTrailingZeros 18 = .ok (.istore_n 1, 1) := dk_60 (dk_at dksJ5_numberOfTrailingZeros_0 18 rfl rfl)
theorem dJ5_numberOfTrailingZeros_19 : decode cJ5_numberOfTrailingZeros 19 = .ok (.iload_n 0, 1) := dk_26 (dk_at dksJ5_numberOfTrailingZeros_0 19 rfl rfl)
theorem dJ5_numberOfTrailingZeros_20 : decode cJ5_numberOfTrailingZeros 20 = .ok (.ldc_w 264, 3) := dk_19 1 8 (dk_at dksJ5_numberOfTrailingZeros_0 20 rfl rfl)
theorem dJ5_numberOfTrailingZeros_23 : decode cJ5_numberOfTrailingZeros 23 = .ok (.if_icmp .le 11, 3) := dk_164 0 11 (dk_at dksJ5_numberOfTrailingZeros_1 0 rfl rfl)
theorem dJ5_numberOfTrailingZeros_26 : decode cJ5_numberOfTrailingZeros 26 = .ok (.iinc 1 16, 3) := dk_132 1 16 (dk_at dksJ5_numberOfTrailingZeros_1 3 rfl rfl)
theorem dJ5_numberOfTrailingZeros_29 : decode cJ5_numberOfTrailingZeros 29 = .ok (.iload_n 0, 1) := dk_26 (dk_at dksJ5_numberOfTrailingZeros_1 6 rfl rfl)
theorem dJ5_numberOfTrailingZeros_30 : decode cJ5_numberOfTrailingZeros 30 = .ok (.bipush 16, 2) := dk_16 16 (dk_at dksJ5_numberOfTrailingZeros_1 7 rfl rfl)
theorem dJ5_numberOfTrailingZeros_32 : decode cJ5_numberOfTrailingZeros 32 = .ok (.iushr, 1) := dk_124 (dk_at dksJ5_numberOfTrailingZeros_1 9 rfl rfl)
theorem dJ5_numberOfTrailingZeros_33 : decode cJ5_numberOfTrailingZeros 33 = .ok (.istore_n 0, 1) := dk_59 (dk_at dksJ5_numberOfTrailingZeros_1 10 rfl rfl)
theorem dJ5_numberOfTrailingZeros_34 : decode cJ5_numberOfTrailingZeros 34 = .ok (.iload_n 0, 1) := dk_26 (dk_at dksJ5_numberOfTrailingZeros_1 11 rfl rfl)
theorem dJ5_numberOfTrailingZeros_35 : decode cJ5_numberOfTrailingZeros 35 = .ok (.sipush 256, 3) := dk_17 1 0 (dk_at dksJ5_numberOfTrailingZeros_1 12 rfl rfl)
theorem dJ5_numberOfTrailingZeros_38 : decode cJ5_numberOfTrailingZeros 38 = .ok (.if_icmp .le 11, 3) := dk_164 0 11 (dk_at dksJ5_numberOfTrailingZeros_1 15 rfl rfl)
theorem dJ5_numberOfTrailingZeros_41 : decode cJ5_numberOfTrailingZeros 41 = .ok (.iinc 1 8, 3) := dk_132 1 8 (dk_at dksJ5_numberOfTrailingZeros_1 18 rfl rfl)
theorem dJ5_numberOfTrailingZeros_44 : decode cJ5_numberOfTrailingZeros 44 = .ok (.iload_n 0, 1) := dk_26 (dk_at dksJ5_numberOfTrailingZeros_1 21 rfl rfl)
theorem dJ5_numberOfTrailingZeros_45 : decode cJ5_numberOfTrailingZeros 45 = .ok (.bipush 8, 2) := dk_16 8 (dk_at dksJ5_numberOfTrailingZeros_1 22 rfl rfl)
theorem dJ5_numberOfTrailingZeros_47 : decode cJ5_numberOfTrailingZeros 47 = .ok (.iushr, 1) := dk_124 (dk_at dksJ5_numberOfTrailingZeros_2 0 rfl rfl)
theorem dJ5_numberOfTrailingZeros_48 : decode cJ5_numberOfTrailingZeros 48 = .ok (.istore_n 0, 1) := dk_59 (dk_at dksJ5_numberOfTrailingZeros_2 1 rfl rfl)
theorem dJ5_numberOfTrailingZeros_49 : decode cJ5_numberOfTrailingZeros 49 = .ok (.iload_n 0, 1) := dk_26 (dk_at dksJ5_numberOfTrailingZeros_2 2 rfl rfl)
theorem dJ5_numberOfTrailingZeros_50 : decode cJ5_numberOfTrailingZeros 50 = .ok (.bipush 16, 2) := dk_16 16 (dk_at dksJ5_numberOfTrailingZeros_2 3 rfl rfl)
theorem dJ5_numberOfTrailingZeros_52 : decode cJ5_numberOfTrailingZeros 52 = .ok (.if_icmp .le 10, 3) := dk_164 0 10 (dk_at dksJ5_numberOfTrailingZeros_2 5 rfl rfl)
theorem dJ5_numberOfTrailingZeros_55 : decode cJ5_numberOfTrailingZeros 55 = .ok (.iinc 1 4, 3) := dk_132 1 4 (dk_at dksJ5_numberOfTrailingZeros_2 8 rfl rfl)
theorem dJ5_numberOfTrailingZeros_58 : decode cJ5_numberOfTrailingZeros 58 = .ok (.iload_n 0, 1) := dk_26 (dk_at dksJ5_numberOfTrailingZeros_2 11 rfl rfl)
theorem dJ5_numberOfTrailingZeros_59 : decode cJ5_numberOfTrailingZeros 59 = .ok (.iconst 4, 1) := dk_7 (dk_at dksJ5_numberOfTrailingZeros_2 12 rfl rfl)
theorem dJ5_numberOfTrailingZeros_60 : decode cJ5_numberOfTrailingZeros 60 = .ok (.iushr, 1) := dk_124 (dk_at dksJ5_numberOfTrailingZeros_2 13 rfl rfl)
theorem dJ5_numberOfTrailingZeros_61 : decode cJ5_numberOfTrailingZeros 61 = .ok (.istore_n 0, 1) := dk_59 (dk_at dksJ5_numberOfTrailingZeros_2 14 rfl rfl)
theorem dJ5_numberOfTrailingZeros_62 : decode cJ5_numberOfTrailingZeros 62 = .ok (.iload_n 0, 1) := dk_26 (dk_at dksJ5_numberOfTrailingZeros_2 15 rfl rfl)
theorem dJ5_numberOfTrailingZeros_63 : decode cJ5_numberOfTrailingZeros 63 = .ok (.iconst 4, 1) := dk_7 (dk_at dksJ5_numberOfTrailingZeros_2 16 rfl rfl)
theorem dJ5_numberOfTrailingZeros_64 : decode cJ5_numberOfTrailingZeros 64 = .ok (.if_icmp .le 10, 3) := dk_164 0 10 (dk_at dksJ5_numberOfTrailingZeros_2 17 rfl rfl)
theorem dJ5_numberOfTrailingZeros_67 : decode cJ5_numberOfTrailingZeros 67 = .ok (.iinc 1 2, 3) := dk_132 1 2 (dk_at dksJ5_numberOfTrailingZeros_2 20 rfl rfl)
theorem dJ5_numberOfTrailingZeros_70 : decode cJ5_numberOfTrailingZeros 70 = .ok (.iload_n 0, 1) := dk_26 (dk_at dksJ5_numberOfTrailingZeros_2 23 rfl rfl)
theorem dJ5_numberOfTrailingZeros_71 : decode cJ5_numberOfTrailingZeros 71 = .ok (.iconst 2, 1) := dk_5 (dk_at dksJ5_numberOfTrailingZeros_3 0 rfl rfl)
theorem dJ5_numberOfTrailingZeros_72 : decode cJ5_numberOfTrailingZeros 72 = .ok (.iushr, 1) := dk_124 (dk_at dksJ5_numberOfTrailingZeros_3 1 rfl rfl)
theorem dJ5_numberOfTrailingZeros_73 : decode cJ5_numberOfTrailingZeros 73 = .ok (.istore_n 0, 1) := dk_59 (dk_at dksJ5_numberOfTrailingZeros_3 2 rfl rfl)
theorem dJ5_numberOfTrailingZeros_74 : decode cJ5_numberOfTrailingZeros 74 = .ok (.iload_n 1, 1) := dk_27 (dk_at dksJ5_numberOfTrailingZeros_3 3 rfl rfl)
theorem dJ5_numberOfTrailingZeros_75 : decode cJ5_numberOfTrailingZeros 75 = .ok (.iload_n 0, 1) := dk_26 (dk_at dksJ5_numberOfTrailingZeros_3 4 rfl rfl)
theorem dJ5_numberOfTrailingZeros_76 : decode cJ5_numberOfTrailingZeros 76 = .ok (.iconst 1, 1) := dk_4 (dk_at dksJ5_numberOfTrailingZeros_3 5 rfl rfl)
theorem dJ5_numberOfTrailingZeros_77 : decode cJ5_numberOfTrailingZeros 77 = .ok (.iushr, 1) := dk_124 (dk_at dksJ5_numberOfTrailingZeros_3 6 rfl rfl)
theorem dJ5_numberOfTrailingZeros_78 : decode cJ5_numberOfTrailingZeros 78 = .ok (.iadd, 1) := dk_96 (dk_at dksJ5_numberOfTrailingZeros_3 7 rfl rfl)
theorem dJ5_numberOfTrailingZeros_79 : decode cJ5_numberOfTrailingZeros 79 = .ok (.ireturn, 1) := dk_172 (dk_at dksJ5_numberOfTrailingZeros_3 8 rfl rfl)
theorem q133 : (Jvm.Cond.initialized "java/lang/Integer") ∈ lw_all := lw_g (lw_at lw_m1 31 rfl) rfl
theorem q976 : (Jvm.Cond.static ({ cls := "java/lang/Integer", name := "bitCount", desc := "(I)I" } : Jvm.MethodName)) ∈ lw_all := lw_g (lw_at lw_m4 154 rfl) rfl
theorem q977 : (Jvm.Cond.code ({ cls := "java/lang/Integer", name := "bitCount", desc := "(I)I" } : Jvm.MethodName) prog_28_method_49_code (1 : Nat) (Option.some Jvm.ClassFile.FieldType.int)) ∈ lw_all := lw_g (lw_at lw_m4 155 rfl) rfl
theorem q978 : (Jvm.Cond.constant "java/lang/Integer" (265 : Nat) (1431655765 : Int32)) ∈ lw_all := lw_g (lw_at lw_m4 156 rfl) rfl
theorem q979 : (Jvm.Cond.constant "java/lang/Integer" (266 : Nat) (858993459 : Int32)) ∈ lw_all := lw_g (lw_at lw_m4 157 rfl) rfl
theorem q980 : (Jvm.Cond.constant "java/lang/Integer" (267 : Nat) (252645135 : Int32)) ∈ lw_all := lw_g (lw_at lw_m4 158 rfl) rfl
theorem q990 : (Jvm.Cond.static ({ cls := "java/lang/Integer", name := "numberOfTrailingZeros", desc := "(I)I" } : Jvm.MethodName)) ∈ lw_all := lw_g (lw_at lw_m4 168 rfl) rfl
theorem q991 : (Jvm.Cond.code ({ cls := "java/lang/Integer", name := "numberOfTrailingZeros", desc := "(I)I" } : Jvm.MethodName) prog_28_method_48_code (2 : Nat) (Option.some Jvm.ClassFile.FieldType.int)) ∈ lw_all := lw_g (lw_at lw_m4 169 rfl) rfl
theorem q992 : (Jvm.Cond.constant "java/lang/Integer" (264 : Nat) (65536 : Int32)) ∈ lw_all := lw_g (lw_at lw_m4 170 rfl) rfl
/-! java/lang/Object -/
set_option maxRecDepth 100000
def RJ6 : String := "java/lang/Object"
abbrev cJ6_init : ByteArray := object_method_1_code
def yJ6_init : MethodName := ⟨RJ6, "<init>", "()V"⟩
theorem dJ6_init_0 : decode cJ6_init 0 = .ok (.return_, 1) := by decide +kernel
theorem q141 : (Jvm.Cond.instanceMethod ({ cls := "java/lang/Object", name := "<init>", desc := "()V" } : Jvm.MethodName)) ∈ lw_all := lw_g (lw_at lw_m1 39 rfl) rfl
theorem q142 : (Jvm.Cond.code ({ cls := "java/lang/Object", name := "<init>", desc := "()V" } : Jvm.MethodName) object_method_1_code (1 : Nat) (Option.none : Option Jvm.ClassFile.FieldType)) ∈ lw_all := lw_g (lw_at lw_m1 40 rfl) rfl
/-! BalloonStallLaw -/
set_option maxRecDepth 100000
def RX0 : String := "BalloonStallLaw"
abbrev cX0_bubble : ByteArray := method_3_code
def yX0_bubble : MethodName := ⟨RX0, "bubble", "(LBalloonStall;III[J)I"⟩
def dkwX0_bubble_0 : List UInt8 := [25, 4, 3, 42, 27, 28, 29, 182, 0, 7, 133, 80, 167, 0, 7, 58, 5, 4, 172, 3, 172]
abbrev dktX0_bubble_0 : List UInt8 := dkwX0_bubble_0 ++ []
theorem dksX0_bubble_0 : cX0_bubble.data.toList.drop 0 = dktX0_bubble_0 := by decide +kernel
theorem dX0_bubble_0 : decode cX0_bubble 0 = .ok (.aload 4, 2) := dk_25 4 (dk_at dksX0_bubble_0 0 rfl rfl)
theorem dX0_bubble_2 : decode cX0_bubble 2 = .ok (.iconst 0, 1) := dk_3 (dk_at dksX0_bubble_0 2 rfl rfl)
theorem dX0_bubble_3 : decode cX0_bubble 3 = .ok (.aload_n 0, 1) := dk_42 (dk_at dksX0_bubble_0 3 rfl rfl)
theorem dX0_bubble_4 : decode cX0_bubble 4 = .ok (.iload_n 1, 1) := dk_27 (dk_at dksX0_bubble_0 4 rfl rfl)
theorem dX0_bubble_5 : decode cX0_bubble 5 = .ok (.iload_n 2, 1) := dk_28 (dk_at dksX0_bubble_0 5 rfl rfl)
theorem dX0_bubble_6 : decode cX0_bubble 6 = .ok (.iload_n 3, 1) := dk_29 (dk_at dksX0_bubble_0 6 rfl rfl)
theorem dX0_bubble_7 : decode cX0_bubble 7 = .ok (.invokevirtual 7, 3) := dk_182 0 7 (dk_at dksX0_bubble_0 7 rfl rfl)
theorem dX0_bubble_10 : decode cX0_bubble 10 = .ok (.i2l, 1) := dk_133 (dk_at dksX0_bubble_0 10 rfl rfl)
theorem dX0_bubble_11 : decode cX0_bubble 11 = .ok (.lastore, 1) := dk_80 (dk_at dksX0_bubble_0 11 rfl rfl)
theorem dX0_bubble_12 : decode cX0_bubble 12 = .ok (.goto 7, 3) := dk_167 0 7 (dk_at dksX0_bubble_0 12 rfl rfl)
theorem dX0_bubble_15 : decode cX0_bubble 15 = .ok (.astore 5, 2) := dk_58 5 (dk_at dksX0_bubble_0 15 rfl rfl)
theorem dX0_bubble_17 : decode cX0_bubble 17 = .ok (.iconst 1, 1) := dk_4 (dk_at dksX0_bubble_0 17 rfl rfl)
theorem dX0_bubble_18 : decode cX0_bubble 18 = .ok (.ireturn, 1) := dk_172 (dk_at dksX0_bubble_0 18 rfl rfl)
theorem dX0_bubble_19 : decode cX0_bubble 19 = .ok (.iconst 0, 1) := dk_3 (dk_at dksX0_bubble_0 19 rfl rfl)
theorem dX0_bubble_20 : decode cX0_bubble 20 = .ok (.ireturn, 1) := dk_172 (dk_at dksX0_bubble_0 20 rfl rfl)
abbrev cX0_guest : ByteArray := method_4_code
def yX0_guest : MethodName := ⟨RX0, "guest", "(LBalloonStall;II[J)I"⟩
def dkwX0_guest_0 : List UInt8 := [45, 3, 42, 27, 28, 182, 0, 15, 133, 80, 167, 0, 7, 58, 4, 4, 172, 3, 172]
abbrev dktX0_guest_0 : List UInt8 := dkwX0_guest_0 ++ []
theorem dksX0_guest_0 : cX0_guest.data.toList.drop 0 = dktX0_guest_0 := by decide +kernel
theorem dX0_guest_0 : decode cX0_guest 0 = .ok (.aload_n 3, 1) := dk_45 (dk_at dksX0_guest_0 0 rfl rfl)
theorem dX0_guest_1 : decode cX0_guest 1 = .ok (.iconst 0, 1) := dk_3 (dk_at dksX0_guest_0 1 rfl rfl)
theorem dX0_guest_2 : decode cX0_guest 2 = .ok (.aload_n 0, 1) := dk_42 (dk_at dksX0_guest_0 2 rfl rfl)
theorem dX0_guest_3 : decode cX0_guest 3 = .ok (.iload_n 1, 1) := dk_27 (dk_at dksX0_guest_0 3 rfl rfl)
theorem dX0_guest_4 : decode cX0_guest 4 = .ok (.iload_n 2, 1) := dk_28 (dk_at dksX0_guest_0 4 rfl rfl)
theorem dX0_guest_5 : decode cX0_guest 5 = .ok (.invokevirtual 15, 3) := dk_182 0 15 (dk_at dksX0_guest_0 5 rfl rfl)
theorem dX0_guest_8 : decode cX0_guest 8 = .ok (.i2l, 1) := dk_133 (dk_at dksX0_guest_0 8 rfl rfl)
theorem dX0_guest_9 : decode cX0_guest 9 = .ok (.lastore, 1) := dk_80 (dk_at dksX0_guest_0 9 rfl rfl)
theorem dX0_guest_10 : decode cX0_guest 10 = .ok (.goto 7, 3) := dk_167 0 7 (dk_at dksX0_guest_0 10 rfl rfl)
theorem dX0_guest_13 : decode cX0_guest 13 = .ok (.astore 4, 2) := dk_58 4 (dk_at dksX0_guest_0 13 rfl rfl)
theorem dX0_guest_15 : decode cX0_guest 15 = .ok (.iconst 1, 1) := dk_4 (dk_at dksX0_guest_0 15 rfl rfl)
theorem dX0_guest_16 : decode cX0_guest 16 = .ok (.ireturn, 1) := dk_172 (dk_at dksX0_guest_0 16 rfl rfl)
theorem dX0_guest_17 : decode cX0_guest 17 = .ok (.iconst 0, 1) := dk_3 (dk_at dksX0_guest_0 17 rfl rfl)
theorem dX0_guest_18 : decode cX0_guest 18 = .ok (.ireturn, 1) := dk_172 (dk_at dksX0_guest_0 18 rfl rfl)
abbrev cX0_worth : ByteArray := method_5_code
def yX0_worth : MethodName := ⟨RX0, "worth", "(LBalloonStall;IIIIII[J)I"⟩
def dkwX0_worth_1 : List UInt8 := [172, 3, 172]
abbrev dktX0_worth_1 : List UInt8 := dkwX0_worth_1 ++ []
def dkwX0_worth_0 : List UInt8 := [25, 7, 3, 42, 27, 28, 29, 21, 4, 21, 5, 21, 6, 182, 0, 19, 133, 80, 167, 0, 7, 58, 8, 4]
abbrev dktX0_worth_0 : List UInt8 := dkwX0_worth_0 ++ dktX0_worth_1
theorem dksX0_worth_0 : cX0_worth.data.toList.drop 0 = dktX0_worth_0 := by decide +kernel
theorem dksX0_worth_1 : cX0_worth.data.toList.drop 24 = dktX0_worth_1 := dk_seg dksX0_worth_0 24 rfl rfl
theorem dX0_worth_0 : decode cX0_worth 0 = .ok (.aload 7, 2) := dk_25 7 (dk_at dksX0_worth_0 0 rfl rfl)
theorem dX0_worth_2 : decode cX0_worth 2 = .ok (.iconst 0, 1) := dk_3 (dk_at dksX0_worth_0 2 rfl rfl)
theorem dX0_worth_3 : decode cX0_worth 3 = .ok (.aload_n 0, 1) := dk_42 (dk_at dksX0_worth_0 3 rfl rfl)
theorem dX0_worth_4 : decode cX0_worth 4 = .ok (.iload_n 1, 1) := dk_27 (dk_at dksX0_worth_0 4 rfl rfl)
theorem dX0_worth_5 : decode cX0_worth 5 = .ok (.iload_n 2, 1) := dk_28 (dk_at dksX0_worth_0 5 rfl rfl)
theorem dX0_worth_6 : decode cX0_worth 6 = .ok (.iload_n 3, 1) := dk_29 (dk_at dksX0_worth_0 6 rfl rfl)
theorem dX0_worth_7 : decode cX0_worth 7 = .ok (.iload 4, 2) := dk_21 4 (dk_at dksX0_worth_0 7 rfl rfl)
theorem dX0_worth_9 : decode cX0_worth 9 = .ok (.iload 5, 2) := dk_21 5 (dk_at dksX0_worth_0 9 rfl rfl)
theorem dX0_worth_11 : decode cX0_worth 11 = .ok (.iload 6, 2) := dk_21 6 (dk_at dksX0_worth_0 11 rfl rfl)
theorem dX0_worth_13 : decode cX0_worth 13 = .ok (.invokevirtual 19, 3) := dk_182 0 19 (dk_at dksX0_worth_0 13 rfl rfl)
theorem dX0_worth_16 : decode cX0_worth 16 = .ok (.i2l, 1) := dk_133 (dk_at dksX0_worth_0 16 rfl rfl)
theorem dX0_worth_17 : decode cX0_worth 17 = .ok (.lastore, 1) := dk_80 (dk_at dksX0_worth_0 17 rfl rfl)
theorem dX0_worth_18 : decode cX0_worth 18 = .ok (.goto 7, 3) := dk_167 0 7 (dk_at dksX0_worth_0 18 rfl rfl)
theorem dX0_worth_21 : decode cX0_worth 21 = .ok (.astore 8, 2) := dk_58 8 (dk_at dksX0_worth_0 21 rfl rfl)
theorem dX0_worth_23 : decode cX0_worth 23 = .ok (.iconst 1, 1) := dk_4 (dk_at dksX0_worth_0 23 rfl rfl)
theorem dX0_worth_24 : decode cX0_worth 24 = .ok (.ireturn, 1) := dk_172 (dk_at dksX0_worth_1 0 rfl rfl)
theorem dX0_worth_25 : decode cX0_worth 25 = .ok (.iconst 0, 1) := dk_3 (dk_at dksX0_worth_1 1 rfl rfl)
theorem dX0_worth_26 : decode cX0_worth 26 = .ok (.ireturn, 1) := dk_172 (dk_at dksX0_worth_1 2 rfl rfl)
theorem q102 : (Jvm.Cond.initialized "BalloonStallLaw") ∈ lw_all := lw_g (lw_at lw_m1 0 rfl) rfl
theorem q135 : (Jvm.Cond.classLink "BalloonStallLaw" (8 : Nat) "BalloonStall") ∈ lw_all := lw_g (lw_at lw_m1 33 rfl) rfl
theorem q137 : (Jvm.Cond.methodLink "BalloonStallLaw" (23 : Nat) ({ cls := "BalloonStall", name := "<init>", desc := "()V" } : Jvm.MethodName)) ∈ lw_all := lw_g (lw_at lw_m1 35 rfl) rfl
theorem q238 : (Jvm.Cond.methodLink "BalloonStallLaw" (27 : Nat) ({ cls := "BalloonStall", name := "sort", desc := "(III)I" } : Jvm.MethodName)) ∈ lw_all := lw_g (lw_at lw_m1 136 rfl) rfl
theorem q276 : (Jvm.Cond.methodLink "BalloonStallLaw" (31 : Nat) ({ cls := "BalloonStall", name := "feed", desc := "(IIIII)I" } : Jvm.MethodName)) ∈ lw_all := lw_g (lw_at lw_m1 174 rfl) rfl
theorem q287 : (Jvm.Cond.methodLink "BalloonStallLaw" (36 : Nat) ({ cls := "BalloonStall", name := "end", desc := "(I)Z" } : Jvm.MethodName)) ∈ lw_all := lw_g (lw_at lw_m1 185 rfl) rfl
theorem q291 : (Jvm.Cond.methodLink "BalloonStallLaw" (41 : Nat) ({ cls := "BalloonStall", name := "fault", desc := "(I)I" } : Jvm.MethodName)) ∈ lw_all := lw_g (lw_at lw_m1 189 rfl) rfl
theorem q694 : (Jvm.Cond.methodLink "BalloonStallLaw" (46 : Nat) ({ cls := "BalloonStall", name := "figure", desc := "()I" } : Jvm.MethodName)) ∈ lw_all := lw_g (lw_at lw_m3 112 rfl) rfl
theorem q880 : (Jvm.Cond.methodLink "BalloonStallLaw" (55 : Nat) ({ cls := "BalloonStall", name := "many", desc := "(II)I" } : Jvm.MethodName)) ∈ lw_all := lw_g (lw_at lw_m4 58 rfl) rfl
theorem q908 : (Jvm.Cond.methodLink "BalloonStallLaw" (68 : Nat) ({ cls := "BalloonStall", name := "ends", desc := "(II)I" } : Jvm.MethodName)) ∈ lw_all := lw_g (lw_at lw_m4 86 rfl) rfl
theorem q916 : (Jvm.Cond.methodLink "BalloonStallLaw" (72 : Nat) ({ cls := "BalloonStall", name := "bursts", desc := "(II)I" } : Jvm.MethodName)) ∈ lw_all := lw_g (lw_at lw_m4 94 rfl) rfl
theorem q932 : (Jvm.Cond.methodLink "BalloonStallLaw" (76 : Nat) ({ cls := "BalloonStall", name := "rest", desc := "(II)I" } : Jvm.MethodName)) ∈ lw_all := lw_g (lw_at lw_m4 110 rfl) rfl
theorem q937 : (Jvm.Cond.methodLink "BalloonStallLaw" (80 : Nat) ({ cls := "BalloonStall", name := "hands", desc := "(I)I" } : Jvm.MethodName)) ∈ lw_all := lw_g (lw_at lw_m4 115 rfl) rfl
theorem q941 : (Jvm.Cond.methodLink "BalloonStallLaw" (84 : Nat) ({ cls := "BalloonStall", name := "holds", desc := "(II)I" } : Jvm.MethodName)) ∈ lw_all := lw_g (lw_at lw_m4 119 rfl) rfl
theorem q951 : (Jvm.Cond.methodLink "BalloonStallLaw" (88 : Nat) ({ cls := "BalloonStall", name := "plain", desc := "(I)I" } : Jvm.MethodName)) ∈ lw_all := lw_g (lw_at lw_m4 129 rfl) rfl
theorem q958 : (Jvm.Cond.methodLink "BalloonStallLaw" (92 : Nat) ({ cls := "BalloonStall", name := "pop", desc := "(III)I" } : Jvm.MethodName)) ∈ lw_all := lw_g (lw_at lw_m4 136 rfl) rfl
theorem q1001 : (Jvm.Cond.methodLink "BalloonStallLaw" (96 : Nat) ({ cls := "BalloonStall", name := "weakest", desc := "(I)I" } : Jvm.MethodName)) ∈ lw_all := lw_g (lw_at lw_m4 179 rfl) rfl
theorem q1005 : (Jvm.Cond.methodLink "BalloonStallLaw" (100 : Nat) ({ cls := "BalloonStall", name := "add", desc := "(IIII)I" } : Jvm.MethodName)) ∈ lw_all := lw_g (lw_at lw_m4 183 rfl) rfl
theorem q1015 : (Jvm.Cond.methodLink "BalloonStallLaw" (105 : Nat) ({ cls := "BalloonStall", name := "alike", desc := "(II)I" } : Jvm.MethodName)) ∈ lw_all := lw_g (lw_at lw_m4 193 rfl) rfl
theorem q1039 : (Jvm.Cond.methodLink "BalloonStallLaw" (109 : Nat) ({ cls := "BalloonStall", name := "match", desc := "(III)I" } : Jvm.MethodName)) ∈ lw_all := lw_g (lw_at lw_m4 217 rfl) rfl
theorem q1043 : (Jvm.Cond.methodLink "BalloonStallLaw" (113 : Nat) ({ cls := "BalloonStall", name := "far", desc := "(III)I" } : Jvm.MethodName)) ∈ lw_all := lw_g (lw_at lw_m4 221 rfl) rfl
theorem q1053 : (Jvm.Cond.methodLink "BalloonStallLaw" (117 : Nat) ({ cls := "BalloonStall", name := "span", desc := "(I)I" } : Jvm.MethodName)) ∈ lw_all := lw_g (lw_at lw_m4 231 rfl) rfl
theorem q1057 : (Jvm.Cond.methodLink "BalloonStallLaw" (121 : Nat) ({ cls := "BalloonStall", name := "strokes", desc := "(I)I" } : Jvm.MethodName)) ∈ lw_all := lw_g (lw_at lw_m4 235 rfl) rfl
theorem q1072 : (Jvm.Cond.methodLink "BalloonStallLaw" (125 : Nat) ({ cls := "BalloonStall", name := "made", desc := "(II)I" } : Jvm.MethodName)) ∈ lw_all := lw_g (lw_at lw_m5 10 rfl) rfl
theorem q1098 : (Jvm.Cond.methodLink "BalloonStallLaw" (129 : Nat) ({ cls := "BalloonStall", name := "set", desc := "(III)I" } : Jvm.MethodName)) ∈ lw_all := lw_g (lw_at lw_m5 36 rfl) rfl
theorem q1107 : (Jvm.Cond.methodLink "BalloonStallLaw" (133 : Nat) ({ cls := "BalloonStall", name := "twice", desc := "(I)I" } : Jvm.MethodName)) ∈ lw_all := lw_g (lw_at lw_m5 45 rfl) rfl
theorem q1115 : (Jvm.Cond.methodLink "BalloonStallLaw" (137 : Nat) ({ cls := "BalloonStall", name := "stock", desc := "(II)Z" } : Jvm.MethodName)) ∈ lw_all := lw_g (lw_at lw_m5 53 rfl) rfl
theorem q1119 : (Jvm.Cond.methodLink "BalloonStallLaw" (142 : Nat) ({ cls := "BalloonStall", name := "pace", desc := "(II)Z" } : Jvm.MethodName)) ∈ lw_all := lw_g (lw_at lw_m5 57 rfl) rfl
theorem q1123 : (Jvm.Cond.methodLink "BalloonStallLaw" (146 : Nat) ({ cls := "BalloonStall", name := "comes", desc := "(III)I" } : Jvm.MethodName)) ∈ lw_all := lw_g (lw_at lw_m5 61 rfl) rfl
theorem q1159 : (Jvm.Cond.methodLink "BalloonStallLaw" (150 : Nat) ({ cls := "BalloonStall", name := "close", desc := "()I" } : Jvm.MethodName)) ∈ lw_all := lw_g (lw_at lw_m5 97 rfl) rfl
theorem q1163 : (Jvm.Cond.methodLink "BalloonStallLaw" (156 : Nat) ({ cls := "BalloonStall", name := "run", desc := "(J)I" } : Jvm.MethodName)) ∈ lw_all := lw_g (lw_at lw_m5 101 rfl) rfl
theorem q1186 : (Jvm.Cond.methodLink "BalloonStallLaw" (51 : Nat) ({ cls := "BalloonStall", name := "rule", desc := "()I" } : Jvm.MethodName)) ∈ lw_all := lw_g (lw_at lw_m5 124 rfl) rfl
theorem q1190 : (Jvm.Cond.methodLink "BalloonStallLaw" (169 : Nat) ({ cls := "BalloonStall", name := "aged", desc := "(IIII)I" } : Jvm.MethodName)) ∈ lw_all := lw_g (lw_at lw_m5 128 rfl) rfl
theorem q1253 : (Jvm.Cond.methodLink "BalloonStallLaw" (173 : Nat) ({ cls := "BalloonStall", name := "falls", desc := "(III)I" } : Jvm.MethodName)) ∈ lw_all := lw_g (lw_at lw_m5 191 rfl) rfl
theorem q1257 : (Jvm.Cond.methodLink "BalloonStallLaw" (177 : Nat) ({ cls := "BalloonStall", name := "count", desc := "(I)I" } : Jvm.MethodName)) ∈ lw_all := lw_g (lw_at lw_m5 195 rfl) rfl
theorem q1261 : (Jvm.Cond.methodLink "BalloonStallLaw" (59 : Nat) ({ cls := "BalloonStallLaw", name := "bubble", desc := "(LBalloonStall;III[J)I" } : Jvm.MethodName)) ∈ lw_all := lw_g (lw_at lw_m5 199 rfl) rfl
theorem q1262 : (Jvm.Cond.static ({ cls := "BalloonStallLaw", name := "bubble", desc := "(LBalloonStall;III[J)I" } : Jvm.MethodName)) ∈ lw_all := lw_g (lw_at lw_m5 200 rfl) rfl
theorem q1263 : (Jvm.Cond.codeWith ({ cls := "BalloonStallLaw", name := "bubble", desc := "(LBalloonStall;III[J)I" } : Jvm.MethodName) method_3_code (6 : Nat) (Option.some Jvm.ClassFile.FieldType.int) [((0 : Nat), (12 : Nat), (15 : Nat), (13 : Nat))]) ∈ lw_all := lw_g (lw_at lw_m5 201 rfl) rfl
theorem q1264 : (Jvm.Cond.classLink "BalloonStallLaw" (13 : Nat) "java/util/NoSuchElementException") ∈ lw_all := lw_g (lw_at lw_m5 202 rfl) rfl
theorem q1265 : (Jvm.Cond.methodLink "BalloonStallLaw" (7 : Nat) ({ cls := "BalloonStall", name := "bubble", desc := "(III)I" } : Jvm.MethodName)) ∈ lw_all := lw_g (lw_at lw_m5 203 rfl) rfl
theorem q1291 : (Jvm.Cond.methodLink "BalloonStallLaw" (161 : Nat) ({ cls := "BalloonStallLaw", name := "guest", desc := "(LBalloonStall;II[J)I" } : Jvm.MethodName)) ∈ lw_all := lw_g (lw_at lw_m5 229 rfl) rfl
theorem q1292 : (Jvm.Cond.static ({ cls := "BalloonStallLaw", name := "guest", desc := "(LBalloonStall;II[J)I" } : Jvm.MethodName)) ∈ lw_all := lw_g (lw_at lw_m5 230 rfl) rfl
theorem q1293 : (Jvm.Cond.codeWith ({ cls := "BalloonStallLaw", name := "guest", desc := "(LBalloonStall;II[J)I" } : Jvm.MethodName) method_4_code (5 : Nat) (Option.some Jvm.ClassFile.FieldType.int) [((0 : Nat), (10 : Nat), (13 : Nat), (13 : Nat))]) ∈ lw_all := lw_g (lw_at lw_m5 231 rfl) rfl
theorem q1294 : (Jvm.Cond.methodLink "BalloonStallLaw" (15 : Nat) ({ cls := "BalloonStall", name := "guest", desc := "(II)I" } : Jvm.MethodName)) ∈ lw_all := lw_g (lw_at lw_m5 232 rfl) rfl
theorem q1299 : (Jvm.Cond.methodLink "BalloonStallLaw" (165 : Nat) ({ cls := "BalloonStallLaw", name := "worth", desc := "(LBalloonStall;IIIIII[J)I" } : Jvm.MethodName)) ∈ lw_all := lw_g (lw_at lw_m5 237 rfl) rfl
theorem q1300 : (Jvm.Cond.static ({ cls := "BalloonStallLaw", name := "worth", desc := "(LBalloonStall;IIIIII[J)I" } : Jvm.MethodName)) ∈ lw_all := lw_g (lw_at lw_m5 238 rfl) rfl
theorem q1301 : (Jvm.Cond.codeWith ({ cls := "BalloonStallLaw", name := "worth", desc := "(LBalloonStall;IIIIII[J)I" } : Jvm.MethodName) method_5_code (9 : Nat) (Option.some Jvm.ClassFile.FieldType.int) [((0 : Nat), (18 : Nat), (21 : Nat), (13 : Nat))]) ∈ lw_all := lw_g (lw_at lw_m5 239 rfl) rfl
theorem q1302 : (Jvm.Cond.methodLink "BalloonStallLaw" (19 : Nat) ({ cls := "BalloonStall", name := "worth", desc := "(IIIIII)I" } : Jvm.MethodName)) ∈ lw_all := lw_g (lw_at lw_m6 0 rfl) rfl
theorem q1306 : (Jvm.Cond.classLink "BalloonStallLaw" (24 : Nat) "BalloonStallModel") ∈ lw_all := lw_g (lw_at lw_m6 4 rfl) rfl
theorem q1308 : (Jvm.Cond.methodLink "BalloonStallLaw" (26 : Nat) ({ cls := "BalloonStallModel", name := "<init>", desc := "()V" } : Jvm.MethodName)) ∈ lw_all := lw_g (lw_at lw_m6 6 rfl) rfl
theorem q1471 : (Jvm.Cond.methodLink "BalloonStallLaw" (65 : Nat) ({ cls := "BalloonStallModel", name := "thrown", desc := "()I" } : Jvm.MethodName)) ∈ lw_all := lw_g (lw_at lw_m6 169 rfl) rfl
theorem q1475 : (Jvm.Cond.methodLink "BalloonStallLaw" (30 : Nat) ({ cls := "BalloonStallModel", name := "sort", desc := "(III)I" } : Jvm.MethodName)) ∈ lw_all := lw_g (lw_at lw_m6 173 rfl) rfl
theorem q1482 : (Jvm.Cond.methodLink "BalloonStallLaw" (35 : Nat) ({ cls := "BalloonStallModel", name := "feed", desc := "(IIIII)I" } : Jvm.MethodName)) ∈ lw_all := lw_g (lw_at lw_m6 180 rfl) rfl
theorem q1489 : (Jvm.Cond.methodLink "BalloonStallLaw" (40 : Nat) ({ cls := "BalloonStallModel", name := "end", desc := "(I)Z" } : Jvm.MethodName)) ∈ lw_all := lw_g (lw_at lw_m6 187 rfl) rfl
theorem q1493 : (Jvm.Cond.methodLink "BalloonStallLaw" (45 : Nat) ({ cls := "BalloonStallModel", name := "fault", desc := "(I)I" } : Jvm.MethodName)) ∈ lw_all := lw_g (lw_at lw_m6 191 rfl) rfl
theorem q1601 : (Jvm.Cond.methodLink "BalloonStallLaw" (50 : Nat) ({ cls := "BalloonStallModel", name := "figure", desc := "()I" } : Jvm.MethodName)) ∈ lw_all := lw_g (lw_at lw_m7 59 rfl) rfl
theorem q1605 : (Jvm.Cond.methodLink "BalloonStallLaw" (54 : Nat) ({ cls := "BalloonStallModel", name := "rule", desc := "()I" } : Jvm.MethodName)) ∈ lw_all := lw_g (lw_at lw_m7 63 rfl) rfl
theorem q1609 : (Jvm.Cond.methodLink "BalloonStallLaw" (168 : Nat) ({ cls := "BalloonStallModel", name := "worth", desc := "(IIIIII)I" } : Jvm.MethodName)) ∈ lw_all := lw_g (lw_at lw_m7 67 rfl) rfl
theorem q1632 : (Jvm.Cond.methodLink "BalloonStallLaw" (58 : Nat) ({ cls := "BalloonStallModel", name := "many", desc := "(II)I" } : Jvm.MethodName)) ∈ lw_all := lw_g (lw_at lw_m7 90 rfl) rfl
theorem q1660 : (Jvm.Cond.methodLink "BalloonStallLaw" (64 : Nat) ({ cls := "BalloonStallModel", name := "bubble", desc := "(III)I" } : Jvm.MethodName)) ∈ lw_all := lw_g (lw_at lw_m7 118 rfl) rfl
theorem q1668 : (Jvm.Cond.methodLink "BalloonStallLaw" (71 : Nat) ({ cls := "BalloonStallModel", name := "ends", desc := "(II)I" } : Jvm.MethodName)) ∈ lw_all := lw_g (lw_at lw_m7 126 rfl) rfl
theorem q1676 : (Jvm.Cond.methodLink "BalloonStallLaw" (75 : Nat) ({ cls := "BalloonStallModel", name := "bursts", desc := "(II)I" } : Jvm.MethodName)) ∈ lw_all := lw_g (lw_at lw_m7 134 rfl) rfl
theorem q1684 : (Jvm.Cond.methodLink "BalloonStallLaw" (79 : Nat) ({ cls := "BalloonStallModel", name := "rest", desc := "(II)I" } : Jvm.MethodName)) ∈ lw_all := lw_g (lw_at lw_m7 142 rfl) rfl
theorem q1688 : (Jvm.Cond.methodLink "BalloonStallLaw" (83 : Nat) ({ cls := "BalloonStallModel", name := "hands", desc := "(I)I" } : Jvm.MethodName)) ∈ lw_all := lw_g (lw_at lw_m7 146 rfl) rfl
theorem q1692 : (Jvm.Cond.methodLink "BalloonStallLaw" (87 : Nat) ({ cls := "BalloonStallModel", name := "holds", desc := "(II)I" } : Jvm.MethodName)) ∈ lw_all := lw_g (lw_at lw_m7 150 rfl) rfl
theorem q1696 : (Jvm.Cond.methodLink "BalloonStallLaw" (91 : Nat) ({ cls := "BalloonStallModel", name := "plain", desc := "(I)I" } : Jvm.MethodName)) ∈ lw_all := lw_g (lw_at lw_m7 154 rfl) rfl
theorem q1716 : (Jvm.Cond.methodLink "BalloonStallLaw" (104 : Nat) ({ cls := "BalloonStallModel", name := "add", desc := "(IIII)I" } : Jvm.MethodName)) ∈ lw_all := lw_g (lw_at lw_m7 174 rfl) rfl
theorem q1724 : (Jvm.Cond.methodLink "BalloonStallLaw" (95 : Nat) ({ cls := "BalloonStallModel", name := "pop", desc := "(III)I" } : Jvm.MethodName)) ∈ lw_all := lw_g (lw_at lw_m7 182 rfl) rfl
theorem q1741 : (Jvm.Cond.methodLink "BalloonStallLaw" (99 : Nat) ({ cls := "BalloonStallModel", name := "weakest", desc := "(I)I" } : Jvm.MethodName)) ∈ lw_all := lw_g (lw_at lw_m7 199 rfl) rfl
theorem q1746 : (Jvm.Cond.methodLink "BalloonStallLaw" (108 : Nat) ({ cls := "BalloonStallModel", name := "alike", desc := "(II)I" } : Jvm.MethodName)) ∈ lw_all := lw_g (lw_at lw_m7 204 rfl) rfl
theorem q1770 : (Jvm.Cond.methodLink "BalloonStallLaw" (112 : Nat) ({ cls := "BalloonStallModel", name := "match", desc := "(III)I" } : Jvm.MethodName)) ∈ lw_all := lw_g (lw_at lw_m7 228 rfl) rfl
theorem q1774 : (Jvm.Cond.methodLink "BalloonStallLaw" (116 : Nat) ({ cls := "BalloonStallModel", name := "far", desc := "(III)I" } : Jvm.MethodName)) ∈ lw_all := lw_g (lw_at lw_m7 232 rfl) rfl
theorem q1783 : (Jvm.Cond.methodLink "BalloonStallLaw" (120 : Nat) ({ cls := "BalloonStallModel", name := "span", desc := "(I)I" } : Jvm.MethodName)) ∈ lw_all := lw_g (lw_at lw_m8 1 rfl) rfl
theorem q1787 : (Jvm.Cond.methodLink "BalloonStallLaw" (124 : Nat) ({ cls := "BalloonStallModel", name := "strokes", desc := "(I)I" } : Jvm.MethodName)) ∈ lw_all := lw_g (lw_at lw_m8 5 rfl) rfl
theorem q1795 : (Jvm.Cond.methodLink "BalloonStallLaw" (128 : Nat) ({ cls := "BalloonStallModel", name := "made", desc := "(II)I" } : Jvm.MethodName)) ∈ lw_all := lw_g (lw_at lw_m8 13 rfl) rfl
theorem q1815 : (Jvm.Cond.methodLink "BalloonStallLaw" (132 : Nat) ({ cls := "BalloonStallModel", name := "set", desc := "(III)I" } : Jvm.MethodName)) ∈ lw_all := lw_g (lw_at lw_m8 33 rfl) rfl
theorem q1819 : (Jvm.Cond.methodLink "BalloonStallLaw" (136 : Nat) ({ cls := "BalloonStallModel", name := "twice", desc := "(I)I" } : Jvm.MethodName)) ∈ lw_all := lw_g (lw_at lw_m8 37 rfl) rfl
theorem q1828 : (Jvm.Cond.methodLink "BalloonStallLaw" (141 : Nat) ({ cls := "BalloonStallModel", name := "stock", desc := "(II)Z" } : Jvm.MethodName)) ∈ lw_all := lw_g (lw_at lw_m8 46 rfl) rfl
theorem q1832 : (Jvm.Cond.methodLink "BalloonStallLaw" (145 : Nat) ({ cls := "BalloonStallModel", name := "pace", desc := "(II)Z" } : Jvm.MethodName)) ∈ lw_all := lw_g (lw_at lw_m8 50 rfl) rfl
theorem q1836 : (Jvm.Cond.methodLink "BalloonStallLaw" (149 : Nat) ({ cls := "BalloonStallModel", name := "comes", desc := "(III)I" } : Jvm.MethodName)) ∈ lw_all := lw_g (lw_at lw_m8 54 rfl) rfl
theorem q1840 : (Jvm.Cond.methodLink "BalloonStallLaw" (153 : Nat) ({ cls := "BalloonStallModel", name := "close", desc := "()I" } : Jvm.MethodName)) ∈ lw_all := lw_g (lw_at lw_m8 58 rfl) rfl
theorem q1844 : (Jvm.Cond.methodLink "BalloonStallLaw" (160 : Nat) ({ cls := "BalloonStallModel", name := "run", desc := "(J)I" } : Jvm.MethodName)) ∈ lw_all := lw_g (lw_at lw_m8 62 rfl) rfl
theorem q1859 : (Jvm.Cond.methodLink "BalloonStallLaw" (164 : Nat) ({ cls := "BalloonStallModel", name := "guest", desc := "(II)I" } : Jvm.MethodName)) ∈ lw_all := lw_g (lw_at lw_m8 77 rfl) rfl
theorem q1863 : (Jvm.Cond.methodLink "BalloonStallLaw" (172 : Nat) ({ cls := "BalloonStallModel", name := "aged", desc := "(IIII)I" } : Jvm.MethodName)) ∈ lw_all := lw_g (lw_at lw_m8 81 rfl) rfl
theorem q1875 : (Jvm.Cond.methodLink "BalloonStallLaw" (176 : Nat) ({ cls := "BalloonStallModel", name := "falls", desc := "(III)I" } : Jvm.MethodName)) ∈ lw_all := lw_g (lw_at lw_m8 93 rfl) rfl
theorem q1879 : (Jvm.Cond.methodLink "BalloonStallLaw" (180 : Nat) ({ cls := "BalloonStallModel", name := "count", desc := "(I)I" } : Jvm.MethodName)) ∈ lw_all := lw_g (lw_at lw_m8 97 rfl) rfl
theorem q1883 : (Jvm.Cond.constantLong "BalloonStallLaw" (154 : Nat) (4294967295 : Int64)) ∈ lw_all := lw_g (lw_at lw_m8 101 rfl) rfl
/-! BalloonStall$Letters -/
set_option maxRecDepth 100000
def RX2 : String := "BalloonStall$Letters"
def TX2 : u_T := fun k => match k with
  | _ => ("BalloonStall$Letters", "of", "[I", true)
def tyX2 : Nat → FieldType := fun k => match k with
  | _ => .array .int
abbrev wsX20 : List Cond := u_ws RX2 TX2 1
theorem nmX2 : ∀ a, a < 1 → ∀ b, b < 1 → a ≠ b → (TX2 a).2.1 ≠ (TX2 b).2.1 := by decide +kernel
theorem tyX2_ok : ∀ k, k < 1 → parseFieldDescriptor (TX2 k).2.2.1 = some (tyX2 k) := by decide +kernel
abbrev cX2_init : ByteArray := prog_12_method_1_code
def yX2_init : MethodName := ⟨RX2, "<init>", "()V"⟩
def dkwX2_init_0 : List UInt8 := [42, 183, 0, 1, 42, 17, 0, 128, 188, 10, 181, 0, 7, 177]
abbrev dktX2_init_0 : List UInt8 := dkwX2_init_0 ++ []
theorem dksX2_init_0 : cX2_init.data.toList.drop 0 = dktX2_init_0 := by decide +kernel
theorem dX2_init_0 : decode cX2_init 0 = .ok (.aload_n 0, 1) := dk_42 (dk_at dksX2_init_0 0 rfl rfl)
theorem dX2_init_1 : decode cX2_init 1 = .ok (.invokespecial 1, 3) := dk_183 0 1 (dk_at dksX2_init_0 1 rfl rfl)
theorem dX2_init_4 : decode cX2_init 4 = .ok (.aload_n 0, 1) := dk_42 (dk_at dksX2_init_0 4 rfl rfl)
theorem dX2_init_5 : decode cX2_init 5 = .ok (.sipush 128, 3) := dk_17 0 128 (dk_at dksX2_init_0 5 rfl rfl)
theorem dX2_init_8 : decode cX2_init 8 = .ok (.newarray .int, 2) := dk_188_10 (dk_at dksX2_init_0 8 rfl rfl)
theorem dX2_init_10 : decode cX2_init 10 = .ok (.putfield 7, 3) := dk_181 0 7 (dk_at dksX2_init_0 10 rfl rfl)
theorem dX2_init_13 : decode cX2_init 13 = .ok (.return_, 1) := dk_177 (dk_at dksX2_init_0 13 rfl rfl)
theorem q104 : (Jvm.Cond.initialized "BalloonStall$Letters") ∈ lw_all := lw_g (lw_at lw_m1 2 rfl) rfl
theorem q152 : (Jvm.Cond.instantiable "BalloonStall$Letters" (1 : Nat)) ∈ lw_all := lw_g (lw_at lw_m1 50 rfl) rfl
theorem q154 : (Jvm.Cond.instanceMethod ({ cls := "BalloonStall$Letters", name := "<init>", desc := "()V" } : Jvm.MethodName)) ∈ lw_all := lw_g (lw_at lw_m1 52 rfl) rfl
theorem q155 : (Jvm.Cond.code ({ cls := "BalloonStall$Letters", name := "<init>", desc := "()V" } : Jvm.MethodName) prog_12_method_1_code (1 : Nat) (Option.none : Option Jvm.ClassFile.FieldType)) ∈ lw_all := lw_g (lw_at lw_m1 53 rfl) rfl
theorem q156 : (Jvm.Cond.methodLink "BalloonStall$Letters" (1 : Nat) ({ cls := "java/lang/Object", name := "<init>", desc := "()V" } : Jvm.MethodName)) ∈ lw_all := lw_g (lw_at lw_m1 54 rfl) rfl
theorem q157 : (Jvm.Cond.fieldLink "BalloonStall$Letters" (7 : Nat) "BalloonStall$Letters" "of" "[I") ∈ lw_all := lw_g (lw_at lw_m1 55 rfl) rfl
theorem q160 : (Jvm.Cond.laysFinal "BalloonStall$Letters" "BalloonStall$Letters" "of" "[I") ∈ lw_all := lw_g (lw_at lw_m1 58 rfl) rfl
theorem q161 : (Jvm.Cond.soleField "BalloonStall$Letters" "of") ∈ lw_all := lw_g (lw_at lw_m1 59 rfl) rfl
theorem q162 : (Jvm.Cond.superclass "BalloonStall$Letters" "java/lang/Object") ∈ lw_all := lw_g (lw_at lw_m1 60 rfl) rfl
theorem q1892 : (Jvm.Cond.castable "BalloonStall$Letters" "java/lang/Object") ∈ lw_tbl := lw_at lw_m8 110 rfl
theorem in_X2 : ∀ w ∈ wsX20, w ∈ lw_all := lw_in wsX20 [160] (by decide +kernel) (by decide +kernel)
/-! BalloonStall$Sort -/
set_option maxRecDepth 100000
def RX4 : String := "BalloonStall$Sort"
def TX4 : u_T := fun k => match k with
  | 0 => ("BalloonStall$Sort", "air", "I", true)
  | 1 => ("BalloonStall$Sort", "strain", "I", true)
  | 2 => ("BalloonStall$Sort", "chance", "I", true)
  | 3 => ("BalloonStall$Sort", "stock", "I", false)
  | 4 => ("BalloonStall$Sort", "there", "I", false)
  | _ => ("BalloonStall$Sort", "needed", "I", false)
def tyX4 : Nat → FieldType := fun k => match k with
  | 0 => .int
  | 1 => .int
  | 2 => .int
  | 3 => .int
  | 4 => .int
  | _ => .int
abbrev wsX40 : List Cond := u_ws RX4 TX4 6
theorem nmX4 : ∀ a, a < 6 → ∀ b, b < 6 → a ≠ b → (TX4 a).2.1 ≠ (TX4 b).2.1 := by decide +kernel
theorem tyX4_ok : ∀ k, k < 6 → parseFieldDescriptor (TX4 k).2.2.1 = some (tyX4 k) := by decide +kernel
abbrev cX4_init : ByteArray := prog_21_method_1_code
def yX4_init : MethodName := ⟨RX4, "<init>", "(III)V"⟩
def dkwX4_init_0 : List UInt8 := [42, 183, 0, 1, 42, 27, 181, 0, 7, 42, 28, 181, 0, 13, 42, 29, 181, 0, 16, 177]
abbrev dktX4_init_0 : List UInt8 := dkwX4_init_0 ++ []
theorem dksX4_init_0 : cX4_init.data.toList.drop 0 = dktX4_init_0 := by decide +kernel
theorem dX4_init_0 : decode cX4_init 0 = .ok (.aload_n 0, 1) := dk_42 (dk_at dksX4_init_0 0 rfl rfl)
theorem dX4_init_1 : decode cX4_init 1 = .ok (.invokespecial 1, 3) := dk_183 0 1 (dk_at dksX4_init_0 1 rfl rfl)
theorem dX4_init_4 : decode cX4_init 4 = .ok (.aload_n 0, 1) := dk_42 (dk_at dksX4_init_0 4 rfl rfl)
theorem dX4_init_5 : decode cX4_init 5 = .ok (.iload_n 1, 1) := dk_27 (dk_at dksX4_init_0 5 rfl rfl)
theorem dX4_init_6 : decode cX4_init 6 = .ok (.putfield 7, 3) := dk_181 0 7 (dk_at dksX4_init_0 6 rfl rfl)
theorem dX4_init_9 : decode cX4_init 9 = .ok (.aload_n 0, 1) := dk_42 (dk_at dksX4_init_0 9 rfl rfl)
theorem dX4_init_10 : decode cX4_init 10 = .ok (.iload_n 2, 1) := dk_28 (dk_at dksX4_init_0 10 rfl rfl)
theorem dX4_init_11 : decode cX4_init 11 = .ok (.putfield 13, 3) := dk_181 0 13 (dk_at dksX4_init_0 11 rfl rfl)
theorem dX4_init_14 : decode cX4_init 14 = .ok (.aload_n 0, 1) := dk_42 (dk_at dksX4_init_0 14 rfl rfl)
theorem dX4_init_15 : decode cX4_init 15 = .ok (.iload_n 3, 1) := dk_29 (dk_at dksX4_init_0 15 rfl rfl)
theorem dX4_init_16 : decode cX4_init 16 = .ok (.putfield 16, 3) := dk_181 0 16 (dk_at dksX4_init_0 16 rfl rfl)
theorem dX4_init_19 : decode cX4_init 19 = .ok (.return_, 1) := dk_177 (dk_at dksX4_init_0 19 rfl rfl)
abbrev cX4_strains : ByteArray := prog_21_method_2_code
def yX4_strains : MethodName := ⟨RX4, "strains", "(I)I"⟩
def dkwX4_strains_0 : List UInt8 := [27, 4, 164, 0, 14, 42, 180, 0, 13, 27, 4, 100, 104, 167, 0, 4, 3, 172]
abbrev dktX4_strains_0 : List UInt8 := dkwX4_strains_0 ++ []
theorem dksX4_strains_0 : cX4_strains.data.toList.drop 0 = dktX4_strains_0 := by decide +kernel
theorem dX4_strains_0 : decode cX4_strains 0 = .ok (.iload_n 1, 1) := dk_27 (dk_at dksX4_strains_0 0 rfl rfl)
theorem dX4_strains_1 : decode cX4_strains 1 = .ok (.iconst 1, 1) := dk_4 (dk_at dksX4_strains_0 1 rfl rfl)
theorem dX4_strains_2 : decode cX4_strains 2 = .ok (.if_icmp .le 14, 3) := dk_164 0 14 (dk_at dksX4_strains_0 2 rfl rfl)
theorem dX4_strains_5 : decode cX4_strains 5 = .ok (.aload_n 0, 1) := dk_42 (dk_at dksX4_strains_0 5 rfl rfl)
theorem dX4_strains_6 : decode cX4_strains 6 = .ok (.getfield 13, 3) := dk_180 0 13 (dk_at dksX4_strains_0 6 rfl rfl)
theorem dX4_strains_9 : decode cX4_strains 9 = .ok (.iload_n 1, 1) := dk_27 (dk_at dksX4_strains_0 9 rfl rfl)
theorem dX4_strains_10 : decode cX4_strains 10 = .ok (.iconst 1, 1) := dk_4 (dk_at dksX4_strains_0 10 rfl rfl)
theorem dX4_strains_11 : decode cX4_strains 11 = .ok (.isub, 1) := dk_100 (dk_at dksX4_strains_0 11 rfl rfl)
theorem dX4_strains_12 : decode cX4_strains 12 = .ok (.imul, 1) := dk_104 (dk_at dksX4_strains_0 12 rfl rfl)
theorem dX4_strains_13 : decode cX4_strains 13 = .ok (.goto 4, 3) := dk_167 0 4 (dk_at dksX4_strains_0 13 rfl rfl)
theorem dX4_strains_16 : decode cX4_strains 16 = .ok (.iconst 0, 1) := dk_3 (dk_at dksX4_strains_0 16 rfl rfl)
theorem dX4_strains_17 : decode cX4_strains 17 = .ok (.ireturn, 1) := dk_172 (dk_at dksX4_strains_0 17 rfl rfl)
theorem q106 : (Jvm.Cond.initialized "BalloonStall$Sort") ∈ lw_all := lw_g (lw_at lw_m1 4 rfl) rfl
theorem q249 : (Jvm.Cond.instantiable "BalloonStall$Sort" (6 : Nat)) ∈ lw_all := lw_g (lw_at lw_m1 147 rfl) rfl
theorem q251 : (Jvm.Cond.instanceMethod ({ cls := "BalloonStall$Sort", name := "<init>", desc := "(III)V" } : Jvm.MethodName)) ∈ lw_all := lw_g (lw_at lw_m1 149 rfl) rfl
theorem q252 : (Jvm.Cond.code ({ cls := "BalloonStall$Sort", name := "<init>", desc := "(III)V" } : Jvm.MethodName) prog_21_method_1_code (4 : Nat) (Option.none : Option Jvm.ClassFile.FieldType)) ∈ lw_all := lw_g (lw_at lw_m1 150 rfl) rfl
theorem q253 : (Jvm.Cond.methodLink "BalloonStall$Sort" (1 : Nat) ({ cls := "java/lang/Object", name := "<init>", desc := "()V" } : Jvm.MethodName)) ∈ lw_all := lw_g (lw_at lw_m1 151 rfl) rfl
theorem q254 : (Jvm.Cond.fieldLink "BalloonStall$Sort" (7 : Nat) "BalloonStall$Sort" "air" "I") ∈ lw_all := lw_g (lw_at lw_m1 152 rfl) rfl
theorem q256 : (Jvm.Cond.fieldLink "BalloonStall$Sort" (13 : Nat) "BalloonStall$Sort" "strain" "I") ∈ lw_all := lw_g (lw_at lw_m1 154 rfl) rfl
theorem q258 : (Jvm.Cond.fieldLink "BalloonStall$Sort" (16 : Nat) "BalloonStall$Sort" "chance" "I") ∈ lw_all := lw_g (lw_at lw_m1 156 rfl) rfl
theorem q263 : (Jvm.Cond.laysFinal "BalloonStall$Sort" "BalloonStall$Sort" "air" "I") ∈ lw_all := lw_g (lw_at lw_m1 161 rfl) rfl
theorem q264 : (Jvm.Cond.soleField "BalloonStall$Sort" "air") ∈ lw_all := lw_g (lw_at lw_m1 162 rfl) rfl
theorem q265 : (Jvm.Cond.laysFinal "BalloonStall$Sort" "BalloonStall$Sort" "strain" "I") ∈ lw_all := lw_g (lw_at lw_m1 163 rfl) rfl
theorem q266 : (Jvm.Cond.soleField "BalloonStall$Sort" "strain") ∈ lw_all := lw_g (lw_at lw_m1 164 rfl) rfl
theorem q267 : (Jvm.Cond.laysFinal "BalloonStall$Sort" "BalloonStall$Sort" "chance" "I") ∈ lw_all := lw_g (lw_at lw_m1 165 rfl) rfl
theorem q268 : (Jvm.Cond.soleField "BalloonStall$Sort" "chance") ∈ lw_all := lw_g (lw_at lw_m1 166 rfl) rfl
theorem q269 : (Jvm.Cond.lays "BalloonStall$Sort" "BalloonStall$Sort" "stock" "I") ∈ lw_all := lw_g (lw_at lw_m1 167 rfl) rfl
theorem q270 : (Jvm.Cond.soleField "BalloonStall$Sort" "stock") ∈ lw_all := lw_g (lw_at lw_m1 168 rfl) rfl
theorem q271 : (Jvm.Cond.lays "BalloonStall$Sort" "BalloonStall$Sort" "there" "I") ∈ lw_all := lw_g (lw_at lw_m1 169 rfl) rfl
theorem q272 : (Jvm.Cond.soleField "BalloonStall$Sort" "there") ∈ lw_all := lw_g (lw_at lw_m1 170 rfl) rfl
theorem q273 : (Jvm.Cond.lays "BalloonStall$Sort" "BalloonStall$Sort" "needed" "I") ∈ lw_all := lw_g (lw_at lw_m1 171 rfl) rfl
theorem q274 : (Jvm.Cond.soleField "BalloonStall$Sort" "needed") ∈ lw_all := lw_g (lw_at lw_m1 172 rfl) rfl
theorem q275 : (Jvm.Cond.superclass "BalloonStall$Sort" "java/lang/Object") ∈ lw_all := lw_g (lw_at lw_m1 173 rfl) rfl
theorem q929 : (Jvm.Cond.instanceMethod ({ cls := "BalloonStall$Sort", name := "strains", desc := "(I)I" } : Jvm.MethodName)) ∈ lw_all := lw_g (lw_at lw_m4 107 rfl) rfl
theorem q930 : (Jvm.Cond.selects "BalloonStall$Sort" ({ cls := "BalloonStall$Sort", name := "strains", desc := "(I)I" } : Jvm.MethodName) ({ cls := "BalloonStall$Sort", name := "strains", desc := "(I)I" } : Jvm.MethodName)) ∈ lw_all := lw_g (lw_at lw_m4 108 rfl) rfl
theorem q931 : (Jvm.Cond.code ({ cls := "BalloonStall$Sort", name := "strains", desc := "(I)I" } : Jvm.MethodName) prog_21_method_2_code (2 : Nat) (Option.some Jvm.ClassFile.FieldType.int)) ∈ lw_all := lw_g (lw_at lw_m4 109 rfl) rfl
theorem q1894 : (Jvm.Cond.castable "BalloonStall$Sort" "java/lang/Object") ∈ lw_tbl := lw_at lw_m8 112 rfl
theorem in_X4 : ∀ w ∈ wsX40, w ∈ lw_all := lw_in wsX40 [263, 265, 267, 269, 271, 273] (by decide +kernel) (by decide +kernel)
/-! BalloonStall$Reader -/
set_option maxRecDepth 100000
def RX5 : String := "BalloonStall$Reader"
abbrev cX5_init : ByteArray := prog_18_method_1_code
def yX5_init : MethodName := ⟨RX5, "<init>", "(LBalloonStall;)V"⟩
def dkwX5_init_0 : List UInt8 := [42, 43, 181, 0, 3, 42, 183, 0, 9, 177]
abbrev dktX5_init_0 : List UInt8 := dkwX5_init_0 ++ []
theorem dksX5_init_0 : cX5_init.data.toList.drop 0 = dktX5_init_0 := by decide +kernel
theorem dX5_init_0 : decode cX5_init 0 = .ok (.aload_n 0, 1) := dk_42 (dk_at dksX5_init_0 0 rfl rfl)
theorem dX5_init_1 : decode cX5_init 1 = .ok (.aload_n 1, 1) := dk_43 (dk_at dksX5_init_0 1 rfl rfl)
theorem dX5_init_2 : decode cX5_init 2 = .ok (.putfield 3, 3) := dk_181 0 3 (dk_at dksX5_init_0 2 rfl rfl)
theorem dX5_init_5 : decode cX5_init 5 = .ok (.aload_n 0, 1) := dk_42 (dk_at dksX5_init_0 5 rfl rfl)
theorem dX5_init_6 : decode cX5_init 6 = .ok (.invokespecial 9, 3) := dk_183 0 9 (dk_at dksX5_init_0 6 rfl rfl)
theorem dX5_init_9 : decode cX5_init 9 = .ok (.return_, 1) := dk_177 (dk_at dksX5_init_0 9 rfl rfl)
abbrev cX5_look : ByteArray := prog_18_method_3_code
def yX5_look : MethodName := ⟨RX5, "look", "()I"⟩
def dkwX5_look_1 : List UInt8 := [182, 0, 26, 172]
abbrev dktX5_look_1 : List UInt8 := dkwX5_look_1 ++ []
def dkwX5_look_0 : List UInt8 := [42, 182, 0, 26, 16, 32, 160, 0, 16, 42, 89, 180, 0, 15, 4, 96, 181, 0, 15, 167, 255, 237, 42]
abbrev dktX5_look_0 : List UInt8 := dkwX5_look_0 ++ dktX5_look_1
theorem dksX5_look_0 : cX5_look.data.toList.drop 0 = dktX5_look_0 := by decide +kernel
theorem dksX5_look_1 : cX5_look.data.toList.drop 23 = dktX5_look_1 := dk_seg dksX5_look_0 23 rfl rfl
theorem dX5_look_0 : decode cX5_look 0 = .ok (.aload_n 0, 1) := dk_42 (dk_at dksX5_look_0 0 rfl rfl)
theorem dX5_look_1 : decode cX5_look 1 = .ok (.invokevirtual 26, 3) := dk_182 0 26 (dk_at dksX5_look_0 1 rfl rfl)
theorem dX5_look_4 : decode cX5_look 4 = .ok (.bipush 32, 2) := dk_16 32 (dk_at dksX5_look_0 4 rfl rfl)
theorem dX5_look_6 : decode cX5_look 6 = .ok (.if_icmp .ne 16, 3) := dk_160 0 16 (dk_at dksX5_look_0 6 rfl rfl)
theorem dX5_look_9 : decode cX5_look 9 = .ok (.aload_n 0, 1) := dk_42 (dk_at dksX5_look_0 9 rfl rfl)
theorem dX5_look_10 : decode cX5_look 10 = .ok (.dup, 1) := dk_89 (dk_at dksX5_look_0 10 rfl rfl)
theorem dX5_look_11 : decode cX5_look 11 = .ok (.getfield 15, 3) := dk_180 0 15 (dk_at dksX5_look_0 11 rfl rfl)
theorem dX5_look_14 : decode cX5_look 14 = .ok (.iconst 1, 1) := dk_4 (dk_at dksX5_look_0 14 rfl rfl)
theorem dX5_look_15 : decode cX5_look 15 = .ok (.iadd, 1) := dk_96 (dk_at dksX5_look_0 15 rfl rfl)
theorem dX5_look_16 : decode cX5_look 16 = .ok (.putfield 15, 3) := dk_181 0 15 (dk_at dksX5_look_0 16 rfl rfl)
theorem dX5_look_19 : decode cX5_look 19 = .ok (.goto (-19), 3) := dk_167 255 237 (dk_at dksX5_look_0 19 rfl rfl)
theorem dX5_look_22 : decode cX5_look 22 = .ok (.aload_n 0, 1) := dk_42 (dk_at dksX5_look_0 22 rfl rfl)
theorem dX5_look_23 : decode cX5_look 23 = .ok (.invokevirtual 26, 3) := dk_182 0 26 (dk_at dksX5_look_1 0 rfl rfl)
theorem dX5_look_26 : decode cX5_look 26 = .ok (.ireturn, 1) := dk_172 (dk_at dksX5_look_1 3 rfl rfl)
abbrev cX5_here : ByteArray := prog_18_method_2_code
def yX5_here : MethodName := ⟨RX5, "here", "()I"⟩
def dkwX5_here_1 : List UInt8 := [180, 0, 15, 51, 17, 0, 255, 126, 167, 0, 4, 2, 172]
abbrev dktX5_here_1 : List UInt8 := dkwX5_here_1 ++ []
def dkwX5_here_0 : List UInt8 := [42, 180, 0, 15, 42, 180, 0, 3, 180, 0, 19, 162, 0, 22, 42, 180, 0, 3, 180, 0, 22, 42]
abbrev dktX5_here_0 : List UInt8 := dkwX5_here_0 ++ dktX5_here_1
theorem dksX5_here_0 : cX5_here.data.toList.drop 0 = dktX5_here_0 := by decide +kernel
theorem dksX5_here_1 : cX5_here.data.toList.drop 22 = dktX5_here_1 := dk_seg dksX5_here_0 22 rfl rfl
theorem dX5_here_0 : decode cX5_here 0 = .ok (.aload_n 0, 1) := dk_42 (dk_at dksX5_here_0 0 rfl rfl)
theorem dX5_here_1 : decode cX5_here 1 = .ok (.getfield 15, 3) := dk_180 0 15 (dk_at dksX5_here_0 1 rfl rfl)
theorem dX5_here_4 : decode cX5_here 4 = .ok (.aload_n 0, 1) := dk_42 (dk_at dksX5_here_0 4 rfl rfl)
theorem dX5_here_5 : decode cX5_here 5 = .ok (.getfield 3, 3) := dk_180 0 3 (dk_at dksX5_here_0 5 rfl rfl)
theorem dX5_here_8 : decode cX5_here 8 = .ok (.getfield 19, 3) := dk_180 0 19 (dk_at dksX5_here_0 8 rfl rfl)
theorem dX5_here_11 : decode cX5_here 11 = .ok (.if_icmp .ge 22, 3) := dk_162 0 22 (dk_at dksX5_here_0 11 rfl rfl)
theorem dX5_here_14 : decode cX5_here 14 = .ok (.aload_n 0, 1) := dk_42 (dk_at dksX5_here_0 14 rfl rfl)
theorem dX5_here_15 : decode cX5_here 15 = .ok (.getfield 3, 3) := dk_180 0 3 (dk_at dksX5_here_0 15 rfl rfl)
theorem dX5_here_18 : decode cX5_here 18 = .ok (.getfield 22, 3) := dk_180 0 22 (dk_at dksX5_here_0 18 rfl rfl)
theorem dX5_here_21 : decode cX5_here 21 = .ok (.aload_n 0, 1) := dk_42 (dk_at dksX5_here_0 21 rfl rfl)
theorem dX5_here_22 : decode cX5_here 22 = .ok (.getfield 15, 3) := dk_180 0 15 (dk_at dksX5_here_1 0 rfl rfl)
theorem dX5_here_25 : decode cX5_here 25 = .ok (.baload, 1) := dk_51 (dk_at dksX5_here_1 3 rfl rfl)
theorem dX5_here_26 : decode cX5_here 26 = .ok (.sipush 255, 3) := dk_17 0 255 (dk_at dksX5_here_1 4 rfl rfl)
theorem dX5_here_29 : decode cX5_here 29 = .ok (.iand, 1) := dk_126 (dk_at dksX5_here_1 7 rfl rfl)
theorem dX5_here_30 : decode cX5_here 30 = .ok (.goto 4, 3) := dk_167 0 4 (dk_at dksX5_here_1 8 rfl rfl)
theorem dX5_here_33 : decode cX5_here 33 = .ok (.iconst (-1), 1) := dk_2 (dk_at dksX5_here_1 11 rfl rfl)
theorem dX5_here_34 : decode cX5_here 34 = .ok (.ireturn, 1) := dk_172 (dk_at dksX5_here_1 12 rfl rfl)
abbrev cX5_take : ByteArray := prog_18_method_4_code
def yX5_take : MethodName := ⟨RX5, "take", "(Z)I"⟩
def dkwX5_take_1 : List UInt8 := [181, 0, 15, 42, 180, 0, 3, 180, 0, 22, 42, 180, 0, 15, 4, 100, 51, 172]
abbrev dktX5_take_1 : List UInt8 := dkwX5_take_1 ++ []
def dkwX5_take_0 : List UInt8 := [27, 154, 0, 15, 187, 0, 30, 89, 42, 180, 0, 15, 183, 0, 32, 191, 42, 89, 180, 0, 15, 4, 96]
abbrev dktX5_take_0 : List UInt8 := dkwX5_take_0 ++ dktX5_take_1
theorem dksX5_take_0 : cX5_take.data.toList.drop 0 = dktX5_take_0 := by decide +kernel
theorem dksX5_take_1 : cX5_take.data.toList.drop 23 = dktX5_take_1 := dk_seg dksX5_take_0 23 rfl rfl
theorem dX5_take_0 : decode cX5_take 0 = .ok (.iload_n 1, 1) := dk_27 (dk_at dksX5_take_0 0 rfl rfl)
theorem dX5_take_1 : decode cX5_take 1 = .ok (.ifCond .ne 15, 3) := dk_154 0 15 (dk_at dksX5_take_0 1 rfl rfl)
theorem dX5_take_4 : decode cX5_take 4 = .ok (.new 30, 3) := dk_187 0 30 (dk_at dksX5_take_0 4 rfl rfl)
theorem dX5_take_7 : decode cX5_take 7 = .ok (.dup, 1) := dk_89 (dk_at dksX5_take_0 7 rfl rfl)
theorem dX5_take_8 : decode cX5_take 8 = .ok (.aload_n 0, 1) := dk_42 (dk_at dksX5_take_0 8 rfl rfl)
theorem dX5_take_9 : decode cX5_take 9 = .ok (.getfield 15, 3) := dk_180 0 15 (dk_at dksX5_take_0 9 rfl rfl)
theorem dX5_take_12 : decode cX5_take 12 = .ok (.invokespecial 32, 3) := dk_183 0 32 (dk_at dksX5_take_0 12 rfl rfl)
theorem dX5_take_15 : decode cX5_take 15 = .ok (.athrow, 1) := dk_191 (dk_at dksX5_take_0 15 rfl rfl)
theorem dX5_take_16 : decode cX5_take 16 = .ok (.aload_n 0, 1) := dk_42 (dk_at dksX5_take_0 16 rfl rfl)
theorem dX5_take_17 : decode cX5_take 17 = .ok (.dup, 1) := dk_89 (dk_at dksX5_take_0 17 rfl rfl)
theorem dX5_take_18 : decode cX5_take 18 = .ok (.getfield 15, 3) := dk_180 0 15 (dk_at dksX5_take_0 18 rfl rfl)
theorem dX5_take_21 : decode cX5_take 21 = .ok (.iconst 1, 1) := dk_4 (dk_at dksX5_take_0 21 rfl rfl)
theorem dX5_take_22 : decode cX5_take 22 = .ok (.iadd, 1) := dk_96 (dk_at dksX5_take_0 22 rfl rfl)
theorem dX5_take_23 : decode cX5_take 23 = .ok (.putfield 15, 3) := dk_181 0 15 (dk_at dksX5_take_1 0 rfl rfl)
theorem dX5_take_26 : decode cX5_take 26 = .ok (.aload_n 0, 1) := dk_42 (dk_at dksX5_take_1 3 rfl rfl)
theorem dX5_take_27 : decode cX5_take 27 = .ok (.getfield 3, 3) := dk_180 0 3 (dk_at dksX5_take_1 4 rfl rfl)
theorem dX5_take_30 : decode cX5_take 30 = .ok (.getfield 22, 3) := dk_180 0 22 (dk_at dksX5_take_1 7 rfl rfl)
theorem dX5_take_33 : decode cX5_take 33 = .ok (.aload_n 0, 1) := dk_42 (dk_at dksX5_take_1 10 rfl rfl)
theorem dX5_take_34 : decode cX5_take 34 = .ok (.getfield 15, 3) := dk_180 0 15 (dk_at dksX5_take_1 11 rfl rfl)
theorem dX5_take_37 : decode cX5_take 37 = .ok (.iconst 1, 1) := dk_4 (dk_at dksX5_take_1 14 rfl rfl)
theorem dX5_take_38 : decode cX5_take 38 = .ok (.isub, 1) := dk_100 (dk_at dksX5_take_1 15 rfl rfl)
theorem dX5_take_39 : decode cX5_take 39 = .ok (.baload, 1) := dk_51 (dk_at dksX5_take_1 16 rfl rfl)
theorem dX5_take_40 : decode cX5_take 40 = .ok (.ireturn, 1) := dk_172 (dk_at dksX5_take_1 17 rfl rfl)
abbrev cX5_isDigit : ByteArray := prog_18_method_5_code
def yX5_isDigit : MethodName := ⟨RX5, "isDigit", "()Z"⟩
def dkwX5_isDigit_0 : List UInt8 := [42, 182, 0, 26, 16, 48, 161, 0, 16, 42, 182, 0, 26, 16, 57, 163, 0, 7, 4, 167, 0, 4, 3, 172]
abbrev dktX5_isDigit_0 : List UInt8 := dkwX5_isDigit_0 ++ []
theorem dksX5_isDigit_0 : cX5_isDigit.data.toList.drop 0 = dktX5_isDigit_0 := by decide +kernel
theorem dX5_isDigit_0 : decode cX5_isDigit 0 = .ok (.aload_n 0, 1) := dk_42 (dk_at dksX5_isDigit_0 0 rfl rfl)
theorem dX5_isDigit_1 : decode cX5_isDigit 1 = .ok (.invokevirtual 26, 3) := dk_182 0 26 (dk_at dksX5_isDigit_0 1 rfl rfl)
theorem dX5_isDigit_4 : decode cX5_isDigit 4 = .ok (.bipush 48, 2) := dk_16 48 (dk_at dksX5_isDigit_0 4 rfl rfl)
theorem dX5_isDigit_6 : decode cX5_isDigit 6 = .ok (.if_icmp .lt 16, 3) := dk_161 0 16 (dk_at dksX5_isDigit_0 6 rfl rfl)
theorem dX5_isDigit_9 : decode cX5_isDigit 9 = .ok (.aload_n 0, 1) := dk_42 (dk_at dksX5_isDigit_0 9 rfl rfl)
theorem dX5_isDigit_10 : decode cX5_isDigit 10 = .ok (.invokevirtual 26, 3) := dk_182 0 26 (dk_at dksX5_isDigit_0 10 rfl rfl)
theorem dX5_isDigit_13 : decode cX5_isDigit 13 = .ok (.bipush 57, 2) := dk_16 57 (dk_at dksX5_isDigit_0 13 rfl rfl)
theorem dX5_isDigit_15 : decode cX5_isDigit 15 = .ok (.if_icmp .gt 7, 3) := dk_163 0 7 (dk_at dksX5_isDigit_0 15 rfl rfl)
theorem dX5_isDigit_18 : decode cX5_isDigit 18 = .ok (.iconst 1, 1) := dk_4 (dk_at dksX5_isDigit_0 18 rfl rfl)
theorem dX5_isDigit_19 : decode cX5_isDigit 19 = .ok (.goto 4, 3) := dk_167 0 4 (dk_at dksX5_isDigit_0 19 rfl rfl)
theorem dX5_isDigit_22 : decode cX5_isDigit 22 = .ok (.iconst 0, 1) := dk_3 (dk_at dksX5_isDigit_0 22 rfl rfl)
theorem dX5_isDigit_23 : decode cX5_isDigit 23 = .ok (.ireturn, 1) := dk_172 (dk_at dksX5_isDigit_0 23 rfl rfl)
abbrev cX5_goIn : ByteArray := prog_18_method_6_code
def yX5_goIn : MethodName := ⟨RX5, "goIn", "()V"⟩
def dkwX5_goIn_1 : List UInt8 := [4, 96, 181, 0, 35, 177]
abbrev dktX5_goIn_1 : List UInt8 := dkwX5_goIn_1 ++ []
def dkwX5_goIn_0 : List UInt8 := [42, 42, 180, 0, 35, 16, 6, 162, 0, 7, 4, 167, 0, 4, 3, 182, 0, 38, 60, 42, 89, 180, 0, 35]
abbrev dktX5_goIn_0 : List UInt8 := dkwX5_goIn_0 ++ dktX5_goIn_1
theorem dksX5_goIn_0 : cX5_goIn.data.toList.drop 0 = dktX5_goIn_0 := by decide +kernel
theorem dksX5_goIn_1 : cX5_goIn.data.toList.drop 24 = dktX5_goIn_1 := dk_seg dksX5_goIn_0 24 rfl rfl
theorem dX5_goIn_0 : decode cX5_goIn 0 = .ok (.aload_n 0, 1) := dk_42 (dk_at dksX5_goIn_0 0 rfl rfl)
theorem dX5_goIn_1 : decode cX5_goIn 1 = .ok (.aload_n 0, 1) := dk_42 (dk_at dksX5_goIn_0 1 rfl rfl)
theorem dX5_goIn_2 : decode cX5_goIn 2 = .ok (.getfield 35, 3) := dk_180 0 35 (dk_at dksX5_goIn_0 2 rfl rfl)
theorem dX5_goIn_5 : decode cX5_goIn 5 = .ok (.bipush 6, 2) := dk_16 6 (dk_at dksX5_goIn_0 5 rfl rfl)
theorem dX5_goIn_7 : decode cX5_goIn 7 = .ok (.if_icmp .ge 7, 3) := dk_162 0 7 (dk_at dksX5_goIn_0 7 rfl rfl)
theorem dX5_goIn_10 : decode cX5_goIn 10 = .ok (.iconst 1, 1) := dk_4 (dk_at dksX5_goIn_0 10 rfl rfl)
theorem dX5_goIn_11 : decode cX5_goIn 11 = .ok (.goto 4, 3) := dk_167 0 4 (dk_at dksX5_goIn_0 11 rfl rfl)
theorem dX5_goIn_14 : decode cX5_goIn 14 = .ok (.iconst 0, 1) := dk_3 (dk_at dksX5_goIn_0 14 rfl rfl)
theorem dX5_goIn_15 : decode cX5_goIn 15 = .ok (.invokevirtual 38, 3) := dk_182 0 38 (dk_at dksX5_goIn_0 15 rfl rfl)
theorem dX5_goIn_18 : decode cX5_goIn 18 = .ok (.istore_n 1, 1) := dk_60 (dk_at dksX5_goIn_0 18 rfl rfl)
theorem dX5_goIn_19 : decode cX5_goIn 19 = .ok (.aload_n 0, 1) := dk_42 (dk_at dksX5_goIn_0 19 rfl rfl)
theorem dX5_goIn_20 : decode cX5_goIn 20 = .ok (.dup, 1) := dk_89 (dk_at dksX5_goIn_0 20 rfl rfl)
theorem dX5_goIn_21 : decode cX5_goIn 21 = .ok (.getfield 35, 3) := dk_180 0 35 (dk_at dksX5_goIn_0 21 rfl rfl)
theorem dX5_goIn_24 : decode cX5_goIn 24 = .ok (.iconst 1, 1) := dk_4 (dk_at dksX5_goIn_1 0 rfl rfl)
theorem dX5_goIn_25 : decode cX5_goIn 25 = .ok (.iadd, 1) := dk_96 (dk_at dksX5_goIn_1 1 rfl rfl)
theorem dX5_goIn_26 : decode cX5_goIn 26 = .ok (.putfield 35, 3) := dk_181 0 35 (dk_at dksX5_goIn_1 2 rfl rfl)
theorem dX5_goIn_29 : decode cX5_goIn 29 = .ok (.return_, 1) := dk_177 (dk_at dksX5_goIn_1 5 rfl rfl)
abbrev cX5_goOut : ByteArray := prog_18_method_8_code
def yX5_goOut : MethodName := ⟨RX5, "goOut", "(I)V"⟩
def dkwX5_goOut_1 : List UInt8 := [100, 181, 0, 35, 177]
abbrev dktX5_goOut_1 : List UInt8 := dkwX5_goOut_1 ++ []
def dkwX5_goOut_0 : List UInt8 := [42, 42, 182, 0, 42, 27, 160, 0, 7, 4, 167, 0, 4, 3, 182, 0, 38, 61, 42, 89, 180, 0, 35, 4]
abbrev dktX5_goOut_0 : List UInt8 := dkwX5_goOut_0 ++ dktX5_goOut_1
theorem dksX5_goOut_0 : cX5_goOut.data.toList.drop 0 = dktX5_goOut_0 := by decide +kernel
theorem dksX5_goOut_1 : cX5_goOut.data.toList.drop 24 = dktX5_goOut_1 := dk_seg dksX5_goOut_0 24 rfl rfl
theorem dX5_goOut_0 : decode cX5_goOut 0 = .ok (.aload_n 0, 1) := dk_42 (dk_at dksX5_goOut_0 0 rfl rfl)
theorem dX5_goOut_1 : decode cX5_goOut 1 = .ok (.aload_n 0, 1) := dk_42 (dk_at dksX5_goOut_0 1 rfl rfl)
theorem dX5_goOut_2 : decode cX5_goOut 2 = .ok (.invokevirtual 42, 3) := dk_182 0 42 (dk_at dksX5_goOut_0 2 rfl rfl)
theorem dX5_goOut_5 : decode cX5_goOut 5 = .ok (.iload_n 1, 1) := dk_27 (dk_at dksX5_goOut_0 5 rfl rfl)
theorem dX5_goOut_6 : decode cX5_goOut 6 = .ok (.if_icmp .ne 7, 3) := dk_160 0 7 (dk_at dksX5_goOut_0 6 rfl rfl)
theorem dX5_goOut_9 : decode cX5_goOut 9 = .ok (.iconst 1, 1) := dk_4 (dk_at dksX5_goOut_0 9 rfl rfl)
theorem dX5_goOut_10 : decode cX5_goOut 10 = .ok (.goto 4, 3) := dk_167 0 4 (dk_at dksX5_goOut_0 10 rfl rfl)
theorem dX5_goOut_13 : decode cX5_goOut 13 = .ok (.iconst 0, 1) := dk_3 (dk_at dksX5_goOut_0 13 rfl rfl)
theorem dX5_goOut_14 : decode cX5_goOut 14 = .ok (.invokevirtual 38, 3) := dk_182 0 38 (dk_at dksX5_goOut_0 14 rfl rfl)
theorem dX5_goOut_17 : decode cX5_goOut 17 = .ok (.istore_n 2, 1) := dk_61 (dk_at dksX5_goOut_0 17 rfl rfl)
theorem dX5_goOut_18 : decode cX5_goOut 18 = .ok (.aload_n 0, 1) := dk_42 (dk_at dksX5_goOut_0 18 rfl rfl)
theorem dX5_goOut_19 : decode cX5_goOut 19 = .ok (.dup, 1) := dk_89 (dk_at dksX5_goOut_0 19 rfl rfl)
theorem dX5_goOut_20 : decode cX5_goOut 20 = .ok (.getfield 35, 3) := dk_180 0 35 (dk_at dksX5_goOut_0 20 rfl rfl)
theorem dX5_goOut_23 : decode cX5_goOut 23 = .ok (.iconst 1, 1) := dk_4 (dk_at dksX5_goOut_0 23 rfl rfl)
theorem dX5_goOut_24 : decode cX5_goOut 24 = .ok (.isub, 1) := dk_100 (dk_at dksX5_goOut_1 0 rfl rfl)
theorem dX5_goOut_25 : decode cX5_goOut 25 = .ok (.putfield 35, 3) := dk_181 0 35 (dk_at dksX5_goOut_1 1 rfl rfl)
theorem dX5_goOut_28 : decode cX5_goOut 28 = .ok (.return_, 1) := dk_177 (dk_at dksX5_goOut_1 4 rfl rfl)
abbrev cX5_comeOut : ByteArray := prog_18_method_7_code
def yX5_comeOut : MethodName := ⟨RX5, "comeOut", "()V"⟩
def dkwX5_comeOut_0 : List UInt8 := [42, 89, 180, 0, 35, 4, 100, 181, 0, 35, 177]
abbrev dktX5_comeOut_0 : List UInt8 := dkwX5_comeOut_0 ++ []
theorem dksX5_comeOut_0 : cX5_comeOut.data.toList.drop 0 = dktX5_comeOut_0 := by decide +kernel
theorem dX5_comeOut_0 : decode cX5_comeOut 0 = .ok (.aload_n 0, 1) := dk_42 (dk_at dksX5_comeOut_0 0 rfl rfl)
theorem dX5_comeOut_1 : decode cX5_comeOut 1 = .ok (.dup, 1) := dk_89 (dk_at dksX5_comeOut_0 1 rfl rfl)
theorem dX5_comeOut_2 : decode cX5_comeOut 2 = .ok (.getfield 35, 3) := dk_180 0 35 (dk_at dksX5_comeOut_0 2 rfl rfl)
theorem dX5_comeOut_5 : decode cX5_comeOut 5 = .ok (.iconst 1, 1) := dk_4 (dk_at dksX5_comeOut_0 5 rfl rfl)
theorem dX5_comeOut_6 : decode cX5_comeOut 6 = .ok (.isub, 1) := dk_100 (dk_at dksX5_comeOut_0 6 rfl rfl)
theorem dX5_comeOut_7 : decode cX5_comeOut 7 = .ok (.putfield 35, 3) := dk_181 0 35 (dk_at dksX5_comeOut_0 7 rfl rfl)
theorem dX5_comeOut_10 : decode cX5_comeOut 10 = .ok (.return_, 1) := dk_177 (dk_at dksX5_comeOut_0 10 rfl rfl)
theorem q107 : (Jvm.Cond.initialized "BalloonStall$Reader") ∈ lw_all := lw_g (lw_at lw_m1 5 rfl) rfl
theorem q168 : (Jvm.Cond.fieldLinkNest "BalloonStall$Reader" (22 : Nat) "BalloonStall" "tape" "[B" "BalloonStall") ∈ lw_tbl := lw_at lw_m1 66 rfl
theorem q170 : (Jvm.Cond.fieldLinkNest "BalloonStall$Reader" (19 : Nat) "BalloonStall" "length" "I" "BalloonStall") ∈ lw_tbl := lw_at lw_m1 68 rfl
theorem q302 : (Jvm.Cond.instanceMethod ({ cls := "BalloonStall$Reader", name := "<init>", desc := "(LBalloonStall;)V" } : Jvm.MethodName)) ∈ lw_all := lw_g (lw_at lw_m1 200 rfl) rfl
theorem q303 : (Jvm.Cond.code ({ cls := "BalloonStall$Reader", name := "<init>", desc := "(LBalloonStall;)V" } : Jvm.MethodName) prog_18_method_1_code (2 : Nat) (Option.none : Option Jvm.ClassFile.FieldType)) ∈ lw_all := lw_g (lw_at lw_m1 201 rfl) rfl
theorem q304 : (Jvm.Cond.methodLink "BalloonStall$Reader" (9 : Nat) ({ cls := "java/lang/Object", name := "<init>", desc := "()V" } : Jvm.MethodName)) ∈ lw_all := lw_g (lw_at lw_m1 202 rfl) rfl
theorem q308 : (Jvm.Cond.fieldLink "BalloonStall$Reader" (15 : Nat) "BalloonStall$Reader" "at" "I") ∈ lw_all := lw_g (lw_at lw_m1 206 rfl) rfl
theorem q313 : (Jvm.Cond.fieldLink "BalloonStall$Reader" (35 : Nat) "BalloonStall$Reader" "deep" "I") ∈ lw_all := lw_g (lw_at lw_m1 211 rfl) rfl
theorem q314 : (Jvm.Cond.fieldLink "BalloonStall$Reader" (3 : Nat) "BalloonStall$Reader" "this$0" "LBalloonStall;") ∈ lw_all := lw_g (lw_at lw_m1 212 rfl) rfl
theorem q322 : (Jvm.Cond.soleField "BalloonStall$Reader" "at") ∈ lw_all := lw_g (lw_at lw_m1 220 rfl) rfl
theorem q324 : (Jvm.Cond.soleField "BalloonStall$Reader" "deep") ∈ lw_all := lw_g (lw_at lw_m1 222 rfl) rfl
theorem q326 : (Jvm.Cond.soleField "BalloonStall$Reader" "this$0") ∈ lw_all := lw_g (lw_at lw_m1 224 rfl) rfl
theorem q338 : (Jvm.Cond.declares ({ cls := "BalloonStall$Reader", name := "look", desc := "()I" } : Jvm.MethodName)) ∈ lw_tbl := lw_at lw_m1 236 rfl
theorem q340 : (Jvm.Cond.instanceMethod ({ cls := "BalloonStall$Reader", name := "look", desc := "()I" } : Jvm.MethodName)) ∈ lw_all := lw_g (lw_at lw_m1 238 rfl) rfl
theorem q341 : (Jvm.Cond.code ({ cls := "BalloonStall$Reader", name := "look", desc := "()I" } : Jvm.MethodName) prog_18_method_3_code (1 : Nat) (Option.some Jvm.ClassFile.FieldType.int)) ∈ lw_all := lw_g (lw_at lw_m1 239 rfl) rfl
theorem q342 : (Jvm.Cond.methodLink "BalloonStall$Reader" (26 : Nat) ({ cls := "BalloonStall$Reader", name := "here", desc := "()I" } : Jvm.MethodName)) ∈ lw_all := lw_g (lw_at lw_m2 0 rfl) rfl
theorem q343 : (Jvm.Cond.instanceMethod ({ cls := "BalloonStall$Reader", name := "here", desc := "()I" } : Jvm.MethodName)) ∈ lw_all := lw_g (lw_at lw_m2 1 rfl) rfl
theorem q344 : (Jvm.Cond.sameMethod "BalloonStall$Reader" "BalloonStall$Reader" "here" "()I") ∈ lw_all := lw_g (lw_at lw_m2 2 rfl) rfl
theorem q347 : (Jvm.Cond.code ({ cls := "BalloonStall$Reader", name := "here", desc := "()I" } : Jvm.MethodName) prog_18_method_2_code (1 : Nat) (Option.some Jvm.ClassFile.FieldType.int)) ∈ lw_all := lw_g (lw_at lw_m2 5 rfl) rfl
theorem q350 : (Jvm.Cond.declares ({ cls := "BalloonStall$Reader", name := "take", desc := "(Z)I" } : Jvm.MethodName)) ∈ lw_tbl := lw_at lw_m2 8 rfl
theorem q352 : (Jvm.Cond.instanceMethod ({ cls := "BalloonStall$Reader", name := "take", desc := "(Z)I" } : Jvm.MethodName)) ∈ lw_all := lw_g (lw_at lw_m2 10 rfl) rfl
theorem q353 : (Jvm.Cond.code ({ cls := "BalloonStall$Reader", name := "take", desc := "(Z)I" } : Jvm.MethodName) prog_18_method_4_code (2 : Nat) (Option.some Jvm.ClassFile.FieldType.int)) ∈ lw_all := lw_g (lw_at lw_m2 11 rfl) rfl
theorem q354 : (Jvm.Cond.classLink "BalloonStall$Reader" (30 : Nat) "BalloonStall$Wrong") ∈ lw_all := lw_g (lw_at lw_m2 12 rfl) rfl
theorem q394 : (Jvm.Cond.methodLink "BalloonStall$Reader" (32 : Nat) ({ cls := "BalloonStall$Wrong", name := "<init>", desc := "(I)V" } : Jvm.MethodName)) ∈ lw_all := lw_g (lw_at lw_m2 52 rfl) rfl
theorem q464 : (Jvm.Cond.declares ({ cls := "BalloonStall$Reader", name := "isDigit", desc := "()Z" } : Jvm.MethodName)) ∈ lw_tbl := lw_at lw_m2 122 rfl
theorem q466 : (Jvm.Cond.instanceMethod ({ cls := "BalloonStall$Reader", name := "isDigit", desc := "()Z" } : Jvm.MethodName)) ∈ lw_all := lw_g (lw_at lw_m2 124 rfl) rfl
theorem q467 : (Jvm.Cond.code ({ cls := "BalloonStall$Reader", name := "isDigit", desc := "()Z" } : Jvm.MethodName) prog_18_method_5_code (1 : Nat) (Option.some Jvm.ClassFile.FieldType.boolean)) ∈ lw_all := lw_g (lw_at lw_m2 125 rfl) rfl
theorem q481 : (Jvm.Cond.declares ({ cls := "BalloonStall$Reader", name := "goIn", desc := "()V" } : Jvm.MethodName)) ∈ lw_tbl := lw_at lw_m2 139 rfl
theorem q483 : (Jvm.Cond.instanceMethod ({ cls := "BalloonStall$Reader", name := "goIn", desc := "()V" } : Jvm.MethodName)) ∈ lw_all := lw_g (lw_at lw_m2 141 rfl) rfl
theorem q484 : (Jvm.Cond.code ({ cls := "BalloonStall$Reader", name := "goIn", desc := "()V" } : Jvm.MethodName) prog_18_method_6_code (2 : Nat) (Option.none : Option Jvm.ClassFile.FieldType)) ∈ lw_all := lw_g (lw_at lw_m2 142 rfl) rfl
theorem q485 : (Jvm.Cond.methodLink "BalloonStall$Reader" (38 : Nat) ({ cls := "BalloonStall$Reader", name := "take", desc := "(Z)I" } : Jvm.MethodName)) ∈ lw_all := lw_g (lw_at lw_m2 143 rfl) rfl
theorem q488 : (Jvm.Cond.declares ({ cls := "BalloonStall$Reader", name := "goOut", desc := "(I)V" } : Jvm.MethodName)) ∈ lw_tbl := lw_at lw_m2 146 rfl
theorem q490 : (Jvm.Cond.instanceMethod ({ cls := "BalloonStall$Reader", name := "goOut", desc := "(I)V" } : Jvm.MethodName)) ∈ lw_all := lw_g (lw_at lw_m2 148 rfl) rfl
theorem q491 : (Jvm.Cond.code ({ cls := "BalloonStall$Reader", name := "goOut", desc := "(I)V" } : Jvm.MethodName) prog_18_method_8_code (3 : Nat) (Option.none : Option Jvm.ClassFile.FieldType)) ∈ lw_all := lw_g (lw_at lw_m2 149 rfl) rfl
theorem q492 : (Jvm.Cond.methodLink "BalloonStall$Reader" (42 : Nat) ({ cls := "BalloonStall$Reader", name := "look", desc := "()I" } : Jvm.MethodName)) ∈ lw_all := lw_g (lw_at lw_m2 150 rfl) rfl
theorem q573 : (Jvm.Cond.declares ({ cls := "BalloonStall$Reader", name := "comeOut", desc := "()V" } : Jvm.MethodName)) ∈ lw_tbl := lw_at lw_m2 231 rfl
theorem q575 : (Jvm.Cond.instanceMethod ({ cls := "BalloonStall$Reader", name := "comeOut", desc := "()V" } : Jvm.MethodName)) ∈ lw_all := lw_g (lw_at lw_m2 233 rfl) rfl
theorem q576 : (Jvm.Cond.code ({ cls := "BalloonStall$Reader", name := "comeOut", desc := "()V" } : Jvm.MethodName) prog_18_method_7_code (1 : Nat) (Option.none : Option Jvm.ClassFile.FieldType)) ∈ lw_all := lw_g (lw_at lw_m2 234 rfl) rfl
theorem q1885 : (Jvm.Cond.sameMethod "BalloonStall$Reader" "BalloonStall$Reader" "take" "(Z)I") ∈ lw_all := lw_g (lw_at lw_m8 103 rfl) rfl
theorem q1888 : (Jvm.Cond.sameMethod "BalloonStall$Reader" "BalloonStall$Reader" "look" "()I") ∈ lw_all := lw_g (lw_at lw_m8 106 rfl) rfl
/-! BalloonStall$FigureReader -/
set_option maxRecDepth 100000
def RX6 : String := "BalloonStall$FigureReader"
def TX6 : u_T := fun k => match k with
  | 0 => ("BalloonStall$Reader", "at", "I", false)
  | 1 => ("BalloonStall$Reader", "deep", "I", false)
  | 2 => ("BalloonStall$Reader", "this$0", "LBalloonStall;", true)
  | 3 => ("BalloonStall$FigureReader", "bubbles", "I", false)
  | 4 => ("BalloonStall$FigureReader", "balloons", "I", false)
  | _ => ("BalloonStall$FigureReader", "this$0", "LBalloonStall;", true)
def tyX6 : Nat → FieldType := fun k => match k with
  | 0 => .int
  | 1 => .int
  | 2 => .object "BalloonStall"
  | 3 => .int
  | 4 => .int
  | _ => .object "BalloonStall"
abbrev wsX60 : List Cond := u_ws RX6 TX6 6
-- two fields of one name: no nmX6
theorem tyX6_ok : ∀ k, k < 6 → parseFieldDescriptor (TX6 k).2.2.1 = some (tyX6 k) := by decide +kernel
abbrev cX6_init : ByteArray := prog_7_method_1_code
def yX6_init : MethodName := ⟨RX6, "<init>", "(LBalloonStall;)V"⟩
def dkwX6_init_0 : List UInt8 := [42, 43, 181, 0, 3, 42, 43, 183, 0, 9, 177]
abbrev dktX6_init_0 : List UInt8 := dkwX6_init_0 ++ []
theorem dksX6_init_0 : cX6_init.data.toList.drop 0 = dktX6_init_0 := by decide +kernel
theorem dX6_init_0 : decode cX6_init 0 = .ok (.aload_n 0, 1) := dk_42 (dk_at dksX6_init_0 0 rfl rfl)
theorem dX6_init_1 : decode cX6_init 1 = .ok (.aload_n 1, 1) := dk_43 (dk_at dksX6_init_0 1 rfl rfl)
theorem dX6_init_2 : decode cX6_init 2 = .ok (.putfield 3, 3) := dk_181 0 3 (dk_at dksX6_init_0 2 rfl rfl)
theorem dX6_init_5 : decode cX6_init 5 = .ok (.aload_n 0, 1) := dk_42 (dk_at dksX6_init_0 5 rfl rfl)
theorem dX6_init_6 : decode cX6_init 6 = .ok (.aload_n 1, 1) := dk_43 (dk_at dksX6_init_0 6 rfl rfl)
theorem dX6_init_7 : decode cX6_init 7 = .ok (.invokespecial 9, 3) := dk_183 0 9 (dk_at dksX6_init_0 7 rfl rfl)
theorem dX6_init_10 : decode cX6_init 10 = .ok (.return_, 1) := dk_177 (dk_at dksX6_init_0 10 rfl rfl)
abbrev cX6_whole : ByteArray := prog_7_method_2_code
def yX6_whole : MethodName := ⟨RX6, "whole", "()LBalloonStall$Move;"⟩
def dkwX6_whole_3 : List UInt8 := [43, 176]
abbrev dktX6_whole_3 : List UInt8 := dkwX6_whole_3 ++ []
def dkwX6_whole_2 : List UInt8 := [77, 167, 255, 215, 42, 182, 0, 19, 2, 159, 0, 15, 187, 0, 37, 89, 42, 180, 0, 39, 183, 0, 42, 191]
abbrev dktX6_whole_2 : List UInt8 := dkwX6_whole_2 ++ dktX6_whole_3
def dkwX6_whole_1 : List UInt8 := [162, 0, 7, 4, 167, 0, 4, 3, 182, 0, 27, 62, 44, 42, 182, 0, 15, 181, 0, 31, 44, 180, 0, 31]
abbrev dktX6_whole_1 : List UInt8 := dkwX6_whole_1 ++ dktX6_whole_2
def dkwX6_whole_0 : List UInt8 := [42, 182, 0, 15, 76, 43, 77, 42, 182, 0, 19, 16, 47, 160, 0, 38, 42, 42, 180, 0, 23, 16, 6]
abbrev dktX6_whole_0 : List UInt8 := dkwX6_whole_0 ++ dktX6_whole_1
theorem dksX6_whole_0 : cX6_whole.data.toList.drop 0 = dktX6_whole_0 := by decide +kernel
theorem dksX6_whole_1 : cX6_whole.data.toList.drop 23 = dktX6_whole_1 := dk_seg dksX6_whole_0 23 rfl rfl
theorem dksX6_whole_2 : cX6_whole.data.toList.drop 47 = dktX6_whole_2 := dk_seg dksX6_whole_1 24 rfl rfl
theorem dksX6_whole_3 : cX6_whole.data.toList.drop 71 = dktX6_whole_3 := dk_seg dksX6_whole_2 24 rfl rfl
theorem dX6_whole_0 : decode cX6_whole 0 = .ok (.aload_n 0, 1) := dk_42 (dk_at dksX6_whole_0 0 rfl rfl)
theorem dX6_whole_1 : decode cX6_whole 1 = .ok (.invokevirtual 15, 3) := dk_182 0 15 (dk_at dksX6_whole_0 1 rfl rfl)
theorem dX6_whole_4 : decode cX6_whole 4 = .ok (.astore_n 1, 1) := dk_76 (dk_at dksX6_whole_0 4 rfl rfl)
theorem dX6_whole_5 : decode cX6_whole 5 = .ok (.aload_n 1, 1) := dk_43 (dk_at dksX6_whole_0 5 rfl rfl)
theorem dX6_whole_6 : decode cX6_whole 6 = .ok (.astore_n 2, 1) := dk_77 (dk_at dksX6_whole_0 6 rfl rfl)
theorem dX6_whole_7 : decode cX6_whole 7 = .ok (.aload_n 0, 1) := dk_42 (dk_at dksX6_whole_0 7 rfl rfl)
theorem dX6_whole_8 : decode cX6_whole 8 = .ok (.invokevirtual 19, 3) := dk_182 0 19 (dk_at dksX6_whole_0 8 rfl rfl)
theorem dX6_whole_11 : decode cX6_whole 11 = .ok (.bipush 47, 2) := dk_16 47 (dk_at dksX6_whole_0 11 rfl rfl)
theorem dX6_whole_13 : decode cX6_whole 13 = .ok (.if_icmp .ne 38, 3) := dk_160 0 38 (dk_at dksX6_whole_0 13 rfl rfl)
theorem dX6_whole_16 : decode cX6_whole 16 = .ok (.aload_n 0, 1) := dk_42 (dk_at dksX6_whole_0 16 rfl rfl)
theorem dX6_whole_17 : decode cX6_whole 17 = .ok (.aload_n 0, 1) := dk_42 (dk_at dksX6_whole_0 17 rfl rfl)
theorem dX6_whole_18 : decode cX6_whole 18 = .ok (.getfield 23, 3) := dk_180 0 23 (dk_at dksX6_whole_0 18 rfl rfl)
theorem dX6_whole_21 : decode cX6_whole 21 = .ok (.bipush 6, 2) := dk_16 6 (dk_at dksX6_whole_0 21 rfl rfl)
theorem dX6_whole_23 : decode cX6_whole 23 = .ok (.if_icmp .ge 7, 3) := dk_162 0 7 (dk_at dksX6_whole_1 0 rfl rfl)
theorem dX6_whole_26 : decode cX6_whole 26 = .ok (.iconst 1, 1) := dk_4 (dk_at dksX6_whole_1 3 rfl rfl)
theorem dX6_whole_27 : decode cX6_whole 27 = .ok (.goto 4, 3) := dk_167 0 4 (dk_at dksX6_whole_1 4 rfl rfl)
theorem dX6_whole_30 : decode cX6_whole 30 = .ok (.iconst 0, 1) := dk_3 (dk_at dksX6_whole_1 7 rfl rfl)
theorem dX6_whole_31 : decode cX6_whole 31 = .ok (.invokevirtual 27, 3) := dk_182 0 27 (dk_at dksX6_whole_1 8 rfl rfl)
theorem dX6_whole_34 : decode cX6_whole 34 = .ok (.istore_n 3, 1) := dk_62 (dk_at dksX6_whole_1 11 rfl rfl)
theorem dX6_whole_35 : decode cX6_whole 35 = .ok (.aload_n 2, 1) := dk_44 (dk_at dksX6_whole_1 12 rfl rfl)
theorem dX6_whole_36 : decode cX6_whole 36 = .ok (.aload_n 0, 1) := dk_42 (dk_at dksX6_whole_1 13 rfl rfl)
theorem dX6_whole_37 : decode cX6_whole 37 = .ok (.invokevirtual 15, 3) := dk_182 0 15 (dk_at dksX6_whole_1 14 rfl rfl)
theorem dX6_whole_40 : decode cX6_whole 40 = .ok (.putfield 31, 3) := dk_181 0 31 (dk_at dksX6_whole_1 17 rfl rfl)
theorem dX6_whole_43 : decode cX6_whole 43 = .ok (.aload_n 2, 1) := dk_44 (dk_at dksX6_whole_1 20 rfl rfl)
theorem dX6_whole_44 : decode cX6_whole 44 = .ok (.getfield 31, 3) := dk_180 0 31 (dk_at dksX6_whole_1 21 rfl rfl)
theorem dX6_whole_47 : decode cX6_whole 47 = .ok (.astore_n 2, 1) := dk_77 (dk_at dksX6_whole_2 0 rfl rfl)
theorem dX6_whole_48 : decode cX6_whole 48 = .ok (.goto (-41), 3) := dk_167 255 215 (dk_at dksX6_whole_2 1 rfl rfl)
theorem dX6_whole_51 : decode cX6_whole 51 = .ok (.aload_n 0, 1) := dk_42 (dk_at dksX6_whole_2 4 rfl rfl)
theorem dX6_whole_52 : decode cX6_whole 52 = .ok (.invokevirtual 19, 3) := dk_182 0 19 (dk_at dksX6_whole_2 5 rfl rfl)
theorem dX6_whole_55 : decode cX6_whole 55 = .ok (.iconst (-1), 1) := dk_2 (dk_at dksX6_whole_2 8 rfl rfl)
theorem dX6_whole_56 : decode cX6_whole 56 = .ok (.if_icmp .eq 15, 3) := dk_159 0 15 (dk_at dksX6_whole_2 9 rfl rfl)
theorem dX6_whole_59 : decode cX6_whole 59 = .ok (.new 37, 3) := dk_187 0 37 (dk_at dksX6_whole_2 12 rfl rfl)
theorem dX6_whole_62 : decode cX6_whole 62 = .ok (.dup, 1) := dk_89 (dk_at dksX6_whole_2 15 rfl rfl)
theorem dX6_whole_63 : decode cX6_whole 63 = .ok (.aload_n 0, 1) := dk_42 (dk_at dksX6_whole_2 16 rfl rfl)
theorem dX6_whole_64 : decode cX6_whole 64 = .ok (.getfield 39, 3) := dk_180 0 39 (dk_at dksX6_whole_2 17 rfl rfl)
theorem dX6_whole_67 : decode cX6_whole 67 = .ok (.invokespecial 42, 3) := dk_183 0 42 (dk_at dksX6_whole_2 20 rfl rfl)
theorem dX6_whole_70 : decode cX6_whole 70 = .ok (.athrow, 1) := dk_191 (dk_at dksX6_whole_2 23 rfl rfl)
theorem dX6_whole_71 : decode cX6_whole 71 = .ok (.aload_n 1, 1) := dk_43 (dk_at dksX6_whole_3 0 rfl rfl)
theorem dX6_whole_72 : decode cX6_whole 72 = .ok (.areturn, 1) := dk_176 (dk_at dksX6_whole_3 1 rfl rfl)
abbrev cX6_balloon : ByteArray := prog_7_method_3_code
def yX6_balloon : MethodName := ⟨RX6, "balloon", "()LBalloonStall$Move;"⟩
def dkwX6_balloon_3 : List UInt8 := [181, 0, 23, 187, 0, 48, 89, 28, 42, 182, 0, 50, 183, 0, 53, 176]
abbrev dktX6_balloon_3 : List UInt8 := dkwX6_balloon_3 ++ []
def dkwX6_balloon_2 : List UInt8 := [162, 0, 7, 4, 167, 0, 4, 3, 182, 0, 27, 16, 48, 100, 61, 42, 89, 180, 0, 23, 4, 96]
abbrev dktX6_balloon_2 : List UInt8 := dkwX6_balloon_2 ++ dktX6_balloon_3
def dkwX6_balloon_1 : List UInt8 := [182, 0, 19, 60, 42, 27, 16, 48, 161, 0, 21, 27, 16, 48, 42, 180, 0, 3, 180, 0, 45, 96]
abbrev dktX6_balloon_1 : List UInt8 := dkwX6_balloon_1 ++ dktX6_balloon_2
def dkwX6_balloon_0 : List UInt8 := [42, 182, 0, 19, 60, 42, 27, 16, 35, 160, 0, 7, 4, 167, 0, 4, 3, 182, 0, 27, 60, 42]
abbrev dktX6_balloon_0 : List UInt8 := dkwX6_balloon_0 ++ dktX6_balloon_1
theorem dksX6_balloon_0 : cX6_balloon.data.toList.drop 0 = dktX6_balloon_0 := by decide +kernel
theorem dksX6_balloon_1 : cX6_balloon.data.toList.drop 22 = dktX6_balloon_1 := dk_seg dksX6_balloon_0 22 rfl rfl
theorem dksX6_balloon_2 : cX6_balloon.data.toList.drop 44 = dktX6_balloon_2 := dk_seg dksX6_balloon_1 22 rfl rfl
theorem dksX6_balloon_3 : cX6_balloon.data.toList.drop 66 = dktX6_balloon_3 := dk_seg dksX6_balloon_2 22 rfl rfl
theorem dX6_balloon_0 : decode cX6_balloon 0 = .ok (.aload_n 0, 1) := dk_42 (dk_at dksX6_balloon_0 0 rfl rfl)
theorem dX6_balloon_1 : decode cX6_balloon 1 = .ok (.invokevirtual 19, 3) := dk_182 0 19 (dk_at dksX6_balloon_0 1 rfl rfl)
theorem dX6_balloon_4 : decode cX6_balloon 4 = .ok (.istore_n 1, 1) := dk_60 (dk_at dksX6_balloon_0 4 rfl rfl)
theorem dX6_balloon_5 : decode cX6_balloon 5 = .ok (.aload_n 0, 1) := dk_42 (dk_at dksX6_balloon_0 5 rfl rfl)
theorem dX6_balloon_6 : decode cX6_balloon 6 = .ok (.iload_n 1, 1) := dk_27 (dk_at dksX6_balloon_0 6 rfl rfl)
theorem dX6_balloon_7 : decode cX6_balloon 7 = .ok (.bipush 35, 2) := dk_16 35 (dk_at dksX6_balloon_0 7 rfl rfl)
theorem dX6_balloon_9 : decode cX6_balloon 9 = .ok (.if_icmp .ne 7, 3) := dk_160 0 7 (dk_at dksX6_balloon_0 9 rfl rfl)
theorem dX6_balloon_12 : decode cX6_balloon 12 = .ok (.iconst 1, 1) := dk_4 (dk_at dksX6_balloon_0 12 rfl rfl)
theorem dX6_balloon_13 : decode cX6_balloon 13 = .ok (.goto 4, 3) := dk_167 0 4 (dk_at dksX6_balloon_0 13 rfl rfl)
theorem dX6_balloon_16 : decode cX6_balloon 16 = .ok (.iconst 0, 1) := dk_3 (dk_at dksX6_balloon_0 16 rfl rfl)
theorem dX6_balloon_17 : decode cX6_balloon 17 = .ok (.invokevirtual 27, 3) := dk_182 0 27 (dk_at dksX6_balloon_0 17 rfl rfl)
theorem dX6_balloon_20 : decode cX6_balloon 20 = .ok (.istore_n 1, 1) := dk_60 (dk_at dksX6_balloon_0 20 rfl rfl)
theorem dX6_balloon_21 : decode cX6_balloon 21 = .ok (.aload_n 0, 1) := dk_42 (dk_at dksX6_balloon_0 21 rfl rfl)
theorem dX6_balloon_22 : decode cX6_balloon 22 = .ok (.invokevirtual 19, 3) := dk_182 0 19 (dk_at dksX6_balloon_1 0 rfl rfl)
theorem dX6_balloon_25 : decode cX6_balloon 25 = .ok (.istore_n 1, 1) := dk_60 (dk_at dksX6_balloon_1 3 rfl rfl)
theorem dX6_balloon_26 : decode cX6_balloon 26 = .ok (.aload_n 0, 1) := dk_42 (dk_at dksX6_balloon_1 4 rfl rfl)
theorem dX6_balloon_27 : decode cX6_balloon 27 = .ok (.iload_n 1, 1) := dk_27 (dk_at dksX6_balloon_1 5 rfl rfl)
theorem dX6_balloon_28 : decode cX6_balloon 28 = .ok (.bipush 48, 2) := dk_16 48 (dk_at dksX6_balloon_1 6 rfl rfl)
theorem dX6_balloon_30 : decode cX6_balloon 30 = .ok (.if_icmp .lt 21, 3) := dk_161 0 21 (dk_at dksX6_balloon_1 8 rfl rfl)
theorem dX6_balloon_33 : decode cX6_balloon 33 = .ok (.iload_n 1, 1) := dk_27 (dk_at dksX6_balloon_1 11 rfl rfl)
theorem dX6_balloon_34 : decode cX6_balloon 34 = .ok (.bipush 48, 2) := dk_16 48 (dk_at dksX6_balloon_1 12 rfl rfl)
theorem dX6_balloon_36 : decode cX6_balloon 36 = .ok (.aload_n 0, 1) := dk_42 (dk_at dksX6_balloon_1 14 rfl rfl)
theorem dX6_balloon_37 : decode cX6_balloon 37 = .ok (.getfield 3, 3) := dk_180 0 3 (dk_at dksX6_balloon_1 15 rfl rfl)
theorem dX6_balloon_40 : decode cX6_balloon 40 = .ok (.getfield 45, 3) := dk_180 0 45 (dk_at dksX6_balloon_1 18 rfl rfl)
theorem dX6_balloon_43 : decode cX6_balloon 43 = .ok (.iadd, 1) := dk_96 (dk_at dksX6_balloon_1 21 rfl rfl)
theorem dX6_balloon_44 : decode cX6_balloon 44 = .ok (.if_icmp .ge 7, 3) := dk_162 0 7 (dk_at dksX6_balloon_2 0 rfl rfl)
theorem dX6_balloon_47 : decode cX6_balloon 47 = .ok (.iconst 1, 1) := dk_4 (dk_at dksX6_balloon_2 3 rfl rfl)
theorem dX6_balloon_48 : decode cX6_balloon 48 = .ok (.goto 4, 3) := dk_167 0 4 (dk_at dksX6_balloon_2 4 rfl rfl)
theorem dX6_balloon_51 : decode cX6_balloon 51 = .ok (.iconst 0, 1) := dk_3 (dk_at dksX6_balloon_2 7 rfl rfl)
theorem dX6_balloon_52 : decode cX6_balloon 52 = .ok (.invokevirtual 27, 3) := dk_182 0 27 (dk_at dksX6_balloon_2 8 rfl rfl)
theorem dX6_balloon_55 : decode cX6_balloon 55 = .ok (.bipush 48, 2) := dk_16 48 (dk_at dksX6_balloon_2 11 rfl rfl)
theorem dX6_balloon_57 : decode cX6_balloon 57 = .ok (.isub, 1) := dk_100 (dk_at dksX6_balloon_2 13 rfl rfl)
theorem dX6_balloon_58 : decode cX6_balloon 58 = .ok (.istore_n 2, 1) := dk_61 (dk_at dksX6_balloon_2 14 rfl rfl)
theorem dX6_balloon_59 : decode cX6_balloon 59 = .ok (.aload_n 0, 1) := dk_42 (dk_at dksX6_balloon_2 15 rfl rfl)
theorem dX6_balloon_60 : decode cX6_balloon 60 = .ok (.dup, 1) := dk_89 (dk_at dksX6_balloon_2 16 rfl rfl)
theorem dX6_balloon_61 : decode cX6_balloon 61 = .ok (.getfield 23, 3) := dk_180 0 23 (dk_at dksX6_balloon_2 17 rfl rfl)
theorem dX6_balloon_64 : decode cX6_balloon 64 = .ok (.iconst 1, 1) := dk_4 (dk_at dksX6_balloon_2 20 rfl rfl)
theorem dX6_balloon_65 : decode cX6_balloon 65 = .ok (.iadd, 1) := dk_96 (dk_at dksX6_balloon_2 21 rfl rfl)
theorem dX6_balloon_66 : decode cX6_balloon 66 = .ok (.putfield 23, 3) := dk_181 0 23 (dk_at dksX6_balloon_3 0 rfl rfl)
theorem dX6_balloon_69 : decode cX6_balloon 69 = .ok (.new 48, 3) := dk_187 0 48 (dk_at dksX6_balloon_3 3 rfl rfl)
theorem dX6_balloon_72 : decode cX6_balloon 72 = .ok (.dup, 1) := dk_89 (dk_at dksX6_balloon_3 6 rfl rfl)
theorem dX6_balloon_73 : decode cX6_balloon 73 = .ok (.iload_n 2, 1) := dk_28 (dk_at dksX6_balloon_3 7 rfl rfl)
theorem dX6_balloon_74 : decode cX6_balloon 74 = .ok (.aload_n 0, 1) := dk_42 (dk_at dksX6_balloon_3 8 rfl rfl)
theorem dX6_balloon_75 : decode cX6_balloon 75 = .ok (.invokevirtual 50, 3) := dk_182 0 50 (dk_at dksX6_balloon_3 9 rfl rfl)
theorem dX6_balloon_78 : decode cX6_balloon 78 = .ok (.invokespecial 53, 3) := dk_183 0 53 (dk_at dksX6_balloon_3 12 rfl rfl)
theorem dX6_balloon_81 : decode cX6_balloon 81 = .ok (.areturn, 1) := dk_176 (dk_at dksX6_balloon_3 15 rfl rfl)
abbrev cX6_moves : ByteArray := prog_7_method_4_code
def yX6_moves : MethodName := ⟨RX6, "moves", "()LBalloonStall$Move;"⟩
def dkwX6_moves_1 : List UInt8 := [181, 0, 31, 44, 180, 0, 31, 77, 167, 255, 232, 43, 176]
abbrev dktX6_moves_1 : List UInt8 := dkwX6_moves_1 ++ []
def dkwX6_moves_0 : List UInt8 := [42, 182, 0, 56, 76, 43, 77, 42, 42, 182, 0, 19, 182, 0, 59, 153, 0, 19, 44, 42, 182, 0, 56]
abbrev dktX6_moves_0 : List UInt8 := dkwX6_moves_0 ++ dktX6_moves_1
theorem dksX6_moves_0 : cX6_moves.data.toList.drop 0 = dktX6_moves_0 := by decide +kernel
theorem dksX6_moves_1 : cX6_moves.data.toList.drop 23 = dktX6_moves_1 := dk_seg dksX6_moves_0 23 rfl rfl
theorem dX6_moves_0 : decode cX6_moves 0 = .ok (.aload_n 0, 1) := dk_42 (dk_at dksX6_moves_0 0 rfl rfl)
theorem dX6_moves_1 : decode cX6_moves 1 = .ok (.invokevirtual 56, 3) := dk_182 0 56 (dk_at dksX6_moves_0 1 rfl rfl)
theorem dX6_moves_4 : decode cX6_moves 4 = .ok (.astore_n 1, 1) := dk_76 (dk_at dksX6_moves_0 4 rfl rfl)
theorem dX6_moves_5 : decode cX6_moves 5 = .ok (.aload_n 1, 1) := dk_43 (dk_at dksX6_moves_0 5 rfl rfl)
theorem dX6_moves_6 : decode cX6_moves 6 = .ok (.astore_n 2, 1) := dk_77 (dk_at dksX6_moves_0 6 rfl rfl)
theorem dX6_moves_7 : decode cX6_moves 7 = .ok (.aload_n 0, 1) := dk_42 (dk_at dksX6_moves_0 7 rfl rfl)
theorem dX6_moves_8 : decode cX6_moves 8 = .ok (.aload_n 0, 1) := dk_42 (dk_at dksX6_moves_0 8 rfl rfl)
theorem dX6_moves_9 : decode cX6_moves 9 = .ok (.invokevirtual 19, 3) := dk_182 0 19 (dk_at dksX6_moves_0 9 rfl rfl)
theorem dX6_moves_12 : decode cX6_moves 12 = .ok (.invokevirtual 59, 3) := dk_182 0 59 (dk_at dksX6_moves_0 12 rfl rfl)
theorem dX6_moves_15 : decode cX6_moves 15 = .ok (.ifCond .eq 19, 3) := dk_153 0 19 (dk_at dksX6_moves_0 15 rfl rfl)
theorem dX6_moves_18 : decode cX6_moves 18 = .ok (.aload_n 2, 1) := dk_44 (dk_at dksX6_moves_0 18 rfl rfl)
theorem dX6_moves_19 : decode cX6_moves 19 = .ok (.aload_n 0, 1) := dk_42 (dk_at dksX6_moves_0 19 rfl rfl)
theorem dX6_moves_20 : decode cX6_moves 20 = .ok (.invokevirtual 56, 3) := dk_182 0 56 (dk_at dksX6_moves_0 20 rfl rfl)
theorem dX6_moves_23 : decode cX6_moves 23 = .ok (.putfield 31, 3) := dk_181 0 31 (dk_at dksX6_moves_1 0 rfl rfl)
theorem dX6_moves_26 : decode cX6_moves 26 = .ok (.aload_n 2, 1) := dk_44 (dk_at dksX6_moves_1 3 rfl rfl)
theorem dX6_moves_27 : decode cX6_moves 27 = .ok (.getfield 31, 3) := dk_180 0 31 (dk_at dksX6_moves_1 4 rfl rfl)
theorem dX6_moves_30 : decode cX6_moves 30 = .ok (.astore_n 2, 1) := dk_77 (dk_at dksX6_moves_1 7 rfl rfl)
theorem dX6_moves_31 : decode cX6_moves 31 = .ok (.goto (-24), 3) := dk_167 255 232 (dk_at dksX6_moves_1 8 rfl rfl)
theorem dX6_moves_34 : decode cX6_moves 34 = .ok (.aload_n 1, 1) := dk_43 (dk_at dksX6_moves_1 11 rfl rfl)
theorem dX6_moves_35 : decode cX6_moves 35 = .ok (.areturn, 1) := dk_176 (dk_at dksX6_moves_1 12 rfl rfl)
abbrev cX6_move : ByteArray := prog_7_method_6_code
def yX6_move : MethodName := ⟨RX6, "move", "()LBalloonStall$Move;"⟩
def dkwX6_move_3 : List UInt8 := [182, 0, 50, 77, 42, 16, 41, 182, 0, 76, 187, 0, 79, 89, 44, 183, 0, 81, 176]
abbrev dktX6_move_3 : List UInt8 := dkwX6_move_3 ++ []
def dkwX6_move_2 : List UInt8 := [16, 40, 159, 0, 15, 187, 0, 66, 89, 42, 182, 0, 68, 183, 0, 71, 176, 42, 182, 0, 72, 42]
abbrev dktX6_move_2 : List UInt8 := dkwX6_move_2 ++ dktX6_move_3
def dkwX6_move_1 : List UInt8 := [191, 27, 16, 97, 161, 0, 19, 187, 0, 63, 89, 42, 4, 182, 0, 27, 16, 97, 100, 183, 0, 65, 176, 27]
abbrev dktX6_move_1 : List UInt8 := dkwX6_move_1 ++ dktX6_move_2
def dkwX6_move_0 : List UInt8 := [42, 182, 0, 19, 60, 42, 27, 182, 0, 59, 154, 0, 15, 187, 0, 37, 89, 42, 180, 0, 39, 183, 0, 42]
abbrev dktX6_move_0 : List UInt8 := dkwX6_move_0 ++ dktX6_move_1
theorem dksX6_move_0 : cX6_move.data.toList.drop 0 = dktX6_move_0 := by decide +kernel
theorem dksX6_move_1 : cX6_move.data.toList.drop 24 = dktX6_move_1 := dk_seg dksX6_move_0 24 rfl rfl
theorem dksX6_move_2 : cX6_move.data.toList.drop 48 = dktX6_move_2 := dk_seg dksX6_move_1 24 rfl rfl
theorem dksX6_move_3 : cX6_move.data.toList.drop 70 = dktX6_move_3 := dk_seg dksX6_move_2 22 rfl rfl
theorem dX6_move_0 : decode cX6_move 0 = .ok (.aload_n 0, 1) := dk_42 (dk_at dksX6_move_0 0 rfl rfl)
theorem dX6_move_1 : decode cX6_move 1 = .ok (.invokevirtual 19, 3) := dk_182 0 19 (dk_at dksX6_move_0 1 rfl rfl)
theorem dX6_move_4 : decode cX6_move 4 = .ok (.istore_n 1, 1) := dk_60 (dk_at dksX6_move_0 4 rfl rfl)
theorem dX6_move_5 : decode cX6_move 5 = .ok (.aload_n 0, 1) := dk_42 (dk_at dksX6_move_0 5 rfl rfl)
theorem dX6_move_6 : decode cX6_move 6 = .ok (.iload_n 1, 1) := dk_27 (dk_at dksX6_move_0 6 rfl rfl)
theorem dX6_move_7 : decode cX6_move 7 = .ok (.invokevirtual 59, 3) := dk_182 0 59 (dk_at dksX6_move_0 7 rfl rfl)
theorem dX6_move_10 : decode cX6_move 10 = .ok (.ifCond .ne 15, 3) := dk_154 0 15 (dk_at dksX6_move_0 10 rfl rfl)
theorem dX6_move_13 : decode cX6_move 13 = .ok (.new 37, 3) := dk_187 0 37 (dk_at dksX6_move_0 13 rfl rfl)
theorem dX6_move_16 : decode cX6_move 16 = .ok (.dup, 1) := dk_89 (dk_at dksX6_move_0 16 rfl rfl)
theorem dX6_move_17 : decode cX6_move 17 = .ok (.aload_n 0, 1) := dk_42 (dk_at dksX6_move_0 17 rfl rfl)
theorem dX6_move_18 : decode cX6_move 18 = .ok (.getfield 39, 3) := dk_180 0 39 (dk_at dksX6_move_0 18 rfl rfl)
theorem dX6_move_21 : decode cX6_move 21 = .ok (.invokespecial 42, 3) := dk_183 0 42 (dk_at dksX6_move_0 21 rfl rfl)
theorem dX6_move_24 : decode cX6_move 24 = .ok (.athrow, 1) := dk_191 (dk_at dksX6_move_1 0 rfl rfl)
theorem dX6_move_25 : decode cX6_move 25 = .ok (.iload_n 1, 1) := dk_27 (dk_at dksX6_move_1 1 rfl rfl)
theorem dX6_move_26 : decode cX6_move 26 = .ok (.bipush 97, 2) := dk_16 97 (dk_at dksX6_move_1 2 rfl rfl)
theorem dX6_move_28 : decode cX6_move 28 = .ok (.if_icmp .lt 19, 3) := dk_161 0 19 (dk_at dksX6_move_1 4 rfl rfl)
theorem dX6_move_31 : decode cX6_move 31 = .ok (.new 63, 3) := dk_187 0 63 (dk_at dksX6_move_1 7 rfl rfl)
theorem dX6_move_34 : decode cX6_move 34 = .ok (.dup, 1) := dk_89 (dk_at dksX6_move_1 10 rfl rfl)
theorem dX6_move_35 : decode cX6_move 35 = .ok (.aload_n 0, 1) := dk_42 (dk_at dksX6_move_1 11 rfl rfl)
theorem dX6_move_36 : decode cX6_move 36 = .ok (.iconst 1, 1) := dk_4 (dk_at dksX6_move_1 12 rfl rfl)
theorem dX6_move_37 : decode cX6_move 37 = .ok (.invokevirtual 27, 3) := dk_182 0 27 (dk_at dksX6_move_1 13 rfl rfl)
theorem dX6_move_40 : decode cX6_move 40 = .ok (.bipush 97, 2) := dk_16 97 (dk_at dksX6_move_1 16 rfl rfl)
theorem dX6_move_42 : decode cX6_move 42 = .ok (.isub, 1) := dk_100 (dk_at dksX6_move_1 18 rfl rfl)
theorem dX6_move_43 : decode cX6_move 43 = .ok (.invokespecial 65, 3) := dk_183 0 65 (dk_at dksX6_move_1 19 rfl rfl)
theorem dX6_move_46 : decode cX6_move 46 = .ok (.areturn, 1) := dk_176 (dk_at dksX6_move_1 22 rfl rfl)
theorem dX6_move_47 : decode cX6_move 47 = .ok (.iload_n 1, 1) := dk_27 (dk_at dksX6_move_1 23 rfl rfl)
theorem dX6_move_48 : decode cX6_move 48 = .ok (.bipush 40, 2) := dk_16 40 (dk_at dksX6_move_2 0 rfl rfl)
theorem dX6_move_50 : decode cX6_move 50 = .ok (.if_icmp .eq 15, 3) := dk_159 0 15 (dk_at dksX6_move_2 2 rfl rfl)
theorem dX6_move_53 : decode cX6_move 53 = .ok (.new 66, 3) := dk_187 0 66 (dk_at dksX6_move_2 5 rfl rfl)
theorem dX6_move_56 : decode cX6_move 56 = .ok (.dup, 1) := dk_89 (dk_at dksX6_move_2 8 rfl rfl)
theorem dX6_move_57 : decode cX6_move 57 = .ok (.aload_n 0, 1) := dk_42 (dk_at dksX6_move_2 9 rfl rfl)
theorem dX6_move_58 : decode cX6_move 58 = .ok (.invokevirtual 68, 3) := dk_182 0 68 (dk_at dksX6_move_2 10 rfl rfl)
theorem dX6_move_61 : decode cX6_move 61 = .ok (.invokespecial 71, 3) := dk_183 0 71 (dk_at dksX6_move_2 13 rfl rfl)
theorem dX6_move_64 : decode cX6_move 64 = .ok (.areturn, 1) := dk_176 (dk_at dksX6_move_2 16 rfl rfl)
theorem dX6_move_65 : decode cX6_move 65 = .ok (.aload_n 0, 1) := dk_42 (dk_at dksX6_move_2 17 rfl rfl)
theorem dX6_move_66 : decode cX6_move 66 = .ok (.invokevirtual 72, 3) := dk_182 0 72 (dk_at dksX6_move_2 18 rfl rfl)
theorem dX6_move_69 : decode cX6_move 69 = .ok (.aload_n 0, 1) := dk_42 (dk_at dksX6_move_2 21 rfl rfl)
theorem dX6_move_70 : decode cX6_move 70 = .ok (.invokevirtual 50, 3) := dk_182 0 50 (dk_at dksX6_move_3 0 rfl rfl)
theorem dX6_move_73 : decode cX6_move 73 = .ok (.astore_n 2, 1) := dk_77 (dk_at dksX6_move_3 3 rfl rfl)
theorem dX6_move_74 : decode cX6_move 74 = .ok (.aload_n 0, 1) := dk_42 (dk_at dksX6_move_3 4 rfl rfl)
theorem dX6_move_75 : decode cX6_move 75 = .ok (.bipush 41, 2) := dk_16 41 (dk_at dksX6_move_3 5 rfl rfl)
theorem dX6_move_77 : decode cX6_move 77 = .ok (.invokevirtual 76, 3) := dk_182 0 76 (dk_at dksX6_move_3 7 rfl rfl)
theorem dX6_move_80 : decode cX6_move 80 = .ok (.new 79, 3) := dk_187 0 79 (dk_at dksX6_move_3 10 rfl rfl)
theorem dX6_move_83 : decode cX6_move 83 = .ok (.dup, 1) := dk_89 (dk_at dksX6_move_3 13 rfl rfl)
theorem dX6_move_84 : decode cX6_move 84 = .ok (.aload_n 2, 1) := dk_44 (dk_at dksX6_move_3 14 rfl rfl)
theorem dX6_move_85 : decode cX6_move 85 = .ok (.invokespecial 81, 3) := dk_183 0 81 (dk_at dksX6_move_3 15 rfl rfl)
theorem dX6_move_88 : decode cX6_move 88 = .ok (.areturn, 1) := dk_176 (dk_at dksX6_move_3 18 rfl rfl)
abbrev cX6_isMove : ByteArray := prog_7_method_5_code
def yX6_isMove : MethodName := ⟨RX6, "isMove", "(I)Z"⟩
def dkwX6_isMove_1 : List UInt8 := [27, 16, 40, 160, 0, 7, 4, 167, 0, 4, 3, 172]
abbrev dktX6_isMove_1 : List UInt8 := dkwX6_isMove_1 ++ []
def dkwX6_isMove_0 : List UInt8 := [27, 16, 48, 161, 0, 9, 27, 16, 57, 164, 0, 21, 27, 16, 97, 161, 0, 9, 27, 16, 105, 161, 0, 9]
abbrev dktX6_isMove_0 : List UInt8 := dkwX6_isMove_0 ++ dktX6_isMove_1
theorem dksX6_isMove_0 : cX6_isMove.data.toList.drop 0 = dktX6_isMove_0 := by decide +kernel
theorem dksX6_isMove_1 : cX6_isMove.data.toList.drop 24 = dktX6_isMove_1 := dk_seg dksX6_isMove_0 24 rfl rfl
theorem dX6_isMove_0 : decode cX6_isMove 0 = .ok (.iload_n 1, 1) := dk_27 (dk_at dksX6_isMove_0 0 rfl rfl)
theorem dX6_isMove_1 : decode cX6_isMove 1 = .ok (.bipush 48, 2) := dk_16 48 (dk_at dksX6_isMove_0 1 rfl rfl)
theorem dX6_isMove_3 : decode cX6_isMove 3 = .ok (.if_icmp .lt 9, 3) := dk_161 0 9 (dk_at dksX6_isMove_0 3 rfl rfl)
theorem dX6_isMove_6 : decode cX6_isMove 6 = .ok (.iload_n 1, 1) := dk_27 (dk_at dksX6_isMove_0 6 rfl rfl)
theorem dX6_isMove_7 : decode cX6_isMove 7 = .ok (.bipush 57, 2) := dk_16 57 (dk_at dksX6_isMove_0 7 rfl rfl)
theorem dX6_isMove_9 : decode cX6_isMove 9 = .ok (.if_icmp .le 21, 3) := dk_164 0 21 (dk_at dksX6_isMove_0 9 rfl rfl)
theorem dX6_isMove_12 : decode cX6_isMove 12 = .ok (.iload_n 1, 1) := dk_27 (dk_at dksX6_isMove_0 12 rfl rfl)
theorem dX6_isMove_13 : decode cX6_isMove 13 = .ok (.bipush 97, 2) := dk_16 97 (dk_at dksX6_isMove_0 13 rfl rfl)
theorem dX6_isMove_15 : decode cX6_isMove 15 = .ok (.if_icmp .lt 9, 3) := dk_161 0 9 (dk_at dksX6_isMove_0 15 rfl rfl)
theorem dX6_isMove_18 : decode cX6_isMove 18 = .ok (.iload_n 1, 1) := dk_27 (dk_at dksX6_isMove_0 18 rfl rfl)
theorem dX6_isMove_19 : decode cX6_isMove 19 = .ok (.bipush 105, 2) := dk_16 105 (dk_at dksX6_isMove_0 19 rfl rfl)
theorem dX6_isMove_21 : decode cX6_isMove 21 = .ok (.if_icmp .lt 9, 3) := dk_161 0 9 (dk_at dksX6_isMove_0 21 rfl rfl)
theorem dX6_isMove_24 : decode cX6_isMove 24 = .ok (.iload_n 1, 1) := dk_27 (dk_at dksX6_isMove_1 0 rfl rfl)
theorem dX6_isMove_25 : decode cX6_isMove 25 = .ok (.bipush 40, 2) := dk_16 40 (dk_at dksX6_isMove_1 1 rfl rfl)
theorem dX6_isMove_27 : decode cX6_isMove 27 = .ok (.if_icmp .ne 7, 3) := dk_160 0 7 (dk_at dksX6_isMove_1 3 rfl rfl)
theorem dX6_isMove_30 : decode cX6_isMove 30 = .ok (.iconst 1, 1) := dk_4 (dk_at dksX6_isMove_1 6 rfl rfl)
theorem dX6_isMove_31 : decode cX6_isMove 31 = .ok (.goto 4, 3) := dk_167 0 4 (dk_at dksX6_isMove_1 7 rfl rfl)
theorem dX6_isMove_34 : decode cX6_isMove 34 = .ok (.iconst 0, 1) := dk_3 (dk_at dksX6_isMove_1 10 rfl rfl)
theorem dX6_isMove_35 : decode cX6_isMove 35 = .ok (.ireturn, 1) := dk_172 (dk_at dksX6_isMove_1 11 rfl rfl)
abbrev cX6_bubble : ByteArray := prog_7_method_7_code
def yX6_bubble : MethodName := ⟨RX6, "bubble", "()I"⟩
def dkwX6_bubble_4 : List UInt8 := [183, 0, 42, 191, 27, 172]
abbrev dktX6_bubble_4 : List UInt8 := dkwX6_bubble_4 ++ []
def dkwX6_bubble_3 : List UInt8 := [180, 0, 39, 4, 100, 183, 0, 42, 191, 42, 182, 0, 87, 153, 0, 15, 187, 0, 37, 89, 42, 180, 0, 39]
abbrev dktX6_bubble_3 : List UInt8 := dkwX6_bubble_3 ++ dktX6_bubble_4
def dkwX6_bubble_2 : List UInt8 := [96, 16, 48, 100, 60, 27, 133, 10, 20, 0, 91, 184, 0, 93, 154, 0, 17, 187, 0, 37, 89, 42]
abbrev dktX6_bubble_2 : List UInt8 := dkwX6_bubble_2 ++ dktX6_bubble_3
def dkwX6_bubble_1 : List UInt8 := [180, 0, 84, 4, 96, 181, 0, 84, 42, 182, 0, 87, 153, 0, 17, 16, 10, 27, 104, 42, 4, 182, 0, 27]
abbrev dktX6_bubble_1 : List UInt8 := dkwX6_bubble_1 ++ dktX6_bubble_2
def dkwX6_bubble_0 : List UInt8 := [42, 42, 180, 0, 84, 16, 24, 162, 0, 7, 4, 167, 0, 4, 3, 182, 0, 27, 16, 48, 100, 60, 42, 89]
abbrev dktX6_bubble_0 : List UInt8 := dkwX6_bubble_0 ++ dktX6_bubble_1
theorem dksX6_bubble_0 : cX6_bubble.data.toList.drop 0 = dktX6_bubble_0 := by decide +kernel
theorem dksX6_bubble_1 : cX6_bubble.data.toList.drop 24 = dktX6_bubble_1 := dk_seg dksX6_bubble_0 24 rfl rfl
theorem dksX6_bubble_2 : cX6_bubble.data.toList.drop 48 = dktX6_bubble_2 := dk_seg dksX6_bubble_1 24 rfl rfl
theorem dksX6_bubble_3 : cX6_bubble.data.toList.drop 70 = dktX6_bubble_3 := dk_seg dksX6_bubble_2 22 rfl rfl
theorem dksX6_bubble_4 : cX6_bubble.data.toList.drop 94 = dktX6_bubble_4 := dk_seg dksX6_bubble_3 24 rfl rfl
theorem dX6_bubble_0 : decode cX6_bubble 0 = .ok (.aload_n 0, 1) := dk_42 (dk_at dksX6_bubble_0 0 rfl rfl)
theorem dX6_bubble_1 : decode cX6_bubble 1 = .ok (.aload_n 0, 1) := dk_42 (dk_at dksX6_bubble_0 1 rfl rfl)
theorem dX6_bubble_2 : decode cX6_bubble 2 = .ok (.getfield 84, 3) := dk_180 0 84 (dk_at dksX6_bubble_0 2 rfl rfl)
theorem dX6_bubble_5 : decode cX6_bubble 5 = .ok (.bipush 24, 2) := dk_16 24 (dk_at dksX6_bubble_0 5 rfl rfl)
theorem dX6_bubble_7 : decode cX6_bubble 7 = .ok (.if_icmp .ge 7, 3) := dk_162 0 7 (dk_at dksX6_bubble_0 7 rfl rfl)
theorem dX6_bubble_10 : decode cX6_bubble 10 = .ok (.iconst 1, 1) := dk_4 (dk_at dksX6_bubble_0 10 rfl rfl)
theorem dX6_bubble_11 : decode cX6_bubble 11 = .ok (.goto 4, 3) := dk_167 0 4 (dk_at dksX6_bubble_0 11 rfl rfl)
theorem dX6_bubble_14 : decode cX6_bubble 14 = .ok (.iconst 0, 1) := dk_3 (dk_at dksX6_bubble_0 14 rfl rfl)
theorem dX6_bubble_15 : decode cX6_bubble 15 = .ok (.invokevirtual 27, 3) := dk_182 0 27 (dk_at dksX6_bubble_0 15 rfl rfl)
theorem dX6_bubble_18 : decode cX6_bubble 18 = .ok (.bipush 48, 2) := dk_16 48 (dk_at dksX6_bubble_0 18 rfl rfl)
theorem dX6_bubble_20 : decode cX6_bubble 20 = .ok (.isub, 1) := dk_100 (dk_at dksX6_bubble_0 20 rfl rfl)
theorem dX6_bubble_21 : decode cX6_bubble 21 = .ok (.istore_n 1, 1) := dk_60 (dk_at dksX6_bubble_0 21 rfl rfl)
theorem dX6_bubble_22 : decode cX6_bubble 22 = .ok (.aload_n 0, 1) := dk_42 (dk_at dksX6_bubble_0 22 rfl rfl)
theorem dX6_bubble_23 : decode cX6_bubble 23 = .ok (.dup, 1) := dk_89 (dk_at dksX6_bubble_0 23 rfl rfl)
theorem dX6_bubble_24 : decode cX6_bubble 24 = .ok (.getfield 84, 3) := dk_180 0 84 (dk_at dksX6_bubble_1 0 rfl rfl)
theorem dX6_bubble_27 : decode cX6_bubble 27 = .ok (.iconst 1, 1) := dk_4 (dk_at dksX6_bubble_1 3 rfl rfl)
theorem dX6_bubble_28 : decode cX6_bubble 28 = .ok (.iadd, 1) := dk_96 (dk_at dksX6_bubble_1 4 rfl rfl)
theorem dX6_bubble_29 : decode cX6_bubble 29 = .ok (.putfield 84, 3) := dk_181 0 84 (dk_at dksX6_bubble_1 5 rfl rfl)
theorem dX6_bubble_32 : decode cX6_bubble 32 = .ok (.aload_n 0, 1) := dk_42 (dk_at dksX6_bubble_1 8 rfl rfl)
theorem dX6_bubble_33 : decode cX6_bubble 33 = .ok (.invokevirtual 87, 3) := dk_182 0 87 (dk_at dksX6_bubble_1 9 rfl rfl)
theorem dX6_bubble_36 : decode cX6_bubble 36 = .ok (.ifCond .eq 17, 3) := dk_153 0 17 (dk_at dksX6_bubble_1 12 rfl rfl)
theorem dX6_bubble_39 : decode cX6_bubble 39 = .ok (.bipush 10, 2) := dk_16 10 (dk_at dksX6_bubble_1 15 rfl rfl)
theorem dX6_bubble_41 : decode cX6_bubble 41 = .ok (.iload_n 1, 1) := dk_27 (dk_at dksX6_bubble_1 17 rfl rfl)
theorem dX6_bubble_42 : decode cX6_bubble 42 = .ok (.imul, 1) := dk_104 (dk_at dksX6_bubble_1 18 rfl rfl)
theorem dX6_bubble_43 : decode cX6_bubble 43 = .ok (.aload_n 0, 1) := dk_42 (dk_at dksX6_bubble_1 19 rfl rfl)
theorem dX6_bubble_44 : decode cX6_bubble 44 = .ok (.iconst 1, 1) := dk_4 (dk_at dksX6_bubble_1 20 rfl rfl)
theorem dX6_bubble_45 : decode cX6_bubble 45 = .ok (.invokevirtual 27, 3) := dk_182 0 27 (dk_at dksX6_bubble_1 21 rfl rfl)
theorem dX6_bubble_48 : decode cX6_bubble 48 = .ok (.iadd, 1) := dk_96 (dk_at dksX6_bubble_2 0 rfl rfl)
theorem dX6_bubble_49 : decode cX6_bubble 49 = .ok (.bipush 48, 2) := dk_16 48 (dk_at dksX6_bubble_2 1 rfl rfl)
theorem dX6_bubble_51 : decode cX6_bubble 51 = .ok (.isub, 1) := dk_100 (dk_at dksX6_bubble_2 3 rfl rfl)
theorem dX6_bubble_52 : decode cX6_bubble 52 = .ok (.istore_n 1, 1) := dk_60 (dk_at dksX6_bubble_2 4 rfl rfl)
theorem dX6_bubble_53 : decode cX6_bubble 53 = .ok (.iload_n 1, 1) := dk_27 (dk_at dksX6_bubble_2 5 rfl rfl)
theorem dX6_bubble_54 : decode cX6_bubble 54 = .ok (.i2l, 1) := dk_133 (dk_at dksX6_bubble_2 6 rfl rfl)
theorem dX6_bubble_55 : decode cX6_bubble 55 = .ok (.lconst 1, 1) := dk_10 (dk_at dksX6_bubble_2 7 rfl rfl)
theorem dX6_bubble_56 : decode cX6_bubble 56 = .ok (.ldc2_w 91, 3) := dk_20 0 91 (dk_at dksX6_bubble_2 8 rfl rfl)
theorem dX6_bubble_59 : decode cX6_bubble 59 = .ok (.invokestatic 93, 3) := dk_184 0 93 (dk_at dksX6_bubble_2 11 rfl rfl)
theorem dX6_bubble_62 : decode cX6_bubble 62 = .ok (.ifCond .ne 17, 3) := dk_154 0 17 (dk_at dksX6_bubble_2 14 rfl rfl)
theorem dX6_bubble_65 : decode cX6_bubble 65 = .ok (.new 37, 3) := dk_187 0 37 (dk_at dksX6_bubble_2 17 rfl rfl)
theorem dX6_bubble_68 : decode cX6_bubble 68 = .ok (.dup, 1) := dk_89 (dk_at dksX6_bubble_2 20 rfl rfl)
theorem dX6_bubble_69 : decode cX6_bubble 69 = .ok (.aload_n 0, 1) := dk_42 (dk_at dksX6_bubble_2 21 rfl rfl)
theorem dX6_bubble_70 : decode cX6_bubble 70 = .ok (.getfield 39, 3) := dk_180 0 39 (dk_at dksX6_bubble_3 0 rfl rfl)
theorem dX6_bubble_73 : decode cX6_bubble 73 = .ok (.iconst 1, 1) := dk_4 (dk_at dksX6_bubble_3 3 rfl rfl)
theorem dX6_bubble_74 : decode cX6_bubble 74 = .ok (.isub, 1) := dk_100 (dk_at dksX6_bubble_3 4 rfl rfl)
theorem dX6_bubble_75 : decode cX6_bubble 75 = .ok (.invokespecial 42, 3) := dk_183 0 42 (dk_at dksX6_bubble_3 5 rfl rfl)
theorem dX6_bubble_78 : decode cX6_bubble 78 = .ok (.athrow, 1) := dk_191 (dk_at dksX6_bubble_3 8 rfl rfl)
theorem dX6_bubble_79 : decode cX6_bubble 79 = .ok (.aload_n 0, 1) := dk_42 (dk_at dksX6_bubble_3 9 rfl rfl)
theorem dX6_bubble_80 : decode cX6_bubble 80 = .ok (.invokevirtual 87, 3) := dk_182 0 87 (dk_at dksX6_bubble_3 10 rfl rfl)
theorem dX6_bubble_83 : decode cX6_bubble 83 = .ok (.ifCond .eq 15, 3) := dk_153 0 15 (dk_at dksX6_bubble_3 13 rfl rfl)
theorem dX6_bubble_86 : decode cX6_bubble 86 = .ok (.new 37, 3) := dk_187 0 37 (dk_at dksX6_bubble_3 16 rfl rfl)
theorem dX6_bubble_89 : decode cX6_bubble 89 = .ok (.dup, 1) := dk_89 (dk_at dksX6_bubble_3 19 rfl rfl)
theorem dX6_bubble_90 : decode cX6_bubble 90 = .ok (.aload_n 0, 1) := dk_42 (dk_at dksX6_bubble_3 20 rfl rfl)
theorem dX6_bubble_91 : decode cX6_bubble 91 = .ok (.getfield 39, 3) := dk_180 0 39 (dk_at dksX6_bubble_3 21 rfl rfl)
theorem dX6_bubble_94 : decode cX6_bubble 94 = .ok (.invokespecial 42, 3) := dk_183 0 42 (dk_at dksX6_bubble_4 0 rfl rfl)
theorem dX6_bubble_97 : decode cX6_bubble 97 = .ok (.athrow, 1) := dk_191 (dk_at dksX6_bubble_4 3 rfl rfl)
theorem dX6_bubble_98 : decode cX6_bubble 98 = .ok (.iload_n 1, 1) := dk_27 (dk_at dksX6_bubble_4 4 rfl rfl)
theorem dX6_bubble_99 : decode cX6_bubble 99 = .ok (.ireturn, 1) := dk_172 (dk_at dksX6_bubble_4 5 rfl rfl)
theorem q108 : (Jvm.Cond.initialized "BalloonStall$FigureReader") ∈ lw_all := lw_g (lw_at lw_m1 6 rfl) rfl
theorem q167 : (Jvm.Cond.fieldLinkNest "BalloonStall$FigureReader" (45 : Nat) "BalloonStall" "sortMany" "I" "BalloonStall") ∈ lw_tbl := lw_at lw_m1 65 rfl
theorem q297 : (Jvm.Cond.instantiable "BalloonStall$FigureReader" (6 : Nat)) ∈ lw_all := lw_g (lw_at lw_m1 195 rfl) rfl
theorem q299 : (Jvm.Cond.instanceMethod ({ cls := "BalloonStall$FigureReader", name := "<init>", desc := "(LBalloonStall;)V" } : Jvm.MethodName)) ∈ lw_all := lw_g (lw_at lw_m1 197 rfl) rfl
theorem q300 : (Jvm.Cond.code ({ cls := "BalloonStall$FigureReader", name := "<init>", desc := "(LBalloonStall;)V" } : Jvm.MethodName) prog_7_method_1_code (2 : Nat) (Option.none : Option Jvm.ClassFile.FieldType)) ∈ lw_all := lw_g (lw_at lw_m1 198 rfl) rfl
theorem q301 : (Jvm.Cond.methodLinkNest "BalloonStall$FigureReader" (9 : Nat) ({ cls := "BalloonStall$Reader", name := "<init>", desc := "(LBalloonStall;)V" } : Jvm.MethodName) "BalloonStall") ∈ lw_tbl := lw_at lw_m1 199 rfl
theorem q305 : (Jvm.Cond.fieldLink "BalloonStall$FigureReader" (84 : Nat) "BalloonStall$FigureReader" "bubbles" "I") ∈ lw_all := lw_g (lw_at lw_m1 203 rfl) rfl
theorem q306 : (Jvm.Cond.fieldLink "BalloonStall$FigureReader" (23 : Nat) "BalloonStall$FigureReader" "balloons" "I") ∈ lw_all := lw_g (lw_at lw_m1 204 rfl) rfl
theorem q307 : (Jvm.Cond.fieldLink "BalloonStall$FigureReader" (3 : Nat) "BalloonStall$FigureReader" "this$0" "LBalloonStall;") ∈ lw_all := lw_g (lw_at lw_m1 205 rfl) rfl
theorem q311 : (Jvm.Cond.fieldLink "BalloonStall$FigureReader" (39 : Nat) "BalloonStall$FigureReader" "at" "I") ∈ lw_all := lw_g (lw_at lw_m1 209 rfl) rfl
theorem q312 : (Jvm.Cond.sameField "BalloonStall$FigureReader" "BalloonStall$Reader" "at" "I") ∈ lw_all := lw_g (lw_at lw_m1 210 rfl) rfl
theorem q315 : (Jvm.Cond.lays "BalloonStall$FigureReader" "BalloonStall$FigureReader" "bubbles" "I") ∈ lw_all := lw_g (lw_at lw_m1 213 rfl) rfl
theorem q316 : (Jvm.Cond.soleField "BalloonStall$FigureReader" "bubbles") ∈ lw_all := lw_g (lw_at lw_m1 214 rfl) rfl
theorem q317 : (Jvm.Cond.lays "BalloonStall$FigureReader" "BalloonStall$FigureReader" "balloons" "I") ∈ lw_all := lw_g (lw_at lw_m1 215 rfl) rfl
theorem q318 : (Jvm.Cond.soleField "BalloonStall$FigureReader" "balloons") ∈ lw_all := lw_g (lw_at lw_m1 216 rfl) rfl
theorem q319 : (Jvm.Cond.laysFinal "BalloonStall$FigureReader" "BalloonStall$FigureReader" "this$0" "LBalloonStall;") ∈ lw_all := lw_g (lw_at lw_m1 217 rfl) rfl
theorem q320 : (Jvm.Cond.soleField "BalloonStall$FigureReader" "this$0") ∈ lw_all := lw_g (lw_at lw_m1 218 rfl) rfl
theorem q321 : (Jvm.Cond.lays "BalloonStall$FigureReader" "BalloonStall$Reader" "at" "I") ∈ lw_all := lw_g (lw_at lw_m1 219 rfl) rfl
theorem q323 : (Jvm.Cond.lays "BalloonStall$FigureReader" "BalloonStall$Reader" "deep" "I") ∈ lw_all := lw_g (lw_at lw_m1 221 rfl) rfl
theorem q325 : (Jvm.Cond.laysFinal "BalloonStall$FigureReader" "BalloonStall$Reader" "this$0" "LBalloonStall;") ∈ lw_all := lw_g (lw_at lw_m1 223 rfl) rfl
theorem q327 : (Jvm.Cond.superclass "BalloonStall$FigureReader" "BalloonStall$Reader") ∈ lw_all := lw_g (lw_at lw_m1 225 rfl) rfl
theorem q329 : (Jvm.Cond.instanceMethod ({ cls := "BalloonStall$FigureReader", name := "whole", desc := "()LBalloonStall$Move;" } : Jvm.MethodName)) ∈ lw_all := lw_g (lw_at lw_m1 227 rfl) rfl
theorem q330 : (Jvm.Cond.selects "BalloonStall$FigureReader" ({ cls := "BalloonStall$FigureReader", name := "whole", desc := "()LBalloonStall$Move;" } : Jvm.MethodName) ({ cls := "BalloonStall$FigureReader", name := "whole", desc := "()LBalloonStall$Move;" } : Jvm.MethodName)) ∈ lw_all := lw_g (lw_at lw_m1 228 rfl) rfl
theorem q331 : (Jvm.Cond.code ({ cls := "BalloonStall$FigureReader", name := "whole", desc := "()LBalloonStall$Move;" } : Jvm.MethodName) prog_7_method_2_code (4 : Nat) (Option.some (Jvm.ClassFile.FieldType.object "BalloonStall$Move"))) ∈ lw_all := lw_g (lw_at lw_m1 229 rfl) rfl
theorem q332 : (Jvm.Cond.methodLink "BalloonStall$FigureReader" (15 : Nat) ({ cls := "BalloonStall$FigureReader", name := "balloon", desc := "()LBalloonStall$Move;" } : Jvm.MethodName)) ∈ lw_all := lw_g (lw_at lw_m1 230 rfl) rfl
theorem q333 : (Jvm.Cond.privateMethod ({ cls := "BalloonStall$FigureReader", name := "balloon", desc := "()LBalloonStall$Move;" } : Jvm.MethodName)) ∈ lw_tbl := lw_at lw_m1 231 rfl
theorem q334 : (Jvm.Cond.instanceMethod ({ cls := "BalloonStall$FigureReader", name := "balloon", desc := "()LBalloonStall$Move;" } : Jvm.MethodName)) ∈ lw_all := lw_g (lw_at lw_m1 232 rfl) rfl
theorem q335 : (Jvm.Cond.code ({ cls := "BalloonStall$FigureReader", name := "balloon", desc := "()LBalloonStall$Move;" } : Jvm.MethodName) prog_7_method_3_code (3 : Nat) (Option.some (Jvm.ClassFile.FieldType.object "BalloonStall$Move"))) ∈ lw_all := lw_g (lw_at lw_m1 233 rfl) rfl
theorem q336 : (Jvm.Cond.methodLink "BalloonStall$FigureReader" (19 : Nat) ({ cls := "BalloonStall$FigureReader", name := "look", desc := "()I" } : Jvm.MethodName)) ∈ lw_all := lw_g (lw_at lw_m1 234 rfl) rfl
theorem q337 : (Jvm.Cond.sameMethod "BalloonStall$FigureReader" "BalloonStall$Reader" "look" "()I") ∈ lw_all := lw_g (lw_at lw_m1 235 rfl) rfl
theorem q339 : (Jvm.Cond.selects "BalloonStall$FigureReader" ({ cls := "BalloonStall$FigureReader", name := "look", desc := "()I" } : Jvm.MethodName) ({ cls := "BalloonStall$Reader", name := "look", desc := "()I" } : Jvm.MethodName)) ∈ lw_all := lw_g (lw_at lw_m1 237 rfl) rfl
theorem q345 : (Jvm.Cond.selects "BalloonStall$FigureReader" ({ cls := "BalloonStall$Reader", name := "here", desc := "()I" } : Jvm.MethodName) ({ cls := "BalloonStall$Reader", name := "here", desc := "()I" } : Jvm.MethodName)) ∈ lw_all := lw_g (lw_at lw_m2 3 rfl) rfl
theorem q348 : (Jvm.Cond.methodLink "BalloonStall$FigureReader" (27 : Nat) ({ cls := "BalloonStall$FigureReader", name := "take", desc := "(Z)I" } : Jvm.MethodName)) ∈ lw_all := lw_g (lw_at lw_m2 6 rfl) rfl
theorem q349 : (Jvm.Cond.sameMethod "BalloonStall$FigureReader" "BalloonStall$Reader" "take" "(Z)I") ∈ lw_all := lw_g (lw_at lw_m2 7 rfl) rfl
theorem q351 : (Jvm.Cond.selects "BalloonStall$FigureReader" ({ cls := "BalloonStall$FigureReader", name := "take", desc := "(Z)I" } : Jvm.MethodName) ({ cls := "BalloonStall$Reader", name := "take", desc := "(Z)I" } : Jvm.MethodName)) ∈ lw_all := lw_g (lw_at lw_m2 9 rfl) rfl
theorem q423 : (Jvm.Cond.classLink "BalloonStall$FigureReader" (48 : Nat) "BalloonStall$Fresh") ∈ lw_all := lw_g (lw_at lw_m2 81 rfl) rfl
theorem q425 : (Jvm.Cond.methodLink "BalloonStall$FigureReader" (50 : Nat) ({ cls := "BalloonStall$FigureReader", name := "moves", desc := "()LBalloonStall$Move;" } : Jvm.MethodName)) ∈ lw_all := lw_g (lw_at lw_m2 83 rfl) rfl
theorem q426 : (Jvm.Cond.privateMethod ({ cls := "BalloonStall$FigureReader", name := "moves", desc := "()LBalloonStall$Move;" } : Jvm.MethodName)) ∈ lw_tbl := lw_at lw_m2 84 rfl
theorem q427 : (Jvm.Cond.instanceMethod ({ cls := "BalloonStall$FigureReader", name := "moves", desc := "()LBalloonStall$Move;" } : Jvm.MethodName)) ∈ lw_all := lw_g (lw_at lw_m2 85 rfl) rfl
theorem q428 : (Jvm.Cond.code ({ cls := "BalloonStall$FigureReader", name := "moves", desc := "()LBalloonStall$Move;" } : Jvm.MethodName) prog_7_method_4_code (3 : Nat) (Option.some (Jvm.ClassFile.FieldType.object "BalloonStall$Move"))) ∈ lw_all := lw_g (lw_at lw_m2 86 rfl) rfl
theorem q429 : (Jvm.Cond.methodLink "BalloonStall$FigureReader" (56 : Nat) ({ cls := "BalloonStall$FigureReader", name := "move", desc := "()LBalloonStall$Move;" } : Jvm.MethodName)) ∈ lw_all := lw_g (lw_at lw_m2 87 rfl) rfl
theorem q430 : (Jvm.Cond.privateMethod ({ cls := "BalloonStall$FigureReader", name := "move", desc := "()LBalloonStall$Move;" } : Jvm.MethodName)) ∈ lw_tbl := lw_at lw_m2 88 rfl
theorem q431 : (Jvm.Cond.instanceMethod ({ cls := "BalloonStall$FigureReader", name := "move", desc := "()LBalloonStall$Move;" } : Jvm.MethodName)) ∈ lw_all := lw_g (lw_at lw_m2 89 rfl) rfl
theorem q432 : (Jvm.Cond.code ({ cls := "BalloonStall$FigureReader", name := "move", desc := "()LBalloonStall$Move;" } : Jvm.MethodName) prog_7_method_6_code (3 : Nat) (Option.some (Jvm.ClassFile.FieldType.object "BalloonStall$Move"))) ∈ lw_all := lw_g (lw_at lw_m2 90 rfl) rfl
theorem q433 : (Jvm.Cond.methodLink "BalloonStall$FigureReader" (59 : Nat) ({ cls := "BalloonStall$FigureReader", name := "isMove", desc := "(I)Z" } : Jvm.MethodName)) ∈ lw_all := lw_g (lw_at lw_m2 91 rfl) rfl
theorem q434 : (Jvm.Cond.privateMethod ({ cls := "BalloonStall$FigureReader", name := "isMove", desc := "(I)Z" } : Jvm.MethodName)) ∈ lw_tbl := lw_at lw_m2 92 rfl
theorem q435 : (Jvm.Cond.instanceMethod ({ cls := "BalloonStall$FigureReader", name := "isMove", desc := "(I)Z" } : Jvm.MethodName)) ∈ lw_all := lw_g (lw_at lw_m2 93 rfl) rfl
theorem q436 : (Jvm.Cond.code ({ cls := "BalloonStall$FigureReader", name := "isMove", desc := "(I)Z" } : Jvm.MethodName) prog_7_method_5_code (2 : Nat) (Option.some Jvm.ClassFile.FieldType.boolean)) ∈ lw_all := lw_g (lw_at lw_m2 94 rfl) rfl
theorem q437 : (Jvm.Cond.classLink "BalloonStall$FigureReader" (37 : Nat) "BalloonStall$Wrong") ∈ lw_all := lw_g (lw_at lw_m2 95 rfl) rfl
theorem q438 : (Jvm.Cond.methodLink "BalloonStall$FigureReader" (42 : Nat) ({ cls := "BalloonStall$Wrong", name := "<init>", desc := "(I)V" } : Jvm.MethodName)) ∈ lw_all := lw_g (lw_at lw_m2 96 rfl) rfl
theorem q439 : (Jvm.Cond.classLink "BalloonStall$FigureReader" (63 : Nat) "BalloonStall$Name") ∈ lw_all := lw_g (lw_at lw_m2 97 rfl) rfl
theorem q441 : (Jvm.Cond.methodLink "BalloonStall$FigureReader" (65 : Nat) ({ cls := "BalloonStall$Name", name := "<init>", desc := "(I)V" } : Jvm.MethodName)) ∈ lw_all := lw_g (lw_at lw_m2 99 rfl) rfl
theorem q449 : (Jvm.Cond.fieldLinkNest "BalloonStall$FigureReader" (31 : Nat) "BalloonStall$Move" "next" "LBalloonStall$Move;" "BalloonStall") ∈ lw_tbl := lw_at lw_m2 107 rfl
theorem q456 : (Jvm.Cond.classLink "BalloonStall$FigureReader" (66 : Nat) "BalloonStall$Blow") ∈ lw_all := lw_g (lw_at lw_m2 114 rfl) rfl
theorem q458 : (Jvm.Cond.methodLink "BalloonStall$FigureReader" (68 : Nat) ({ cls := "BalloonStall$FigureReader", name := "bubble", desc := "()I" } : Jvm.MethodName)) ∈ lw_all := lw_g (lw_at lw_m2 116 rfl) rfl
theorem q459 : (Jvm.Cond.privateMethod ({ cls := "BalloonStall$FigureReader", name := "bubble", desc := "()I" } : Jvm.MethodName)) ∈ lw_tbl := lw_at lw_m2 117 rfl
theorem q460 : (Jvm.Cond.instanceMethod ({ cls := "BalloonStall$FigureReader", name := "bubble", desc := "()I" } : Jvm.MethodName)) ∈ lw_all := lw_g (lw_at lw_m2 118 rfl) rfl
theorem q461 : (Jvm.Cond.code ({ cls := "BalloonStall$FigureReader", name := "bubble", desc := "()I" } : Jvm.MethodName) prog_7_method_7_code (2 : Nat) (Option.some Jvm.ClassFile.FieldType.int)) ∈ lw_all := lw_g (lw_at lw_m2 119 rfl) rfl
theorem q462 : (Jvm.Cond.methodLink "BalloonStall$FigureReader" (87 : Nat) ({ cls := "BalloonStall$FigureReader", name := "isDigit", desc := "()Z" } : Jvm.MethodName)) ∈ lw_all := lw_g (lw_at lw_m2 120 rfl) rfl
theorem q463 : (Jvm.Cond.sameMethod "BalloonStall$FigureReader" "BalloonStall$Reader" "isDigit" "()Z") ∈ lw_all := lw_g (lw_at lw_m2 121 rfl) rfl
theorem q465 : (Jvm.Cond.selects "BalloonStall$FigureReader" ({ cls := "BalloonStall$FigureReader", name := "isDigit", desc := "()Z" } : Jvm.MethodName) ({ cls := "BalloonStall$Reader", name := "isDigit", desc := "()Z" } : Jvm.MethodName)) ∈ lw_all := lw_g (lw_at lw_m2 123 rfl) rfl
theorem q468 : (Jvm.Cond.constantLong "BalloonStall$FigureReader" (91 : Nat) (30 : Int64)) ∈ lw_all := lw_g (lw_at lw_m2 126 rfl) rfl
theorem q469 : (Jvm.Cond.methodLinkNest "BalloonStall$FigureReader" (93 : Nat) ({ cls := "BalloonStall", name := "isIn", desc := "(JJJ)Z" } : Jvm.MethodName) "BalloonStall") ∈ lw_tbl := lw_at lw_m2 127 rfl
theorem q470 : (Jvm.Cond.methodLink "BalloonStall$FigureReader" (71 : Nat) ({ cls := "BalloonStall$Blow", name := "<init>", desc := "(I)V" } : Jvm.MethodName)) ∈ lw_all := lw_g (lw_at lw_m2 128 rfl) rfl
theorem q479 : (Jvm.Cond.methodLink "BalloonStall$FigureReader" (72 : Nat) ({ cls := "BalloonStall$FigureReader", name := "goIn", desc := "()V" } : Jvm.MethodName)) ∈ lw_all := lw_g (lw_at lw_m2 137 rfl) rfl
theorem q480 : (Jvm.Cond.sameMethod "BalloonStall$FigureReader" "BalloonStall$Reader" "goIn" "()V") ∈ lw_all := lw_g (lw_at lw_m2 138 rfl) rfl
theorem q482 : (Jvm.Cond.selects "BalloonStall$FigureReader" ({ cls := "BalloonStall$FigureReader", name := "goIn", desc := "()V" } : Jvm.MethodName) ({ cls := "BalloonStall$Reader", name := "goIn", desc := "()V" } : Jvm.MethodName)) ∈ lw_all := lw_g (lw_at lw_m2 140 rfl) rfl
theorem q486 : (Jvm.Cond.methodLink "BalloonStall$FigureReader" (76 : Nat) ({ cls := "BalloonStall$FigureReader", name := "goOut", desc := "(I)V" } : Jvm.MethodName)) ∈ lw_all := lw_g (lw_at lw_m2 144 rfl) rfl
theorem q487 : (Jvm.Cond.sameMethod "BalloonStall$FigureReader" "BalloonStall$Reader" "goOut" "(I)V") ∈ lw_all := lw_g (lw_at lw_m2 145 rfl) rfl
theorem q489 : (Jvm.Cond.selects "BalloonStall$FigureReader" ({ cls := "BalloonStall$FigureReader", name := "goOut", desc := "(I)V" } : Jvm.MethodName) ({ cls := "BalloonStall$Reader", name := "goOut", desc := "(I)V" } : Jvm.MethodName)) ∈ lw_all := lw_g (lw_at lw_m2 147 rfl) rfl
theorem q493 : (Jvm.Cond.classLink "BalloonStall$FigureReader" (79 : Nat) "BalloonStall$Ring") ∈ lw_all := lw_g (lw_at lw_m2 151 rfl) rfl
theorem q495 : (Jvm.Cond.methodLink "BalloonStall$FigureReader" (81 : Nat) ({ cls := "BalloonStall$Ring", name := "<init>", desc := "(LBalloonStall$Move;)V" } : Jvm.MethodName)) ∈ lw_all := lw_g (lw_at lw_m2 153 rfl) rfl
theorem q504 : (Jvm.Cond.methodLink "BalloonStall$FigureReader" (53 : Nat) ({ cls := "BalloonStall$Fresh", name := "<init>", desc := "(ILBalloonStall$Move;)V" } : Jvm.MethodName)) ∈ lw_all := lw_g (lw_at lw_m2 162 rfl) rfl
theorem q1886 : (Jvm.Cond.selects "BalloonStall$FigureReader" ({ cls := "BalloonStall$Reader", name := "take", desc := "(Z)I" } : Jvm.MethodName) ({ cls := "BalloonStall$Reader", name := "take", desc := "(Z)I" } : Jvm.MethodName)) ∈ lw_all := lw_g (lw_at lw_m8 104 rfl) rfl
theorem q1889 : (Jvm.Cond.selects "BalloonStall$FigureReader" ({ cls := "BalloonStall$Reader", name := "look", desc := "()I" } : Jvm.MethodName) ({ cls := "BalloonStall$Reader", name := "look", desc := "()I" } : Jvm.MethodName)) ∈ lw_all := lw_g (lw_at lw_m8 107 rfl) rfl
theorem q1895 : (Jvm.Cond.castable "BalloonStall$FigureReader" "java/lang/Object") ∈ lw_tbl := lw_at lw_m8 113 rfl
theorem in_X6 : ∀ w ∈ wsX60, w ∈ lw_all := lw_in wsX60 [321, 323, 325, 315, 317, 319] (by decide +kernel) (by decide +kernel)
/-! BalloonStall$Wrong -/
set_option maxRecDepth 100000
def RX7 : String := "BalloonStall$Wrong"
def TX7 : u_T := fun k => match k with
  | 0 => ("java/lang/Throwable", "cause", "Ljava/lang/Throwable;", false)
  | 1 => ("java/lang/Throwable", "stackTrace", "[Ljava/lang/StackTraceElement;", false)
  | 2 => ("java/lang/Throwable", "suppressedExceptions", "Ljava/util/List;", false)
  | 3 => ("java/lang/Throwable", "detailMessage", "Ljava/lang/String;", false)
  | 4 => ("java/lang/Throwable", "backtrace", "Ljava/lang/Object;", false)
  | 5 => ("java/lang/Throwable", "depth", "I", false)
  | _ => ("BalloonStall$Wrong", "at", "I", true)
def tyX7 : Nat → FieldType := fun k => match k with
  | 0 => .object "java/lang/Throwable"
  | 1 => .array (.object "java/lang/StackTraceElement")
  | 2 => .object "java/util/List"
  | 3 => .object "java/lang/String"
  | 4 => .object "java/lang/Object"
  | 5 => .int
  | _ => .int
abbrev wsX70 : List Cond := u_ws RX7 TX7 7
theorem nmX7 : ∀ a, a < 7 → ∀ b, b < 7 → a ≠ b → (TX7 a).2.1 ≠ (TX7 b).2.1 := by decide +kernel
theorem tyX7_ok : ∀ k, k < 7 → parseFieldDescriptor (TX7 k).2.2.1 = some (tyX7 k) := by decide +kernel
abbrev cX7_init : ByteArray := prog_24_method_1_code
def yX7_init : MethodName := ⟨RX7, "<init>", "(I)V"⟩
def dkwX7_init_0 : List UInt8 := [42, 1, 1, 3, 3, 183, 0, 1, 42, 27, 181, 0, 7, 177]
abbrev dktX7_init_0 : List UInt8 := dkwX7_init_0 ++ []
theorem dksX7_init_0 : cX7_init.data.toList.drop 0 = dktX7_init_0 := by decide +kernel
theorem dX7_init_0 : decode cX7_init 0 = .ok (.aload_n 0, 1) := dk_42 (dk_at dksX7_init_0 0 rfl rfl)
theorem dX7_init_1 : decode cX7_init 1 = .ok (.aconst_null, 1) := dk_1 (dk_at dksX7_init_0 1 rfl rfl)
theorem dX7_init_2 : decode cX7_init 2 = .ok (.aconst_null, 1) := dk_1 (dk_at dksX7_init_0 2 rfl rfl)
theorem dX7_init_3 : decode cX7_init 3 = .ok (.iconst 0, 1) := dk_3 (dk_at dksX7_init_0 3 rfl rfl)
theorem dX7_init_4 : decode cX7_init 4 = .ok (.iconst 0, 1) := dk_3 (dk_at dksX7_init_0 4 rfl rfl)
theorem dX7_init_5 : decode cX7_init 5 = .ok (.invokespecial 1, 3) := dk_183 0 1 (dk_at dksX7_init_0 5 rfl rfl)
theorem dX7_init_8 : decode cX7_init 8 = .ok (.aload_n 0, 1) := dk_42 (dk_at dksX7_init_0 8 rfl rfl)
theorem dX7_init_9 : decode cX7_init 9 = .ok (.iload_n 1, 1) := dk_27 (dk_at dksX7_init_0 9 rfl rfl)
theorem dX7_init_10 : decode cX7_init 10 = .ok (.putfield 7, 3) := dk_181 0 7 (dk_at dksX7_init_0 10 rfl rfl)
theorem dX7_init_13 : decode cX7_init 13 = .ok (.return_, 1) := dk_177 (dk_at dksX7_init_0 13 rfl rfl)
theorem q112 : (Jvm.Cond.initialized "BalloonStall$Wrong") ∈ lw_all := lw_g (lw_at lw_m1 10 rfl) rfl
theorem q355 : (Jvm.Cond.instantiable "BalloonStall$Wrong" (7 : Nat)) ∈ lw_all := lw_g (lw_at lw_m2 13 rfl) rfl
theorem q356 : (Jvm.Cond.castable "BalloonStall$Wrong" "BalloonStall$Wrong") ∈ lw_tbl := lw_at lw_m2 14 rfl
theorem q363 : (Jvm.Cond.selects "BalloonStall$Wrong" ({ cls := "java/lang/Throwable", name := "fillInStackTrace", desc := "(I)Ljava/lang/Throwable;" } : Jvm.MethodName) ({ cls := "java/lang/Throwable", name := "fillInStackTrace", desc := "(I)Ljava/lang/Throwable;" } : Jvm.MethodName)) ∈ lw_all := lw_g (lw_at lw_m2 21 rfl) rfl
theorem q364 : (Jvm.Cond.selects "BalloonStall$Wrong" ({ cls := "java/lang/Throwable", name := "fillInStackTrace", desc := "()Ljava/lang/Throwable;" } : Jvm.MethodName) ({ cls := "java/lang/Throwable", name := "fillInStackTrace", desc := "()Ljava/lang/Throwable;" } : Jvm.MethodName)) ∈ lw_all := lw_g (lw_at lw_m2 22 rfl) rfl
theorem q365 : (Jvm.Cond.lays "BalloonStall$Wrong" "java/lang/Throwable" "cause" "Ljava/lang/Throwable;") ∈ lw_all := lw_g (lw_at lw_m2 23 rfl) rfl
theorem q367 : (Jvm.Cond.lays "BalloonStall$Wrong" "java/lang/Throwable" "stackTrace" "[Ljava/lang/StackTraceElement;") ∈ lw_all := lw_g (lw_at lw_m2 25 rfl) rfl
theorem q369 : (Jvm.Cond.lays "BalloonStall$Wrong" "java/lang/Throwable" "suppressedExceptions" "Ljava/util/List;") ∈ lw_all := lw_g (lw_at lw_m2 27 rfl) rfl
theorem q371 : (Jvm.Cond.lays "BalloonStall$Wrong" "java/lang/Throwable" "detailMessage" "Ljava/lang/String;") ∈ lw_all := lw_g (lw_at lw_m2 29 rfl) rfl
theorem q373 : (Jvm.Cond.lays "BalloonStall$Wrong" "java/lang/Throwable" "backtrace" "Ljava/lang/Object;") ∈ lw_all := lw_g (lw_at lw_m2 31 rfl) rfl
theorem q395 : (Jvm.Cond.instanceMethod ({ cls := "BalloonStall$Wrong", name := "<init>", desc := "(I)V" } : Jvm.MethodName)) ∈ lw_all := lw_g (lw_at lw_m2 53 rfl) rfl
theorem q396 : (Jvm.Cond.code ({ cls := "BalloonStall$Wrong", name := "<init>", desc := "(I)V" } : Jvm.MethodName) prog_24_method_1_code (2 : Nat) (Option.none : Option Jvm.ClassFile.FieldType)) ∈ lw_all := lw_g (lw_at lw_m2 54 rfl) rfl
theorem q397 : (Jvm.Cond.methodLink "BalloonStall$Wrong" (1 : Nat) ({ cls := "java/lang/RuntimeException", name := "<init>", desc := "(Ljava/lang/String;Ljava/lang/Throwable;ZZ)V" } : Jvm.MethodName)) ∈ lw_all := lw_g (lw_at lw_m2 55 rfl) rfl
theorem q406 : (Jvm.Cond.fieldLink "BalloonStall$Wrong" (7 : Nat) "BalloonStall$Wrong" "at" "I") ∈ lw_all := lw_g (lw_at lw_m2 64 rfl) rfl
theorem q413 : (Jvm.Cond.laysFinal "BalloonStall$Wrong" "BalloonStall$Wrong" "at" "I") ∈ lw_all := lw_g (lw_at lw_m2 71 rfl) rfl
theorem q414 : (Jvm.Cond.soleField "BalloonStall$Wrong" "at") ∈ lw_all := lw_g (lw_at lw_m2 72 rfl) rfl
theorem q419 : (Jvm.Cond.lays "BalloonStall$Wrong" "java/lang/Throwable" "depth" "I") ∈ lw_all := lw_g (lw_at lw_m2 77 rfl) rfl
theorem q422 : (Jvm.Cond.superclass "BalloonStall$Wrong" "java/lang/RuntimeException") ∈ lw_all := lw_g (lw_at lw_m2 80 rfl) rfl
theorem q1896 : (Jvm.Cond.castable "BalloonStall$Wrong" "java/lang/Object") ∈ lw_tbl := lw_at lw_m8 114 rfl
theorem in_X7 : ∀ w ∈ wsX70, w ∈ lw_all := lw_in wsX70 [365, 367, 369, 371, 373, 419, 413] (by decide +kernel) (by decide +kernel)
/-! BalloonStall$Move -/
set_option maxRecDepth 100000
def RX8 : String := "BalloonStall$Move"
abbrev cX8_init : ByteArray := prog_13_method_1_code
def yX8_init : MethodName := ⟨RX8, "<init>", "()V"⟩
theorem dX8_init_0 : decode cX8_init 0 = .ok (.aload_n 0, 1) := by decide +kernel
theorem dX8_init_1 : decode cX8_init 1 = .ok (.invokespecial 1, 3) := by decide +kernel
theorem dX8_init_4 : decode cX8_init 4 = .ok (.return_, 1) := by decide +kernel
abbrev cX8_all : ByteArray := prog_13_method_3_code
def yX8_all : MethodName := ⟨RX8, "all", "(LBalloonStall$Hand;)V"⟩
def dkwX8_all_0 : List UInt8 := [42, 77, 44, 198, 0, 16, 44, 43, 182, 0, 7, 44, 180, 0, 13, 77, 167, 255, 242, 177]
abbrev dktX8_all_0 : List UInt8 := dkwX8_all_0 ++ []
theorem dksX8_all_0 : cX8_all.data.toList.drop 0 = dktX8_all_0 := by decide +kernel
theorem dX8_all_0 : decode cX8_all 0 = .ok (.aload_n 0, 1) := dk_42 (dk_at dksX8_all_0 0 rfl rfl)
theorem dX8_all_1 : decode cX8_all 1 = .ok (.astore_n 2, 1) := dk_77 (dk_at dksX8_all_0 1 rfl rfl)
theorem dX8_all_2 : decode cX8_all 2 = .ok (.aload_n 2, 1) := dk_44 (dk_at dksX8_all_0 2 rfl rfl)
theorem dX8_all_3 : decode cX8_all 3 = .ok (.ifnull 16, 3) := dk_198 0 16 (dk_at dksX8_all_0 3 rfl rfl)
theorem dX8_all_6 : decode cX8_all 6 = .ok (.aload_n 2, 1) := dk_44 (dk_at dksX8_all_0 6 rfl rfl)
theorem dX8_all_7 : decode cX8_all 7 = .ok (.aload_n 1, 1) := dk_43 (dk_at dksX8_all_0 7 rfl rfl)
theorem dX8_all_8 : decode cX8_all 8 = .ok (.invokevirtual 7, 3) := dk_182 0 7 (dk_at dksX8_all_0 8 rfl rfl)
theorem dX8_all_11 : decode cX8_all 11 = .ok (.aload_n 2, 1) := dk_44 (dk_at dksX8_all_0 11 rfl rfl)
theorem dX8_all_12 : decode cX8_all 12 = .ok (.getfield 13, 3) := dk_180 0 13 (dk_at dksX8_all_0 12 rfl rfl)
theorem dX8_all_15 : decode cX8_all 15 = .ok (.astore_n 2, 1) := dk_77 (dk_at dksX8_all_0 15 rfl rfl)
theorem dX8_all_16 : decode cX8_all 16 = .ok (.goto (-14), 3) := dk_167 255 242 (dk_at dksX8_all_0 16 rfl rfl)
theorem dX8_all_19 : decode cX8_all 19 = .ok (.return_, 1) := dk_177 (dk_at dksX8_all_0 19 rfl rfl)
theorem q113 : (Jvm.Cond.initialized "BalloonStall$Move") ∈ lw_all := lw_g (lw_at lw_m1 11 rfl) rfl
theorem q445 : (Jvm.Cond.instanceMethod ({ cls := "BalloonStall$Move", name := "<init>", desc := "()V" } : Jvm.MethodName)) ∈ lw_all := lw_g (lw_at lw_m2 103 rfl) rfl
theorem q446 : (Jvm.Cond.code ({ cls := "BalloonStall$Move", name := "<init>", desc := "()V" } : Jvm.MethodName) prog_13_method_1_code (1 : Nat) (Option.none : Option Jvm.ClassFile.FieldType)) ∈ lw_all := lw_g (lw_at lw_m2 104 rfl) rfl
theorem q447 : (Jvm.Cond.methodLink "BalloonStall$Move" (1 : Nat) ({ cls := "java/lang/Object", name := "<init>", desc := "()V" } : Jvm.MethodName)) ∈ lw_all := lw_g (lw_at lw_m2 105 rfl) rfl
theorem q450 : (Jvm.Cond.fieldLink "BalloonStall$Move" (13 : Nat) "BalloonStall$Move" "next" "LBalloonStall$Move;") ∈ lw_all := lw_g (lw_at lw_m2 108 rfl) rfl
theorem q454 : (Jvm.Cond.soleField "BalloonStall$Move" "next") ∈ lw_all := lw_g (lw_at lw_m2 112 rfl) rfl
theorem q756 : (Jvm.Cond.instanceMethod ({ cls := "BalloonStall$Move", name := "all", desc := "(LBalloonStall$Hand;)V" } : Jvm.MethodName)) ∈ lw_all := lw_g (lw_at lw_m3 174 rfl) rfl
theorem q757 : (Jvm.Cond.sameMethod "BalloonStall$Move" "BalloonStall$Move" "all" "(LBalloonStall$Hand;)V") ∈ lw_all := lw_g (lw_at lw_m3 175 rfl) rfl
theorem q762 : (Jvm.Cond.code ({ cls := "BalloonStall$Move", name := "all", desc := "(LBalloonStall$Hand;)V" } : Jvm.MethodName) prog_13_method_3_code (3 : Nat) (Option.none : Option Jvm.ClassFile.FieldType)) ∈ lw_all := lw_g (lw_at lw_m3 180 rfl) rfl
theorem q763 : (Jvm.Cond.methodLink "BalloonStall$Move" (7 : Nat) ({ cls := "BalloonStall$Move", name := "made", desc := "(LBalloonStall$Hand;)V" } : Jvm.MethodName)) ∈ lw_all := lw_g (lw_at lw_m3 181 rfl) rfl
theorem q764 : (Jvm.Cond.declares ({ cls := "BalloonStall$Move", name := "made", desc := "(LBalloonStall$Hand;)V" } : Jvm.MethodName)) ∈ lw_tbl := lw_at lw_m3 182 rfl
theorem q765 : (Jvm.Cond.sameMethod "BalloonStall$Move" "BalloonStall$Move" "made" "(LBalloonStall$Hand;)V") ∈ lw_all := lw_g (lw_at lw_m3 183 rfl) rfl
/-! BalloonStall$Fresh -/
set_option maxRecDepth 100000
def RX9 : String := "BalloonStall$Fresh"
def TX9 : u_T := fun k => match k with
  | 0 => ("BalloonStall$Move", "next", "LBalloonStall$Move;", false)
  | 1 => ("BalloonStall$Fresh", "sort", "I", true)
  | _ => ("BalloonStall$Fresh", "first", "LBalloonStall$Move;", true)
def tyX9 : Nat → FieldType := fun k => match k with
  | 0 => .object "BalloonStall$Move"
  | 1 => .int
  | _ => .object "BalloonStall$Move"
abbrev wsX90 : List Cond := u_ws RX9 TX9 3
theorem nmX9 : ∀ a, a < 3 → ∀ b, b < 3 → a ≠ b → (TX9 a).2.1 ≠ (TX9 b).2.1 := by decide +kernel
theorem tyX9_ok : ∀ k, k < 3 → parseFieldDescriptor (TX9 k).2.2.1 = some (tyX9 k) := by decide +kernel
abbrev cX9_init : ByteArray := prog_8_method_1_code
def yX9_init : MethodName := ⟨RX9, "<init>", "(ILBalloonStall$Move;)V"⟩
def dkwX9_init_0 : List UInt8 := [42, 183, 0, 1, 42, 27, 181, 0, 7, 42, 44, 181, 0, 13, 177]
abbrev dktX9_init_0 : List UInt8 := dkwX9_init_0 ++ []
theorem dksX9_init_0 : cX9_init.data.toList.drop 0 = dktX9_init_0 := by decide +kernel
theorem dX9_init_0 : decode cX9_init 0 = .ok (.aload_n 0, 1) := dk_42 (dk_at dksX9_init_0 0 rfl rfl)
theorem dX9_init_1 : decode cX9_init 1 = .ok (.invokespecial 1, 3) := dk_183 0 1 (dk_at dksX9_init_0 1 rfl rfl)
theorem dX9_init_4 : decode cX9_init 4 = .ok (.aload_n 0, 1) := dk_42 (dk_at dksX9_init_0 4 rfl rfl)
theorem dX9_init_5 : decode cX9_init 5 = .ok (.iload_n 1, 1) := dk_27 (dk_at dksX9_init_0 5 rfl rfl)
theorem dX9_init_6 : decode cX9_init 6 = .ok (.putfield 7, 3) := dk_181 0 7 (dk_at dksX9_init_0 6 rfl rfl)
theorem dX9_init_9 : decode cX9_init 9 = .ok (.aload_n 0, 1) := dk_42 (dk_at dksX9_init_0 9 rfl rfl)
theorem dX9_init_10 : decode cX9_init 10 = .ok (.aload_n 2, 1) := dk_44 (dk_at dksX9_init_0 10 rfl rfl)
theorem dX9_init_11 : decode cX9_init 11 = .ok (.putfield 13, 3) := dk_181 0 13 (dk_at dksX9_init_0 11 rfl rfl)
theorem dX9_init_14 : decode cX9_init 14 = .ok (.return_, 1) := dk_177 (dk_at dksX9_init_0 14 rfl rfl)
abbrev cX9_made : ByteArray := prog_8_method_2_code
def yX9_made : MethodName := ⟨RX9, "made", "(LBalloonStall$Hand;)V"⟩
def dkwX9_made_0 : List UInt8 := [43, 42, 180, 0, 7, 182, 0, 17, 42, 180, 0, 13, 43, 182, 0, 23, 177]
abbrev dktX9_made_0 : List UInt8 := dkwX9_made_0 ++ []
theorem dksX9_made_0 : cX9_made.data.toList.drop 0 = dktX9_made_0 := by decide +kernel
theorem dX9_made_0 : decode cX9_made 0 = .ok (.aload_n 1, 1) := dk_43 (dk_at dksX9_made_0 0 rfl rfl)
theorem dX9_made_1 : decode cX9_made 1 = .ok (.aload_n 0, 1) := dk_42 (dk_at dksX9_made_0 1 rfl rfl)
theorem dX9_made_2 : decode cX9_made 2 = .ok (.getfield 7, 3) := dk_180 0 7 (dk_at dksX9_made_0 2 rfl rfl)
theorem dX9_made_5 : decode cX9_made 5 = .ok (.invokevirtual 17, 3) := dk_182 0 17 (dk_at dksX9_made_0 5 rfl rfl)
theorem dX9_made_8 : decode cX9_made 8 = .ok (.aload_n 0, 1) := dk_42 (dk_at dksX9_made_0 8 rfl rfl)
theorem dX9_made_9 : decode cX9_made 9 = .ok (.getfield 13, 3) := dk_180 0 13 (dk_at dksX9_made_0 9 rfl rfl)
theorem dX9_made_12 : decode cX9_made 12 = .ok (.aload_n 1, 1) := dk_43 (dk_at dksX9_made_0 12 rfl rfl)
theorem dX9_made_13 : decode cX9_made 13 = .ok (.invokevirtual 23, 3) := dk_182 0 23 (dk_at dksX9_made_0 13 rfl rfl)
theorem dX9_made_16 : decode cX9_made 16 = .ok (.return_, 1) := dk_177 (dk_at dksX9_made_0 16 rfl rfl)
theorem q114 : (Jvm.Cond.initialized "BalloonStall$Fresh") ∈ lw_all := lw_g (lw_at lw_m1 12 rfl) rfl
theorem q424 : (Jvm.Cond.instantiable "BalloonStall$Fresh" (3 : Nat)) ∈ lw_all := lw_g (lw_at lw_m2 82 rfl) rfl
theorem q505 : (Jvm.Cond.instanceMethod ({ cls := "BalloonStall$Fresh", name := "<init>", desc := "(ILBalloonStall$Move;)V" } : Jvm.MethodName)) ∈ lw_all := lw_g (lw_at lw_m2 163 rfl) rfl
theorem q506 : (Jvm.Cond.code ({ cls := "BalloonStall$Fresh", name := "<init>", desc := "(ILBalloonStall$Move;)V" } : Jvm.MethodName) prog_8_method_1_code (3 : Nat) (Option.none : Option Jvm.ClassFile.FieldType)) ∈ lw_all := lw_g (lw_at lw_m2 164 rfl) rfl
theorem q507 : (Jvm.Cond.methodLinkNest "BalloonStall$Fresh" (1 : Nat) ({ cls := "BalloonStall$Move", name := "<init>", desc := "()V" } : Jvm.MethodName) "BalloonStall") ∈ lw_tbl := lw_at lw_m2 165 rfl
theorem q508 : (Jvm.Cond.fieldLink "BalloonStall$Fresh" (7 : Nat) "BalloonStall$Fresh" "sort" "I") ∈ lw_all := lw_g (lw_at lw_m2 166 rfl) rfl
theorem q509 : (Jvm.Cond.fieldLink "BalloonStall$Fresh" (13 : Nat) "BalloonStall$Fresh" "first" "LBalloonStall$Move;") ∈ lw_all := lw_g (lw_at lw_m2 167 rfl) rfl
theorem q510 : (Jvm.Cond.laysFinal "BalloonStall$Fresh" "BalloonStall$Fresh" "sort" "I") ∈ lw_all := lw_g (lw_at lw_m2 168 rfl) rfl
theorem q511 : (Jvm.Cond.soleField "BalloonStall$Fresh" "sort") ∈ lw_all := lw_g (lw_at lw_m2 169 rfl) rfl
theorem q512 : (Jvm.Cond.laysFinal "BalloonStall$Fresh" "BalloonStall$Fresh" "first" "LBalloonStall$Move;") ∈ lw_all := lw_g (lw_at lw_m2 170 rfl) rfl
theorem q513 : (Jvm.Cond.soleField "BalloonStall$Fresh" "first") ∈ lw_all := lw_g (lw_at lw_m2 171 rfl) rfl
theorem q514 : (Jvm.Cond.lays "BalloonStall$Fresh" "BalloonStall$Move" "next" "LBalloonStall$Move;") ∈ lw_all := lw_g (lw_at lw_m2 172 rfl) rfl
theorem q515 : (Jvm.Cond.superclass "BalloonStall$Fresh" "BalloonStall$Move") ∈ lw_all := lw_g (lw_at lw_m2 173 rfl) rfl
theorem q759 : (Jvm.Cond.selects "BalloonStall$Fresh" ({ cls := "BalloonStall$Move", name := "all", desc := "(LBalloonStall$Hand;)V" } : Jvm.MethodName) ({ cls := "BalloonStall$Move", name := "all", desc := "(LBalloonStall$Hand;)V" } : Jvm.MethodName)) ∈ lw_all := lw_g (lw_at lw_m3 177 rfl) rfl
theorem q796 : (Jvm.Cond.selects "BalloonStall$Fresh" ({ cls := "BalloonStall$Move", name := "made", desc := "(LBalloonStall$Hand;)V" } : Jvm.MethodName) ({ cls := "BalloonStall$Fresh", name := "made", desc := "(LBalloonStall$Hand;)V" } : Jvm.MethodName)) ∈ lw_all := lw_g (lw_at lw_m3 214 rfl) rfl
theorem q797 : (Jvm.Cond.instanceMethod ({ cls := "BalloonStall$Fresh", name := "made", desc := "(LBalloonStall$Hand;)V" } : Jvm.MethodName)) ∈ lw_all := lw_g (lw_at lw_m3 215 rfl) rfl
theorem q798 : (Jvm.Cond.code ({ cls := "BalloonStall$Fresh", name := "made", desc := "(LBalloonStall$Hand;)V" } : Jvm.MethodName) prog_8_method_2_code (2 : Nat) (Option.none : Option Jvm.ClassFile.FieldType)) ∈ lw_all := lw_g (lw_at lw_m3 216 rfl) rfl
theorem q799 : (Jvm.Cond.methodLink "BalloonStall$Fresh" (17 : Nat) ({ cls := "BalloonStall$Hand", name := "begins", desc := "(I)V" } : Jvm.MethodName)) ∈ lw_all := lw_g (lw_at lw_m3 217 rfl) rfl
theorem q803 : (Jvm.Cond.methodLink "BalloonStall$Fresh" (23 : Nat) ({ cls := "BalloonStall$Move", name := "all", desc := "(LBalloonStall$Hand;)V" } : Jvm.MethodName)) ∈ lw_all := lw_g (lw_at lw_m3 221 rfl) rfl
theorem q1897 : (Jvm.Cond.castable "BalloonStall$Fresh" "java/lang/Object") ∈ lw_tbl := lw_at lw_m8 115 rfl
theorem in_X9 : ∀ w ∈ wsX90, w ∈ lw_all := lw_in wsX90 [514, 510, 512] (by decide +kernel) (by decide +kernel)
/-! BalloonStall$Name -/
set_option maxRecDepth 100000
def RX10 : String := "BalloonStall$Name"
def TX10 : u_T := fun k => match k with
  | 0 => ("BalloonStall$Move", "next", "LBalloonStall$Move;", false)
  | _ => ("BalloonStall$Name", "which", "I", true)
def tyX10 : Nat → FieldType := fun k => match k with
  | 0 => .object "BalloonStall$Move"
  | _ => .int
abbrev wsX100 : List Cond := u_ws RX10 TX10 2
theorem nmX10 : ∀ a, a < 2 → ∀ b, b < 2 → a ≠ b → (TX10 a).2.1 ≠ (TX10 b).2.1 := by decide +kernel
theorem tyX10_ok : ∀ k, k < 2 → parseFieldDescriptor (TX10 k).2.2.1 = some (tyX10 k) := by decide +kernel
abbrev cX10_init : ByteArray := prog_14_method_1_code
def yX10_init : MethodName := ⟨RX10, "<init>", "(I)V"⟩
def dkwX10_init_0 : List UInt8 := [42, 183, 0, 3, 42, 27, 181, 0, 9, 177]
abbrev dktX10_init_0 : List UInt8 := dkwX10_init_0 ++ []
theorem dksX10_init_0 : cX10_init.data.toList.drop 0 = dktX10_init_0 := by decide +kernel
theorem dX10_init_0 : decode cX10_init 0 = .ok (.aload_n 0, 1) := dk_42 (dk_at dksX10_init_0 0 rfl rfl)
theorem dX10_init_1 : decode cX10_init 1 = .ok (.invokespecial 3, 3) := dk_183 0 3 (dk_at dksX10_init_0 1 rfl rfl)
theorem dX10_init_4 : decode cX10_init 4 = .ok (.aload_n 0, 1) := dk_42 (dk_at dksX10_init_0 4 rfl rfl)
theorem dX10_init_5 : decode cX10_init 5 = .ok (.iload_n 1, 1) := dk_27 (dk_at dksX10_init_0 5 rfl rfl)
theorem dX10_init_6 : decode cX10_init 6 = .ok (.putfield 9, 3) := dk_181 0 9 (dk_at dksX10_init_0 6 rfl rfl)
theorem dX10_init_9 : decode cX10_init 9 = .ok (.return_, 1) := dk_177 (dk_at dksX10_init_0 9 rfl rfl)
abbrev cX10_made : ByteArray := prog_14_method_2_code
def yX10_made : MethodName := ⟨RX10, "made", "(LBalloonStall$Hand;)V"⟩
def dkwX10_made_2 : List UInt8 := [177]
abbrev dktX10_made_2 : List UInt8 := dkwX10_made_2 ++ []
def dkwX10_made_1 : List UInt8 := [180, 0, 21, 79, 167, 0, 20, 43, 43, 180, 0, 15, 42, 180, 0, 9, 46, 43, 180, 0, 21, 182, 0, 24]
abbrev dktX10_made_1 : List UInt8 := dkwX10_made_1 ++ dktX10_made_2
def dkwX10_made_0 : List UInt8 := [43, 180, 0, 15, 42, 180, 0, 9, 46, 2, 160, 0, 19, 43, 180, 0, 15, 42, 180, 0, 9, 43]
abbrev dktX10_made_0 : List UInt8 := dkwX10_made_0 ++ dktX10_made_1
theorem dksX10_made_0 : cX10_made.data.toList.drop 0 = dktX10_made_0 := by decide +kernel
theorem dksX10_made_1 : cX10_made.data.toList.drop 22 = dktX10_made_1 := dk_seg dksX10_made_0 22 rfl rfl
theorem dksX10_made_2 : cX10_made.data.toList.drop 46 = dktX10_made_2 := dk_seg dksX10_made_1 24 rfl rfl
theorem dX10_made_0 : decode cX10_made 0 = .ok (.aload_n 1, 1) := dk_43 (dk_at dksX10_made_0 0 rfl rfl)
theorem dX10_made_1 : decode cX10_made 1 = .ok (.getfield 15, 3) := dk_180 0 15 (dk_at dksX10_made_0 1 rfl rfl)
theorem dX10_made_4 : decode cX10_made 4 = .ok (.aload_n 0, 1) := dk_42 (dk_at dksX10_made_0 4 rfl rfl)
theorem dX10_made_5 : decode cX10_made 5 = .ok (.getfield 9, 3) := dk_180 0 9 (dk_at dksX10_made_0 5 rfl rfl)
theorem dX10_made_8 : decode cX10_made 8 = .ok (.iaload, 1) := dk_46 (dk_at dksX10_made_0 8 rfl rfl)
theorem dX10_made_9 : decode cX10_made 9 = .ok (.iconst (-1), 1) := dk_2 (dk_at dksX10_made_0 9 rfl rfl)
theorem dX10_made_10 : decode cX10_made 10 = .ok (.if_icmp .ne 19, 3) := dk_160 0 19 (dk_at dksX10_made_0 10 rfl rfl)
theorem dX10_made_13 : decode cX10_made 13 = .ok (.aload_n 1, 1) := dk_43 (dk_at dksX10_made_0 13 rfl rfl)
theorem dX10_made_14 : decode cX10_made 14 = .ok (.getfield 15, 3) := dk_180 0 15 (dk_at dksX10_made_0 14 rfl rfl)
theorem dX10_made_17 : decode cX10_made 17 = .ok (.aload_n 0, 1) := dk_42 (dk_at dksX10_made_0 17 rfl rfl)
theorem dX10_made_18 : decode cX10_made 18 = .ok (.getfield 9, 3) := dk_180 0 9 (dk_at dksX10_made_0 18 rfl rfl)
theorem dX10_made_21 : decode cX10_made 21 = .ok (.aload_n 1, 1) := dk_43 (dk_at dksX10_made_0 21 rfl rfl)
theorem dX10_made_22 : decode cX10_made 22 = .ok (.getfield 21, 3) := dk_180 0 21 (dk_at dksX10_made_1 0 rfl rfl)
theorem dX10_made_25 : decode cX10_made 25 = .ok (.iastore, 1) := dk_79 (dk_at dksX10_made_1 3 rfl rfl)
theorem dX10_made_26 : decode cX10_made 26 = .ok (.goto 20, 3) := dk_167 0 20 (dk_at dksX10_made_1 4 rfl rfl)
theorem dX10_made_29 : decode cX10_made 29 = .ok (.aload_n 1, 1) := dk_43 (dk_at dksX10_made_1 7 rfl rfl)
theorem dX10_made_30 : decode cX10_made 30 = .ok (.aload_n 1, 1) := dk_43 (dk_at dksX10_made_1 8 rfl rfl)
theorem dX10_made_31 : decode cX10_made 31 = .ok (.getfield 15, 3) := dk_180 0 15 (dk_at dksX10_made_1 9 rfl rfl)
theorem dX10_made_34 : decode cX10_made 34 = .ok (.aload_n 0, 1) := dk_42 (dk_at dksX10_made_1 12 rfl rfl)
theorem dX10_made_35 : decode cX10_made 35 = .ok (.getfield 9, 3) := dk_180 0 9 (dk_at dksX10_made_1 13 rfl rfl)
theorem dX10_made_38 : decode cX10_made 38 = .ok (.iaload, 1) := dk_46 (dk_at dksX10_made_1 16 rfl rfl)
theorem dX10_made_39 : decode cX10_made 39 = .ok (.aload_n 1, 1) := dk_43 (dk_at dksX10_made_1 17 rfl rfl)
theorem dX10_made_40 : decode cX10_made 40 = .ok (.getfield 21, 3) := dk_180 0 21 (dk_at dksX10_made_1 18 rfl rfl)
theorem dX10_made_43 : decode cX10_made 43 = .ok (.invokevirtual 24, 3) := dk_182 0 24 (dk_at dksX10_made_1 21 rfl rfl)
theorem dX10_made_46 : decode cX10_made 46 = .ok (.return_, 1) := dk_177 (dk_at dksX10_made_2 0 rfl rfl)
theorem q115 : (Jvm.Cond.initialized "BalloonStall$Name") ∈ lw_all := lw_g (lw_at lw_m1 13 rfl) rfl
theorem q440 : (Jvm.Cond.instantiable "BalloonStall$Name" (2 : Nat)) ∈ lw_all := lw_g (lw_at lw_m2 98 rfl) rfl
theorem q442 : (Jvm.Cond.instanceMethod ({ cls := "BalloonStall$Name", name := "<init>", desc := "(I)V" } : Jvm.MethodName)) ∈ lw_all := lw_g (lw_at lw_m2 100 rfl) rfl
theorem q443 : (Jvm.Cond.code ({ cls := "BalloonStall$Name", name := "<init>", desc := "(I)V" } : Jvm.MethodName) prog_14_method_1_code (2 : Nat) (Option.none : Option Jvm.ClassFile.FieldType)) ∈ lw_all := lw_g (lw_at lw_m2 101 rfl) rfl
theorem q444 : (Jvm.Cond.methodLinkNest "BalloonStall$Name" (3 : Nat) ({ cls := "BalloonStall$Move", name := "<init>", desc := "()V" } : Jvm.MethodName) "BalloonStall") ∈ lw_tbl := lw_at lw_m2 102 rfl
theorem q448 : (Jvm.Cond.fieldLink "BalloonStall$Name" (9 : Nat) "BalloonStall$Name" "which" "I") ∈ lw_all := lw_g (lw_at lw_m2 106 rfl) rfl
theorem q451 : (Jvm.Cond.laysFinal "BalloonStall$Name" "BalloonStall$Name" "which" "I") ∈ lw_all := lw_g (lw_at lw_m2 109 rfl) rfl
theorem q452 : (Jvm.Cond.soleField "BalloonStall$Name" "which") ∈ lw_all := lw_g (lw_at lw_m2 110 rfl) rfl
theorem q453 : (Jvm.Cond.lays "BalloonStall$Name" "BalloonStall$Move" "next" "LBalloonStall$Move;") ∈ lw_all := lw_g (lw_at lw_m2 111 rfl) rfl
theorem q455 : (Jvm.Cond.superclass "BalloonStall$Name" "BalloonStall$Move") ∈ lw_all := lw_g (lw_at lw_m2 113 rfl) rfl
theorem q706 : (Jvm.Cond.fieldLinkNest "BalloonStall$Name" (15 : Nat) "BalloonStall$Hand" "named" "[I" "BalloonStall") ∈ lw_tbl := lw_at lw_m3 124 rfl
theorem q719 : (Jvm.Cond.fieldLinkNest "BalloonStall$Name" (21 : Nat) "BalloonStall$Hand" "at" "I" "BalloonStall") ∈ lw_tbl := lw_at lw_m3 137 rfl
theorem q760 : (Jvm.Cond.selects "BalloonStall$Name" ({ cls := "BalloonStall$Move", name := "all", desc := "(LBalloonStall$Hand;)V" } : Jvm.MethodName) ({ cls := "BalloonStall$Move", name := "all", desc := "(LBalloonStall$Hand;)V" } : Jvm.MethodName)) ∈ lw_all := lw_g (lw_at lw_m3 178 rfl) rfl
theorem q804 : (Jvm.Cond.selects "BalloonStall$Name" ({ cls := "BalloonStall$Move", name := "made", desc := "(LBalloonStall$Hand;)V" } : Jvm.MethodName) ({ cls := "BalloonStall$Name", name := "made", desc := "(LBalloonStall$Hand;)V" } : Jvm.MethodName)) ∈ lw_all := lw_g (lw_at lw_m3 222 rfl) rfl
theorem q805 : (Jvm.Cond.instanceMethod ({ cls := "BalloonStall$Name", name := "made", desc := "(LBalloonStall$Hand;)V" } : Jvm.MethodName)) ∈ lw_all := lw_g (lw_at lw_m3 223 rfl) rfl
theorem q806 : (Jvm.Cond.code ({ cls := "BalloonStall$Name", name := "made", desc := "(LBalloonStall$Hand;)V" } : Jvm.MethodName) prog_14_method_2_code (2 : Nat) (Option.none : Option Jvm.ClassFile.FieldType)) ∈ lw_all := lw_g (lw_at lw_m3 224 rfl) rfl
theorem q807 : (Jvm.Cond.methodLink "BalloonStall$Name" (24 : Nat) ({ cls := "BalloonStall$Hand", name := "joins", desc := "(II)V" } : Jvm.MethodName)) ∈ lw_all := lw_g (lw_at lw_m3 225 rfl) rfl
theorem q1898 : (Jvm.Cond.castable "BalloonStall$Name" "java/lang/Object") ∈ lw_tbl := lw_at lw_m8 116 rfl
theorem in_X10 : ∀ w ∈ wsX100, w ∈ lw_all := lw_in wsX100 [453, 451] (by decide +kernel) (by decide +kernel)
/-! BalloonStall$Blow -/
set_option maxRecDepth 100000
def RX11 : String := "BalloonStall$Blow"
def TX11 : u_T := fun k => match k with
  | 0 => ("BalloonStall$Move", "next", "LBalloonStall$Move;", false)
  | _ => ("BalloonStall$Blow", "length", "I", true)
def tyX11 : Nat → FieldType := fun k => match k with
  | 0 => .object "BalloonStall$Move"
  | _ => .int
abbrev wsX110 : List Cond := u_ws RX11 TX11 2
theorem nmX11 : ∀ a, a < 2 → ∀ b, b < 2 → a ≠ b → (TX11 a).2.1 ≠ (TX11 b).2.1 := by decide +kernel
theorem tyX11_ok : ∀ k, k < 2 → parseFieldDescriptor (TX11 k).2.2.1 = some (tyX11 k) := by decide +kernel
abbrev cX11_init : ByteArray := prog_2_method_1_code
def yX11_init : MethodName := ⟨RX11, "<init>", "(I)V"⟩
def dkwX11_init_0 : List UInt8 := [42, 183, 0, 1, 42, 27, 181, 0, 7, 177]
abbrev dktX11_init_0 : List UInt8 := dkwX11_init_0 ++ []
theorem dksX11_init_0 : cX11_init.data.toList.drop 0 = dktX11_init_0 := by decide +kernel
theorem dX11_init_0 : decode cX11_init 0 = .ok (.aload_n 0, 1) := dk_42 (dk_at dksX11_init_0 0 rfl rfl)
theorem dX11_init_1 : decode cX11_init 1 = .ok (.invokespecial 1, 3) := dk_183 0 1 (dk_at dksX11_init_0 1 rfl rfl)
theorem dX11_init_4 : decode cX11_init 4 = .ok (.aload_n 0, 1) := dk_42 (dk_at dksX11_init_0 4 rfl rfl)
theorem dX11_init_5 : decode cX11_init 5 = .ok (.iload_n 1, 1) := dk_27 (dk_at dksX11_init_0 5 rfl rfl)
theorem dX11_init_6 : decode cX11_init 6 = .ok (.putfield 7, 3) := dk_181 0 7 (dk_at dksX11_init_0 6 rfl rfl)
theorem dX11_init_9 : decode cX11_init 9 = .ok (.return_, 1) := dk_177 (dk_at dksX11_init_0 9 rfl rfl)
abbrev cX11_made : ByteArray := prog_2_method_2_code
def yX11_made : MethodName := ⟨RX11, "made", "(LBalloonStall$Hand;)V"⟩
def dkwX11_made_0 : List UInt8 := [43, 42, 180, 0, 7, 182, 0, 13, 177]
abbrev dktX11_made_0 : List UInt8 := dkwX11_made_0 ++ []
theorem dksX11_made_0 : cX11_made.data.toList.drop 0 = dktX11_made_0 := by decide +kernel
theorem dX11_made_0 : decode cX11_made 0 = .ok (.aload_n 1, 1) := dk_43 (dk_at dksX11_made_0 0 rfl rfl)
theorem dX11_made_1 : decode cX11_made 1 = .ok (.aload_n 0, 1) := dk_42 (dk_at dksX11_made_0 1 rfl rfl)
theorem dX11_made_2 : decode cX11_made 2 = .ok (.getfield 7, 3) := dk_180 0 7 (dk_at dksX11_made_0 2 rfl rfl)
theorem dX11_made_5 : decode cX11_made 5 = .ok (.invokevirtual 13, 3) := dk_182 0 13 (dk_at dksX11_made_0 5 rfl rfl)
theorem dX11_made_8 : decode cX11_made 8 = .ok (.return_, 1) := dk_177 (dk_at dksX11_made_0 8 rfl rfl)
theorem q116 : (Jvm.Cond.initialized "BalloonStall$Blow") ∈ lw_all := lw_g (lw_at lw_m1 14 rfl) rfl
theorem q457 : (Jvm.Cond.instantiable "BalloonStall$Blow" (2 : Nat)) ∈ lw_all := lw_g (lw_at lw_m2 115 rfl) rfl
theorem q471 : (Jvm.Cond.instanceMethod ({ cls := "BalloonStall$Blow", name := "<init>", desc := "(I)V" } : Jvm.MethodName)) ∈ lw_all := lw_g (lw_at lw_m2 129 rfl) rfl
theorem q472 : (Jvm.Cond.code ({ cls := "BalloonStall$Blow", name := "<init>", desc := "(I)V" } : Jvm.MethodName) prog_2_method_1_code (2 : Nat) (Option.none : Option Jvm.ClassFile.FieldType)) ∈ lw_all := lw_g (lw_at lw_m2 130 rfl) rfl
theorem q473 : (Jvm.Cond.methodLinkNest "BalloonStall$Blow" (1 : Nat) ({ cls := "BalloonStall$Move", name := "<init>", desc := "()V" } : Jvm.MethodName) "BalloonStall") ∈ lw_tbl := lw_at lw_m2 131 rfl
theorem q474 : (Jvm.Cond.fieldLink "BalloonStall$Blow" (7 : Nat) "BalloonStall$Blow" "length" "I") ∈ lw_all := lw_g (lw_at lw_m2 132 rfl) rfl
theorem q475 : (Jvm.Cond.laysFinal "BalloonStall$Blow" "BalloonStall$Blow" "length" "I") ∈ lw_all := lw_g (lw_at lw_m2 133 rfl) rfl
theorem q476 : (Jvm.Cond.soleField "BalloonStall$Blow" "length") ∈ lw_all := lw_g (lw_at lw_m2 134 rfl) rfl
theorem q477 : (Jvm.Cond.lays "BalloonStall$Blow" "BalloonStall$Move" "next" "LBalloonStall$Move;") ∈ lw_all := lw_g (lw_at lw_m2 135 rfl) rfl
theorem q478 : (Jvm.Cond.superclass "BalloonStall$Blow" "BalloonStall$Move") ∈ lw_all := lw_g (lw_at lw_m2 136 rfl) rfl
theorem q758 : (Jvm.Cond.selects "BalloonStall$Blow" ({ cls := "BalloonStall$Move", name := "all", desc := "(LBalloonStall$Hand;)V" } : Jvm.MethodName) ({ cls := "BalloonStall$Move", name := "all", desc := "(LBalloonStall$Hand;)V" } : Jvm.MethodName)) ∈ lw_all := lw_g (lw_at lw_m3 176 rfl) rfl
theorem q766 : (Jvm.Cond.selects "BalloonStall$Blow" ({ cls := "BalloonStall$Move", name := "made", desc := "(LBalloonStall$Hand;)V" } : Jvm.MethodName) ({ cls := "BalloonStall$Blow", name := "made", desc := "(LBalloonStall$Hand;)V" } : Jvm.MethodName)) ∈ lw_all := lw_g (lw_at lw_m3 184 rfl) rfl
theorem q767 : (Jvm.Cond.instanceMethod ({ cls := "BalloonStall$Blow", name := "made", desc := "(LBalloonStall$Hand;)V" } : Jvm.MethodName)) ∈ lw_all := lw_g (lw_at lw_m3 185 rfl) rfl
theorem q768 : (Jvm.Cond.code ({ cls := "BalloonStall$Blow", name := "made", desc := "(LBalloonStall$Hand;)V" } : Jvm.MethodName) prog_2_method_2_code (2 : Nat) (Option.none : Option Jvm.ClassFile.FieldType)) ∈ lw_all := lw_g (lw_at lw_m3 186 rfl) rfl
theorem q769 : (Jvm.Cond.methodLink "BalloonStall$Blow" (13 : Nat) ({ cls := "BalloonStall$Hand", name := "blows", desc := "(I)V" } : Jvm.MethodName)) ∈ lw_all := lw_g (lw_at lw_m3 187 rfl) rfl
theorem q1899 : (Jvm.Cond.castable "BalloonStall$Blow" "java/lang/Object") ∈ lw_tbl := lw_at lw_m8 117 rfl
theorem in_X11 : ∀ w ∈ wsX110, w ∈ lw_all := lw_in wsX110 [477, 475] (by decide +kernel) (by decide +kernel)
/-! BalloonStall$Ring -/
set_option maxRecDepth 100000
def RX12 : String := "BalloonStall$Ring"
def TX12 : u_T := fun k => match k with
  | 0 => ("BalloonStall$Move", "next", "LBalloonStall$Move;", false)
  | _ => ("BalloonStall$Ring", "first", "LBalloonStall$Move;", true)
def tyX12 : Nat → FieldType := fun k => match k with
  | 0 => .object "BalloonStall$Move"
  | _ => .object "BalloonStall$Move"
abbrev wsX120 : List Cond := u_ws RX12 TX12 2
theorem nmX12 : ∀ a, a < 2 → ∀ b, b < 2 → a ≠ b → (TX12 a).2.1 ≠ (TX12 b).2.1 := by decide +kernel
theorem tyX12_ok : ∀ k, k < 2 → parseFieldDescriptor (TX12 k).2.2.1 = some (tyX12 k) := by decide +kernel
abbrev cX12_init : ByteArray := prog_19_method_1_code
def yX12_init : MethodName := ⟨RX12, "<init>", "(LBalloonStall$Move;)V"⟩
def dkwX12_init_0 : List UInt8 := [42, 183, 0, 1, 42, 43, 181, 0, 7, 177]
abbrev dktX12_init_0 : List UInt8 := dkwX12_init_0 ++ []
theorem dksX12_init_0 : cX12_init.data.toList.drop 0 = dktX12_init_0 := by decide +kernel
theorem dX12_init_0 : decode cX12_init 0 = .ok (.aload_n 0, 1) := dk_42 (dk_at dksX12_init_0 0 rfl rfl)
theorem dX12_init_1 : decode cX12_init 1 = .ok (.invokespecial 1, 3) := dk_183 0 1 (dk_at dksX12_init_0 1 rfl rfl)
theorem dX12_init_4 : decode cX12_init 4 = .ok (.aload_n 0, 1) := dk_42 (dk_at dksX12_init_0 4 rfl rfl)
theorem dX12_init_5 : decode cX12_init 5 = .ok (.aload_n 1, 1) := dk_43 (dk_at dksX12_init_0 5 rfl rfl)
theorem dX12_init_6 : decode cX12_init 6 = .ok (.putfield 7, 3) := dk_181 0 7 (dk_at dksX12_init_0 6 rfl rfl)
theorem dX12_init_9 : decode cX12_init 9 = .ok (.return_, 1) := dk_177 (dk_at dksX12_init_0 9 rfl rfl)
abbrev cX12_made : ByteArray := prog_19_method_2_code
def yX12_made : MethodName := ⟨RX12, "made", "(LBalloonStall$Hand;)V"⟩
def dkwX12_made_0 : List UInt8 := [43, 180, 0, 13, 61, 42, 180, 0, 7, 43, 182, 0, 19, 43, 28, 43, 180, 0, 13, 182, 0, 23, 177]
abbrev dktX12_made_0 : List UInt8 := dkwX12_made_0 ++ []
theorem dksX12_made_0 : cX12_made.data.toList.drop 0 = dktX12_made_0 := by decide +kernel
theorem dX12_made_0 : decode cX12_made 0 = .ok (.aload_n 1, 1) := dk_43 (dk_at dksX12_made_0 0 rfl rfl)
theorem dX12_made_1 : decode cX12_made 1 = .ok (.getfield 13, 3) := dk_180 0 13 (dk_at dksX12_made_0 1 rfl rfl)
theorem dX12_made_4 : decode cX12_made 4 = .ok (.istore_n 2, 1) := dk_61 (dk_at dksX12_made_0 4 rfl rfl)
theorem dX12_made_5 : decode cX12_made 5 = .ok (.aload_n 0, 1) := dk_42 (dk_at dksX12_made_0 5 rfl rfl)
theorem dX12_made_6 : decode cX12_made 6 = .ok (.getfield 7, 3) := dk_180 0 7 (dk_at dksX12_made_0 6 rfl rfl)
theorem dX12_made_9 : decode cX12_made 9 = .ok (.aload_n 1, 1) := dk_43 (dk_at dksX12_made_0 9 rfl rfl)
theorem dX12_made_10 : decode cX12_made 10 = .ok (.invokevirtual 19, 3) := dk_182 0 19 (dk_at dksX12_made_0 10 rfl rfl)
theorem dX12_made_13 : decode cX12_made 13 = .ok (.aload_n 1, 1) := dk_43 (dk_at dksX12_made_0 13 rfl rfl)
theorem dX12_made_14 : decode cX12_made 14 = .ok (.iload_n 2, 1) := dk_28 (dk_at dksX12_made_0 14 rfl rfl)
theorem dX12_made_15 : decode cX12_made 15 = .ok (.aload_n 1, 1) := dk_43 (dk_at dksX12_made_0 15 rfl rfl)
theorem dX12_made_16 : decode cX12_made 16 = .ok (.getfield 13, 3) := dk_180 0 13 (dk_at dksX12_made_0 16 rfl rfl)
theorem dX12_made_19 : decode cX12_made 19 = .ok (.invokevirtual 23, 3) := dk_182 0 23 (dk_at dksX12_made_0 19 rfl rfl)
theorem dX12_made_22 : decode cX12_made 22 = .ok (.return_, 1) := dk_177 (dk_at dksX12_made_0 22 rfl rfl)
theorem q117 : (Jvm.Cond.initialized "BalloonStall$Ring") ∈ lw_all := lw_g (lw_at lw_m1 15 rfl) rfl
theorem q494 : (Jvm.Cond.instantiable "BalloonStall$Ring" (2 : Nat)) ∈ lw_all := lw_g (lw_at lw_m2 152 rfl) rfl
theorem q496 : (Jvm.Cond.instanceMethod ({ cls := "BalloonStall$Ring", name := "<init>", desc := "(LBalloonStall$Move;)V" } : Jvm.MethodName)) ∈ lw_all := lw_g (lw_at lw_m2 154 rfl) rfl
theorem q497 : (Jvm.Cond.code ({ cls := "BalloonStall$Ring", name := "<init>", desc := "(LBalloonStall$Move;)V" } : Jvm.MethodName) prog_19_method_1_code (2 : Nat) (Option.none : Option Jvm.ClassFile.FieldType)) ∈ lw_all := lw_g (lw_at lw_m2 155 rfl) rfl
theorem q498 : (Jvm.Cond.methodLinkNest "BalloonStall$Ring" (1 : Nat) ({ cls := "BalloonStall$Move", name := "<init>", desc := "()V" } : Jvm.MethodName) "BalloonStall") ∈ lw_tbl := lw_at lw_m2 156 rfl
theorem q499 : (Jvm.Cond.fieldLink "BalloonStall$Ring" (7 : Nat) "BalloonStall$Ring" "first" "LBalloonStall$Move;") ∈ lw_all := lw_g (lw_at lw_m2 157 rfl) rfl
theorem q500 : (Jvm.Cond.laysFinal "BalloonStall$Ring" "BalloonStall$Ring" "first" "LBalloonStall$Move;") ∈ lw_all := lw_g (lw_at lw_m2 158 rfl) rfl
theorem q501 : (Jvm.Cond.soleField "BalloonStall$Ring" "first") ∈ lw_all := lw_g (lw_at lw_m2 159 rfl) rfl
theorem q502 : (Jvm.Cond.lays "BalloonStall$Ring" "BalloonStall$Move" "next" "LBalloonStall$Move;") ∈ lw_all := lw_g (lw_at lw_m2 160 rfl) rfl
theorem q503 : (Jvm.Cond.superclass "BalloonStall$Ring" "BalloonStall$Move") ∈ lw_all := lw_g (lw_at lw_m2 161 rfl) rfl
theorem q718 : (Jvm.Cond.fieldLinkNest "BalloonStall$Ring" (13 : Nat) "BalloonStall$Hand" "at" "I" "BalloonStall") ∈ lw_tbl := lw_at lw_m3 136 rfl
theorem q761 : (Jvm.Cond.selects "BalloonStall$Ring" ({ cls := "BalloonStall$Move", name := "all", desc := "(LBalloonStall$Hand;)V" } : Jvm.MethodName) ({ cls := "BalloonStall$Move", name := "all", desc := "(LBalloonStall$Hand;)V" } : Jvm.MethodName)) ∈ lw_all := lw_g (lw_at lw_m3 179 rfl) rfl
theorem q814 : (Jvm.Cond.selects "BalloonStall$Ring" ({ cls := "BalloonStall$Move", name := "made", desc := "(LBalloonStall$Hand;)V" } : Jvm.MethodName) ({ cls := "BalloonStall$Ring", name := "made", desc := "(LBalloonStall$Hand;)V" } : Jvm.MethodName)) ∈ lw_all := lw_g (lw_at lw_m3 232 rfl) rfl
theorem q815 : (Jvm.Cond.instanceMethod ({ cls := "BalloonStall$Ring", name := "made", desc := "(LBalloonStall$Hand;)V" } : Jvm.MethodName)) ∈ lw_all := lw_g (lw_at lw_m3 233 rfl) rfl
theorem q816 : (Jvm.Cond.code ({ cls := "BalloonStall$Ring", name := "made", desc := "(LBalloonStall$Hand;)V" } : Jvm.MethodName) prog_19_method_2_code (3 : Nat) (Option.none : Option Jvm.ClassFile.FieldType)) ∈ lw_all := lw_g (lw_at lw_m3 234 rfl) rfl
theorem q817 : (Jvm.Cond.methodLink "BalloonStall$Ring" (19 : Nat) ({ cls := "BalloonStall$Move", name := "all", desc := "(LBalloonStall$Hand;)V" } : Jvm.MethodName)) ∈ lw_all := lw_g (lw_at lw_m3 235 rfl) rfl
theorem q818 : (Jvm.Cond.methodLink "BalloonStall$Ring" (23 : Nat) ({ cls := "BalloonStall$Hand", name := "joins", desc := "(II)V" } : Jvm.MethodName)) ∈ lw_all := lw_g (lw_at lw_m3 236 rfl) rfl
theorem q1900 : (Jvm.Cond.castable "BalloonStall$Ring" "java/lang/Object") ∈ lw_tbl := lw_at lw_m8 118 rfl
theorem in_X12 : ∀ w ∈ wsX120, w ∈ lw_all := lw_in wsX120 [502, 500] (by decide +kernel) (by decide +kernel)
/-! BalloonStall$RuleReader -/
set_option maxRecDepth 100000
def RX13 : String := "BalloonStall$RuleReader"
def TX13 : u_T := fun k => match k with
  | 0 => ("BalloonStall$Reader", "at", "I", false)
  | 1 => ("BalloonStall$Reader", "deep", "I", false)
  | 2 => ("BalloonStall$Reader", "this$0", "LBalloonStall;", true)
  | _ => ("BalloonStall$RuleReader", "this$0", "LBalloonStall;", true)
def tyX13 : Nat → FieldType := fun k => match k with
  | 0 => .int
  | 1 => .int
  | 2 => .object "BalloonStall"
  | _ => .object "BalloonStall"
abbrev wsX130 : List Cond := u_ws RX13 TX13 4
-- two fields of one name: no nmX13
theorem tyX13_ok : ∀ k, k < 4 → parseFieldDescriptor (TX13 k).2.2.1 = some (tyX13 k) := by decide +kernel
abbrev cX13_init : ByteArray := prog_20_method_1_code
def yX13_init : MethodName := ⟨RX13, "<init>", "(LBalloonStall;)V"⟩
def dkwX13_init_0 : List UInt8 := [42, 43, 181, 0, 3, 42, 43, 183, 0, 9, 177]
abbrev dktX13_init_0 : List UInt8 := dkwX13_init_0 ++ []
theorem dksX13_init_0 : cX13_init.data.toList.drop 0 = dktX13_init_0 := by decide +kernel
theorem dX13_init_0 : decode cX13_init 0 = .ok (.aload_n 0, 1) := dk_42 (dk_at dksX13_init_0 0 rfl rfl)
theorem dX13_init_1 : decode cX13_init 1 = .ok (.aload_n 1, 1) := dk_43 (dk_at dksX13_init_0 1 rfl rfl)
theorem dX13_init_2 : decode cX13_init 2 = .ok (.putfield 3, 3) := dk_181 0 3 (dk_at dksX13_init_0 2 rfl rfl)
theorem dX13_init_5 : decode cX13_init 5 = .ok (.aload_n 0, 1) := dk_42 (dk_at dksX13_init_0 5 rfl rfl)
theorem dX13_init_6 : decode cX13_init 6 = .ok (.aload_n 1, 1) := dk_43 (dk_at dksX13_init_0 6 rfl rfl)
theorem dX13_init_7 : decode cX13_init 7 = .ok (.invokespecial 9, 3) := dk_183 0 9 (dk_at dksX13_init_0 7 rfl rfl)
theorem dX13_init_10 : decode cX13_init 10 = .ok (.return_, 1) := dk_177 (dk_at dksX13_init_0 10 rfl rfl)
abbrev cX13_whole : ByteArray := prog_20_method_2_code
def yX13_whole : MethodName := ⟨RX13, "whole", "()LBalloonStall$Clause;"⟩
def dkwX13_whole_2 : List UInt8 := [159, 0, 15, 187, 0, 33, 89, 42, 180, 0, 23, 183, 0, 35, 191, 43, 176]
abbrev dktX13_whole_2 : List UInt8 := dkwX13_whole_2 ++ []
def dkwX13_whole_1 : List UInt8 := [181, 0, 23, 44, 42, 182, 0, 15, 181, 0, 27, 44, 180, 0, 27, 77, 167, 255, 224, 42, 182, 0, 19, 2]
abbrev dktX13_whole_1 : List UInt8 := dkwX13_whole_1 ++ dktX13_whole_2
def dkwX13_whole_0 : List UInt8 := [42, 182, 0, 15, 76, 43, 77, 42, 182, 0, 19, 16, 59, 160, 0, 29, 42, 89, 180, 0, 23, 4, 96]
abbrev dktX13_whole_0 : List UInt8 := dkwX13_whole_0 ++ dktX13_whole_1
theorem dksX13_whole_0 : cX13_whole.data.toList.drop 0 = dktX13_whole_0 := by decide +kernel
theorem dksX13_whole_1 : cX13_whole.data.toList.drop 23 = dktX13_whole_1 := dk_seg dksX13_whole_0 23 rfl rfl
theorem dksX13_whole_2 : cX13_whole.data.toList.drop 47 = dktX13_whole_2 := dk_seg dksX13_whole_1 24 rfl rfl
theorem dX13_whole_0 : decode cX13_whole 0 = .ok (.aload_n 0, 1) := dk_42 (dk_at dksX13_whole_0 0 rfl rfl)
theorem dX13_whole_1 : decode cX13_whole 1 = .ok (.invokevirtual 15, 3) := dk_182 0 15 (dk_at dksX13_whole_0 1 rfl rfl)
theorem dX13_whole_4 : decode cX13_whole 4 = .ok (.astore_n 1, 1) := dk_76 (dk_at dksX13_whole_0 4 rfl rfl)
theorem dX13_whole_5 : decode cX13_whole 5 = .ok (.aload_n 1, 1) := dk_43 (dk_at dksX13_whole_0 5 rfl rfl)
theorem dX13_whole_6 : decode cX13_whole 6 = .ok (.astore_n 2, 1) := dk_77 (dk_at dksX13_whole_0 6 rfl rfl)
theorem dX13_whole_7 : decode cX13_whole 7 = .ok (.aload_n 0, 1) := dk_42 (dk_at dksX13_whole_0 7 rfl rfl)
theorem dX13_whole_8 : decode cX13_whole 8 = .ok (.invokevirtual 19, 3) := dk_182 0 19 (dk_at dksX13_whole_0 8 rfl rfl)
theorem dX13_whole_11 : decode cX13_whole 11 = .ok (.bipush 59, 2) := dk_16 59 (dk_at dksX13_whole_0 11 rfl rfl)
theorem dX13_whole_13 : decode cX13_whole 13 = .ok (.if_icmp .ne 29, 3) := dk_160 0 29 (dk_at dksX13_whole_0 13 rfl rfl)
theorem dX13_whole_16 : decode cX13_whole 16 = .ok (.aload_n 0, 1) := dk_42 (dk_at dksX13_whole_0 16 rfl rfl)
theorem dX13_whole_17 : decode cX13_whole 17 = .ok (.dup, 1) := dk_89 (dk_at dksX13_whole_0 17 rfl rfl)
theorem dX13_whole_18 : decode cX13_whole 18 = .ok (.getfield 23, 3) := dk_180 0 23 (dk_at dksX13_whole_0 18 rfl rfl)
theorem dX13_whole_21 : decode cX13_whole 21 = .ok (.iconst 1, 1) := dk_4 (dk_at dksX13_whole_0 21 rfl rfl)
theorem dX13_whole_22 : decode cX13_whole 22 = .ok (.iadd, 1) := dk_96 (dk_at dksX13_whole_0 22 rfl rfl)
theorem dX13_whole_23 : decode cX13_whole 23 = .ok (.putfield 23, 3) := dk_181 0 23 (dk_at dksX13_whole_1 0 rfl rfl)
theorem dX13_whole_26 : decode cX13_whole 26 = .ok (.aload_n 2, 1) := dk_44 (dk_at dksX13_whole_1 3 rfl rfl)
theorem dX13_whole_27 : decode cX13_whole 27 = .ok (.aload_n 0, 1) := dk_42 (dk_at dksX13_whole_1 4 rfl rfl)
theorem dX13_whole_28 : decode cX13_whole 28 = .ok (.invokevirtual 15, 3) := dk_182 0 15 (dk_at dksX13_whole_1 5 rfl rfl)
theorem dX13_whole_31 : decode cX13_whole 31 = .ok (.putfield 27, 3) := dk_181 0 27 (dk_at dksX13_whole_1 8 rfl rfl)
theorem dX13_whole_34 : decode cX13_whole 34 = .ok (.aload_n 2, 1) := dk_44 (dk_at dksX13_whole_1 11 rfl rfl)
theorem dX13_whole_35 : decode cX13_whole 35 = .ok (.getfield 27, 3) := dk_180 0 27 (dk_at dksX13_whole_1 12 rfl rfl)
theorem dX13_whole_38 : decode cX13_whole 38 = .ok (.astore_n 2, 1) := dk_77 (dk_at dksX13_whole_1 15 rfl rfl)
theorem dX13_whole_39 : decode cX13_whole 39 = .ok (.goto (-32), 3) := dk_167 255 224 (dk_at dksX13_whole_1 16 rfl rfl)
theorem dX13_whole_42 : decode cX13_whole 42 = .ok (.aload_n 0, 1) := dk_42 (dk_at dksX13_whole_1 19 rfl rfl)
theorem dX13_whole_43 : decode cX13_whole 43 = .ok (.invokevirtual 19, 3) := dk_182 0 19 (dk_at dksX13_whole_1 20 rfl rfl)
theorem dX13_whole_46 : decode cX13_whole 46 = .ok (.iconst (-1), 1) := dk_2 (dk_at dksX13_whole_1 23 rfl rfl)
theorem dX13_whole_47 : decode cX13_whole 47 = .ok (.if_icmp .eq 15, 3) := dk_159 0 15 (dk_at dksX13_whole_2 0 rfl rfl)
theorem dX13_whole_50 : decode cX13_whole 50 = .ok (.new 33, 3) := dk_187 0 33 (dk_at dksX13_whole_2 3 rfl rfl)
theorem dX13_whole_53 : decode cX13_whole 53 = .ok (.dup, 1) := dk_89 (dk_at dksX13_whole_2 6 rfl rfl)
theorem dX13_whole_54 : decode cX13_whole 54 = .ok (.aload_n 0, 1) := dk_42 (dk_at dksX13_whole_2 7 rfl rfl)
theorem dX13_whole_55 : decode cX13_whole 55 = .ok (.getfield 23, 3) := dk_180 0 23 (dk_at dksX13_whole_2 8 rfl rfl)
theorem dX13_whole_58 : decode cX13_whole 58 = .ok (.invokespecial 35, 3) := dk_183 0 35 (dk_at dksX13_whole_2 11 rfl rfl)
theorem dX13_whole_61 : decode cX13_whole 61 = .ok (.athrow, 1) := dk_191 (dk_at dksX13_whole_2 14 rfl rfl)
theorem dX13_whole_62 : decode cX13_whole 62 = .ok (.aload_n 1, 1) := dk_43 (dk_at dksX13_whole_2 15 rfl rfl)
theorem dX13_whole_63 : decode cX13_whole 63 = .ok (.areturn, 1) := dk_176 (dk_at dksX13_whole_2 16 rfl rfl)
abbrev cX13_clause : ByteArray := prog_20_method_3_code
def yX13_clause : MethodName := ⟨RX13, "clause", "()LBalloonStall$Clause;"⟩
def dkwX13_clause_5 : List UInt8 := [176]
abbrev dktX13_clause_5 : List UInt8 := dkwX13_clause_5 ++ []
def dkwX13_clause_4 : List UInt8 := [160, 0, 15, 42, 42, 44, 182, 0, 42, 182, 0, 46, 167, 0, 12, 187, 0, 28, 89, 1, 44, 183, 0, 54]
abbrev dktX13_clause_4 : List UInt8 := dkwX13_clause_4 ++ dktX13_clause_5
def dkwX13_clause_3 : List UInt8 := [182, 0, 50, 77, 42, 182, 0, 19, 60, 27, 16, 61, 159, 0, 15, 27, 16, 60, 159, 0, 9, 27, 16, 62]
abbrev dktX13_clause_3 : List UInt8 := dkwX13_clause_3 ++ dktX13_clause_4
def dkwX13_clause_2 : List UInt8 := [60, 27, 16, 33, 159, 0, 9, 27, 16, 40, 160, 0, 13, 42, 42, 1, 182, 0, 42, 182, 0, 46, 176, 42]
abbrev dktX13_clause_2 : List UInt8 := dkwX13_clause_2 ++ dktX13_clause_3
def dkwX13_clause_1 : List UInt8 := [182, 0, 19, 60, 42, 27, 16, 58, 160, 0, 7, 4, 167, 0, 4, 3, 182, 0, 38, 60, 42, 182, 0, 19]
abbrev dktX13_clause_1 : List UInt8 := dkwX13_clause_1 ++ dktX13_clause_2
def dkwX13_clause_0 : List UInt8 := [42, 182, 0, 19, 60, 42, 27, 16, 119, 160, 0, 7, 4, 167, 0, 4, 3, 182, 0, 38, 60, 42]
abbrev dktX13_clause_0 : List UInt8 := dkwX13_clause_0 ++ dktX13_clause_1
theorem dksX13_clause_0 : cX13_clause.data.toList.drop 0 = dktX13_clause_0 := by decide +kernel
theorem dksX13_clause_1 : cX13_clause.data.toList.drop 22 = dktX13_clause_1 := dk_seg dksX13_clause_0 22 rfl rfl
theorem dksX13_clause_2 : cX13_clause.data.toList.drop 46 = dktX13_clause_2 := dk_seg dksX13_clause_1 24 rfl rfl
theorem dksX13_clause_3 : cX13_clause.data.toList.drop 70 = dktX13_clause_3 := dk_seg dksX13_clause_2 24 rfl rfl
theorem dksX13_clause_4 : cX13_clause.data.toList.drop 94 = dktX13_clause_4 := dk_seg dksX13_clause_3 24 rfl rfl
theorem dksX13_clause_5 : cX13_clause.data.toList.drop 118 = dktX13_clause_5 := dk_seg dksX13_clause_4 24 rfl rfl
theorem dX13_clause_0 : decode cX13_clause 0 = .ok (.aload_n 0, 1) := dk_42 (dk_at dksX13_clause_0 0 rfl rfl)
theorem dX13_clause_1 : decode cX13_clause 1 = .ok (.invokevirtual 19, 3) := dk_182 0 19 (dk_at dksX13_clause_0 1 rfl rfl)
theorem dX13_clause_4 : decode cX13_clause 4 = .ok (.istore_n 1, 1) := dk_60 (dk_at dksX13_clause_0 4 rfl rfl)
theorem dX13_clause_5 : decode cX13_clause 5 = .ok (.aload_n 0, 1) := dk_42 (dk_at dksX13_clause_0 5 rfl rfl)
theorem dX13_clause_6 : decode cX13_clause 6 = .ok (.iload_n 1, 1) := dk_27 (dk_at dksX13_clause_0 6 rfl rfl)
theorem dX13_clause_7 : decode cX13_clause 7 = .ok (.bipush 119, 2) := dk_16 119 (dk_at dksX13_clause_0 7 rfl rfl)
theorem dX13_clause_9 : decode cX13_clause 9 = .ok (.if_icmp .ne 7, 3) := dk_160 0 7 (dk_at dksX13_clause_0 9 rfl rfl)
theorem dX13_clause_12 : decode cX13_clause 12 = .ok (.iconst 1, 1) := dk_4 (dk_at dksX13_clause_0 12 rfl rfl)
theorem dX13_clause_13 : decode cX13_clause 13 = .ok (.goto 4, 3) := dk_167 0 4 (dk_at dksX13_clause_0 13 rfl rfl)
theorem dX13_clause_16 : decode cX13_clause 16 = .ok (.iconst 0, 1) := dk_3 (dk_at dksX13_clause_0 16 rfl rfl)
theorem dX13_clause_17 : decode cX13_clause 17 = .ok (.invokevirtual 38, 3) := dk_182 0 38 (dk_at dksX13_clause_0 17 rfl rfl)
theorem dX13_clause_20 : decode cX13_clause 20 = .ok (.istore_n 1, 1) := dk_60 (dk_at dksX13_clause_0 20 rfl rfl)
theorem dX13_clause_21 : decode cX13_clause 21 = .ok (.aload_n 0, 1) := dk_42 (dk_at dksX13_clause_0 21 rfl rfl)
theorem dX13_clause_22 : decode cX13_clause 22 = .ok (.invokevirtual 19, 3) := dk_182 0 19 (dk_at dksX13_clause_1 0 rfl rfl)
theorem dX13_clause_25 : decode cX13_clause 25 = .ok (.istore_n 1, 1) := dk_60 (dk_at dksX13_clause_1 3 rfl rfl)
theorem dX13_clause_26 : decode cX13_clause 26 = .ok (.aload_n 0, 1) := dk_42 (dk_at dksX13_clause_1 4 rfl rfl)
theorem dX13_clause_27 : decode cX13_clause 27 = .ok (.iload_n 1, 1) := dk_27 (dk_at dksX13_clause_1 5 rfl rfl)
theorem dX13_clause_28 : decode cX13_clause 28 = .ok (.bipush 58, 2) := dk_16 58 (dk_at dksX13_clause_1 6 rfl rfl)
theorem dX13_clause_30 : decode cX13_clause 30 = .ok (.if_icmp .ne 7, 3) := dk_160 0 7 (dk_at dksX13_clause_1 8 rfl rfl)
theorem dX13_clause_33 : decode cX13_clause 33 = .ok (.iconst 1, 1) := dk_4 (dk_at dksX13_clause_1 11 rfl rfl)
theorem dX13_clause_34 : decode cX13_clause 34 = .ok (.goto 4, 3) := dk_167 0 4 (dk_at dksX13_clause_1 12 rfl rfl)
theorem dX13_clause_37 : decode cX13_clause 37 = .ok (.iconst 0, 1) := dk_3 (dk_at dksX13_clause_1 15 rfl rfl)
theorem dX13_clause_38 : decode cX13_clause 38 = .ok (.invokevirtual 38, 3) := dk_182 0 38 (dk_at dksX13_clause_1 16 rfl rfl)
theorem dX13_clause_41 : decode cX13_clause 41 = .ok (.istore_n 1, 1) := dk_60 (dk_at dksX13_clause_1 19 rfl rfl)
theorem dX13_clause_42 : decode cX13_clause 42 = .ok (.aload_n 0, 1) := dk_42 (dk_at dksX13_clause_1 20 rfl rfl)
theorem dX13_clause_43 : decode cX13_clause 43 = .ok (.invokevirtual 19, 3) := dk_182 0 19 (dk_at dksX13_clause_1 21 rfl rfl)
theorem dX13_clause_46 : decode cX13_clause 46 = .ok (.istore_n 1, 1) := dk_60 (dk_at dksX13_clause_2 0 rfl rfl)
theorem dX13_clause_47 : decode cX13_clause 47 = .ok (.iload_n 1, 1) := dk_27 (dk_at dksX13_clause_2 1 rfl rfl)
theorem dX13_clause_48 : decode cX13_clause 48 = .ok (.bipush 33, 2) := dk_16 33 (dk_at dksX13_clause_2 2 rfl rfl)
theorem dX13_clause_50 : decode cX13_clause 50 = .ok (.if_icmp .eq 9, 3) := dk_159 0 9 (dk_at dksX13_clause_2 4 rfl rfl)
theorem dX13_clause_53 : decode cX13_clause 53 = .ok (.iload_n 1, 1) := dk_27 (dk_at dksX13_clause_2 7 rfl rfl)
theorem dX13_clause_54 : decode cX13_clause 54 = .ok (.bipush 40, 2) := dk_16 40 (dk_at dksX13_clause_2 8 rfl rfl)
theorem dX13_clause_56 : decode cX13_clause 56 = .ok (.if_icmp .ne 13, 3) := dk_160 0 13 (dk_at dksX13_clause_2 10 rfl rfl)
theorem dX13_clause_59 : decode cX13_clause 59 = .ok (.aload_n 0, 1) := dk_42 (dk_at dksX13_clause_2 13 rfl rfl)
theorem dX13_clause_60 : decode cX13_clause 60 = .ok (.aload_n 0, 1) := dk_42 (dk_at dksX13_clause_2 14 rfl rfl)
theorem dX13_clause_61 : decode cX13_clause 61 = .ok (.aconst_null, 1) := dk_1 (dk_at dksX13_clause_2 15 rfl rfl)
theorem dX13_clause_62 : decode cX13_clause 62 = .ok (.invokevirtual 42, 3) := dk_182 0 42 (dk_at dksX13_clause_2 16 rfl rfl)
theorem dX13_clause_65 : decode cX13_clause 65 = .ok (.invokevirtual 46, 3) := dk_182 0 46 (dk_at dksX13_clause_2 19 rfl rfl)
theorem dX13_clause_68 : decode cX13_clause 68 = .ok (.areturn, 1) := dk_176 (dk_at dksX13_clause_2 22 rfl rfl)
theorem dX13_clause_69 : decode cX13_clause 69 = .ok (.aload_n 0, 1) := dk_42 (dk_at dksX13_clause_2 23 rfl rfl)
theorem dX13_clause_70 : decode cX13_clause 70 = .ok (.invokevirtual 50, 3) := dk_182 0 50 (dk_at dksX13_clause_3 0 rfl rfl)
theorem dX13_clause_73 : decode cX13_clause 73 = .ok (.astore_n 2, 1) := dk_77 (dk_at dksX13_clause_3 3 rfl rfl)
theorem dX13_clause_74 : decode cX13_clause 74 = .ok (.aload_n 0, 1) := dk_42 (dk_at dksX13_clause_3 4 rfl rfl)
theorem dX13_clause_75 : decode cX13_clause 75 = .ok (.invokevirtual 19, 3) := dk_182 0 19 (dk_at dksX13_clause_3 5 rfl rfl)
theorem dX13_clause_78 : decode cX13_clause 78 = .ok (.istore_n 1, 1) := dk_60 (dk_at dksX13_clause_3 8 rfl rfl)
theorem dX13_clause_79 : decode cX13_clause 79 = .ok (.iload_n 1, 1) := dk_27 (dk_at dksX13_clause_3 9 rfl rfl)
theorem dX13_clause_80 : decode cX13_clause 80 = .ok (.bipush 61, 2) := dk_16 61 (dk_at dksX13_clause_3 10 rfl rfl)
theorem dX13_clause_82 : decode cX13_clause 82 = .ok (.if_icmp .eq 15, 3) := dk_159 0 15 (dk_at dksX13_clause_3 12 rfl rfl)
theorem dX13_clause_85 : decode cX13_clause 85 = .ok (.iload_n 1, 1) := dk_27 (dk_at dksX13_clause_3 15 rfl rfl)
theorem dX13_clause_86 : decode cX13_clause 86 = .ok (.bipush 60, 2) := dk_16 60 (dk_at dksX13_clause_3 16 rfl rfl)
theorem dX13_clause_88 : decode cX13_clause 88 = .ok (.if_icmp .eq 9, 3) := dk_159 0 9 (dk_at dksX13_clause_3 18 rfl rfl)
theorem dX13_clause_91 : decode cX13_clause 91 = .ok (.iload_n 1, 1) := dk_27 (dk_at dksX13_clause_3 21 rfl rfl)
theorem dX13_clause_92 : decode cX13_clause 92 = .ok (.bipush 62, 2) := dk_16 62 (dk_at dksX13_clause_3 22 rfl rfl)
theorem dX13_clause_94 : decode cX13_clause 94 = .ok (.if_icmp .ne 15, 3) := dk_160 0 15 (dk_at dksX13_clause_4 0 rfl rfl)
theorem dX13_clause_97 : decode cX13_clause 97 = .ok (.aload_n 0, 1) := dk_42 (dk_at dksX13_clause_4 3 rfl rfl)
theorem dX13_clause_98 : decode cX13_clause 98 = .ok (.aload_n 0, 1) := dk_42 (dk_at dksX13_clause_4 4 rfl rfl)
theorem dX13_clause_99 : decode cX13_clause 99 = .ok (.aload_n 2, 1) := dk_44 (dk_at dksX13_clause_4 5 rfl rfl)
theorem dX13_clause_100 : decode cX13_clause 100 = .ok (.invokevirtual 42, 3) := dk_182 0 42 (dk_at dksX13_clause_4 6 rfl rfl)
theorem dX13_clause_103 : decode cX13_clause 103 = .ok (.invokevirtual 46, 3) := dk_182 0 46 (dk_at dksX13_clause_4 9 rfl rfl)
theorem dX13_clause_106 : decode cX13_clause 106 = .ok (.goto 12, 3) := dk_167 0 12 (dk_at dksX13_clause_4 12 rfl rfl)
theorem dX13_clause_109 : decode cX13_clause 109 = .ok (.new 28, 3) := dk_187 0 28 (dk_at dksX13_clause_4 15 rfl rfl)
theorem dX13_clause_112 : decode cX13_clause 112 = .ok (.dup, 1) := dk_89 (dk_at dksX13_clause_4 18 rfl rfl)
theorem dX13_clause_113 : decode cX13_clause 113 = .ok (.aconst_null, 1) := dk_1 (dk_at dksX13_clause_4 19 rfl rfl)
theorem dX13_clause_114 : decode cX13_clause 114 = .ok (.aload_n 2, 1) := dk_44 (dk_at dksX13_clause_4 20 rfl rfl)
theorem dX13_clause_115 : decode cX13_clause 115 = .ok (.invokespecial 54, 3) := dk_183 0 54 (dk_at dksX13_clause_4 21 rfl rfl)
theorem dX13_clause_118 : decode cX13_clause 118 = .ok (.areturn, 1) := dk_176 (dk_at dksX13_clause_5 0 rfl rfl)
abbrev cX13_condition : ByteArray := prog_20_method_5_code
def yX13_condition : MethodName := ⟨RX13, "condition", "(LBalloonStall$Sum;)LBalloonStall$Test;"⟩
def dkwX13_condition_1 : List UInt8 := [181, 0, 23, 187, 0, 60, 89, 3, 44, 42, 1, 182, 0, 57, 183, 0, 62, 77, 167, 255, 222, 44, 176]
abbrev dktX13_condition_1 : List UInt8 := dkwX13_condition_1 ++ []
def dkwX13_condition_0 : List UInt8 := [42, 43, 182, 0, 57, 77, 42, 182, 0, 19, 16, 124, 160, 0, 31, 42, 89, 180, 0, 23, 4, 96]
abbrev dktX13_condition_0 : List UInt8 := dkwX13_condition_0 ++ dktX13_condition_1
theorem dksX13_condition_0 : cX13_condition.data.toList.drop 0 = dktX13_condition_0 := by decide +kernel
theorem dksX13_condition_1 : cX13_condition.data.toList.drop 22 = dktX13_condition_1 := dk_seg dksX13_condition_0 22 rfl rfl
theorem dX13_condition_0 : decode cX13_condition 0 = .ok (.aload_n 0, 1) := dk_42 (dk_at dksX13_condition_0 0 rfl rfl)
theorem dX13_condition_1 : decode cX13_condition 1 = .ok (.aload_n 1, 1) := dk_43 (dk_at dksX13_condition_0 1 rfl rfl)
theorem dX13_condition_2 : decode cX13_condition 2 = .ok (.invokevirtual 57, 3) := dk_182 0 57 (dk_at dksX13_condition_0 2 rfl rfl)
theorem dX13_condition_5 : decode cX13_condition 5 = .ok (.astore_n 2, 1) := dk_77 (dk_at dksX13_condition_0 5 rfl rfl)
theorem dX13_condition_6 : decode cX13_condition 6 = .ok (.aload_n 0, 1) := dk_42 (dk_at dksX13_condition_0 6 rfl rfl)
theorem dX13_condition_7 : decode cX13_condition 7 = .ok (.invokevirtual 19, 3) := dk_182 0 19 (dk_at dksX13_condition_0 7 rfl rfl)
theorem dX13_condition_10 : decode cX13_condition 10 = .ok (.bipush 124, 2) := dk_16 124 (dk_at dksX13_condition_0 10 rfl rfl)
theorem dX13_condition_12 : decode cX13_condition 12 = .ok (.if_icmp .ne 31, 3) := dk_160 0 31 (dk_at dksX13_condition_0 12 rfl rfl)
theorem dX13_condition_15 : decode cX13_condition 15 = .ok (.aload_n 0, 1) := dk_42 (dk_at dksX13_condition_0 15 rfl rfl)
theorem dX13_condition_16 : decode cX13_condition 16 = .ok (.dup, 1) := dk_89 (dk_at dksX13_condition_0 16 rfl rfl)
theorem dX13_condition_17 : decode cX13_condition 17 = .ok (.getfield 23, 3) := dk_180 0 23 (dk_at dksX13_condition_0 17 rfl rfl)
theorem dX13_condition_20 : decode cX13_condition 20 = .ok (.iconst 1, 1) := dk_4 (dk_at dksX13_condition_0 20 rfl rfl)
theorem dX13_condition_21 : decode cX13_condition 21 = .ok (.iadd, 1) := dk_96 (dk_at dksX13_condition_0 21 rfl rfl)
theorem dX13_condition_22 : decode cX13_condition 22 = .ok (.putfield 23, 3) := dk_181 0 23 (dk_at dksX13_condition_1 0 rfl rfl)
theorem dX13_condition_25 : decode cX13_condition 25 = .ok (.new 60, 3) := dk_187 0 60 (dk_at dksX13_condition_1 3 rfl rfl)
theorem dX13_condition_28 : decode cX13_condition 28 = .ok (.dup, 1) := dk_89 (dk_at dksX13_condition_1 6 rfl rfl)
theorem dX13_condition_29 : decode cX13_condition 29 = .ok (.iconst 0, 1) := dk_3 (dk_at dksX13_condition_1 7 rfl rfl)
theorem dX13_condition_30 : decode cX13_condition 30 = .ok (.aload_n 2, 1) := dk_44 (dk_at dksX13_condition_1 8 rfl rfl)
theorem dX13_condition_31 : decode cX13_condition 31 = .ok (.aload_n 0, 1) := dk_42 (dk_at dksX13_condition_1 9 rfl rfl)
theorem dX13_condition_32 : decode cX13_condition 32 = .ok (.aconst_null, 1) := dk_1 (dk_at dksX13_condition_1 10 rfl rfl)
theorem dX13_condition_33 : decode cX13_condition 33 = .ok (.invokevirtual 57, 3) := dk_182 0 57 (dk_at dksX13_condition_1 11 rfl rfl)
theorem dX13_condition_36 : decode cX13_condition 36 = .ok (.invokespecial 62, 3) := dk_183 0 62 (dk_at dksX13_condition_1 14 rfl rfl)
theorem dX13_condition_39 : decode cX13_condition 39 = .ok (.astore_n 2, 1) := dk_77 (dk_at dksX13_condition_1 17 rfl rfl)
theorem dX13_condition_40 : decode cX13_condition 40 = .ok (.goto (-34), 3) := dk_167 255 222 (dk_at dksX13_condition_1 18 rfl rfl)
theorem dX13_condition_43 : decode cX13_condition 43 = .ok (.aload_n 2, 1) := dk_44 (dk_at dksX13_condition_1 21 rfl rfl)
theorem dX13_condition_44 : decode cX13_condition 44 = .ok (.areturn, 1) := dk_176 (dk_at dksX13_condition_1 22 rfl rfl)
abbrev cX13_truth : ByteArray := prog_20_method_6_code
def yX13_truth : MethodName := ⟨RX13, "truth", "(LBalloonStall$Sum;)LBalloonStall$Test;"⟩
def dkwX13_truth_2 : List UInt8 := [183, 0, 62, 77, 167, 255, 223, 44, 176]
abbrev dktX13_truth_2 : List UInt8 := dkwX13_truth_2 ++ []
def dkwX13_truth_1 : List UInt8 := [160, 0, 30, 42, 89, 180, 0, 23, 4, 96, 181, 0, 23, 187, 0, 60, 89, 4, 44, 42, 182, 0, 65]
abbrev dktX13_truth_1 : List UInt8 := dkwX13_truth_1 ++ dktX13_truth_2
def dkwX13_truth_0 : List UInt8 := [43, 199, 0, 10, 42, 182, 0, 65, 167, 0, 8, 42, 43, 182, 0, 69, 77, 42, 182, 0, 19, 16, 38]
abbrev dktX13_truth_0 : List UInt8 := dkwX13_truth_0 ++ dktX13_truth_1
theorem dksX13_truth_0 : cX13_truth.data.toList.drop 0 = dktX13_truth_0 := by decide +kernel
theorem dksX13_truth_1 : cX13_truth.data.toList.drop 23 = dktX13_truth_1 := dk_seg dksX13_truth_0 23 rfl rfl
theorem dksX13_truth_2 : cX13_truth.data.toList.drop 46 = dktX13_truth_2 := dk_seg dksX13_truth_1 23 rfl rfl
theorem dX13_truth_0 : decode cX13_truth 0 = .ok (.aload_n 1, 1) := dk_43 (dk_at dksX13_truth_0 0 rfl rfl)
theorem dX13_truth_1 : decode cX13_truth 1 = .ok (.ifnonnull 10, 3) := dk_199 0 10 (dk_at dksX13_truth_0 1 rfl rfl)
theorem dX13_truth_4 : decode cX13_truth 4 = .ok (.aload_n 0, 1) := dk_42 (dk_at dksX13_truth_0 4 rfl rfl)
theorem dX13_truth_5 : decode cX13_truth 5 = .ok (.invokevirtual 65, 3) := dk_182 0 65 (dk_at dksX13_truth_0 5 rfl rfl)
theorem dX13_truth_8 : decode cX13_truth 8 = .ok (.goto 8, 3) := dk_167 0 8 (dk_at dksX13_truth_0 8 rfl rfl)
theorem dX13_truth_11 : decode cX13_truth 11 = .ok (.aload_n 0, 1) := dk_42 (dk_at dksX13_truth_0 11 rfl rfl)
theorem dX13_truth_12 : decode cX13_truth 12 = .ok (.aload_n 1, 1) := dk_43 (dk_at dksX13_truth_0 12 rfl rfl)
theorem dX13_truth_13 : decode cX13_truth 13 = .ok (.invokevirtual 69, 3) := dk_182 0 69 (dk_at dksX13_truth_0 13 rfl rfl)
theorem dX13_truth_16 : decode cX13_truth 16 = .ok (.astore_n 2, 1) := dk_77 (dk_at dksX13_truth_0 16 rfl rfl)
theorem dX13_truth_17 : decode cX13_truth 17 = .ok (.aload_n 0, 1) := dk_42 (dk_at dksX13_truth_0 17 rfl rfl)
theorem dX13_truth_18 : decode cX13_truth 18 = .ok (.invokevirtual 19, 3) := dk_182 0 19 (dk_at dksX13_truth_0 18 rfl rfl)
theorem dX13_truth_21 : decode cX13_truth 21 = .ok (.bipush 38, 2) := dk_16 38 (dk_at dksX13_truth_0 21 rfl rfl)
theorem dX13_truth_23 : decode cX13_truth 23 = .ok (.if_icmp .ne 30, 3) := dk_160 0 30 (dk_at dksX13_truth_1 0 rfl rfl)
theorem dX13_truth_26 : decode cX13_truth 26 = .ok (.aload_n 0, 1) := dk_42 (dk_at dksX13_truth_1 3 rfl rfl)
theorem dX13_truth_27 : decode cX13_truth 27 = .ok (.dup, 1) := dk_89 (dk_at dksX13_truth_1 4 rfl rfl)
theorem dX13_truth_28 : decode cX13_truth 28 = .ok (.getfield 23, 3) := dk_180 0 23 (dk_at dksX13_truth_1 5 rfl rfl)
theorem dX13_truth_31 : decode cX13_truth 31 = .ok (.iconst 1, 1) := dk_4 (dk_at dksX13_truth_1 8 rfl rfl)
theorem dX13_truth_32 : decode cX13_truth 32 = .ok (.iadd, 1) := dk_96 (dk_at dksX13_truth_1 9 rfl rfl)
theorem dX13_truth_33 : decode cX13_truth 33 = .ok (.putfield 23, 3) := dk_181 0 23 (dk_at dksX13_truth_1 10 rfl rfl)
theorem dX13_truth_36 : decode cX13_truth 36 = .ok (.new 60, 3) := dk_187 0 60 (dk_at dksX13_truth_1 13 rfl rfl)
theorem dX13_truth_39 : decode cX13_truth 39 = .ok (.dup, 1) := dk_89 (dk_at dksX13_truth_1 16 rfl rfl)
theorem dX13_truth_40 : decode cX13_truth 40 = .ok (.iconst 1, 1) := dk_4 (dk_at dksX13_truth_1 17 rfl rfl)
theorem dX13_truth_41 : decode cX13_truth 41 = .ok (.aload_n 2, 1) := dk_44 (dk_at dksX13_truth_1 18 rfl rfl)
theorem dX13_truth_42 : decode cX13_truth 42 = .ok (.aload_n 0, 1) := dk_42 (dk_at dksX13_truth_1 19 rfl rfl)
theorem dX13_truth_43 : decode cX13_truth 43 = .ok (.invokevirtual 65, 3) := dk_182 0 65 (dk_at dksX13_truth_1 20 rfl rfl)
theorem dX13_truth_46 : decode cX13_truth 46 = .ok (.invokespecial 62, 3) := dk_183 0 62 (dk_at dksX13_truth_2 0 rfl rfl)
theorem dX13_truth_49 : decode cX13_truth 49 = .ok (.astore_n 2, 1) := dk_77 (dk_at dksX13_truth_2 3 rfl rfl)
theorem dX13_truth_50 : decode cX13_truth 50 = .ok (.goto (-33), 3) := dk_167 255 223 (dk_at dksX13_truth_2 4 rfl rfl)
theorem dX13_truth_53 : decode cX13_truth 53 = .ok (.aload_n 2, 1) := dk_44 (dk_at dksX13_truth_2 7 rfl rfl)
theorem dX13_truth_54 : decode cX13_truth 54 = .ok (.areturn, 1) := dk_176 (dk_at dksX13_truth_2 8 rfl rfl)
abbrev cX13_unit : ByteArray := prog_20_method_7_code
def yX13_unit : MethodName := ⟨RX13, "unit", "()LBalloonStall$Test;"⟩
def dkwX13_unit_2 : List UInt8 := [182, 0, 42, 77, 42, 16, 41, 182, 0, 84, 44, 176, 42, 42, 182, 0, 50, 182, 0, 69, 176]
abbrev dktX13_unit_2 : List UInt8 := dkwX13_unit_2 ++ []
def dkwX13_unit_1 : List UInt8 := [183, 0, 78, 77, 42, 182, 0, 81, 44, 176, 27, 16, 40, 160, 0, 21, 42, 182, 0, 72, 42, 1]
abbrev dktX13_unit_1 : List UInt8 := dkwX13_unit_1 ++ dktX13_unit_2
def dkwX13_unit_0 : List UInt8 := [42, 182, 0, 19, 60, 27, 16, 33, 160, 0, 25, 42, 182, 0, 72, 187, 0, 76, 89, 42, 182, 0, 65]
abbrev dktX13_unit_0 : List UInt8 := dkwX13_unit_0 ++ dktX13_unit_1
theorem dksX13_unit_0 : cX13_unit.data.toList.drop 0 = dktX13_unit_0 := by decide +kernel
theorem dksX13_unit_1 : cX13_unit.data.toList.drop 23 = dktX13_unit_1 := dk_seg dksX13_unit_0 23 rfl rfl
theorem dksX13_unit_2 : cX13_unit.data.toList.drop 45 = dktX13_unit_2 := dk_seg dksX13_unit_1 22 rfl rfl
theorem dX13_unit_0 : decode cX13_unit 0 = .ok (.aload_n 0, 1) := dk_42 (dk_at dksX13_unit_0 0 rfl rfl)
theorem dX13_unit_1 : decode cX13_unit 1 = .ok (.invokevirtual 19, 3) := dk_182 0 19 (dk_at dksX13_unit_0 1 rfl rfl)
theorem dX13_unit_4 : decode cX13_unit 4 = .ok (.istore_n 1, 1) := dk_60 (dk_at dksX13_unit_0 4 rfl rfl)
theorem dX13_unit_5 : decode cX13_unit 5 = .ok (.iload_n 1, 1) := dk_27 (dk_at dksX13_unit_0 5 rfl rfl)
theorem dX13_unit_6 : decode cX13_unit 6 = .ok (.bipush 33, 2) := dk_16 33 (dk_at dksX13_unit_0 6 rfl rfl)
theorem dX13_unit_8 : decode cX13_unit 8 = .ok (.if_icmp .ne 25, 3) := dk_160 0 25 (dk_at dksX13_unit_0 8 rfl rfl)
theorem dX13_unit_11 : decode cX13_unit 11 = .ok (.aload_n 0, 1) := dk_42 (dk_at dksX13_unit_0 11 rfl rfl)
theorem dX13_unit_12 : decode cX13_unit 12 = .ok (.invokevirtual 72, 3) := dk_182 0 72 (dk_at dksX13_unit_0 12 rfl rfl)
theorem dX13_unit_15 : decode cX13_unit 15 = .ok (.new 76, 3) := dk_187 0 76 (dk_at dksX13_unit_0 15 rfl rfl)
theorem dX13_unit_18 : decode cX13_unit 18 = .ok (.dup, 1) := dk_89 (dk_at dksX13_unit_0 18 rfl rfl)
theorem dX13_unit_19 : decode cX13_unit 19 = .ok (.aload_n 0, 1) := dk_42 (dk_at dksX13_unit_0 19 rfl rfl)
theorem dX13_unit_20 : decode cX13_unit 20 = .ok (.invokevirtual 65, 3) := dk_182 0 65 (dk_at dksX13_unit_0 20 rfl rfl)
theorem dX13_unit_23 : decode cX13_unit 23 = .ok (.invokespecial 78, 3) := dk_183 0 78 (dk_at dksX13_unit_1 0 rfl rfl)
theorem dX13_unit_26 : decode cX13_unit 26 = .ok (.astore_n 2, 1) := dk_77 (dk_at dksX13_unit_1 3 rfl rfl)
theorem dX13_unit_27 : decode cX13_unit 27 = .ok (.aload_n 0, 1) := dk_42 (dk_at dksX13_unit_1 4 rfl rfl)
theorem dX13_unit_28 : decode cX13_unit 28 = .ok (.invokevirtual 81, 3) := dk_182 0 81 (dk_at dksX13_unit_1 5 rfl rfl)
theorem dX13_unit_31 : decode cX13_unit 31 = .ok (.aload_n 2, 1) := dk_44 (dk_at dksX13_unit_1 8 rfl rfl)
theorem dX13_unit_32 : decode cX13_unit 32 = .ok (.areturn, 1) := dk_176 (dk_at dksX13_unit_1 9 rfl rfl)
theorem dX13_unit_33 : decode cX13_unit 33 = .ok (.iload_n 1, 1) := dk_27 (dk_at dksX13_unit_1 10 rfl rfl)
theorem dX13_unit_34 : decode cX13_unit 34 = .ok (.bipush 40, 2) := dk_16 40 (dk_at dksX13_unit_1 11 rfl rfl)
theorem dX13_unit_36 : decode cX13_unit 36 = .ok (.if_icmp .ne 21, 3) := dk_160 0 21 (dk_at dksX13_unit_1 13 rfl rfl)
theorem dX13_unit_39 : decode cX13_unit 39 = .ok (.aload_n 0, 1) := dk_42 (dk_at dksX13_unit_1 16 rfl rfl)
theorem dX13_unit_40 : decode cX13_unit 40 = .ok (.invokevirtual 72, 3) := dk_182 0 72 (dk_at dksX13_unit_1 17 rfl rfl)
theorem dX13_unit_43 : decode cX13_unit 43 = .ok (.aload_n 0, 1) := dk_42 (dk_at dksX13_unit_1 20 rfl rfl)
theorem dX13_unit_44 : decode cX13_unit 44 = .ok (.aconst_null, 1) := dk_1 (dk_at dksX13_unit_1 21 rfl rfl)
theorem dX13_unit_45 : decode cX13_unit 45 = .ok (.invokevirtual 42, 3) := dk_182 0 42 (dk_at dksX13_unit_2 0 rfl rfl)
theorem dX13_unit_48 : decode cX13_unit 48 = .ok (.astore_n 2, 1) := dk_77 (dk_at dksX13_unit_2 3 rfl rfl)
theorem dX13_unit_49 : decode cX13_unit 49 = .ok (.aload_n 0, 1) := dk_42 (dk_at dksX13_unit_2 4 rfl rfl)
theorem dX13_unit_50 : decode cX13_unit 50 = .ok (.bipush 41, 2) := dk_16 41 (dk_at dksX13_unit_2 5 rfl rfl)
theorem dX13_unit_52 : decode cX13_unit 52 = .ok (.invokevirtual 84, 3) := dk_182 0 84 (dk_at dksX13_unit_2 7 rfl rfl)
theorem dX13_unit_55 : decode cX13_unit 55 = .ok (.aload_n 2, 1) := dk_44 (dk_at dksX13_unit_2 10 rfl rfl)
theorem dX13_unit_56 : decode cX13_unit 56 = .ok (.areturn, 1) := dk_176 (dk_at dksX13_unit_2 11 rfl rfl)
theorem dX13_unit_57 : decode cX13_unit 57 = .ok (.aload_n 0, 1) := dk_42 (dk_at dksX13_unit_2 12 rfl rfl)
theorem dX13_unit_58 : decode cX13_unit 58 = .ok (.aload_n 0, 1) := dk_42 (dk_at dksX13_unit_2 13 rfl rfl)
theorem dX13_unit_59 : decode cX13_unit 59 = .ok (.invokevirtual 50, 3) := dk_182 0 50 (dk_at dksX13_unit_2 14 rfl rfl)
theorem dX13_unit_62 : decode cX13_unit 62 = .ok (.invokevirtual 69, 3) := dk_182 0 69 (dk_at dksX13_unit_2 17 rfl rfl)
theorem dX13_unit_65 : decode cX13_unit 65 = .ok (.areturn, 1) := dk_176 (dk_at dksX13_unit_2 20 rfl rfl)
abbrev cX13_sum : ByteArray := prog_20_method_9_code
def yX13_sum : MethodName := ⟨RX13, "sum", "()LBalloonStall$Sum;"⟩
def dkwX13_sum_2 : List UInt8 := [182, 0, 19, 61, 167, 255, 215, 43, 176]
abbrev dktX13_sum_2 : List UInt8 := dkwX13_sum_2 ++ []
def dkwX13_sum_1 : List UInt8 := [180, 0, 23, 4, 96, 181, 0, 23, 187, 0, 95, 89, 28, 43, 42, 182, 0, 92, 183, 0, 97, 76, 42]
abbrev dktX13_sum_1 : List UInt8 := dkwX13_sum_1 ++ dktX13_sum_2
def dkwX13_sum_0 : List UInt8 := [42, 182, 0, 92, 76, 42, 182, 0, 19, 61, 28, 16, 43, 159, 0, 9, 28, 16, 45, 160, 0, 35, 42, 89]
abbrev dktX13_sum_0 : List UInt8 := dkwX13_sum_0 ++ dktX13_sum_1
theorem dksX13_sum_0 : cX13_sum.data.toList.drop 0 = dktX13_sum_0 := by decide +kernel
theorem dksX13_sum_1 : cX13_sum.data.toList.drop 24 = dktX13_sum_1 := dk_seg dksX13_sum_0 24 rfl rfl
theorem dksX13_sum_2 : cX13_sum.data.toList.drop 47 = dktX13_sum_2 := dk_seg dksX13_sum_1 23 rfl rfl
theorem dX13_sum_0 : decode cX13_sum 0 = .ok (.aload_n 0, 1) := dk_42 (dk_at dksX13_sum_0 0 rfl rfl)
theorem dX13_sum_1 : decode cX13_sum 1 = .ok (.invokevirtual 92, 3) := dk_182 0 92 (dk_at dksX13_sum_0 1 rfl rfl)
theorem dX13_sum_4 : decode cX13_sum 4 = .ok (.astore_n 1, 1) := dk_76 (dk_at dksX13_sum_0 4 rfl rfl)
theorem dX13_sum_5 : decode cX13_sum 5 = .ok (.aload_n 0, 1) := dk_42 (dk_at dksX13_sum_0 5 rfl rfl)
theorem dX13_sum_6 : decode cX13_sum 6 = .ok (.invokevirtual 19, 3) := dk_182 0 19 (dk_at dksX13_sum_0 6 rfl rfl)
theorem dX13_sum_9 : decode cX13_sum 9 = .ok (.istore_n 2, 1) := dk_61 (dk_at dksX13_sum_0 9 rfl rfl)
theorem dX13_sum_10 : decode cX13_sum 10 = .ok (.iload_n 2, 1) := dk_28 (dk_at dksX13_sum_0 10 rfl rfl)
theorem dX13_sum_11 : decode cX13_sum 11 = .ok (.bipush 43, 2) := dk_16 43 (dk_at dksX13_sum_0 11 rfl rfl)
theorem dX13_sum_13 : decode cX13_sum 13 = .ok (.if_icmp .eq 9, 3) := dk_159 0 9 (dk_at dksX13_sum_0 13 rfl rfl)
theorem dX13_sum_16 : decode cX13_sum 16 = .ok (.iload_n 2, 1) := dk_28 (dk_at dksX13_sum_0 16 rfl rfl)
theorem dX13_sum_17 : decode cX13_sum 17 = .ok (.bipush 45, 2) := dk_16 45 (dk_at dksX13_sum_0 17 rfl rfl)
theorem dX13_sum_19 : decode cX13_sum 19 = .ok (.if_icmp .ne 35, 3) := dk_160 0 35 (dk_at dksX13_sum_0 19 rfl rfl)
theorem dX13_sum_22 : decode cX13_sum 22 = .ok (.aload_n 0, 1) := dk_42 (dk_at dksX13_sum_0 22 rfl rfl)
theorem dX13_sum_23 : decode cX13_sum 23 = .ok (.dup, 1) := dk_89 (dk_at dksX13_sum_0 23 rfl rfl)
theorem dX13_sum_24 : decode cX13_sum 24 = .ok (.getfield 23, 3) := dk_180 0 23 (dk_at dksX13_sum_1 0 rfl rfl)
theorem dX13_sum_27 : decode cX13_sum 27 = .ok (.iconst 1, 1) := dk_4 (dk_at dksX13_sum_1 3 rfl rfl)
theorem dX13_sum_28 : decode cX13_sum 28 = .ok (.iadd, 1) := dk_96 (dk_at dksX13_sum_1 4 rfl rfl)
theorem dX13_sum_29 : decode cX13_sum 29 = .ok (.putfield 23, 3) := dk_181 0 23 (dk_at dksX13_sum_1 5 rfl rfl)
theorem dX13_sum_32 : decode cX13_sum 32 = .ok (.new 95, 3) := dk_187 0 95 (dk_at dksX13_sum_1 8 rfl rfl)
theorem dX13_sum_35 : decode cX13_sum 35 = .ok (.dup, 1) := dk_89 (dk_at dksX13_sum_1 11 rfl rfl)
theorem dX13_sum_36 : decode cX13_sum 36 = .ok (.iload_n 2, 1) := dk_28 (dk_at dksX13_sum_1 12 rfl rfl)
theorem dX13_sum_37 : decode cX13_sum 37 = .ok (.aload_n 1, 1) := dk_43 (dk_at dksX13_sum_1 13 rfl rfl)
theorem dX13_sum_38 : decode cX13_sum 38 = .ok (.aload_n 0, 1) := dk_42 (dk_at dksX13_sum_1 14 rfl rfl)
theorem dX13_sum_39 : decode cX13_sum 39 = .ok (.invokevirtual 92, 3) := dk_182 0 92 (dk_at dksX13_sum_1 15 rfl rfl)
theorem dX13_sum_42 : decode cX13_sum 42 = .ok (.invokespecial 97, 3) := dk_183 0 97 (dk_at dksX13_sum_1 18 rfl rfl)
theorem dX13_sum_45 : decode cX13_sum 45 = .ok (.astore_n 1, 1) := dk_76 (dk_at dksX13_sum_1 21 rfl rfl)
theorem dX13_sum_46 : decode cX13_sum 46 = .ok (.aload_n 0, 1) := dk_42 (dk_at dksX13_sum_1 22 rfl rfl)
theorem dX13_sum_47 : decode cX13_sum 47 = .ok (.invokevirtual 19, 3) := dk_182 0 19 (dk_at dksX13_sum_2 0 rfl rfl)
theorem dX13_sum_50 : decode cX13_sum 50 = .ok (.istore_n 2, 1) := dk_61 (dk_at dksX13_sum_2 3 rfl rfl)
theorem dX13_sum_51 : decode cX13_sum 51 = .ok (.goto (-41), 3) := dk_167 255 215 (dk_at dksX13_sum_2 4 rfl rfl)
theorem dX13_sum_54 : decode cX13_sum 54 = .ok (.aload_n 1, 1) := dk_43 (dk_at dksX13_sum_2 7 rfl rfl)
theorem dX13_sum_55 : decode cX13_sum 55 = .ok (.areturn, 1) := dk_176 (dk_at dksX13_sum_2 8 rfl rfl)
abbrev cX13_term : ByteArray := prog_20_method_10_code
def yX13_term : MethodName := ⟨RX13, "term", "()LBalloonStall$Sum;"⟩
def dkwX13_term_2 : List UInt8 := [182, 0, 19, 61, 167, 255, 215, 43, 176]
abbrev dktX13_term_2 : List UInt8 := dkwX13_term_2 ++ []
def dkwX13_term_1 : List UInt8 := [180, 0, 23, 4, 96, 181, 0, 23, 187, 0, 95, 89, 28, 43, 42, 182, 0, 98, 183, 0, 97, 76, 42]
abbrev dktX13_term_1 : List UInt8 := dkwX13_term_1 ++ dktX13_term_2
def dkwX13_term_0 : List UInt8 := [42, 182, 0, 98, 76, 42, 182, 0, 19, 61, 28, 16, 42, 159, 0, 9, 28, 16, 47, 160, 0, 35, 42, 89]
abbrev dktX13_term_0 : List UInt8 := dkwX13_term_0 ++ dktX13_term_1
theorem dksX13_term_0 : cX13_term.data.toList.drop 0 = dktX13_term_0 := by decide +kernel
theorem dksX13_term_1 : cX13_term.data.toList.drop 24 = dktX13_term_1 := dk_seg dksX13_term_0 24 rfl rfl
theorem dksX13_term_2 : cX13_term.data.toList.drop 47 = dktX13_term_2 := dk_seg dksX13_term_1 23 rfl rfl
theorem dX13_term_0 : decode cX13_term 0 = .ok (.aload_n 0, 1) := dk_42 (dk_at dksX13_term_0 0 rfl rfl)
theorem dX13_term_1 : decode cX13_term 1 = .ok (.invokevirtual 98, 3) := dk_182 0 98 (dk_at dksX13_term_0 1 rfl rfl)
theorem dX13_term_4 : decode cX13_term 4 = .ok (.astore_n 1, 1) := dk_76 (dk_at dksX13_term_0 4 rfl rfl)
theorem dX13_term_5 : decode cX13_term 5 = .ok (.aload_n 0, 1) := dk_42 (dk_at dksX13_term_0 5 rfl rfl)
theorem dX13_term_6 : decode cX13_term 6 = .ok (.invokevirtual 19, 3) := dk_182 0 19 (dk_at dksX13_term_0 6 rfl rfl)
theorem dX13_term_9 : decode cX13_term 9 = .ok (.istore_n 2, 1) := dk_61 (dk_at dksX13_term_0 9 rfl rfl)
theorem dX13_term_10 : decode cX13_term 10 = .ok (.iload_n 2, 1) := dk_28 (dk_at dksX13_term_0 10 rfl rfl)
theorem dX13_term_11 : decode cX13_term 11 = .ok (.bipush 42, 2) := dk_16 42 (dk_at dksX13_term_0 11 rfl rfl)
theorem dX13_term_13 : decode cX13_term 13 = .ok (.if_icmp .eq 9, 3) := dk_159 0 9 (dk_at dksX13_term_0 13 rfl rfl)
theorem dX13_term_16 : decode cX13_term 16 = .ok (.iload_n 2, 1) := dk_28 (dk_at dksX13_term_0 16 rfl rfl)
theorem dX13_term_17 : decode cX13_term 17 = .ok (.bipush 47, 2) := dk_16 47 (dk_at dksX13_term_0 17 rfl rfl)
theorem dX13_term_19 : decode cX13_term 19 = .ok (.if_icmp .ne 35, 3) := dk_160 0 35 (dk_at dksX13_term_0 19 rfl rfl)
theorem dX13_term_22 : decode cX13_term 22 = .ok (.aload_n 0, 1) := dk_42 (dk_at dksX13_term_0 22 rfl rfl)
theorem dX13_term_23 : decode cX13_term 23 = .ok (.dup, 1) := dk_89 (dk_at dksX13_term_0 23 rfl rfl)
theorem dX13_term_24 : decode cX13_term 24 = .ok (.getfield 23, 3) := dk_180 0 23 (dk_at dksX13_term_1 0 rfl rfl)
theorem dX13_term_27 : decode cX13_term 27 = .ok (.iconst 1, 1) := dk_4 (dk_at dksX13_term_1 3 rfl rfl)
theorem dX13_term_28 : decode cX13_term 28 = .ok (.iadd, 1) := dk_96 (dk_at dksX13_term_1 4 rfl rfl)
theorem dX13_term_29 : decode cX13_term 29 = .ok (.putfield 23, 3) := dk_181 0 23 (dk_at dksX13_term_1 5 rfl rfl)
theorem dX13_term_32 : decode cX13_term 32 = .ok (.new 95, 3) := dk_187 0 95 (dk_at dksX13_term_1 8 rfl rfl)
theorem dX13_term_35 : decode cX13_term 35 = .ok (.dup, 1) := dk_89 (dk_at dksX13_term_1 11 rfl rfl)
theorem dX13_term_36 : decode cX13_term 36 = .ok (.iload_n 2, 1) := dk_28 (dk_at dksX13_term_1 12 rfl rfl)
theorem dX13_term_37 : decode cX13_term 37 = .ok (.aload_n 1, 1) := dk_43 (dk_at dksX13_term_1 13 rfl rfl)
theorem dX13_term_38 : decode cX13_term 38 = .ok (.aload_n 0, 1) := dk_42 (dk_at dksX13_term_1 14 rfl rfl)
theorem dX13_term_39 : decode cX13_term 39 = .ok (.invokevirtual 98, 3) := dk_182 0 98 (dk_at dksX13_term_1 15 rfl rfl)
theorem dX13_term_42 : decode cX13_term 42 = .ok (.invokespecial 97, 3) := dk_183 0 97 (dk_at dksX13_term_1 18 rfl rfl)
theorem dX13_term_45 : decode cX13_term 45 = .ok (.astore_n 1, 1) := dk_76 (dk_at dksX13_term_1 21 rfl rfl)
theorem dX13_term_46 : decode cX13_term 46 = .ok (.aload_n 0, 1) := dk_42 (dk_at dksX13_term_1 22 rfl rfl)
theorem dX13_term_47 : decode cX13_term 47 = .ok (.invokevirtual 19, 3) := dk_182 0 19 (dk_at dksX13_term_2 0 rfl rfl)
theorem dX13_term_50 : decode cX13_term 50 = .ok (.istore_n 2, 1) := dk_61 (dk_at dksX13_term_2 3 rfl rfl)
theorem dX13_term_51 : decode cX13_term 51 = .ok (.goto (-41), 3) := dk_167 255 215 (dk_at dksX13_term_2 4 rfl rfl)
theorem dX13_term_54 : decode cX13_term 54 = .ok (.aload_n 1, 1) := dk_43 (dk_at dksX13_term_2 7 rfl rfl)
theorem dX13_term_55 : decode cX13_term 55 = .ok (.areturn, 1) := dk_176 (dk_at dksX13_term_2 8 rfl rfl)
abbrev cX13_atom : ByteArray := prog_20_method_11_code
def yX13_atom : MethodName := ⟨RX13, "atom", "()LBalloonStall$Sum;"⟩
def dkwX13_atom_5 : List UInt8 := [100, 61, 132, 3, 1, 167, 255, 223, 187, 0, 108, 89, 28, 183, 0, 110, 176]
abbrev dktX13_atom_5 : List UInt8 := dkwX13_atom_5 ++ []
def dkwX13_atom_4 : List UInt8 := [153, 0, 32, 16, 10, 28, 104, 42, 29, 7, 162, 0, 7, 4, 167, 0, 4, 3, 182, 0, 38, 96, 16, 48]
abbrev dktX13_atom_4 : List UInt8 := dkwX13_atom_4 ++ dktX13_atom_5
def dkwX13_atom_3 : List UInt8 := [182, 0, 84, 44, 176, 42, 42, 182, 0, 104, 182, 0, 38, 16, 48, 100, 61, 4, 62, 42, 182, 0, 104]
abbrev dktX13_atom_3 : List UInt8 := dkwX13_atom_3 ++ dktX13_atom_4
def dkwX13_atom_2 : List UInt8 := [89, 27, 183, 0, 103, 176, 27, 16, 91, 160, 0, 20, 42, 182, 0, 72, 42, 182, 0, 50, 77, 42, 16, 93]
abbrev dktX13_atom_2 : List UInt8 := dkwX13_atom_2 ++ dktX13_atom_3
def dkwX13_atom_1 : List UInt8 := [16, 115, 159, 0, 9, 27, 16, 97, 160, 0, 22, 42, 89, 180, 0, 23, 4, 96, 181, 0, 23, 187, 0, 101]
abbrev dktX13_atom_1 : List UInt8 := dkwX13_atom_1 ++ dktX13_atom_2
def dkwX13_atom_0 : List UInt8 := [42, 182, 0, 19, 60, 27, 16, 108, 159, 0, 27, 27, 16, 104, 159, 0, 21, 27, 16, 107, 159, 0, 15, 27]
abbrev dktX13_atom_0 : List UInt8 := dkwX13_atom_0 ++ dktX13_atom_1
theorem dksX13_atom_0 : cX13_atom.data.toList.drop 0 = dktX13_atom_0 := by decide +kernel
theorem dksX13_atom_1 : cX13_atom.data.toList.drop 24 = dktX13_atom_1 := dk_seg dksX13_atom_0 24 rfl rfl
theorem dksX13_atom_2 : cX13_atom.data.toList.drop 48 = dktX13_atom_2 := dk_seg dksX13_atom_1 24 rfl rfl
theorem dksX13_atom_3 : cX13_atom.data.toList.drop 72 = dktX13_atom_3 := dk_seg dksX13_atom_2 24 rfl rfl
theorem dksX13_atom_4 : cX13_atom.data.toList.drop 95 = dktX13_atom_4 := dk_seg dksX13_atom_3 23 rfl rfl
theorem dksX13_atom_5 : cX13_atom.data.toList.drop 119 = dktX13_atom_5 := dk_seg dksX13_atom_4 24 rfl rfl
theorem dX13_atom_0 : decode cX13_atom 0 = .ok (.aload_n 0, 1) := dk_42 (dk_at dksX13_atom_0 0 rfl rfl)
theorem dX13_atom_1 : decode cX13_atom 1 = .ok (.invokevirtual 19, 3) := dk_182 0 19 (dk_at dksX13_atom_0 1 rfl rfl)
theorem dX13_atom_4 : decode cX13_atom 4 = .ok (.istore_n 1, 1) := dk_60 (dk_at dksX13_atom_0 4 rfl rfl)
theorem dX13_atom_5 : decode cX13_atom 5 = .ok (.iload_n 1, 1) := dk_27 (dk_at dksX13_atom_0 5 rfl rfl)
theorem dX13_atom_6 : decode cX13_atom 6 = .ok (.bipush 108, 2) := dk_16 108 (dk_at dksX13_atom_0 6 rfl rfl)
theorem dX13_atom_8 : decode cX13_atom 8 = .ok (.if_icmp .eq 27, 3) := dk_159 0 27 (dk_at dksX13_atom_0 8 rfl rfl)
theorem dX13_atom_11 : decode cX13_atom 11 = .ok (.iload_n 1, 1) := dk_27 (dk_at dksX13_atom_0 11 rfl rfl)
theorem dX13_atom_12 : decode cX13_atom 12 = .ok (.bipush 104, 2) := dk_16 104 (dk_at dksX13_atom_0 12 rfl rfl)
theorem dX13_atom_14 : decode cX13_atom 14 = .ok (.if_icmp .eq 21, 3) := dk_159 0 21 (dk_at dksX13_atom_0 14 rfl rfl)
theorem dX13_atom_17 : decode cX13_atom 17 = .ok (.iload_n 1, 1) := dk_27 (dk_at dksX13_atom_0 17 rfl rfl)
theorem dX13_atom_18 : decode cX13_atom 18 = .ok (.bipush 107, 2) := dk_16 107 (dk_at dksX13_atom_0 18 rfl rfl)
theorem dX13_atom_20 : decode cX13_atom 20 = .ok (.if_icmp .eq 15, 3) := dk_159 0 15 (dk_at dksX13_atom_0 20 rfl rfl)
theorem dX13_atom_23 : decode cX13_atom 23 = .ok (.iload_n 1, 1) := dk_27 (dk_at dksX13_atom_0 23 rfl rfl)
theorem dX13_atom_24 : decode cX13_atom 24 = .ok (.bipush 115, 2) := dk_16 115 (dk_at dksX13_atom_1 0 rfl rfl)
theorem dX13_atom_26 : decode cX13_atom 26 = .ok (.if_icmp .eq 9, 3) := dk_159 0 9 (dk_at dksX13_atom_1 2 rfl rfl)
theorem dX13_atom_29 : decode cX13_atom 29 = .ok (.iload_n 1, 1) := dk_27 (dk_at dksX13_atom_1 5 rfl rfl)
theorem dX13_atom_30 : decode cX13_atom 30 = .ok (.bipush 97, 2) := dk_16 97 (dk_at dksX13_atom_1 6 rfl rfl)
theorem dX13_atom_32 : decode cX13_atom 32 = .ok (.if_icmp .ne 22, 3) := dk_160 0 22 (dk_at dksX13_atom_1 8 rfl rfl)
theorem dX13_atom_35 : decode cX13_atom 35 = .ok (.aload_n 0, 1) := dk_42 (dk_at dksX13_atom_1 11 rfl rfl)
theorem dX13_atom_36 : decode cX13_atom 36 = .ok (.dup, 1) := dk_89 (dk_at dksX13_atom_1 12 rfl rfl)
theorem dX13_atom_37 : decode cX13_atom 37 = .ok (.getfield 23, 3) := dk_180 0 23 (dk_at dksX13_atom_1 13 rfl rfl)
theorem dX13_atom_40 : decode cX13_atom 40 = .ok (.iconst 1, 1) := dk_4 (dk_at dksX13_atom_1 16 rfl rfl)
theorem dX13_atom_41 : decode cX13_atom 41 = .ok (.iadd, 1) := dk_96 (dk_at dksX13_atom_1 17 rfl rfl)
theorem dX13_atom_42 : decode cX13_atom 42 = .ok (.putfield 23, 3) := dk_181 0 23 (dk_at dksX13_atom_1 18 rfl rfl)
theorem dX13_atom_45 : decode cX13_atom 45 = .ok (.new 101, 3) := dk_187 0 101 (dk_at dksX13_atom_1 21 rfl rfl)
theorem dX13_atom_48 : decode cX13_atom 48 = .ok (.dup, 1) := dk_89 (dk_at dksX13_atom_2 0 rfl rfl)
theorem dX13_atom_49 : decode cX13_atom 49 = .ok (.iload_n 1, 1) := dk_27 (dk_at dksX13_atom_2 1 rfl rfl)
theorem dX13_atom_50 : decode cX13_atom 50 = .ok (.invokespecial 103, 3) := dk_183 0 103 (dk_at dksX13_atom_2 2 rfl rfl)
theorem dX13_atom_53 : decode cX13_atom 53 = .ok (.areturn, 1) := dk_176 (dk_at dksX13_atom_2 5 rfl rfl)
theorem dX13_atom_54 : decode cX13_atom 54 = .ok (.iload_n 1, 1) := dk_27 (dk_at dksX13_atom_2 6 rfl rfl)
theorem dX13_atom_55 : decode cX13_atom 55 = .ok (.bipush 91, 2) := dk_16 91 (dk_at dksX13_atom_2 7 rfl rfl)
theorem dX13_atom_57 : decode cX13_atom 57 = .ok (.if_icmp .ne 20, 3) := dk_160 0 20 (dk_at dksX13_atom_2 9 rfl rfl)
theorem dX13_atom_60 : decode cX13_atom 60 = .ok (.aload_n 0, 1) := dk_42 (dk_at dksX13_atom_2 12 rfl rfl)
theorem dX13_atom_61 : decode cX13_atom 61 = .ok (.invokevirtual 72, 3) := dk_182 0 72 (dk_at dksX13_atom_2 13 rfl rfl)
theorem dX13_atom_64 : decode cX13_atom 64 = .ok (.aload_n 0, 1) := dk_42 (dk_at dksX13_atom_2 16 rfl rfl)
theorem dX13_atom_65 : decode cX13_atom 65 = .ok (.invokevirtual 50, 3) := dk_182 0 50 (dk_at dksX13_atom_2 17 rfl rfl)
theorem dX13_atom_68 : decode cX13_atom 68 = .ok (.astore_n 2, 1) := dk_77 (dk_at dksX13_atom_2 20 rfl rfl)
theorem dX13_atom_69 : decode cX13_atom 69 = .ok (.aload_n 0, 1) := dk_42 (dk_at dksX13_atom_2 21 rfl rfl)
theorem dX13_atom_70 : decode cX13_atom 70 = .ok (.bipush 93, 2) := dk_16 93 (dk_at dksX13_atom_2 22 rfl rfl)
theorem dX13_atom_72 : decode cX13_atom 72 = .ok (.invokevirtual 84, 3) := dk_182 0 84 (dk_at dksX13_atom_3 0 rfl rfl)
theorem dX13_atom_75 : decode cX13_atom 75 = .ok (.aload_n 2, 1) := dk_44 (dk_at dksX13_atom_3 3 rfl rfl)
theorem dX13_atom_76 : decode cX13_atom 76 = .ok (.areturn, 1) := dk_176 (dk_at dksX13_atom_3 4 rfl rfl)
theorem dX13_atom_77 : decode cX13_atom 77 = .ok (.aload_n 0, 1) := dk_42 (dk_at dksX13_atom_3 5 rfl rfl)
theorem dX13_atom_78 : decode cX13_atom 78 = .ok (.aload_n 0, 1) := dk_42 (dk_at dksX13_atom_3 6 rfl rfl)
theorem dX13_atom_79 : decode cX13_atom 79 = .ok (.invokevirtual 104, 3) := dk_182 0 104 (dk_at dksX13_atom_3 7 rfl rfl)
theorem dX13_atom_82 : decode cX13_atom 82 = .ok (.invokevirtual 38, 3) := dk_182 0 38 (dk_at dksX13_atom_3 10 rfl rfl)
theorem dX13_atom_85 : decode cX13_atom 85 = .ok (.bipush 48, 2) := dk_16 48 (dk_at dksX13_atom_3 13 rfl rfl)
theorem dX13_atom_87 : decode cX13_atom 87 = .ok (.isub, 1) := dk_100 (dk_at dksX13_atom_3 15 rfl rfl)
theorem dX13_atom_88 : decode cX13_atom 88 = .ok (.istore_n 2, 1) := dk_61 (dk_at dksX13_atom_3 16 rfl rfl)
theorem dX13_atom_89 : decode cX13_atom 89 = .ok (.iconst 1, 1) := dk_4 (dk_at dksX13_atom_3 17 rfl rfl)
theorem dX13_atom_90 : decode cX13_atom 90 = .ok (.istore_n 3, 1) := dk_62 (dk_at dksX13_atom_3 18 rfl rfl)
theorem dX13_atom_91 : decode cX13_atom 91 = .ok (.aload_n 0, 1) := dk_42 (dk_at dksX13_atom_3 19 rfl rfl)
theorem dX13_atom_92 : decode cX13_atom 92 = .ok (.invokevirtual 104, 3) := dk_182 0 104 (dk_at dksX13_atom_3 20 rfl rfl)
theorem dX13_atom_95 : decode cX13_atom 95 = .ok (.ifCond .eq 32, 3) := dk_153 0 32 (dk_at dksX13_atom_4 0 rfl rfl)
theorem dX13_atom_98 : decode cX13_atom 98 = .ok (.bipush 10, 2) := dk_16 10 (dk_at dksX13_atom_4 3 rfl rfl)
theorem dX13_atom_100 : decode cX13_atom 100 = .ok (.iload_n 2, 1) := dk_28 (dk_at dksX13_atom_4 5 rfl rfl)
theorem dX13_atom_101 : decode cX13_atom 101 = .ok (.imul, 1) := dk_104 (dk_at dksX13_atom_4 6 rfl rfl)
theorem dX13_atom_102 : decode cX13_atom 102 = .ok (.aload_n 0, 1) := dk_42 (dk_at dksX13_atom_4 7 rfl rfl)
theorem dX13_atom_103 : decode cX13_atom 103 = .ok (.iload_n 3, 1) := dk_29 (dk_at dksX13_atom_4 8 rfl rfl)
theorem dX13_atom_104 : decode cX13_atom 104 = .ok (.iconst 4, 1) := dk_7 (dk_at dksX13_atom_4 9 rfl rfl)
theorem dX13_atom_105 : decode cX13_atom 105 = .ok (.if_icmp .ge 7, 3) := dk_162 0 7 (dk_at dksX13_atom_4 10 rfl rfl)
theorem dX13_atom_108 : decode cX13_atom 108 = .ok (.iconst 1, 1) := dk_4 (dk_at dksX13_atom_4 13 rfl rfl)
theorem dX13_atom_109 : decode cX13_atom 109 = .ok (.goto 4, 3) := dk_167 0 4 (dk_at dksX13_atom_4 14 rfl rfl)
theorem dX13_atom_112 : decode cX13_atom 112 = .ok (.iconst 0, 1) := dk_3 (dk_at dksX13_atom_4 17 rfl rfl)
theorem dX13_atom_113 : decode cX13_atom 113 = .ok (.invokevirtual 38, 3) := dk_182 0 38 (dk_at dksX13_atom_4 18 rfl rfl)
theorem dX13_atom_116 : decode cX13_atom 116 = .ok (.iadd, 1) := dk_96 (dk_at dksX13_atom_4 21 rfl rfl)
theorem dX13_atom_117 : decode cX13_atom 117 = .ok (.bipush 48, 2) := dk_16 48 (dk_at dksX13_atom_4 22 rfl rfl)
theorem dX13_atom_119 : decode cX13_atom 119 = .ok (.isub, 1) := dk_100 (dk_at dksX13_atom_5 0 rfl rfl)
theorem dX13_atom_120 : decode cX13_atom 120 = .ok (.istore_n 2, 1) := dk_61 (dk_at dksX13_atom_5 1 rfl rfl)
theorem dX13_atom_121 : decode cX13_atom 121 = .ok (.iinc 3 1, 3) := dk_132 3 1 (dk_at dksX13_atom_5 2 rfl rfl)
theorem dX13_atom_124 : decode cX13_atom 124 = .ok (.goto (-33), 3) := dk_167 255 223 (dk_at dksX13_atom_5 5 rfl rfl)
theorem dX13_atom_127 : decode cX13_atom 127 = .ok (.new 108, 3) := dk_187 0 108 (dk_at dksX13_atom_5 8 rfl rfl)
theorem dX13_atom_130 : decode cX13_atom 130 = .ok (.dup, 1) := dk_89 (dk_at dksX13_atom_5 11 rfl rfl)
theorem dX13_atom_131 : decode cX13_atom 131 = .ok (.iload_n 2, 1) := dk_28 (dk_at dksX13_atom_5 12 rfl rfl)
theorem dX13_atom_132 : decode cX13_atom 132 = .ok (.invokespecial 110, 3) := dk_183 0 110 (dk_at dksX13_atom_5 13 rfl rfl)
theorem dX13_atom_135 : decode cX13_atom 135 = .ok (.areturn, 1) := dk_176 (dk_at dksX13_atom_5 16 rfl rfl)
abbrev cX13_compares : ByteArray := prog_20_method_8_code
def yX13_compares : MethodName := ⟨RX13, "compares", "(LBalloonStall$Sum;)LBalloonStall$Test;"⟩
def dkwX13_compares_1 : List UInt8 := [4, 167, 0, 4, 3, 182, 0, 38, 62, 187, 0, 87, 89, 29, 43, 42, 182, 0, 50, 183, 0, 89, 176]
abbrev dktX13_compares_1 : List UInt8 := dkwX13_compares_1 ++ []
def dkwX13_compares_0 : List UInt8 := [42, 182, 0, 19, 61, 42, 28, 16, 61, 159, 0, 15, 28, 16, 60, 159, 0, 9, 28, 16, 62, 160, 0, 7]
abbrev dktX13_compares_0 : List UInt8 := dkwX13_compares_0 ++ dktX13_compares_1
theorem dksX13_compares_0 : cX13_compares.data.toList.drop 0 = dktX13_compares_0 := by decide +kernel
theorem dksX13_compares_1 : cX13_compares.data.toList.drop 24 = dktX13_compares_1 := dk_seg dksX13_compares_0 24 rfl rfl
theorem dX13_compares_0 : decode cX13_compares 0 = .ok (.aload_n 0, 1) := dk_42 (dk_at dksX13_compares_0 0 rfl rfl)
theorem dX13_compares_1 : decode cX13_compares 1 = .ok (.invokevirtual 19, 3) := dk_182 0 19 (dk_at dksX13_compares_0 1 rfl rfl)
theorem dX13_compares_4 : decode cX13_compares 4 = .ok (.istore_n 2, 1) := dk_61 (dk_at dksX13_compares_0 4 rfl rfl)
theorem dX13_compares_5 : decode cX13_compares 5 = .ok (.aload_n 0, 1) := dk_42 (dk_at dksX13_compares_0 5 rfl rfl)
theorem dX13_compares_6 : decode cX13_compares 6 = .ok (.iload_n 2, 1) := dk_28 (dk_at dksX13_compares_0 6 rfl rfl)
theorem dX13_compares_7 : decode cX13_compares 7 = .ok (.bipush 61, 2) := dk_16 61 (dk_at dksX13_compares_0 7 rfl rfl)
theorem dX13_compares_9 : decode cX13_compares 9 = .ok (.if_icmp .eq 15, 3) := dk_159 0 15 (dk_at dksX13_compares_0 9 rfl rfl)
theorem dX13_compares_12 : decode cX13_compares 12 = .ok (.iload_n 2, 1) := dk_28 (dk_at dksX13_compares_0 12 rfl rfl)
theorem dX13_compares_13 : decode cX13_compares 13 = .ok (.bipush 60, 2) := dk_16 60 (dk_at dksX13_compares_0 13 rfl rfl)
theorem dX13_compares_15 : decode cX13_compares 15 = .ok (.if_icmp .eq 9, 3) := dk_159 0 9 (dk_at dksX13_compares_0 15 rfl rfl)
theorem dX13_compares_18 : decode cX13_compares 18 = .ok (.iload_n 2, 1) := dk_28 (dk_at dksX13_compares_0 18 rfl rfl)
theorem dX13_compares_19 : decode cX13_compares 19 = .ok (.bipush 62, 2) := dk_16 62 (dk_at dksX13_compares_0 19 rfl rfl)
theorem dX13_compares_21 : decode cX13_compares 21 = .ok (.if_icmp .ne 7, 3) := dk_160 0 7 (dk_at dksX13_compares_0 21 rfl rfl)
theorem dX13_compares_24 : decode cX13_compares 24 = .ok (.iconst 1, 1) := dk_4 (dk_at dksX13_compares_1 0 rfl rfl)
theorem dX13_compares_25 : decode cX13_compares 25 = .ok (.goto 4, 3) := dk_167 0 4 (dk_at dksX13_compares_1 1 rfl rfl)
theorem dX13_compares_28 : decode cX13_compares 28 = .ok (.iconst 0, 1) := dk_3 (dk_at dksX13_compares_1 4 rfl rfl)
theorem dX13_compares_29 : decode cX13_compares 29 = .ok (.invokevirtual 38, 3) := dk_182 0 38 (dk_at dksX13_compares_1 5 rfl rfl)
theorem dX13_compares_32 : decode cX13_compares 32 = .ok (.istore_n 3, 1) := dk_62 (dk_at dksX13_compares_1 8 rfl rfl)
theorem dX13_compares_33 : decode cX13_compares 33 = .ok (.new 87, 3) := dk_187 0 87 (dk_at dksX13_compares_1 9 rfl rfl)
theorem dX13_compares_36 : decode cX13_compares 36 = .ok (.dup, 1) := dk_89 (dk_at dksX13_compares_1 12 rfl rfl)
theorem dX13_compares_37 : decode cX13_compares 37 = .ok (.iload_n 3, 1) := dk_29 (dk_at dksX13_compares_1 13 rfl rfl)
theorem dX13_compares_38 : decode cX13_compares 38 = .ok (.aload_n 1, 1) := dk_43 (dk_at dksX13_compares_1 14 rfl rfl)
theorem dX13_compares_39 : decode cX13_compares 39 = .ok (.aload_n 0, 1) := dk_42 (dk_at dksX13_compares_1 15 rfl rfl)
theorem dX13_compares_40 : decode cX13_compares 40 = .ok (.invokevirtual 50, 3) := dk_182 0 50 (dk_at dksX13_compares_1 16 rfl rfl)
theorem dX13_compares_43 : decode cX13_compares 43 = .ok (.invokespecial 89, 3) := dk_183 0 89 (dk_at dksX13_compares_1 19 rfl rfl)
theorem dX13_compares_46 : decode cX13_compares 46 = .ok (.areturn, 1) := dk_176 (dk_at dksX13_compares_1 22 rfl rfl)
abbrev cX13_asked : ByteArray := prog_20_method_4_code
def yX13_asked : MethodName := ⟨RX13, "asked", "(LBalloonStall$Test;)LBalloonStall$Clause;"⟩
def dkwX13_asked_1 : List UInt8 := [89, 43, 42, 182, 0, 50, 183, 0, 54, 176]
abbrev dktX13_asked_1 : List UInt8 := dkwX13_asked_1 ++ []
def dkwX13_asked_0 : List UInt8 := [42, 182, 0, 19, 61, 42, 28, 16, 63, 160, 0, 7, 4, 167, 0, 4, 3, 182, 0, 38, 61, 187, 0, 28]
abbrev dktX13_asked_0 : List UInt8 := dkwX13_asked_0 ++ dktX13_asked_1
theorem dksX13_asked_0 : cX13_asked.data.toList.drop 0 = dktX13_asked_0 := by decide +kernel
theorem dksX13_asked_1 : cX13_asked.data.toList.drop 24 = dktX13_asked_1 := dk_seg dksX13_asked_0 24 rfl rfl
theorem dX13_asked_0 : decode cX13_asked 0 = .ok (.aload_n 0, 1) := dk_42 (dk_at dksX13_asked_0 0 rfl rfl)
theorem dX13_asked_1 : decode cX13_asked 1 = .ok (.invokevirtual 19, 3) := dk_182 0 19 (dk_at dksX13_asked_0 1 rfl rfl)
theorem dX13_asked_4 : decode cX13_asked 4 = .ok (.istore_n 2, 1) := dk_61 (dk_at dksX13_asked_0 4 rfl rfl)
theorem dX13_asked_5 : decode cX13_asked 5 = .ok (.aload_n 0, 1) := dk_42 (dk_at dksX13_asked_0 5 rfl rfl)
theorem dX13_asked_6 : decode cX13_asked 6 = .ok (.iload_n 2, 1) := dk_28 (dk_at dksX13_asked_0 6 rfl rfl)
theorem dX13_asked_7 : decode cX13_asked 7 = .ok (.bipush 63, 2) := dk_16 63 (dk_at dksX13_asked_0 7 rfl rfl)
theorem dX13_asked_9 : decode cX13_asked 9 = .ok (.if_icmp .ne 7, 3) := dk_160 0 7 (dk_at dksX13_asked_0 9 rfl rfl)
theorem dX13_asked_12 : decode cX13_asked 12 = .ok (.iconst 1, 1) := dk_4 (dk_at dksX13_asked_0 12 rfl rfl)
theorem dX13_asked_13 : decode cX13_asked 13 = .ok (.goto 4, 3) := dk_167 0 4 (dk_at dksX13_asked_0 13 rfl rfl)
theorem dX13_asked_16 : decode cX13_asked 16 = .ok (.iconst 0, 1) := dk_3 (dk_at dksX13_asked_0 16 rfl rfl)
theorem dX13_asked_17 : decode cX13_asked 17 = .ok (.invokevirtual 38, 3) := dk_182 0 38 (dk_at dksX13_asked_0 17 rfl rfl)
theorem dX13_asked_20 : decode cX13_asked 20 = .ok (.istore_n 2, 1) := dk_61 (dk_at dksX13_asked_0 20 rfl rfl)
theorem dX13_asked_21 : decode cX13_asked 21 = .ok (.new 28, 3) := dk_187 0 28 (dk_at dksX13_asked_0 21 rfl rfl)
theorem dX13_asked_24 : decode cX13_asked 24 = .ok (.dup, 1) := dk_89 (dk_at dksX13_asked_1 0 rfl rfl)
theorem dX13_asked_25 : decode cX13_asked 25 = .ok (.aload_n 1, 1) := dk_43 (dk_at dksX13_asked_1 1 rfl rfl)
theorem dX13_asked_26 : decode cX13_asked 26 = .ok (.aload_n 0, 1) := dk_42 (dk_at dksX13_asked_1 2 rfl rfl)
theorem dX13_asked_27 : decode cX13_asked 27 = .ok (.invokevirtual 50, 3) := dk_182 0 50 (dk_at dksX13_asked_1 3 rfl rfl)
theorem dX13_asked_30 : decode cX13_asked 30 = .ok (.invokespecial 54, 3) := dk_183 0 54 (dk_at dksX13_asked_1 6 rfl rfl)
theorem dX13_asked_33 : decode cX13_asked 33 = .ok (.areturn, 1) := dk_176 (dk_at dksX13_asked_1 9 rfl rfl)
theorem q118 : (Jvm.Cond.initialized "BalloonStall$RuleReader") ∈ lw_all := lw_g (lw_at lw_m1 16 rfl) rfl
theorem q309 : (Jvm.Cond.fieldLink "BalloonStall$RuleReader" (23 : Nat) "BalloonStall$RuleReader" "at" "I") ∈ lw_all := lw_g (lw_at lw_m1 207 rfl) rfl
theorem q310 : (Jvm.Cond.sameField "BalloonStall$RuleReader" "BalloonStall$Reader" "at" "I") ∈ lw_all := lw_g (lw_at lw_m1 208 rfl) rfl
theorem q346 : (Jvm.Cond.selects "BalloonStall$RuleReader" ({ cls := "BalloonStall$Reader", name := "here", desc := "()I" } : Jvm.MethodName) ({ cls := "BalloonStall$Reader", name := "here", desc := "()I" } : Jvm.MethodName)) ∈ lw_all := lw_g (lw_at lw_m2 4 rfl) rfl
theorem q517 : (Jvm.Cond.instantiable "BalloonStall$RuleReader" (4 : Nat)) ∈ lw_all := lw_g (lw_at lw_m2 175 rfl) rfl
theorem q519 : (Jvm.Cond.instanceMethod ({ cls := "BalloonStall$RuleReader", name := "<init>", desc := "(LBalloonStall;)V" } : Jvm.MethodName)) ∈ lw_all := lw_g (lw_at lw_m2 177 rfl) rfl
theorem q520 : (Jvm.Cond.code ({ cls := "BalloonStall$RuleReader", name := "<init>", desc := "(LBalloonStall;)V" } : Jvm.MethodName) prog_20_method_1_code (2 : Nat) (Option.none : Option Jvm.ClassFile.FieldType)) ∈ lw_all := lw_g (lw_at lw_m2 178 rfl) rfl
theorem q521 : (Jvm.Cond.methodLinkNest "BalloonStall$RuleReader" (9 : Nat) ({ cls := "BalloonStall$Reader", name := "<init>", desc := "(LBalloonStall;)V" } : Jvm.MethodName) "BalloonStall") ∈ lw_tbl := lw_at lw_m2 179 rfl
theorem q522 : (Jvm.Cond.fieldLink "BalloonStall$RuleReader" (3 : Nat) "BalloonStall$RuleReader" "this$0" "LBalloonStall;") ∈ lw_all := lw_g (lw_at lw_m2 180 rfl) rfl
theorem q523 : (Jvm.Cond.laysFinal "BalloonStall$RuleReader" "BalloonStall$RuleReader" "this$0" "LBalloonStall;") ∈ lw_all := lw_g (lw_at lw_m2 181 rfl) rfl
theorem q524 : (Jvm.Cond.soleField "BalloonStall$RuleReader" "this$0") ∈ lw_all := lw_g (lw_at lw_m2 182 rfl) rfl
theorem q525 : (Jvm.Cond.lays "BalloonStall$RuleReader" "BalloonStall$Reader" "at" "I") ∈ lw_all := lw_g (lw_at lw_m2 183 rfl) rfl
theorem q526 : (Jvm.Cond.lays "BalloonStall$RuleReader" "BalloonStall$Reader" "deep" "I") ∈ lw_all := lw_g (lw_at lw_m2 184 rfl) rfl
theorem q527 : (Jvm.Cond.laysFinal "BalloonStall$RuleReader" "BalloonStall$Reader" "this$0" "LBalloonStall;") ∈ lw_all := lw_g (lw_at lw_m2 185 rfl) rfl
theorem q528 : (Jvm.Cond.superclass "BalloonStall$RuleReader" "BalloonStall$Reader") ∈ lw_all := lw_g (lw_at lw_m2 186 rfl) rfl
theorem q530 : (Jvm.Cond.instanceMethod ({ cls := "BalloonStall$RuleReader", name := "whole", desc := "()LBalloonStall$Clause;" } : Jvm.MethodName)) ∈ lw_all := lw_g (lw_at lw_m2 188 rfl) rfl
theorem q531 : (Jvm.Cond.selects "BalloonStall$RuleReader" ({ cls := "BalloonStall$RuleReader", name := "whole", desc := "()LBalloonStall$Clause;" } : Jvm.MethodName) ({ cls := "BalloonStall$RuleReader", name := "whole", desc := "()LBalloonStall$Clause;" } : Jvm.MethodName)) ∈ lw_all := lw_g (lw_at lw_m2 189 rfl) rfl
theorem q532 : (Jvm.Cond.code ({ cls := "BalloonStall$RuleReader", name := "whole", desc := "()LBalloonStall$Clause;" } : Jvm.MethodName) prog_20_method_2_code (3 : Nat) (Option.some (Jvm.ClassFile.FieldType.object "BalloonStall$Clause"))) ∈ lw_all := lw_g (lw_at lw_m2 190 rfl) rfl
theorem q533 : (Jvm.Cond.methodLink "BalloonStall$RuleReader" (15 : Nat) ({ cls := "BalloonStall$RuleReader", name := "clause", desc := "()LBalloonStall$Clause;" } : Jvm.MethodName)) ∈ lw_all := lw_g (lw_at lw_m2 191 rfl) rfl
theorem q534 : (Jvm.Cond.privateMethod ({ cls := "BalloonStall$RuleReader", name := "clause", desc := "()LBalloonStall$Clause;" } : Jvm.MethodName)) ∈ lw_tbl := lw_at lw_m2 192 rfl
theorem q535 : (Jvm.Cond.instanceMethod ({ cls := "BalloonStall$RuleReader", name := "clause", desc := "()LBalloonStall$Clause;" } : Jvm.MethodName)) ∈ lw_all := lw_g (lw_at lw_m2 193 rfl) rfl
theorem q536 : (Jvm.Cond.code ({ cls := "BalloonStall$RuleReader", name := "clause", desc := "()LBalloonStall$Clause;" } : Jvm.MethodName) prog_20_method_3_code (3 : Nat) (Option.some (Jvm.ClassFile.FieldType.object "BalloonStall$Clause"))) ∈ lw_all := lw_g (lw_at lw_m2 194 rfl) rfl
theorem q537 : (Jvm.Cond.methodLink "BalloonStall$RuleReader" (19 : Nat) ({ cls := "BalloonStall$RuleReader", name := "look", desc := "()I" } : Jvm.MethodName)) ∈ lw_all := lw_g (lw_at lw_m2 195 rfl) rfl
theorem q538 : (Jvm.Cond.sameMethod "BalloonStall$RuleReader" "BalloonStall$Reader" "look" "()I") ∈ lw_all := lw_g (lw_at lw_m2 196 rfl) rfl
theorem q539 : (Jvm.Cond.selects "BalloonStall$RuleReader" ({ cls := "BalloonStall$RuleReader", name := "look", desc := "()I" } : Jvm.MethodName) ({ cls := "BalloonStall$Reader", name := "look", desc := "()I" } : Jvm.MethodName)) ∈ lw_all := lw_g (lw_at lw_m2 197 rfl) rfl
theorem q540 : (Jvm.Cond.methodLink "BalloonStall$RuleReader" (38 : Nat) ({ cls := "BalloonStall$RuleReader", name := "take", desc := "(Z)I" } : Jvm.MethodName)) ∈ lw_all := lw_g (lw_at lw_m2 198 rfl) rfl
theorem q541 : (Jvm.Cond.sameMethod "BalloonStall$RuleReader" "BalloonStall$Reader" "take" "(Z)I") ∈ lw_all := lw_g (lw_at lw_m2 199 rfl) rfl
theorem q542 : (Jvm.Cond.selects "BalloonStall$RuleReader" ({ cls := "BalloonStall$RuleReader", name := "take", desc := "(Z)I" } : Jvm.MethodName) ({ cls := "BalloonStall$Reader", name := "take", desc := "(Z)I" } : Jvm.MethodName)) ∈ lw_all := lw_g (lw_at lw_m2 200 rfl) rfl
theorem q543 : (Jvm.Cond.methodLink "BalloonStall$RuleReader" (42 : Nat) ({ cls := "BalloonStall$RuleReader", name := "condition", desc := "(LBalloonStall$Sum;)LBalloonStall$Test;" } : Jvm.MethodName)) ∈ lw_all := lw_g (lw_at lw_m2 201 rfl) rfl
theorem q544 : (Jvm.Cond.privateMethod ({ cls := "BalloonStall$RuleReader", name := "condition", desc := "(LBalloonStall$Sum;)LBalloonStall$Test;" } : Jvm.MethodName)) ∈ lw_tbl := lw_at lw_m2 202 rfl
theorem q545 : (Jvm.Cond.instanceMethod ({ cls := "BalloonStall$RuleReader", name := "condition", desc := "(LBalloonStall$Sum;)LBalloonStall$Test;" } : Jvm.MethodName)) ∈ lw_all := lw_g (lw_at lw_m2 203 rfl) rfl
theorem q546 : (Jvm.Cond.code ({ cls := "BalloonStall$RuleReader", name := "condition", desc := "(LBalloonStall$Sum;)LBalloonStall$Test;" } : Jvm.MethodName) prog_20_method_5_code (3 : Nat) (Option.some (Jvm.ClassFile.FieldType.object "BalloonStall$Test"))) ∈ lw_all := lw_g (lw_at lw_m2 204 rfl) rfl
theorem q547 : (Jvm.Cond.methodLink "BalloonStall$RuleReader" (57 : Nat) ({ cls := "BalloonStall$RuleReader", name := "truth", desc := "(LBalloonStall$Sum;)LBalloonStall$Test;" } : Jvm.MethodName)) ∈ lw_all := lw_g (lw_at lw_m2 205 rfl) rfl
theorem q548 : (Jvm.Cond.privateMethod ({ cls := "BalloonStall$RuleReader", name := "truth", desc := "(LBalloonStall$Sum;)LBalloonStall$Test;" } : Jvm.MethodName)) ∈ lw_tbl := lw_at lw_m2 206 rfl
theorem q549 : (Jvm.Cond.instanceMethod ({ cls := "BalloonStall$RuleReader", name := "truth", desc := "(LBalloonStall$Sum;)LBalloonStall$Test;" } : Jvm.MethodName)) ∈ lw_all := lw_g (lw_at lw_m2 207 rfl) rfl
theorem q550 : (Jvm.Cond.code ({ cls := "BalloonStall$RuleReader", name := "truth", desc := "(LBalloonStall$Sum;)LBalloonStall$Test;" } : Jvm.MethodName) prog_20_method_6_code (3 : Nat) (Option.some (Jvm.ClassFile.FieldType.object "BalloonStall$Test"))) ∈ lw_all := lw_g (lw_at lw_m2 208 rfl) rfl
theorem q551 : (Jvm.Cond.methodLink "BalloonStall$RuleReader" (65 : Nat) ({ cls := "BalloonStall$RuleReader", name := "unit", desc := "()LBalloonStall$Test;" } : Jvm.MethodName)) ∈ lw_all := lw_g (lw_at lw_m2 209 rfl) rfl
theorem q552 : (Jvm.Cond.privateMethod ({ cls := "BalloonStall$RuleReader", name := "unit", desc := "()LBalloonStall$Test;" } : Jvm.MethodName)) ∈ lw_tbl := lw_at lw_m2 210 rfl
theorem q553 : (Jvm.Cond.instanceMethod ({ cls := "BalloonStall$RuleReader", name := "unit", desc := "()LBalloonStall$Test;" } : Jvm.MethodName)) ∈ lw_all := lw_g (lw_at lw_m2 211 rfl) rfl
theorem q554 : (Jvm.Cond.code ({ cls := "BalloonStall$RuleReader", name := "unit", desc := "()LBalloonStall$Test;" } : Jvm.MethodName) prog_20_method_7_code (3 : Nat) (Option.some (Jvm.ClassFile.FieldType.object "BalloonStall$Test"))) ∈ lw_all := lw_g (lw_at lw_m2 212 rfl) rfl
theorem q555 : (Jvm.Cond.methodLink "BalloonStall$RuleReader" (72 : Nat) ({ cls := "BalloonStall$RuleReader", name := "goIn", desc := "()V" } : Jvm.MethodName)) ∈ lw_all := lw_g (lw_at lw_m2 213 rfl) rfl
theorem q556 : (Jvm.Cond.sameMethod "BalloonStall$RuleReader" "BalloonStall$Reader" "goIn" "()V") ∈ lw_all := lw_g (lw_at lw_m2 214 rfl) rfl
theorem q557 : (Jvm.Cond.selects "BalloonStall$RuleReader" ({ cls := "BalloonStall$RuleReader", name := "goIn", desc := "()V" } : Jvm.MethodName) ({ cls := "BalloonStall$Reader", name := "goIn", desc := "()V" } : Jvm.MethodName)) ∈ lw_all := lw_g (lw_at lw_m2 215 rfl) rfl
theorem q558 : (Jvm.Cond.classLink "BalloonStall$RuleReader" (76 : Nat) "BalloonStall$Not") ∈ lw_all := lw_g (lw_at lw_m2 216 rfl) rfl
theorem q560 : (Jvm.Cond.methodLink "BalloonStall$RuleReader" (78 : Nat) ({ cls := "BalloonStall$Not", name := "<init>", desc := "(LBalloonStall$Test;)V" } : Jvm.MethodName)) ∈ lw_all := lw_g (lw_at lw_m2 218 rfl) rfl
theorem q571 : (Jvm.Cond.methodLink "BalloonStall$RuleReader" (81 : Nat) ({ cls := "BalloonStall$RuleReader", name := "comeOut", desc := "()V" } : Jvm.MethodName)) ∈ lw_all := lw_g (lw_at lw_m2 229 rfl) rfl
theorem q572 : (Jvm.Cond.sameMethod "BalloonStall$RuleReader" "BalloonStall$Reader" "comeOut" "()V") ∈ lw_all := lw_g (lw_at lw_m2 230 rfl) rfl
theorem q574 : (Jvm.Cond.selects "BalloonStall$RuleReader" ({ cls := "BalloonStall$RuleReader", name := "comeOut", desc := "()V" } : Jvm.MethodName) ({ cls := "BalloonStall$Reader", name := "comeOut", desc := "()V" } : Jvm.MethodName)) ∈ lw_all := lw_g (lw_at lw_m2 232 rfl) rfl
theorem q577 : (Jvm.Cond.methodLink "BalloonStall$RuleReader" (84 : Nat) ({ cls := "BalloonStall$RuleReader", name := "goOut", desc := "(I)V" } : Jvm.MethodName)) ∈ lw_all := lw_g (lw_at lw_m2 235 rfl) rfl
theorem q578 : (Jvm.Cond.sameMethod "BalloonStall$RuleReader" "BalloonStall$Reader" "goOut" "(I)V") ∈ lw_all := lw_g (lw_at lw_m2 236 rfl) rfl
theorem q579 : (Jvm.Cond.selects "BalloonStall$RuleReader" ({ cls := "BalloonStall$RuleReader", name := "goOut", desc := "(I)V" } : Jvm.MethodName) ({ cls := "BalloonStall$Reader", name := "goOut", desc := "(I)V" } : Jvm.MethodName)) ∈ lw_all := lw_g (lw_at lw_m2 237 rfl) rfl
theorem q580 : (Jvm.Cond.methodLink "BalloonStall$RuleReader" (50 : Nat) ({ cls := "BalloonStall$RuleReader", name := "sum", desc := "()LBalloonStall$Sum;" } : Jvm.MethodName)) ∈ lw_all := lw_g (lw_at lw_m2 238 rfl) rfl
theorem q581 : (Jvm.Cond.privateMethod ({ cls := "BalloonStall$RuleReader", name := "sum", desc := "()LBalloonStall$Sum;" } : Jvm.MethodName)) ∈ lw_tbl := lw_at lw_m2 239 rfl
theorem q582 : (Jvm.Cond.instanceMethod ({ cls := "BalloonStall$RuleReader", name := "sum", desc := "()LBalloonStall$Sum;" } : Jvm.MethodName)) ∈ lw_all := lw_g (lw_at lw_m3 0 rfl) rfl
theorem q583 : (Jvm.Cond.code ({ cls := "BalloonStall$RuleReader", name := "sum", desc := "()LBalloonStall$Sum;" } : Jvm.MethodName) prog_20_method_9_code (3 : Nat) (Option.some (Jvm.ClassFile.FieldType.object "BalloonStall$Sum"))) ∈ lw_all := lw_g (lw_at lw_m3 1 rfl) rfl
theorem q584 : (Jvm.Cond.methodLink "BalloonStall$RuleReader" (92 : Nat) ({ cls := "BalloonStall$RuleReader", name := "term", desc := "()LBalloonStall$Sum;" } : Jvm.MethodName)) ∈ lw_all := lw_g (lw_at lw_m3 2 rfl) rfl
theorem q585 : (Jvm.Cond.privateMethod ({ cls := "BalloonStall$RuleReader", name := "term", desc := "()LBalloonStall$Sum;" } : Jvm.MethodName)) ∈ lw_tbl := lw_at lw_m3 3 rfl
theorem q586 : (Jvm.Cond.instanceMethod ({ cls := "BalloonStall$RuleReader", name := "term", desc := "()LBalloonStall$Sum;" } : Jvm.MethodName)) ∈ lw_all := lw_g (lw_at lw_m3 4 rfl) rfl
theorem q587 : (Jvm.Cond.code ({ cls := "BalloonStall$RuleReader", name := "term", desc := "()LBalloonStall$Sum;" } : Jvm.MethodName) prog_20_method_10_code (3 : Nat) (Option.some (Jvm.ClassFile.FieldType.object "BalloonStall$Sum"))) ∈ lw_all := lw_g (lw_at lw_m3 5 rfl) rfl
theorem q588 : (Jvm.Cond.methodLink "BalloonStall$RuleReader" (98 : Nat) ({ cls := "BalloonStall$RuleReader", name := "atom", desc := "()LBalloonStall$Sum;" } : Jvm.MethodName)) ∈ lw_all := lw_g (lw_at lw_m3 6 rfl) rfl
theorem q589 : (Jvm.Cond.privateMethod ({ cls := "BalloonStall$RuleReader", name := "atom", desc := "()LBalloonStall$Sum;" } : Jvm.MethodName)) ∈ lw_tbl := lw_at lw_m3 7 rfl
theorem q590 : (Jvm.Cond.instanceMethod ({ cls := "BalloonStall$RuleReader", name := "atom", desc := "()LBalloonStall$Sum;" } : Jvm.MethodName)) ∈ lw_all := lw_g (lw_at lw_m3 8 rfl) rfl
theorem q591 : (Jvm.Cond.code ({ cls := "BalloonStall$RuleReader", name := "atom", desc := "()LBalloonStall$Sum;" } : Jvm.MethodName) prog_20_method_11_code (4 : Nat) (Option.some (Jvm.ClassFile.FieldType.object "BalloonStall$Sum"))) ∈ lw_all := lw_g (lw_at lw_m3 9 rfl) rfl
theorem q592 : (Jvm.Cond.classLink "BalloonStall$RuleReader" (101 : Nat) "BalloonStall$Letter") ∈ lw_all := lw_g (lw_at lw_m3 10 rfl) rfl
theorem q594 : (Jvm.Cond.methodLink "BalloonStall$RuleReader" (103 : Nat) ({ cls := "BalloonStall$Letter", name := "<init>", desc := "(I)V" } : Jvm.MethodName)) ∈ lw_all := lw_g (lw_at lw_m3 12 rfl) rfl
theorem q605 : (Jvm.Cond.methodLink "BalloonStall$RuleReader" (104 : Nat) ({ cls := "BalloonStall$RuleReader", name := "isDigit", desc := "()Z" } : Jvm.MethodName)) ∈ lw_all := lw_g (lw_at lw_m3 23 rfl) rfl
theorem q606 : (Jvm.Cond.sameMethod "BalloonStall$RuleReader" "BalloonStall$Reader" "isDigit" "()Z") ∈ lw_all := lw_g (lw_at lw_m3 24 rfl) rfl
theorem q607 : (Jvm.Cond.selects "BalloonStall$RuleReader" ({ cls := "BalloonStall$RuleReader", name := "isDigit", desc := "()Z" } : Jvm.MethodName) ({ cls := "BalloonStall$Reader", name := "isDigit", desc := "()Z" } : Jvm.MethodName)) ∈ lw_all := lw_g (lw_at lw_m3 25 rfl) rfl
theorem q608 : (Jvm.Cond.classLink "BalloonStall$RuleReader" (108 : Nat) "BalloonStall$Plain") ∈ lw_all := lw_g (lw_at lw_m3 26 rfl) rfl
theorem q610 : (Jvm.Cond.methodLink "BalloonStall$RuleReader" (110 : Nat) ({ cls := "BalloonStall$Plain", name := "<init>", desc := "(I)V" } : Jvm.MethodName)) ∈ lw_all := lw_g (lw_at lw_m3 28 rfl) rfl
theorem q618 : (Jvm.Cond.classLink "BalloonStall$RuleReader" (95 : Nat) "BalloonStall$Pair") ∈ lw_all := lw_g (lw_at lw_m3 36 rfl) rfl
theorem q620 : (Jvm.Cond.methodLink "BalloonStall$RuleReader" (97 : Nat) ({ cls := "BalloonStall$Pair", name := "<init>", desc := "(ILBalloonStall$Sum;LBalloonStall$Sum;)V" } : Jvm.MethodName)) ∈ lw_all := lw_g (lw_at lw_m3 38 rfl) rfl
theorem q634 : (Jvm.Cond.methodLink "BalloonStall$RuleReader" (69 : Nat) ({ cls := "BalloonStall$RuleReader", name := "compares", desc := "(LBalloonStall$Sum;)LBalloonStall$Test;" } : Jvm.MethodName)) ∈ lw_all := lw_g (lw_at lw_m3 52 rfl) rfl
theorem q635 : (Jvm.Cond.privateMethod ({ cls := "BalloonStall$RuleReader", name := "compares", desc := "(LBalloonStall$Sum;)LBalloonStall$Test;" } : Jvm.MethodName)) ∈ lw_tbl := lw_at lw_m3 53 rfl
theorem q636 : (Jvm.Cond.instanceMethod ({ cls := "BalloonStall$RuleReader", name := "compares", desc := "(LBalloonStall$Sum;)LBalloonStall$Test;" } : Jvm.MethodName)) ∈ lw_all := lw_g (lw_at lw_m3 54 rfl) rfl
theorem q637 : (Jvm.Cond.code ({ cls := "BalloonStall$RuleReader", name := "compares", desc := "(LBalloonStall$Sum;)LBalloonStall$Test;" } : Jvm.MethodName) prog_20_method_8_code (4 : Nat) (Option.some (Jvm.ClassFile.FieldType.object "BalloonStall$Test"))) ∈ lw_all := lw_g (lw_at lw_m3 55 rfl) rfl
theorem q638 : (Jvm.Cond.classLink "BalloonStall$RuleReader" (87 : Nat) "BalloonStall$Compares") ∈ lw_all := lw_g (lw_at lw_m3 56 rfl) rfl
theorem q640 : (Jvm.Cond.methodLink "BalloonStall$RuleReader" (89 : Nat) ({ cls := "BalloonStall$Compares", name := "<init>", desc := "(ILBalloonStall$Sum;LBalloonStall$Sum;)V" } : Jvm.MethodName)) ∈ lw_all := lw_g (lw_at lw_m3 58 rfl) rfl
theorem q654 : (Jvm.Cond.classLink "BalloonStall$RuleReader" (60 : Nat) "BalloonStall$Both") ∈ lw_all := lw_g (lw_at lw_m3 72 rfl) rfl
theorem q656 : (Jvm.Cond.methodLink "BalloonStall$RuleReader" (62 : Nat) ({ cls := "BalloonStall$Both", name := "<init>", desc := "(ZLBalloonStall$Test;LBalloonStall$Test;)V" } : Jvm.MethodName)) ∈ lw_all := lw_g (lw_at lw_m3 74 rfl) rfl
theorem q670 : (Jvm.Cond.methodLink "BalloonStall$RuleReader" (46 : Nat) ({ cls := "BalloonStall$RuleReader", name := "asked", desc := "(LBalloonStall$Test;)LBalloonStall$Clause;" } : Jvm.MethodName)) ∈ lw_all := lw_g (lw_at lw_m3 88 rfl) rfl
theorem q671 : (Jvm.Cond.privateMethod ({ cls := "BalloonStall$RuleReader", name := "asked", desc := "(LBalloonStall$Test;)LBalloonStall$Clause;" } : Jvm.MethodName)) ∈ lw_tbl := lw_at lw_m3 89 rfl
theorem q672 : (Jvm.Cond.instanceMethod ({ cls := "BalloonStall$RuleReader", name := "asked", desc := "(LBalloonStall$Test;)LBalloonStall$Clause;" } : Jvm.MethodName)) ∈ lw_all := lw_g (lw_at lw_m3 90 rfl) rfl
theorem q673 : (Jvm.Cond.code ({ cls := "BalloonStall$RuleReader", name := "asked", desc := "(LBalloonStall$Test;)LBalloonStall$Clause;" } : Jvm.MethodName) prog_20_method_4_code (3 : Nat) (Option.some (Jvm.ClassFile.FieldType.object "BalloonStall$Clause"))) ∈ lw_all := lw_g (lw_at lw_m3 91 rfl) rfl
theorem q674 : (Jvm.Cond.classLink "BalloonStall$RuleReader" (28 : Nat) "BalloonStall$Clause") ∈ lw_all := lw_g (lw_at lw_m3 92 rfl) rfl
theorem q676 : (Jvm.Cond.methodLink "BalloonStall$RuleReader" (54 : Nat) ({ cls := "BalloonStall$Clause", name := "<init>", desc := "(LBalloonStall$Test;LBalloonStall$Sum;)V" } : Jvm.MethodName)) ∈ lw_all := lw_g (lw_at lw_m3 94 rfl) rfl
theorem q683 : (Jvm.Cond.fieldLinkNest "BalloonStall$RuleReader" (27 : Nat) "BalloonStall$Clause" "next" "LBalloonStall$Clause;" "BalloonStall") ∈ lw_tbl := lw_at lw_m3 101 rfl
theorem q692 : (Jvm.Cond.classLink "BalloonStall$RuleReader" (33 : Nat) "BalloonStall$Wrong") ∈ lw_all := lw_g (lw_at lw_m3 110 rfl) rfl
theorem q693 : (Jvm.Cond.methodLink "BalloonStall$RuleReader" (35 : Nat) ({ cls := "BalloonStall$Wrong", name := "<init>", desc := "(I)V" } : Jvm.MethodName)) ∈ lw_all := lw_g (lw_at lw_m3 111 rfl) rfl
theorem q1887 : (Jvm.Cond.selects "BalloonStall$RuleReader" ({ cls := "BalloonStall$Reader", name := "take", desc := "(Z)I" } : Jvm.MethodName) ({ cls := "BalloonStall$Reader", name := "take", desc := "(Z)I" } : Jvm.MethodName)) ∈ lw_all := lw_g (lw_at lw_m8 105 rfl) rfl
theorem q1890 : (Jvm.Cond.selects "BalloonStall$RuleReader" ({ cls := "BalloonStall$Reader", name := "look", desc := "()I" } : Jvm.MethodName) ({ cls := "BalloonStall$Reader", name := "look", desc := "()I" } : Jvm.MethodName)) ∈ lw_all := lw_g (lw_at lw_m8 108 rfl) rfl
theorem q1901 : (Jvm.Cond.castable "BalloonStall$RuleReader" "java/lang/Object") ∈ lw_tbl := lw_at lw_m8 119 rfl
theorem in_X13 : ∀ w ∈ wsX130, w ∈ lw_all := lw_in wsX130 [525, 526, 527, 523] (by decide +kernel) (by decide +kernel)
/-! BalloonStall$Test -/
set_option maxRecDepth 100000
def RX14 : String := "BalloonStall$Test"
abbrev cX14_init : ByteArray := prog_23_method_1_code
def yX14_init : MethodName := ⟨RX14, "<init>", "()V"⟩
theorem dX14_init_0 : decode cX14_init 0 = .ok (.aload_n 0, 1) := by decide +kernel
theorem dX14_init_1 : decode cX14_init 1 = .ok (.invokespecial 1, 3) := by decide +kernel
theorem dX14_init_4 : decode cX14_init 4 = .ok (.return_, 1) := by decide +kernel
theorem q119 : (Jvm.Cond.initialized "BalloonStall$Test") ∈ lw_all := lw_g (lw_at lw_m1 17 rfl) rfl
theorem q564 : (Jvm.Cond.instanceMethod ({ cls := "BalloonStall$Test", name := "<init>", desc := "()V" } : Jvm.MethodName)) ∈ lw_all := lw_g (lw_at lw_m2 222 rfl) rfl
theorem q565 : (Jvm.Cond.code ({ cls := "BalloonStall$Test", name := "<init>", desc := "()V" } : Jvm.MethodName) prog_23_method_1_code (1 : Nat) (Option.none : Option Jvm.ClassFile.FieldType)) ∈ lw_all := lw_g (lw_at lw_m2 223 rfl) rfl
theorem q566 : (Jvm.Cond.methodLink "BalloonStall$Test" (1 : Nat) ({ cls := "java/lang/Object", name := "<init>", desc := "()V" } : Jvm.MethodName)) ∈ lw_all := lw_g (lw_at lw_m2 224 rfl) rfl
theorem q1217 : (Jvm.Cond.declares ({ cls := "BalloonStall$Test", name := "holds", desc := "(LBalloonStall$Letters;)Z" } : Jvm.MethodName)) ∈ lw_tbl := lw_at lw_m5 155 rfl
theorem q1218 : (Jvm.Cond.sameMethod "BalloonStall$Test" "BalloonStall$Test" "holds" "(LBalloonStall$Letters;)Z") ∈ lw_all := lw_g (lw_at lw_m5 156 rfl) rfl
/-! BalloonStall$Not -/
set_option maxRecDepth 100000
def RX15 : String := "BalloonStall$Not"
def TX15 : u_T := fun k => match k with
  | _ => ("BalloonStall$Not", "of", "LBalloonStall$Test;", true)
def tyX15 : Nat → FieldType := fun k => match k with
  | _ => .object "BalloonStall$Test"
abbrev wsX150 : List Cond := u_ws RX15 TX15 1
theorem nmX15 : ∀ a, a < 1 → ∀ b, b < 1 → a ≠ b → (TX15 a).2.1 ≠ (TX15 b).2.1 := by decide +kernel
theorem tyX15_ok : ∀ k, k < 1 → parseFieldDescriptor (TX15 k).2.2.1 = some (tyX15 k) := by decide +kernel
abbrev cX15_init : ByteArray := prog_15_method_1_code
def yX15_init : MethodName := ⟨RX15, "<init>", "(LBalloonStall$Test;)V"⟩
def dkwX15_init_0 : List UInt8 := [42, 183, 0, 1, 42, 43, 181, 0, 7, 177]
abbrev dktX15_init_0 : List UInt8 := dkwX15_init_0 ++ []
theorem dksX15_init_0 : cX15_init.data.toList.drop 0 = dktX15_init_0 := by decide +kernel
theorem dX15_init_0 : decode cX15_init 0 = .ok (.aload_n 0, 1) := dk_42 (dk_at dksX15_init_0 0 rfl rfl)
theorem dX15_init_1 : decode cX15_init 1 = .ok (.invokespecial 1, 3) := dk_183 0 1 (dk_at dksX15_init_0 1 rfl rfl)
theorem dX15_init_4 : decode cX15_init 4 = .ok (.aload_n 0, 1) := dk_42 (dk_at dksX15_init_0 4 rfl rfl)
theorem dX15_init_5 : decode cX15_init 5 = .ok (.aload_n 1, 1) := dk_43 (dk_at dksX15_init_0 5 rfl rfl)
theorem dX15_init_6 : decode cX15_init 6 = .ok (.putfield 7, 3) := dk_181 0 7 (dk_at dksX15_init_0 6 rfl rfl)
theorem dX15_init_9 : decode cX15_init 9 = .ok (.return_, 1) := dk_177 (dk_at dksX15_init_0 9 rfl rfl)
abbrev cX15_holds : ByteArray := prog_15_method_2_code
def yX15_holds : MethodName := ⟨RX15, "holds", "(LBalloonStall$Letters;)Z"⟩
def dkwX15_holds_0 : List UInt8 := [42, 180, 0, 7, 43, 182, 0, 13, 154, 0, 7, 4, 167, 0, 4, 3, 172]
abbrev dktX15_holds_0 : List UInt8 := dkwX15_holds_0 ++ []
theorem dksX15_holds_0 : cX15_holds.data.toList.drop 0 = dktX15_holds_0 := by decide +kernel
theorem dX15_holds_0 : decode cX15_holds 0 = .ok (.aload_n 0, 1) := dk_42 (dk_at dksX15_holds_0 0 rfl rfl)
theorem dX15_holds_1 : decode cX15_holds 1 = .ok (.getfield 7, 3) := dk_180 0 7 (dk_at dksX15_holds_0 1 rfl rfl)
theorem dX15_holds_4 : decode cX15_holds 4 = .ok (.aload_n 1, 1) := dk_43 (dk_at dksX15_holds_0 4 rfl rfl)
theorem dX15_holds_5 : decode cX15_holds 5 = .ok (.invokevirtual 13, 3) := dk_182 0 13 (dk_at dksX15_holds_0 5 rfl rfl)
theorem dX15_holds_8 : decode cX15_holds 8 = .ok (.ifCond .ne 7, 3) := dk_154 0 7 (dk_at dksX15_holds_0 8 rfl rfl)
theorem dX15_holds_11 : decode cX15_holds 11 = .ok (.iconst 1, 1) := dk_4 (dk_at dksX15_holds_0 11 rfl rfl)
theorem dX15_holds_12 : decode cX15_holds 12 = .ok (.goto 4, 3) := dk_167 0 4 (dk_at dksX15_holds_0 12 rfl rfl)
theorem dX15_holds_15 : decode cX15_holds 15 = .ok (.iconst 0, 1) := dk_3 (dk_at dksX15_holds_0 15 rfl rfl)
theorem dX15_holds_16 : decode cX15_holds 16 = .ok (.ireturn, 1) := dk_172 (dk_at dksX15_holds_0 16 rfl rfl)
theorem q120 : (Jvm.Cond.initialized "BalloonStall$Not") ∈ lw_all := lw_g (lw_at lw_m1 18 rfl) rfl
theorem q559 : (Jvm.Cond.instantiable "BalloonStall$Not" (1 : Nat)) ∈ lw_all := lw_g (lw_at lw_m2 217 rfl) rfl
theorem q561 : (Jvm.Cond.instanceMethod ({ cls := "BalloonStall$Not", name := "<init>", desc := "(LBalloonStall$Test;)V" } : Jvm.MethodName)) ∈ lw_all := lw_g (lw_at lw_m2 219 rfl) rfl
theorem q562 : (Jvm.Cond.code ({ cls := "BalloonStall$Not", name := "<init>", desc := "(LBalloonStall$Test;)V" } : Jvm.MethodName) prog_15_method_1_code (2 : Nat) (Option.none : Option Jvm.ClassFile.FieldType)) ∈ lw_all := lw_g (lw_at lw_m2 220 rfl) rfl
theorem q563 : (Jvm.Cond.methodLinkNest "BalloonStall$Not" (1 : Nat) ({ cls := "BalloonStall$Test", name := "<init>", desc := "()V" } : Jvm.MethodName) "BalloonStall") ∈ lw_tbl := lw_at lw_m2 221 rfl
theorem q567 : (Jvm.Cond.fieldLink "BalloonStall$Not" (7 : Nat) "BalloonStall$Not" "of" "LBalloonStall$Test;") ∈ lw_all := lw_g (lw_at lw_m2 225 rfl) rfl
theorem q568 : (Jvm.Cond.laysFinal "BalloonStall$Not" "BalloonStall$Not" "of" "LBalloonStall$Test;") ∈ lw_all := lw_g (lw_at lw_m2 226 rfl) rfl
theorem q569 : (Jvm.Cond.soleField "BalloonStall$Not" "of") ∈ lw_all := lw_g (lw_at lw_m2 227 rfl) rfl
theorem q570 : (Jvm.Cond.superclass "BalloonStall$Not" "BalloonStall$Test") ∈ lw_all := lw_g (lw_at lw_m2 228 rfl) rfl
theorem q1246 : (Jvm.Cond.instanceMethod ({ cls := "BalloonStall$Not", name := "holds", desc := "(LBalloonStall$Letters;)Z" } : Jvm.MethodName)) ∈ lw_all := lw_g (lw_at lw_m5 184 rfl) rfl
theorem q1247 : (Jvm.Cond.code ({ cls := "BalloonStall$Not", name := "holds", desc := "(LBalloonStall$Letters;)Z" } : Jvm.MethodName) prog_15_method_2_code (2 : Nat) (Option.some Jvm.ClassFile.FieldType.boolean)) ∈ lw_all := lw_g (lw_at lw_m5 185 rfl) rfl
theorem q1248 : (Jvm.Cond.methodLink "BalloonStall$Not" (13 : Nat) ({ cls := "BalloonStall$Test", name := "holds", desc := "(LBalloonStall$Letters;)Z" } : Jvm.MethodName)) ∈ lw_all := lw_g (lw_at lw_m5 186 rfl) rfl
theorem q1250 : (Jvm.Cond.selects "BalloonStall$Not" ({ cls := "BalloonStall$Test", name := "holds", desc := "(LBalloonStall$Letters;)Z" } : Jvm.MethodName) ({ cls := "BalloonStall$Not", name := "holds", desc := "(LBalloonStall$Letters;)Z" } : Jvm.MethodName)) ∈ lw_all := lw_g (lw_at lw_m5 188 rfl) rfl
theorem q1902 : (Jvm.Cond.castable "BalloonStall$Not" "java/lang/Object") ∈ lw_tbl := lw_at lw_m8 120 rfl
theorem in_X15 : ∀ w ∈ wsX150, w ∈ lw_all := lw_in wsX150 [568] (by decide +kernel) (by decide +kernel)
/-! BalloonStall$Sum -/
set_option maxRecDepth 100000
def RX16 : String := "BalloonStall$Sum"
abbrev cX16_init : ByteArray := prog_22_method_1_code
def yX16_init : MethodName := ⟨RX16, "<init>", "()V"⟩
theorem dX16_init_0 : decode cX16_init 0 = .ok (.aload_n 0, 1) := by decide +kernel
theorem dX16_init_1 : decode cX16_init 1 = .ok (.invokespecial 1, 3) := by decide +kernel
theorem dX16_init_4 : decode cX16_init 4 = .ok (.return_, 1) := by decide +kernel
theorem q121 : (Jvm.Cond.initialized "BalloonStall$Sum") ∈ lw_all := lw_g (lw_at lw_m1 19 rfl) rfl
theorem q598 : (Jvm.Cond.instanceMethod ({ cls := "BalloonStall$Sum", name := "<init>", desc := "()V" } : Jvm.MethodName)) ∈ lw_all := lw_g (lw_at lw_m3 16 rfl) rfl
theorem q599 : (Jvm.Cond.code ({ cls := "BalloonStall$Sum", name := "<init>", desc := "()V" } : Jvm.MethodName) prog_22_method_1_code (1 : Nat) (Option.none : Option Jvm.ClassFile.FieldType)) ∈ lw_all := lw_g (lw_at lw_m3 17 rfl) rfl
theorem q600 : (Jvm.Cond.methodLink "BalloonStall$Sum" (1 : Nat) ({ cls := "java/lang/Object", name := "<init>", desc := "()V" } : Jvm.MethodName)) ∈ lw_all := lw_g (lw_at lw_m3 18 rfl) rfl
theorem q1226 : (Jvm.Cond.declares ({ cls := "BalloonStall$Sum", name := "of", desc := "(LBalloonStall$Letters;)I" } : Jvm.MethodName)) ∈ lw_tbl := lw_at lw_m5 164 rfl
theorem q1227 : (Jvm.Cond.sameMethod "BalloonStall$Sum" "BalloonStall$Sum" "of" "(LBalloonStall$Letters;)I") ∈ lw_all := lw_g (lw_at lw_m5 165 rfl) rfl
/-! BalloonStall$Letter -/
set_option maxRecDepth 100000
def RX17 : String := "BalloonStall$Letter"
def TX17 : u_T := fun k => match k with
  | _ => ("BalloonStall$Letter", "letter", "I", true)
def tyX17 : Nat → FieldType := fun k => match k with
  | _ => .int
abbrev wsX170 : List Cond := u_ws RX17 TX17 1
theorem nmX17 : ∀ a, a < 1 → ∀ b, b < 1 → a ≠ b → (TX17 a).2.1 ≠ (TX17 b).2.1 := by decide +kernel
theorem tyX17_ok : ∀ k, k < 1 → parseFieldDescriptor (TX17 k).2.2.1 = some (tyX17 k) := by decide +kernel
abbrev cX17_init : ByteArray := prog_11_method_1_code
def yX17_init : MethodName := ⟨RX17, "<init>", "(I)V"⟩
def dkwX17_init_0 : List UInt8 := [42, 183, 0, 1, 42, 27, 181, 0, 7, 177]
abbrev dktX17_init_0 : List UInt8 := dkwX17_init_0 ++ []
theorem dksX17_init_0 : cX17_init.data.toList.drop 0 = dktX17_init_0 := by decide +kernel
theorem dX17_init_0 : decode cX17_init 0 = .ok (.aload_n 0, 1) := dk_42 (dk_at dksX17_init_0 0 rfl rfl)
theorem dX17_init_1 : decode cX17_init 1 = .ok (.invokespecial 1, 3) := dk_183 0 1 (dk_at dksX17_init_0 1 rfl rfl)
theorem dX17_init_4 : decode cX17_init 4 = .ok (.aload_n 0, 1) := dk_42 (dk_at dksX17_init_0 4 rfl rfl)
theorem dX17_init_5 : decode cX17_init 5 = .ok (.iload_n 1, 1) := dk_27 (dk_at dksX17_init_0 5 rfl rfl)
theorem dX17_init_6 : decode cX17_init 6 = .ok (.putfield 7, 3) := dk_181 0 7 (dk_at dksX17_init_0 6 rfl rfl)
theorem dX17_init_9 : decode cX17_init 9 = .ok (.return_, 1) := dk_177 (dk_at dksX17_init_0 9 rfl rfl)
abbrev cX17_of : ByteArray := prog_11_method_2_code
def yX17_of : MethodName := ⟨RX17, "of", "(LBalloonStall$Letters;)I"⟩
def dkwX17_of_0 : List UInt8 := [43, 180, 0, 13, 42, 180, 0, 7, 46, 172]
abbrev dktX17_of_0 : List UInt8 := dkwX17_of_0 ++ []
theorem dksX17_of_0 : cX17_of.data.toList.drop 0 = dktX17_of_0 := by decide +kernel
theorem dX17_of_0 : decode cX17_of 0 = .ok (.aload_n 1, 1) := dk_43 (dk_at dksX17_of_0 0 rfl rfl)
theorem dX17_of_1 : decode cX17_of 1 = .ok (.getfield 13, 3) := dk_180 0 13 (dk_at dksX17_of_0 1 rfl rfl)
theorem dX17_of_4 : decode cX17_of 4 = .ok (.aload_n 0, 1) := dk_42 (dk_at dksX17_of_0 4 rfl rfl)
theorem dX17_of_5 : decode cX17_of 5 = .ok (.getfield 7, 3) := dk_180 0 7 (dk_at dksX17_of_0 5 rfl rfl)
theorem dX17_of_8 : decode cX17_of 8 = .ok (.iaload, 1) := dk_46 (dk_at dksX17_of_0 8 rfl rfl)
theorem dX17_of_9 : decode cX17_of 9 = .ok (.ireturn, 1) := dk_172 (dk_at dksX17_of_0 9 rfl rfl)
theorem q122 : (Jvm.Cond.initialized "BalloonStall$Letter") ∈ lw_all := lw_g (lw_at lw_m1 20 rfl) rfl
theorem q158 : (Jvm.Cond.fieldLinkNest "BalloonStall$Letter" (13 : Nat) "BalloonStall$Letters" "of" "[I" "BalloonStall") ∈ lw_tbl := lw_at lw_m1 56 rfl
theorem q593 : (Jvm.Cond.instantiable "BalloonStall$Letter" (1 : Nat)) ∈ lw_all := lw_g (lw_at lw_m3 11 rfl) rfl
theorem q595 : (Jvm.Cond.instanceMethod ({ cls := "BalloonStall$Letter", name := "<init>", desc := "(I)V" } : Jvm.MethodName)) ∈ lw_all := lw_g (lw_at lw_m3 13 rfl) rfl
theorem q596 : (Jvm.Cond.code ({ cls := "BalloonStall$Letter", name := "<init>", desc := "(I)V" } : Jvm.MethodName) prog_11_method_1_code (2 : Nat) (Option.none : Option Jvm.ClassFile.FieldType)) ∈ lw_all := lw_g (lw_at lw_m3 14 rfl) rfl
theorem q597 : (Jvm.Cond.methodLinkNest "BalloonStall$Letter" (1 : Nat) ({ cls := "BalloonStall$Sum", name := "<init>", desc := "()V" } : Jvm.MethodName) "BalloonStall") ∈ lw_tbl := lw_at lw_m3 15 rfl
theorem q601 : (Jvm.Cond.fieldLink "BalloonStall$Letter" (7 : Nat) "BalloonStall$Letter" "letter" "I") ∈ lw_all := lw_g (lw_at lw_m3 19 rfl) rfl
theorem q602 : (Jvm.Cond.laysFinal "BalloonStall$Letter" "BalloonStall$Letter" "letter" "I") ∈ lw_all := lw_g (lw_at lw_m3 20 rfl) rfl
theorem q603 : (Jvm.Cond.soleField "BalloonStall$Letter" "letter") ∈ lw_all := lw_g (lw_at lw_m3 21 rfl) rfl
theorem q604 : (Jvm.Cond.superclass "BalloonStall$Letter" "BalloonStall$Sum") ∈ lw_all := lw_g (lw_at lw_m3 22 rfl) rfl
theorem q1228 : (Jvm.Cond.selects "BalloonStall$Letter" ({ cls := "BalloonStall$Sum", name := "of", desc := "(LBalloonStall$Letters;)I" } : Jvm.MethodName) ({ cls := "BalloonStall$Letter", name := "of", desc := "(LBalloonStall$Letters;)I" } : Jvm.MethodName)) ∈ lw_all := lw_g (lw_at lw_m5 166 rfl) rfl
theorem q1229 : (Jvm.Cond.instanceMethod ({ cls := "BalloonStall$Letter", name := "of", desc := "(LBalloonStall$Letters;)I" } : Jvm.MethodName)) ∈ lw_all := lw_g (lw_at lw_m5 167 rfl) rfl
theorem q1230 : (Jvm.Cond.code ({ cls := "BalloonStall$Letter", name := "of", desc := "(LBalloonStall$Letters;)I" } : Jvm.MethodName) prog_11_method_2_code (2 : Nat) (Option.some Jvm.ClassFile.FieldType.int)) ∈ lw_all := lw_g (lw_at lw_m5 168 rfl) rfl
theorem q1903 : (Jvm.Cond.castable "BalloonStall$Letter" "java/lang/Object") ∈ lw_tbl := lw_at lw_m8 121 rfl
theorem in_X17 : ∀ w ∈ wsX170, w ∈ lw_all := lw_in wsX170 [602] (by decide +kernel) (by decide +kernel)
/-! BalloonStall$Plain -/
set_option maxRecDepth 100000
def RX18 : String := "BalloonStall$Plain"
def TX18 : u_T := fun k => match k with
  | _ => ("BalloonStall$Plain", "value", "I", true)
def tyX18 : Nat → FieldType := fun k => match k with
  | _ => .int
abbrev wsX180 : List Cond := u_ws RX18 TX18 1
theorem nmX18 : ∀ a, a < 1 → ∀ b, b < 1 → a ≠ b → (TX18 a).2.1 ≠ (TX18 b).2.1 := by decide +kernel
theorem tyX18_ok : ∀ k, k < 1 → parseFieldDescriptor (TX18 k).2.2.1 = some (tyX18 k) := by decide +kernel
abbrev cX18_init : ByteArray := prog_17_method_1_code
def yX18_init : MethodName := ⟨RX18, "<init>", "(I)V"⟩
def dkwX18_init_0 : List UInt8 := [42, 183, 0, 1, 42, 27, 181, 0, 7, 177]
abbrev dktX18_init_0 : List UInt8 := dkwX18_init_0 ++ []
theorem dksX18_init_0 : cX18_init.data.toList.drop 0 = dktX18_init_0 := by decide +kernel
theorem dX18_init_0 : decode cX18_init 0 = .ok (.aload_n 0, 1) := dk_42 (dk_at dksX18_init_0 0 rfl rfl)
theorem dX18_init_1 : decode cX18_init 1 = .ok (.invokespecial 1, 3) := dk_183 0 1 (dk_at dksX18_init_0 1 rfl rfl)
theorem dX18_init_4 : decode cX18_init 4 = .ok (.aload_n 0, 1) := dk_42 (dk_at dksX18_init_0 4 rfl rfl)
theorem dX18_init_5 : decode cX18_init 5 = .ok (.iload_n 1, 1) := dk_27 (dk_at dksX18_init_0 5 rfl rfl)
theorem dX18_init_6 : decode cX18_init 6 = .ok (.putfield 7, 3) := dk_181 0 7 (dk_at dksX18_init_0 6 rfl rfl)
theorem dX18_init_9 : decode cX18_init 9 = .ok (.return_, 1) := dk_177 (dk_at dksX18_init_0 9 rfl rfl)
abbrev cX18_of : ByteArray := prog_17_method_2_code
def yX18_of : MethodName := ⟨RX18, "of", "(LBalloonStall$Letters;)I"⟩
theorem dX18_of_0 : decode cX18_of 0 = .ok (.aload_n 0, 1) := by decide +kernel
theorem dX18_of_1 : decode cX18_of 1 = .ok (.getfield 7, 3) := by decide +kernel
theorem dX18_of_4 : decode cX18_of 4 = .ok (.ireturn, 1) := by decide +kernel
theorem q123 : (Jvm.Cond.initialized "BalloonStall$Plain") ∈ lw_all := lw_g (lw_at lw_m1 21 rfl) rfl
theorem q609 : (Jvm.Cond.instantiable "BalloonStall$Plain" (1 : Nat)) ∈ lw_all := lw_g (lw_at lw_m3 27 rfl) rfl
theorem q611 : (Jvm.Cond.instanceMethod ({ cls := "BalloonStall$Plain", name := "<init>", desc := "(I)V" } : Jvm.MethodName)) ∈ lw_all := lw_g (lw_at lw_m3 29 rfl) rfl
theorem q612 : (Jvm.Cond.code ({ cls := "BalloonStall$Plain", name := "<init>", desc := "(I)V" } : Jvm.MethodName) prog_17_method_1_code (2 : Nat) (Option.none : Option Jvm.ClassFile.FieldType)) ∈ lw_all := lw_g (lw_at lw_m3 30 rfl) rfl
theorem q613 : (Jvm.Cond.methodLinkNest "BalloonStall$Plain" (1 : Nat) ({ cls := "BalloonStall$Sum", name := "<init>", desc := "()V" } : Jvm.MethodName) "BalloonStall") ∈ lw_tbl := lw_at lw_m3 31 rfl
theorem q614 : (Jvm.Cond.fieldLink "BalloonStall$Plain" (7 : Nat) "BalloonStall$Plain" "value" "I") ∈ lw_all := lw_g (lw_at lw_m3 32 rfl) rfl
theorem q615 : (Jvm.Cond.laysFinal "BalloonStall$Plain" "BalloonStall$Plain" "value" "I") ∈ lw_all := lw_g (lw_at lw_m3 33 rfl) rfl
theorem q616 : (Jvm.Cond.soleField "BalloonStall$Plain" "value") ∈ lw_all := lw_g (lw_at lw_m3 34 rfl) rfl
theorem q617 : (Jvm.Cond.superclass "BalloonStall$Plain" "BalloonStall$Sum") ∈ lw_all := lw_g (lw_at lw_m3 35 rfl) rfl
theorem q1235 : (Jvm.Cond.instanceMethod ({ cls := "BalloonStall$Plain", name := "of", desc := "(LBalloonStall$Letters;)I" } : Jvm.MethodName)) ∈ lw_all := lw_g (lw_at lw_m5 173 rfl) rfl
theorem q1236 : (Jvm.Cond.code ({ cls := "BalloonStall$Plain", name := "of", desc := "(LBalloonStall$Letters;)I" } : Jvm.MethodName) prog_17_method_2_code (2 : Nat) (Option.some Jvm.ClassFile.FieldType.int)) ∈ lw_all := lw_g (lw_at lw_m5 174 rfl) rfl
theorem q1245 : (Jvm.Cond.selects "BalloonStall$Plain" ({ cls := "BalloonStall$Sum", name := "of", desc := "(LBalloonStall$Letters;)I" } : Jvm.MethodName) ({ cls := "BalloonStall$Plain", name := "of", desc := "(LBalloonStall$Letters;)I" } : Jvm.MethodName)) ∈ lw_all := lw_g (lw_at lw_m5 183 rfl) rfl
theorem q1904 : (Jvm.Cond.castable "BalloonStall$Plain" "java/lang/Object") ∈ lw_tbl := lw_at lw_m8 122 rfl
theorem in_X18 : ∀ w ∈ wsX180, w ∈ lw_all := lw_in wsX180 [615] (by decide +kernel) (by decide +kernel)
/-! BalloonStall$Pair -/
set_option maxRecDepth 100000
def RX19 : String := "BalloonStall$Pair"
def TX19 : u_T := fun k => match k with
  | 0 => ("BalloonStall$Pair", "sign", "I", true)
  | 1 => ("BalloonStall$Pair", "one", "LBalloonStall$Sum;", true)
  | _ => ("BalloonStall$Pair", "other", "LBalloonStall$Sum;", true)
def tyX19 : Nat → FieldType := fun k => match k with
  | 0 => .int
  | 1 => .object "BalloonStall$Sum"
  | _ => .object "BalloonStall$Sum"
abbrev wsX190 : List Cond := u_ws RX19 TX19 3
theorem nmX19 : ∀ a, a < 3 → ∀ b, b < 3 → a ≠ b → (TX19 a).2.1 ≠ (TX19 b).2.1 := by decide +kernel
theorem tyX19_ok : ∀ k, k < 3 → parseFieldDescriptor (TX19 k).2.2.1 = some (tyX19 k) := by decide +kernel
abbrev cX19_init : ByteArray := prog_16_method_1_code
def yX19_init : MethodName := ⟨RX19, "<init>", "(ILBalloonStall$Sum;LBalloonStall$Sum;)V"⟩
def dkwX19_init_0 : List UInt8 := [42, 183, 0, 3, 42, 27, 181, 0, 9, 42, 44, 181, 0, 15, 42, 45, 181, 0, 19, 177]
abbrev dktX19_init_0 : List UInt8 := dkwX19_init_0 ++ []
theorem dksX19_init_0 : cX19_init.data.toList.drop 0 = dktX19_init_0 := by decide +kernel
theorem dX19_init_0 : decode cX19_init 0 = .ok (.aload_n 0, 1) := dk_42 (dk_at dksX19_init_0 0 rfl rfl)
theorem dX19_init_1 : decode cX19_init 1 = .ok (.invokespecial 3, 3) := dk_183 0 3 (dk_at dksX19_init_0 1 rfl rfl)
theorem dX19_init_4 : decode cX19_init 4 = .ok (.aload_n 0, 1) := dk_42 (dk_at dksX19_init_0 4 rfl rfl)
theorem dX19_init_5 : decode cX19_init 5 = .ok (.iload_n 1, 1) := dk_27 (dk_at dksX19_init_0 5 rfl rfl)
theorem dX19_init_6 : decode cX19_init 6 = .ok (.putfield 9, 3) := dk_181 0 9 (dk_at dksX19_init_0 6 rfl rfl)
theorem dX19_init_9 : decode cX19_init 9 = .ok (.aload_n 0, 1) := dk_42 (dk_at dksX19_init_0 9 rfl rfl)
theorem dX19_init_10 : decode cX19_init 10 = .ok (.aload_n 2, 1) := dk_44 (dk_at dksX19_init_0 10 rfl rfl)
theorem dX19_init_11 : decode cX19_init 11 = .ok (.putfield 15, 3) := dk_181 0 15 (dk_at dksX19_init_0 11 rfl rfl)
theorem dX19_init_14 : decode cX19_init 14 = .ok (.aload_n 0, 1) := dk_42 (dk_at dksX19_init_0 14 rfl rfl)
theorem dX19_init_15 : decode cX19_init 15 = .ok (.aload_n 3, 1) := dk_45 (dk_at dksX19_init_0 15 rfl rfl)
theorem dX19_init_16 : decode cX19_init 16 = .ok (.putfield 19, 3) := dk_181 0 19 (dk_at dksX19_init_0 16 rfl rfl)
theorem dX19_init_19 : decode cX19_init 19 = .ok (.return_, 1) := dk_177 (dk_at dksX19_init_0 19 rfl rfl)
abbrev cX19_of : ByteArray := prog_16_method_2_code
def yX19_of : MethodName := ⟨RX19, "of", "(LBalloonStall$Letters;)I"⟩
def dkwX19_of_4 : List UInt8 := [22, 6, 184, 0, 30, 184, 0, 36, 136, 172]
abbrev dktX19_of_4 : List UInt8 := dkwX19_of_4 ++ []
def dkwX19_of_3 : List UInt8 := [22, 4, 9, 148, 154, 0, 7, 9, 167, 0, 7, 32, 22, 4, 109, 55, 6, 20, 0, 26, 20, 0, 28]
abbrev dktX19_of_3 : List UInt8 := dkwX19_of_3 ++ dktX19_of_4
def dkwX19_of_2 : List UInt8 := [32, 22, 4, 101, 167, 0, 34, 42, 180, 0, 9, 16, 42, 160, 0, 10, 32, 22, 4, 105, 167, 0, 18]
abbrev dktX19_of_2 : List UInt8 := dkwX19_of_2 ++ dktX19_of_3
def dkwX19_of_1 : List UInt8 := [180, 0, 9, 16, 43, 160, 0, 10, 32, 22, 4, 97, 167, 0, 50, 42, 180, 0, 9, 16, 45, 160, 0, 10]
abbrev dktX19_of_1 : List UInt8 := dkwX19_of_1 ++ dktX19_of_2
def dkwX19_of_0 : List UInt8 := [42, 180, 0, 15, 43, 182, 0, 22, 133, 65, 42, 180, 0, 19, 43, 182, 0, 22, 133, 55, 4, 42]
abbrev dktX19_of_0 : List UInt8 := dkwX19_of_0 ++ dktX19_of_1
theorem dksX19_of_0 : cX19_of.data.toList.drop 0 = dktX19_of_0 := by decide +kernel
theorem dksX19_of_1 : cX19_of.data.toList.drop 22 = dktX19_of_1 := dk_seg dksX19_of_0 22 rfl rfl
theorem dksX19_of_2 : cX19_of.data.toList.drop 46 = dktX19_of_2 := dk_seg dksX19_of_1 24 rfl rfl
theorem dksX19_of_3 : cX19_of.data.toList.drop 69 = dktX19_of_3 := dk_seg dksX19_of_2 23 rfl rfl
theorem dksX19_of_4 : cX19_of.data.toList.drop 92 = dktX19_of_4 := dk_seg dksX19_of_3 23 rfl rfl
theorem dX19_of_0 : decode cX19_of 0 = .ok (.aload_n 0, 1) := dk_42 (dk_at dksX19_of_0 0 rfl rfl)
theorem dX19_of_1 : decode cX19_of 1 = .ok (.getfield 15, 3) := dk_180 0 15 (dk_at dksX19_of_0 1 rfl rfl)
theorem dX19_of_4 : decode cX19_of 4 = .ok (.aload_n 1, 1) := dk_43 (dk_at dksX19_of_0 4 rfl rfl)
theorem dX19_of_5 : decode cX19_of 5 = .ok (.invokevirtual 22, 3) := dk_182 0 22 (dk_at dksX19_of_0 5 rfl rfl)
theorem dX19_of_8 : decode cX19_of 8 = .ok (.i2l, 1) := dk_133 (dk_at dksX19_of_0 8 rfl rfl)
theorem dX19_of_9 : decode cX19_of 9 = .ok (.lstore_n 2, 1) := dk_65 (dk_at dksX19_of_0 9 rfl rfl)
theorem dX19_of_10 : decode cX19_of 10 = .ok (.aload_n 0, 1) := dk_42 (dk_at dksX19_of_0 10 rfl rfl)
theorem dX19_of_11 : decode cX19_of 11 = .ok (.getfield 19, 3) := dk_180 0 19 (dk_at dksX19_of_0 11 rfl rfl)
theorem dX19_of_14 : decode cX19_of 14 = .ok (.aload_n 1, 1) := dk_43 (dk_at dksX19_of_0 14 rfl rfl)
theorem dX19_of_15 : decode cX19_of 15 = .ok (.invokevirtual 22, 3) := dk_182 0 22 (dk_at dksX19_of_0 15 rfl rfl)
theorem dX19_of_18 : decode cX19_of 18 = .ok (.i2l, 1) := dk_133 (dk_at dksX19_of_0 18 rfl rfl)
theorem dX19_of_19 : decode cX19_of 19 = .ok (.lstore 4, 2) := dk_55 4 (dk_at dksX19_of_0 19 rfl rfl)
theorem dX19_of_21 : decode cX19_of 21 = .ok (.aload_n 0, 1) := dk_42 (dk_at dksX19_of_0 21 rfl rfl)
theorem dX19_of_22 : decode cX19_of 22 = .ok (.getfield 9, 3) := dk_180 0 9 (dk_at dksX19_of_1 0 rfl rfl)
theorem dX19_of_25 : decode cX19_of 25 = .ok (.bipush 43, 2) := dk_16 43 (dk_at dksX19_of_1 3 rfl rfl)
theorem dX19_of_27 : decode cX19_of 27 = .ok (.if_icmp .ne 10, 3) := dk_160 0 10 (dk_at dksX19_of_1 5 rfl rfl)
theorem dX19_of_30 : decode cX19_of 30 = .ok (.lload_n 2, 1) := dk_32 (dk_at dksX19_of_1 8 rfl rfl)
theorem dX19_of_31 : decode cX19_of 31 = .ok (.lload 4, 2) := dk_22 4 (dk_at dksX19_of_1 9 rfl rfl)
theorem dX19_of_33 : decode cX19_of 33 = .ok (.ladd, 1) := dk_97 (dk_at dksX19_of_1 11 rfl rfl)
theorem dX19_of_34 : decode cX19_of 34 = .ok (.goto 50, 3) := dk_167 0 50 (dk_at dksX19_of_1 12 rfl rfl)
theorem dX19_of_37 : decode cX19_of 37 = .ok (.aload_n 0, 1) := dk_42 (dk_at dksX19_of_1 15 rfl rfl)
theorem dX19_of_38 : decode cX19_of 38 = .ok (.getfield 9, 3) := dk_180 0 9 (dk_at dksX19_of_1 16 rfl rfl)
theorem dX19_of_41 : decode cX19_of 41 = .ok (.bipush 45, 2) := dk_16 45 (dk_at dksX19_of_1 19 rfl rfl)
theorem dX19_of_43 : decode cX19_of 43 = .ok (.if_icmp .ne 10, 3) := dk_160 0 10 (dk_at dksX19_of_1 21 rfl rfl)
theorem dX19_of_46 : decode cX19_of 46 = .ok (.lload_n 2, 1) := dk_32 (dk_at dksX19_of_2 0 rfl rfl)
theorem dX19_of_47 : decode cX19_of 47 = .ok (.lload 4, 2) := dk_22 4 (dk_at dksX19_of_2 1 rfl rfl)
theorem dX19_of_49 : decode cX19_of 49 = .ok (.lsub, 1) := dk_101 (dk_at dksX19_of_2 3 rfl rfl)
theorem dX19_of_50 : decode cX19_of 50 = .ok (.goto 34, 3) := dk_167 0 34 (dk_at dksX19_of_2 4 rfl rfl)
theorem dX19_of_53 : decode cX19_of 53 = .ok (.aload_n 0, 1) := dk_42 (dk_at dksX19_of_2 7 rfl rfl)
theorem dX19_of_54 : decode cX19_of 54 = .ok (.getfield 9, 3) := dk_180 0 9 (dk_at dksX19_of_2 8 rfl rfl)
theorem dX19_of_57 : decode cX19_of 57 = .ok (.bipush 42, 2) := dk_16 42 (dk_at dksX19_of_2 11 rfl rfl)
theorem dX19_of_59 : decode cX19_of 59 = .ok (.if_icmp .ne 10, 3) := dk_160 0 10 (dk_at dksX19_of_2 13 rfl rfl)
theorem dX19_of_62 : decode cX19_of 62 = .ok (.lload_n 2, 1) := dk_32 (dk_at dksX19_of_2 16 rfl rfl)
theorem dX19_of_63 : decode cX19_of 63 = .ok (.lload 4, 2) := dk_22 4 (dk_at dksX19_of_2 17 rfl rfl)
theorem dX19_of_65 : decode cX19_of 65 = .ok (.lmul, 1) := dk_105 (dk_at dksX19_of_2 19 rfl rfl)
theorem dX19_of_66 : decode cX19_of 66 = .ok (.goto 18, 3) := dk_167 0 18 (dk_at dksX19_of_2 20 rfl rfl)
theorem dX19_of_69 : decode cX19_of 69 = .ok (.lload 4, 2) := dk_22 4 (dk_at dksX19_of_3 0 rfl rfl)
theorem dX19_of_71 : decode cX19_of 71 = .ok (.lconst 0, 1) := dk_9 (dk_at dksX19_of_3 2 rfl rfl)
theorem dX19_of_72 : decode cX19_of 72 = .ok (.lcmp, 1) := dk_148 (dk_at dksX19_of_3 3 rfl rfl)
theorem dX19_of_73 : decode cX19_of 73 = .ok (.ifCond .ne 7, 3) := dk_154 0 7 (dk_at dksX19_of_3 4 rfl rfl)
theorem dX19_of_76 : decode cX19_of 76 = .ok (.lconst 0, 1) := dk_9 (dk_at dksX19_of_3 7 rfl rfl)
theorem dX19_of_77 : decode cX19_of 77 = .ok (.goto 7, 3) := dk_167 0 7 (dk_at dksX19_of_3 8 rfl rfl)
theorem dX19_of_80 : decode cX19_of 80 = .ok (.lload_n 2, 1) := dk_32 (dk_at dksX19_of_3 11 rfl rfl)
theorem dX19_of_81 : decode cX19_of 81 = .ok (.lload 4, 2) := dk_22 4 (dk_at dksX19_of_3 12 rfl rfl)
theorem dX19_of_83 : decode cX19_of 83 = .ok (.ldiv, 1) := dk_109 (dk_at dksX19_of_3 14 rfl rfl)
theorem dX19_of_84 : decode cX19_of 84 = .ok (.lstore 6, 2) := dk_55 6 (dk_at dksX19_of_3 15 rfl rfl)
theorem dX19_of_86 : decode cX19_of 86 = .ok (.ldc2_w 26, 3) := dk_20 0 26 (dk_at dksX19_of_3 17 rfl rfl)
theorem dX19_of_89 : decode cX19_of 89 = .ok (.ldc2_w 28, 3) := dk_20 0 28 (dk_at dksX19_of_3 20 rfl rfl)
theorem dX19_of_92 : decode cX19_of 92 = .ok (.lload 6, 2) := dk_22 6 (dk_at dksX19_of_4 0 rfl rfl)
theorem dX19_of_94 : decode cX19_of 94 = .ok (.invokestatic 30, 3) := dk_184 0 30 (dk_at dksX19_of_4 2 rfl rfl)
theorem dX19_of_97 : decode cX19_of 97 = .ok (.invokestatic 36, 3) := dk_184 0 36 (dk_at dksX19_of_4 5 rfl rfl)
theorem dX19_of_100 : decode cX19_of 100 = .ok (.l2i, 1) := dk_136 (dk_at dksX19_of_4 8 rfl rfl)
theorem dX19_of_101 : decode cX19_of 101 = .ok (.ireturn, 1) := dk_172 (dk_at dksX19_of_4 9 rfl rfl)
theorem q124 : (Jvm.Cond.initialized "BalloonStall$Pair") ∈ lw_all := lw_g (lw_at lw_m1 22 rfl) rfl
theorem q619 : (Jvm.Cond.instantiable "BalloonStall$Pair" (3 : Nat)) ∈ lw_all := lw_g (lw_at lw_m3 37 rfl) rfl
theorem q621 : (Jvm.Cond.instanceMethod ({ cls := "BalloonStall$Pair", name := "<init>", desc := "(ILBalloonStall$Sum;LBalloonStall$Sum;)V" } : Jvm.MethodName)) ∈ lw_all := lw_g (lw_at lw_m3 39 rfl) rfl
theorem q622 : (Jvm.Cond.code ({ cls := "BalloonStall$Pair", name := "<init>", desc := "(ILBalloonStall$Sum;LBalloonStall$Sum;)V" } : Jvm.MethodName) prog_16_method_1_code (4 : Nat) (Option.none : Option Jvm.ClassFile.FieldType)) ∈ lw_all := lw_g (lw_at lw_m3 40 rfl) rfl
theorem q623 : (Jvm.Cond.methodLinkNest "BalloonStall$Pair" (3 : Nat) ({ cls := "BalloonStall$Sum", name := "<init>", desc := "()V" } : Jvm.MethodName) "BalloonStall") ∈ lw_tbl := lw_at lw_m3 41 rfl
theorem q624 : (Jvm.Cond.fieldLink "BalloonStall$Pair" (9 : Nat) "BalloonStall$Pair" "sign" "I") ∈ lw_all := lw_g (lw_at lw_m3 42 rfl) rfl
theorem q625 : (Jvm.Cond.fieldLink "BalloonStall$Pair" (15 : Nat) "BalloonStall$Pair" "one" "LBalloonStall$Sum;") ∈ lw_all := lw_g (lw_at lw_m3 43 rfl) rfl
theorem q626 : (Jvm.Cond.fieldLink "BalloonStall$Pair" (19 : Nat) "BalloonStall$Pair" "other" "LBalloonStall$Sum;") ∈ lw_all := lw_g (lw_at lw_m3 44 rfl) rfl
theorem q627 : (Jvm.Cond.laysFinal "BalloonStall$Pair" "BalloonStall$Pair" "sign" "I") ∈ lw_all := lw_g (lw_at lw_m3 45 rfl) rfl
theorem q628 : (Jvm.Cond.soleField "BalloonStall$Pair" "sign") ∈ lw_all := lw_g (lw_at lw_m3 46 rfl) rfl
theorem q629 : (Jvm.Cond.laysFinal "BalloonStall$Pair" "BalloonStall$Pair" "one" "LBalloonStall$Sum;") ∈ lw_all := lw_g (lw_at lw_m3 47 rfl) rfl
theorem q630 : (Jvm.Cond.soleField "BalloonStall$Pair" "one") ∈ lw_all := lw_g (lw_at lw_m3 48 rfl) rfl
theorem q631 : (Jvm.Cond.laysFinal "BalloonStall$Pair" "BalloonStall$Pair" "other" "LBalloonStall$Sum;") ∈ lw_all := lw_g (lw_at lw_m3 49 rfl) rfl
theorem q632 : (Jvm.Cond.soleField "BalloonStall$Pair" "other") ∈ lw_all := lw_g (lw_at lw_m3 50 rfl) rfl
theorem q633 : (Jvm.Cond.superclass "BalloonStall$Pair" "BalloonStall$Sum") ∈ lw_all := lw_g (lw_at lw_m3 51 rfl) rfl
theorem q1231 : (Jvm.Cond.selects "BalloonStall$Pair" ({ cls := "BalloonStall$Sum", name := "of", desc := "(LBalloonStall$Letters;)I" } : Jvm.MethodName) ({ cls := "BalloonStall$Pair", name := "of", desc := "(LBalloonStall$Letters;)I" } : Jvm.MethodName)) ∈ lw_all := lw_g (lw_at lw_m5 169 rfl) rfl
theorem q1232 : (Jvm.Cond.instanceMethod ({ cls := "BalloonStall$Pair", name := "of", desc := "(LBalloonStall$Letters;)I" } : Jvm.MethodName)) ∈ lw_all := lw_g (lw_at lw_m5 170 rfl) rfl
theorem q1233 : (Jvm.Cond.code ({ cls := "BalloonStall$Pair", name := "of", desc := "(LBalloonStall$Letters;)I" } : Jvm.MethodName) prog_16_method_2_code (8 : Nat) (Option.some Jvm.ClassFile.FieldType.int)) ∈ lw_all := lw_g (lw_at lw_m5 171 rfl) rfl
theorem q1234 : (Jvm.Cond.methodLink "BalloonStall$Pair" (22 : Nat) ({ cls := "BalloonStall$Sum", name := "of", desc := "(LBalloonStall$Letters;)I" } : Jvm.MethodName)) ∈ lw_all := lw_g (lw_at lw_m5 172 rfl) rfl
theorem q1237 : (Jvm.Cond.constantLong "BalloonStall$Pair" (26 : Nat) (-1000000 : Int64)) ∈ lw_all := lw_g (lw_at lw_m5 175 rfl) rfl
theorem q1238 : (Jvm.Cond.constantLong "BalloonStall$Pair" (28 : Nat) (1000000 : Int64)) ∈ lw_all := lw_g (lw_at lw_m5 176 rfl) rfl
theorem q1239 : (Jvm.Cond.methodLink "BalloonStall$Pair" (30 : Nat) ({ cls := "java/lang/Math", name := "min", desc := "(JJ)J" } : Jvm.MethodName)) ∈ lw_all := lw_g (lw_at lw_m5 177 rfl) rfl
theorem q1242 : (Jvm.Cond.methodLink "BalloonStall$Pair" (36 : Nat) ({ cls := "java/lang/Math", name := "max", desc := "(JJ)J" } : Jvm.MethodName)) ∈ lw_all := lw_g (lw_at lw_m5 180 rfl) rfl
theorem q1905 : (Jvm.Cond.castable "BalloonStall$Pair" "java/lang/Object") ∈ lw_tbl := lw_at lw_m8 123 rfl
theorem in_X19 : ∀ w ∈ wsX190, w ∈ lw_all := lw_in wsX190 [627, 629, 631] (by decide +kernel) (by decide +kernel)
/-! BalloonStall$Compares -/
set_option maxRecDepth 100000
def RX20 : String := "BalloonStall$Compares"
def TX20 : u_T := fun k => match k with
  | 0 => ("BalloonStall$Compares", "sign", "I", true)
  | 1 => ("BalloonStall$Compares", "one", "LBalloonStall$Sum;", true)
  | _ => ("BalloonStall$Compares", "other", "LBalloonStall$Sum;", true)
def tyX20 : Nat → FieldType := fun k => match k with
  | 0 => .int
  | 1 => .object "BalloonStall$Sum"
  | _ => .object "BalloonStall$Sum"
abbrev wsX200 : List Cond := u_ws RX20 TX20 3
theorem nmX20 : ∀ a, a < 3 → ∀ b, b < 3 → a ≠ b → (TX20 a).2.1 ≠ (TX20 b).2.1 := by decide +kernel
theorem tyX20_ok : ∀ k, k < 3 → parseFieldDescriptor (TX20 k).2.2.1 = some (tyX20 k) := by decide +kernel
abbrev cX20_init : ByteArray := prog_5_method_1_code
def yX20_init : MethodName := ⟨RX20, "<init>", "(ILBalloonStall$Sum;LBalloonStall$Sum;)V"⟩
def dkwX20_init_0 : List UInt8 := [42, 183, 0, 1, 42, 27, 181, 0, 7, 42, 44, 181, 0, 13, 42, 45, 181, 0, 17, 177]
abbrev dktX20_init_0 : List UInt8 := dkwX20_init_0 ++ []
theorem dksX20_init_0 : cX20_init.data.toList.drop 0 = dktX20_init_0 := by decide +kernel
theorem dX20_init_0 : decode cX20_init 0 = .ok (.aload_n 0, 1) := dk_42 (dk_at dksX20_init_0 0 rfl rfl)
theorem dX20_init_1 : decode cX20_init 1 = .ok (.invokespecial 1, 3) := dk_183 0 1 (dk_at dksX20_init_0 1 rfl rfl)
theorem dX20_init_4 : decode cX20_init 4 = .ok (.aload_n 0, 1) := dk_42 (dk_at dksX20_init_0 4 rfl rfl)
theorem dX20_init_5 : decode cX20_init 5 = .ok (.iload_n 1, 1) := dk_27 (dk_at dksX20_init_0 5 rfl rfl)
theorem dX20_init_6 : decode cX20_init 6 = .ok (.putfield 7, 3) := dk_181 0 7 (dk_at dksX20_init_0 6 rfl rfl)
theorem dX20_init_9 : decode cX20_init 9 = .ok (.aload_n 0, 1) := dk_42 (dk_at dksX20_init_0 9 rfl rfl)
theorem dX20_init_10 : decode cX20_init 10 = .ok (.aload_n 2, 1) := dk_44 (dk_at dksX20_init_0 10 rfl rfl)
theorem dX20_init_11 : decode cX20_init 11 = .ok (.putfield 13, 3) := dk_181 0 13 (dk_at dksX20_init_0 11 rfl rfl)
theorem dX20_init_14 : decode cX20_init 14 = .ok (.aload_n 0, 1) := dk_42 (dk_at dksX20_init_0 14 rfl rfl)
theorem dX20_init_15 : decode cX20_init 15 = .ok (.aload_n 3, 1) := dk_45 (dk_at dksX20_init_0 15 rfl rfl)
theorem dX20_init_16 : decode cX20_init 16 = .ok (.putfield 17, 3) := dk_181 0 17 (dk_at dksX20_init_0 16 rfl rfl)
theorem dX20_init_19 : decode cX20_init 19 = .ok (.return_, 1) := dk_177 (dk_at dksX20_init_0 19 rfl rfl)
abbrev cX20_holds : ByteArray := prog_5_method_2_code
def yX20_holds : MethodName := ⟨RX20, "holds", "(LBalloonStall$Letters;)Z"⟩
def dkwX20_holds_3 : List UInt8 := [167, 0, 4, 3, 172]
abbrev dktX20_holds_3 : List UInt8 := dkwX20_holds_3 ++ []
def dkwX20_holds_2 : List UInt8 := [160, 0, 16, 28, 29, 162, 0, 7, 4, 167, 0, 17, 3, 167, 0, 13, 28, 29, 164, 0, 7, 4]
abbrev dktX20_holds_2 : List UInt8 := dkwX20_holds_2 ++ dktX20_holds_3
def dkwX20_holds_1 : List UInt8 := [160, 0, 16, 28, 29, 160, 0, 7, 4, 167, 0, 39, 3, 167, 0, 35, 42, 180, 0, 7, 16, 60]
abbrev dktX20_holds_1 : List UInt8 := dkwX20_holds_1 ++ dktX20_holds_2
def dkwX20_holds_0 : List UInt8 := [42, 180, 0, 13, 43, 182, 0, 20, 61, 42, 180, 0, 17, 43, 182, 0, 20, 62, 42, 180, 0, 7, 16, 61]
abbrev dktX20_holds_0 : List UInt8 := dkwX20_holds_0 ++ dktX20_holds_1
theorem dksX20_holds_0 : cX20_holds.data.toList.drop 0 = dktX20_holds_0 := by decide +kernel
theorem dksX20_holds_1 : cX20_holds.data.toList.drop 24 = dktX20_holds_1 := dk_seg dksX20_holds_0 24 rfl rfl
theorem dksX20_holds_2 : cX20_holds.data.toList.drop 46 = dktX20_holds_2 := dk_seg dksX20_holds_1 22 rfl rfl
theorem dksX20_holds_3 : cX20_holds.data.toList.drop 68 = dktX20_holds_3 := dk_seg dksX20_holds_2 22 rfl rfl
theorem dX20_holds_0 : decode cX20_holds 0 = .ok (.aload_n 0, 1) := dk_42 (dk_at dksX20_holds_0 0 rfl rfl)
theorem dX20_holds_1 : decode cX20_holds 1 = .ok (.getfield 13, 3) := dk_180 0 13 (dk_at dksX20_holds_0 1 rfl rfl)
theorem dX20_holds_4 : decode cX20_holds 4 = .ok (.aload_n 1, 1) := dk_43 (dk_at dksX20_holds_0 4 rfl rfl)
theorem dX20_holds_5 : decode cX20_holds 5 = .ok (.invokevirtual 20, 3) := dk_182 0 20 (dk_at dksX20_holds_0 5 rfl rfl)
theorem dX20_holds_8 : decode cX20_holds 8 = .ok (.istore_n 2, 1) := dk_61 (dk_at dksX20_holds_0 8 rfl rfl)
theorem dX20_holds_9 : decode cX20_holds 9 = .ok (.aload_n 0, 1) := dk_42 (dk_at dksX20_holds_0 9 rfl rfl)
theorem dX20_holds_10 : decode cX20_holds 10 = .ok (.getfield 17, 3) := dk_180 0 17 (dk_at dksX20_holds_0 10 rfl rfl)
theorem dX20_holds_13 : decode cX20_holds 13 = .ok (.aload_n 1, 1) := dk_43 (dk_at dksX20_holds_0 13 rfl rfl)
theorem dX20_holds_14 : decode cX20_holds 14 = .ok (.invokevirtual 20, 3) := dk_182 0 20 (dk_at dksX20_holds_0 14 rfl rfl)
theorem dX20_holds_17 : decode cX20_holds 17 = .ok (.istore_n 3, 1) := dk_62 (dk_at dksX20_holds_0 17 rfl rfl)
theorem dX20_holds_18 : decode cX20_holds 18 = .ok (.aload_n 0, 1) := dk_42 (dk_at dksX20_holds_0 18 rfl rfl)
theorem dX20_holds_19 : decode cX20_holds 19 = .ok (.getfield 7, 3) := dk_180 0 7 (dk_at dksX20_holds_0 19 rfl rfl)
theorem dX20_holds_22 : decode cX20_holds 22 = .ok (.bipush 61, 2) := dk_16 61 (dk_at dksX20_holds_0 22 rfl rfl)
theorem dX20_holds_24 : decode cX20_holds 24 = .ok (.if_icmp .ne 16, 3) := dk_160 0 16 (dk_at dksX20_holds_1 0 rfl rfl)
theorem dX20_holds_27 : decode cX20_holds 27 = .ok (.iload_n 2, 1) := dk_28 (dk_at dksX20_holds_1 3 rfl rfl)
theorem dX20_holds_28 : decode cX20_holds 28 = .ok (.iload_n 3, 1) := dk_29 (dk_at dksX20_holds_1 4 rfl rfl)
theorem dX20_holds_29 : decode cX20_holds 29 = .ok (.if_icmp .ne 7, 3) := dk_160 0 7 (dk_at dksX20_holds_1 5 rfl rfl)
theorem dX20_holds_32 : decode cX20_holds 32 = .ok (.iconst 1, 1) := dk_4 (dk_at dksX20_holds_1 8 rfl rfl)
theorem dX20_holds_33 : decode cX20_holds 33 = .ok (.goto 39, 3) := dk_167 0 39 (dk_at dksX20_holds_1 9 rfl rfl)
theorem dX20_holds_36 : decode cX20_holds 36 = .ok (.iconst 0, 1) := dk_3 (dk_at dksX20_holds_1 12 rfl rfl)
theorem dX20_holds_37 : decode cX20_holds 37 = .ok (.goto 35, 3) := dk_167 0 35 (dk_at dksX20_holds_1 13 rfl rfl)
theorem dX20_holds_40 : decode cX20_holds 40 = .ok (.aload_n 0, 1) := dk_42 (dk_at dksX20_holds_1 16 rfl rfl)
theorem dX20_holds_41 : decode cX20_holds 41 = .ok (.getfield 7, 3) := dk_180 0 7 (dk_at dksX20_holds_1 17 rfl rfl)
theorem dX20_holds_44 : decode cX20_holds 44 = .ok (.bipush 60, 2) := dk_16 60 (dk_at dksX20_holds_1 20 rfl rfl)
theorem dX20_holds_46 : decode cX20_holds 46 = .ok (.if_icmp .ne 16, 3) := dk_160 0 16 (dk_at dksX20_holds_2 0 rfl rfl)
theorem dX20_holds_49 : decode cX20_holds 49 = .ok (.iload_n 2, 1) := dk_28 (dk_at dksX20_holds_2 3 rfl rfl)
theorem dX20_holds_50 : decode cX20_holds 50 = .ok (.iload_n 3, 1) := dk_29 (dk_at dksX20_holds_2 4 rfl rfl)
theorem dX20_holds_51 : decode cX20_holds 51 = .ok (.if_icmp .ge 7, 3) := dk_162 0 7 (dk_at dksX20_holds_2 5 rfl rfl)
theorem dX20_holds_54 : decode cX20_holds 54 = .ok (.iconst 1, 1) := dk_4 (dk_at dksX20_holds_2 8 rfl rfl)
theorem dX20_holds_55 : decode cX20_holds 55 = .ok (.goto 17, 3) := dk_167 0 17 (dk_at dksX20_holds_2 9 rfl rfl)
theorem dX20_holds_58 : decode cX20_holds 58 = .ok (.iconst 0, 1) := dk_3 (dk_at dksX20_holds_2 12 rfl rfl)
theorem dX20_holds_59 : decode cX20_holds 59 = .ok (.goto 13, 3) := dk_167 0 13 (dk_at dksX20_holds_2 13 rfl rfl)
theorem dX20_holds_62 : decode cX20_holds 62 = .ok (.iload_n 2, 1) := dk_28 (dk_at dksX20_holds_2 16 rfl rfl)
theorem dX20_holds_63 : decode cX20_holds 63 = .ok (.iload_n 3, 1) := dk_29 (dk_at dksX20_holds_2 17 rfl rfl)
theorem dX20_holds_64 : decode cX20_holds 64 = .ok (.if_icmp .le 7, 3) := dk_164 0 7 (dk_at dksX20_holds_2 18 rfl rfl)
theorem dX20_holds_67 : decode cX20_holds 67 = .ok (.iconst 1, 1) := dk_4 (dk_at dksX20_holds_2 21 rfl rfl)
theorem dX20_holds_68 : decode cX20_holds 68 = .ok (.goto 4, 3) := dk_167 0 4 (dk_at dksX20_holds_3 0 rfl rfl)
theorem dX20_holds_71 : decode cX20_holds 71 = .ok (.iconst 0, 1) := dk_3 (dk_at dksX20_holds_3 3 rfl rfl)
theorem dX20_holds_72 : decode cX20_holds 72 = .ok (.ireturn, 1) := dk_172 (dk_at dksX20_holds_3 4 rfl rfl)
theorem q125 : (Jvm.Cond.initialized "BalloonStall$Compares") ∈ lw_all := lw_g (lw_at lw_m1 23 rfl) rfl
theorem q639 : (Jvm.Cond.instantiable "BalloonStall$Compares" (3 : Nat)) ∈ lw_all := lw_g (lw_at lw_m3 57 rfl) rfl
theorem q641 : (Jvm.Cond.instanceMethod ({ cls := "BalloonStall$Compares", name := "<init>", desc := "(ILBalloonStall$Sum;LBalloonStall$Sum;)V" } : Jvm.MethodName)) ∈ lw_all := lw_g (lw_at lw_m3 59 rfl) rfl
theorem q642 : (Jvm.Cond.code ({ cls := "BalloonStall$Compares", name := "<init>", desc := "(ILBalloonStall$Sum;LBalloonStall$Sum;)V" } : Jvm.MethodName) prog_5_method_1_code (4 : Nat) (Option.none : Option Jvm.ClassFile.FieldType)) ∈ lw_all := lw_g (lw_at lw_m3 60 rfl) rfl
theorem q643 : (Jvm.Cond.methodLinkNest "BalloonStall$Compares" (1 : Nat) ({ cls := "BalloonStall$Test", name := "<init>", desc := "()V" } : Jvm.MethodName) "BalloonStall") ∈ lw_tbl := lw_at lw_m3 61 rfl
theorem q644 : (Jvm.Cond.fieldLink "BalloonStall$Compares" (7 : Nat) "BalloonStall$Compares" "sign" "I") ∈ lw_all := lw_g (lw_at lw_m3 62 rfl) rfl
theorem q645 : (Jvm.Cond.fieldLink "BalloonStall$Compares" (13 : Nat) "BalloonStall$Compares" "one" "LBalloonStall$Sum;") ∈ lw_all := lw_g (lw_at lw_m3 63 rfl) rfl
theorem q646 : (Jvm.Cond.fieldLink "BalloonStall$Compares" (17 : Nat) "BalloonStall$Compares" "other" "LBalloonStall$Sum;") ∈ lw_all := lw_g (lw_at lw_m3 64 rfl) rfl
theorem q647 : (Jvm.Cond.laysFinal "BalloonStall$Compares" "BalloonStall$Compares" "sign" "I") ∈ lw_all := lw_g (lw_at lw_m3 65 rfl) rfl
theorem q648 : (Jvm.Cond.soleField "BalloonStall$Compares" "sign") ∈ lw_all := lw_g (lw_at lw_m3 66 rfl) rfl
theorem q649 : (Jvm.Cond.laysFinal "BalloonStall$Compares" "BalloonStall$Compares" "one" "LBalloonStall$Sum;") ∈ lw_all := lw_g (lw_at lw_m3 67 rfl) rfl
theorem q650 : (Jvm.Cond.soleField "BalloonStall$Compares" "one") ∈ lw_all := lw_g (lw_at lw_m3 68 rfl) rfl
theorem q651 : (Jvm.Cond.laysFinal "BalloonStall$Compares" "BalloonStall$Compares" "other" "LBalloonStall$Sum;") ∈ lw_all := lw_g (lw_at lw_m3 69 rfl) rfl
theorem q652 : (Jvm.Cond.soleField "BalloonStall$Compares" "other") ∈ lw_all := lw_g (lw_at lw_m3 70 rfl) rfl
theorem q653 : (Jvm.Cond.superclass "BalloonStall$Compares" "BalloonStall$Test") ∈ lw_all := lw_g (lw_at lw_m3 71 rfl) rfl
theorem q1223 : (Jvm.Cond.instanceMethod ({ cls := "BalloonStall$Compares", name := "holds", desc := "(LBalloonStall$Letters;)Z" } : Jvm.MethodName)) ∈ lw_all := lw_g (lw_at lw_m5 161 rfl) rfl
theorem q1224 : (Jvm.Cond.code ({ cls := "BalloonStall$Compares", name := "holds", desc := "(LBalloonStall$Letters;)Z" } : Jvm.MethodName) prog_5_method_2_code (4 : Nat) (Option.some Jvm.ClassFile.FieldType.boolean)) ∈ lw_all := lw_g (lw_at lw_m5 162 rfl) rfl
theorem q1225 : (Jvm.Cond.methodLink "BalloonStall$Compares" (20 : Nat) ({ cls := "BalloonStall$Sum", name := "of", desc := "(LBalloonStall$Letters;)I" } : Jvm.MethodName)) ∈ lw_all := lw_g (lw_at lw_m5 163 rfl) rfl
theorem q1249 : (Jvm.Cond.selects "BalloonStall$Compares" ({ cls := "BalloonStall$Test", name := "holds", desc := "(LBalloonStall$Letters;)Z" } : Jvm.MethodName) ({ cls := "BalloonStall$Compares", name := "holds", desc := "(LBalloonStall$Letters;)Z" } : Jvm.MethodName)) ∈ lw_all := lw_g (lw_at lw_m5 187 rfl) rfl
theorem q1906 : (Jvm.Cond.castable "BalloonStall$Compares" "java/lang/Object") ∈ lw_tbl := lw_at lw_m8 124 rfl
theorem in_X20 : ∀ w ∈ wsX200, w ∈ lw_all := lw_in wsX200 [647, 649, 651] (by decide +kernel) (by decide +kernel)
/-! BalloonStall$Both -/
set_option maxRecDepth 100000
def RX21 : String := "BalloonStall$Both"
def TX21 : u_T := fun k => match k with
  | 0 => ("BalloonStall$Both", "all", "Z", true)
  | 1 => ("BalloonStall$Both", "one", "LBalloonStall$Test;", true)
  | _ => ("BalloonStall$Both", "other", "LBalloonStall$Test;", true)
def tyX21 : Nat → FieldType := fun k => match k with
  | 0 => .boolean
  | 1 => .object "BalloonStall$Test"
  | _ => .object "BalloonStall$Test"
abbrev wsX210 : List Cond := u_ws RX21 TX21 3
theorem nmX21 : ∀ a, a < 3 → ∀ b, b < 3 → a ≠ b → (TX21 a).2.1 ≠ (TX21 b).2.1 := by decide +kernel
theorem tyX21_ok : ∀ k, k < 3 → parseFieldDescriptor (TX21 k).2.2.1 = some (tyX21 k) := by decide +kernel
abbrev cX21_init : ByteArray := prog_3_method_1_code
def yX21_init : MethodName := ⟨RX21, "<init>", "(ZLBalloonStall$Test;LBalloonStall$Test;)V"⟩
def dkwX21_init_0 : List UInt8 := [42, 183, 0, 1, 42, 27, 181, 0, 7, 42, 44, 181, 0, 13, 42, 45, 181, 0, 17, 177]
abbrev dktX21_init_0 : List UInt8 := dkwX21_init_0 ++ []
theorem dksX21_init_0 : cX21_init.data.toList.drop 0 = dktX21_init_0 := by decide +kernel
theorem dX21_init_0 : decode cX21_init 0 = .ok (.aload_n 0, 1) := dk_42 (dk_at dksX21_init_0 0 rfl rfl)
theorem dX21_init_1 : decode cX21_init 1 = .ok (.invokespecial 1, 3) := dk_183 0 1 (dk_at dksX21_init_0 1 rfl rfl)
theorem dX21_init_4 : decode cX21_init 4 = .ok (.aload_n 0, 1) := dk_42 (dk_at dksX21_init_0 4 rfl rfl)
theorem dX21_init_5 : decode cX21_init 5 = .ok (.iload_n 1, 1) := dk_27 (dk_at dksX21_init_0 5 rfl rfl)
theorem dX21_init_6 : decode cX21_init 6 = .ok (.putfield 7, 3) := dk_181 0 7 (dk_at dksX21_init_0 6 rfl rfl)
theorem dX21_init_9 : decode cX21_init 9 = .ok (.aload_n 0, 1) := dk_42 (dk_at dksX21_init_0 9 rfl rfl)
theorem dX21_init_10 : decode cX21_init 10 = .ok (.aload_n 2, 1) := dk_44 (dk_at dksX21_init_0 10 rfl rfl)
theorem dX21_init_11 : decode cX21_init 11 = .ok (.putfield 13, 3) := dk_181 0 13 (dk_at dksX21_init_0 11 rfl rfl)
theorem dX21_init_14 : decode cX21_init 14 = .ok (.aload_n 0, 1) := dk_42 (dk_at dksX21_init_0 14 rfl rfl)
theorem dX21_init_15 : decode cX21_init 15 = .ok (.aload_n 3, 1) := dk_45 (dk_at dksX21_init_0 15 rfl rfl)
theorem dX21_init_16 : decode cX21_init 16 = .ok (.putfield 17, 3) := dk_181 0 17 (dk_at dksX21_init_0 16 rfl rfl)
theorem dX21_init_19 : decode cX21_init 19 = .ok (.return_, 1) := dk_177 (dk_at dksX21_init_0 19 rfl rfl)
abbrev cX21_holds : ByteArray := prog_3_method_2_code
def yX21_holds : MethodName := ⟨RX21, "holds", "(LBalloonStall$Letters;)Z"⟩
def dkwX21_holds_2 : List UInt8 := [154, 0, 14, 42, 180, 0, 17, 43, 182, 0, 20, 153, 0, 7, 4, 167, 0, 4, 3, 172]
abbrev dktX21_holds_2 : List UInt8 := dkwX21_holds_2 ++ []
def dkwX21_holds_1 : List UInt8 := [182, 0, 20, 153, 0, 7, 4, 167, 0, 34, 3, 167, 0, 30, 42, 180, 0, 13, 43, 182, 0, 20]
abbrev dktX21_holds_1 : List UInt8 := dkwX21_holds_1 ++ dktX21_holds_2
def dkwX21_holds_0 : List UInt8 := [42, 180, 0, 7, 153, 0, 33, 42, 180, 0, 13, 43, 182, 0, 20, 153, 0, 18, 42, 180, 0, 17, 43]
abbrev dktX21_holds_0 : List UInt8 := dkwX21_holds_0 ++ dktX21_holds_1
theorem dksX21_holds_0 : cX21_holds.data.toList.drop 0 = dktX21_holds_0 := by decide +kernel
theorem dksX21_holds_1 : cX21_holds.data.toList.drop 23 = dktX21_holds_1 := dk_seg dksX21_holds_0 23 rfl rfl
theorem dksX21_holds_2 : cX21_holds.data.toList.drop 45 = dktX21_holds_2 := dk_seg dksX21_holds_1 22 rfl rfl
theorem dX21_holds_0 : decode cX21_holds 0 = .ok (.aload_n 0, 1) := dk_42 (dk_at dksX21_holds_0 0 rfl rfl)
theorem dX21_holds_1 : decode cX21_holds 1 = .ok (.getfield 7, 3) := dk_180 0 7 (dk_at dksX21_holds_0 1 rfl rfl)
theorem dX21_holds_4 : decode cX21_holds 4 = .ok (.ifCond .eq 33, 3) := dk_153 0 33 (dk_at dksX21_holds_0 4 rfl rfl)
theorem dX21_holds_7 : decode cX21_holds 7 = .ok (.aload_n 0, 1) := dk_42 (dk_at dksX21_holds_0 7 rfl rfl)
theorem dX21_holds_8 : decode cX21_holds 8 = .ok (.getfield 13, 3) := dk_180 0 13 (dk_at dksX21_holds_0 8 rfl rfl)
theorem dX21_holds_11 : decode cX21_holds 11 = .ok (.aload_n 1, 1) := dk_43 (dk_at dksX21_holds_0 11 rfl rfl)
theorem dX21_holds_12 : decode cX21_holds 12 = .ok (.invokevirtual 20, 3) := dk_182 0 20 (dk_at dksX21_holds_0 12 rfl rfl)
theorem dX21_holds_15 : decode cX21_holds 15 = .ok (.ifCond .eq 18, 3) := dk_153 0 18 (dk_at dksX21_holds_0 15 rfl rfl)
theorem dX21_holds_18 : decode cX21_holds 18 = .ok (.aload_n 0, 1) := dk_42 (dk_at dksX21_holds_0 18 rfl rfl)
theorem dX21_holds_19 : decode cX21_holds 19 = .ok (.getfield 17, 3) := dk_180 0 17 (dk_at dksX21_holds_0 19 rfl rfl)
theorem dX21_holds_22 : decode cX21_holds 22 = .ok (.aload_n 1, 1) := dk_43 (dk_at dksX21_holds_0 22 rfl rfl)
theorem dX21_holds_23 : decode cX21_holds 23 = .ok (.invokevirtual 20, 3) := dk_182 0 20 (dk_at dksX21_holds_1 0 rfl rfl)
theorem dX21_holds_26 : decode cX21_holds 26 = .ok (.ifCond .eq 7, 3) := dk_153 0 7 (dk_at dksX21_holds_1 3 rfl rfl)
theorem dX21_holds_29 : decode cX21_holds 29 = .ok (.iconst 1, 1) := dk_4 (dk_at dksX21_holds_1 6 rfl rfl)
theorem dX21_holds_30 : decode cX21_holds 30 = .ok (.goto 34, 3) := dk_167 0 34 (dk_at dksX21_holds_1 7 rfl rfl)
theorem dX21_holds_33 : decode cX21_holds 33 = .ok (.iconst 0, 1) := dk_3 (dk_at dksX21_holds_1 10 rfl rfl)
theorem dX21_holds_34 : decode cX21_holds 34 = .ok (.goto 30, 3) := dk_167 0 30 (dk_at dksX21_holds_1 11 rfl rfl)
theorem dX21_holds_37 : decode cX21_holds 37 = .ok (.aload_n 0, 1) := dk_42 (dk_at dksX21_holds_1 14 rfl rfl)
theorem dX21_holds_38 : decode cX21_holds 38 = .ok (.getfield 13, 3) := dk_180 0 13 (dk_at dksX21_holds_1 15 rfl rfl)
theorem dX21_holds_41 : decode cX21_holds 41 = .ok (.aload_n 1, 1) := dk_43 (dk_at dksX21_holds_1 18 rfl rfl)
theorem dX21_holds_42 : decode cX21_holds 42 = .ok (.invokevirtual 20, 3) := dk_182 0 20 (dk_at dksX21_holds_1 19 rfl rfl)
theorem dX21_holds_45 : decode cX21_holds 45 = .ok (.ifCond .ne 14, 3) := dk_154 0 14 (dk_at dksX21_holds_2 0 rfl rfl)
theorem dX21_holds_48 : decode cX21_holds 48 = .ok (.aload_n 0, 1) := dk_42 (dk_at dksX21_holds_2 3 rfl rfl)
theorem dX21_holds_49 : decode cX21_holds 49 = .ok (.getfield 17, 3) := dk_180 0 17 (dk_at dksX21_holds_2 4 rfl rfl)
theorem dX21_holds_52 : decode cX21_holds 52 = .ok (.aload_n 1, 1) := dk_43 (dk_at dksX21_holds_2 7 rfl rfl)
theorem dX21_holds_53 : decode cX21_holds 53 = .ok (.invokevirtual 20, 3) := dk_182 0 20 (dk_at dksX21_holds_2 8 rfl rfl)
theorem dX21_holds_56 : decode cX21_holds 56 = .ok (.ifCond .eq 7, 3) := dk_153 0 7 (dk_at dksX21_holds_2 11 rfl rfl)
theorem dX21_holds_59 : decode cX21_holds 59 = .ok (.iconst 1, 1) := dk_4 (dk_at dksX21_holds_2 14 rfl rfl)
theorem dX21_holds_60 : decode cX21_holds 60 = .ok (.goto 4, 3) := dk_167 0 4 (dk_at dksX21_holds_2 15 rfl rfl)
theorem dX21_holds_63 : decode cX21_holds 63 = .ok (.iconst 0, 1) := dk_3 (dk_at dksX21_holds_2 18 rfl rfl)
theorem dX21_holds_64 : decode cX21_holds 64 = .ok (.ireturn, 1) := dk_172 (dk_at dksX21_holds_2 19 rfl rfl)
theorem q126 : (Jvm.Cond.initialized "BalloonStall$Both") ∈ lw_all := lw_g (lw_at lw_m1 24 rfl) rfl
theorem q655 : (Jvm.Cond.instantiable "BalloonStall$Both" (3 : Nat)) ∈ lw_all := lw_g (lw_at lw_m3 73 rfl) rfl
theorem q657 : (Jvm.Cond.instanceMethod ({ cls := "BalloonStall$Both", name := "<init>", desc := "(ZLBalloonStall$Test;LBalloonStall$Test;)V" } : Jvm.MethodName)) ∈ lw_all := lw_g (lw_at lw_m3 75 rfl) rfl
theorem q658 : (Jvm.Cond.code ({ cls := "BalloonStall$Both", name := "<init>", desc := "(ZLBalloonStall$Test;LBalloonStall$Test;)V" } : Jvm.MethodName) prog_3_method_1_code (4 : Nat) (Option.none : Option Jvm.ClassFile.FieldType)) ∈ lw_all := lw_g (lw_at lw_m3 76 rfl) rfl
theorem q659 : (Jvm.Cond.methodLinkNest "BalloonStall$Both" (1 : Nat) ({ cls := "BalloonStall$Test", name := "<init>", desc := "()V" } : Jvm.MethodName) "BalloonStall") ∈ lw_tbl := lw_at lw_m3 77 rfl
theorem q660 : (Jvm.Cond.fieldLink "BalloonStall$Both" (7 : Nat) "BalloonStall$Both" "all" "Z") ∈ lw_all := lw_g (lw_at lw_m3 78 rfl) rfl
theorem q661 : (Jvm.Cond.fieldLink "BalloonStall$Both" (13 : Nat) "BalloonStall$Both" "one" "LBalloonStall$Test;") ∈ lw_all := lw_g (lw_at lw_m3 79 rfl) rfl
theorem q662 : (Jvm.Cond.fieldLink "BalloonStall$Both" (17 : Nat) "BalloonStall$Both" "other" "LBalloonStall$Test;") ∈ lw_all := lw_g (lw_at lw_m3 80 rfl) rfl
theorem q663 : (Jvm.Cond.laysFinal "BalloonStall$Both" "BalloonStall$Both" "all" "Z") ∈ lw_all := lw_g (lw_at lw_m3 81 rfl) rfl
theorem q664 : (Jvm.Cond.soleField "BalloonStall$Both" "all") ∈ lw_all := lw_g (lw_at lw_m3 82 rfl) rfl
theorem q665 : (Jvm.Cond.laysFinal "BalloonStall$Both" "BalloonStall$Both" "one" "LBalloonStall$Test;") ∈ lw_all := lw_g (lw_at lw_m3 83 rfl) rfl
theorem q666 : (Jvm.Cond.soleField "BalloonStall$Both" "one") ∈ lw_all := lw_g (lw_at lw_m3 84 rfl) rfl
theorem q667 : (Jvm.Cond.laysFinal "BalloonStall$Both" "BalloonStall$Both" "other" "LBalloonStall$Test;") ∈ lw_all := lw_g (lw_at lw_m3 85 rfl) rfl
theorem q668 : (Jvm.Cond.soleField "BalloonStall$Both" "other") ∈ lw_all := lw_g (lw_at lw_m3 86 rfl) rfl
theorem q669 : (Jvm.Cond.superclass "BalloonStall$Both" "BalloonStall$Test") ∈ lw_all := lw_g (lw_at lw_m3 87 rfl) rfl
theorem q1219 : (Jvm.Cond.selects "BalloonStall$Both" ({ cls := "BalloonStall$Test", name := "holds", desc := "(LBalloonStall$Letters;)Z" } : Jvm.MethodName) ({ cls := "BalloonStall$Both", name := "holds", desc := "(LBalloonStall$Letters;)Z" } : Jvm.MethodName)) ∈ lw_all := lw_g (lw_at lw_m5 157 rfl) rfl
theorem q1220 : (Jvm.Cond.instanceMethod ({ cls := "BalloonStall$Both", name := "holds", desc := "(LBalloonStall$Letters;)Z" } : Jvm.MethodName)) ∈ lw_all := lw_g (lw_at lw_m5 158 rfl) rfl
theorem q1221 : (Jvm.Cond.code ({ cls := "BalloonStall$Both", name := "holds", desc := "(LBalloonStall$Letters;)Z" } : Jvm.MethodName) prog_3_method_2_code (2 : Nat) (Option.some Jvm.ClassFile.FieldType.boolean)) ∈ lw_all := lw_g (lw_at lw_m5 159 rfl) rfl
theorem q1222 : (Jvm.Cond.methodLink "BalloonStall$Both" (20 : Nat) ({ cls := "BalloonStall$Test", name := "holds", desc := "(LBalloonStall$Letters;)Z" } : Jvm.MethodName)) ∈ lw_all := lw_g (lw_at lw_m5 160 rfl) rfl
theorem q1907 : (Jvm.Cond.castable "BalloonStall$Both" "java/lang/Object") ∈ lw_tbl := lw_at lw_m8 125 rfl
theorem in_X21 : ∀ w ∈ wsX210, w ∈ lw_all := lw_in wsX210 [663, 665, 667] (by decide +kernel) (by decide +kernel)
/-! BalloonStall$Clause -/
set_option maxRecDepth 100000
def RX22 : String := "BalloonStall$Clause"
def TX22 : u_T := fun k => match k with
  | 0 => ("BalloonStall$Clause", "test", "LBalloonStall$Test;", true)
  | 1 => ("BalloonStall$Clause", "sum", "LBalloonStall$Sum;", true)
  | _ => ("BalloonStall$Clause", "next", "LBalloonStall$Clause;", false)
def tyX22 : Nat → FieldType := fun k => match k with
  | 0 => .object "BalloonStall$Test"
  | 1 => .object "BalloonStall$Sum"
  | _ => .object "BalloonStall$Clause"
abbrev wsX220 : List Cond := u_ws RX22 TX22 3
theorem nmX22 : ∀ a, a < 3 → ∀ b, b < 3 → a ≠ b → (TX22 a).2.1 ≠ (TX22 b).2.1 := by decide +kernel
theorem tyX22_ok : ∀ k, k < 3 → parseFieldDescriptor (TX22 k).2.2.1 = some (tyX22 k) := by decide +kernel
abbrev cX22_init : ByteArray := prog_4_method_1_code
def yX22_init : MethodName := ⟨RX22, "<init>", "(LBalloonStall$Test;LBalloonStall$Sum;)V"⟩
def dkwX22_init_0 : List UInt8 := [42, 183, 0, 1, 42, 43, 181, 0, 7, 42, 44, 181, 0, 13, 177]
abbrev dktX22_init_0 : List UInt8 := dkwX22_init_0 ++ []
theorem dksX22_init_0 : cX22_init.data.toList.drop 0 = dktX22_init_0 := by decide +kernel
theorem dX22_init_0 : decode cX22_init 0 = .ok (.aload_n 0, 1) := dk_42 (dk_at dksX22_init_0 0 rfl rfl)
theorem dX22_init_1 : decode cX22_init 1 = .ok (.invokespecial 1, 3) := dk_183 0 1 (dk_at dksX22_init_0 1 rfl rfl)
theorem dX22_init_4 : decode cX22_init 4 = .ok (.aload_n 0, 1) := dk_42 (dk_at dksX22_init_0 4 rfl rfl)
theorem dX22_init_5 : decode cX22_init 5 = .ok (.aload_n 1, 1) := dk_43 (dk_at dksX22_init_0 5 rfl rfl)
theorem dX22_init_6 : decode cX22_init 6 = .ok (.putfield 7, 3) := dk_181 0 7 (dk_at dksX22_init_0 6 rfl rfl)
theorem dX22_init_9 : decode cX22_init 9 = .ok (.aload_n 0, 1) := dk_42 (dk_at dksX22_init_0 9 rfl rfl)
theorem dX22_init_10 : decode cX22_init 10 = .ok (.aload_n 2, 1) := dk_44 (dk_at dksX22_init_0 10 rfl rfl)
theorem dX22_init_11 : decode cX22_init 11 = .ok (.putfield 13, 3) := dk_181 0 13 (dk_at dksX22_init_0 11 rfl rfl)
theorem dX22_init_14 : decode cX22_init 14 = .ok (.return_, 1) := dk_177 (dk_at dksX22_init_0 14 rfl rfl)
abbrev cX22_holds : ByteArray := prog_4_method_2_code
def yX22_holds : MethodName := ⟨RX22, "holds", "(LBalloonStall$Letters;)Z"⟩
def dkwX22_holds_0 : List UInt8 := [42, 180, 0, 7, 198, 0, 14, 42, 180, 0, 7, 43, 182, 0, 17, 153, 0, 7, 4, 167, 0, 4, 3, 172]
abbrev dktX22_holds_0 : List UInt8 := dkwX22_holds_0 ++ []
theorem dksX22_holds_0 : cX22_holds.data.toList.drop 0 = dktX22_holds_0 := by decide +kernel
theorem dX22_holds_0 : decode cX22_holds 0 = .ok (.aload_n 0, 1) := dk_42 (dk_at dksX22_holds_0 0 rfl rfl)
theorem dX22_holds_1 : decode cX22_holds 1 = .ok (.getfield 7, 3) := dk_180 0 7 (dk_at dksX22_holds_0 1 rfl rfl)
theorem dX22_holds_4 : decode cX22_holds 4 = .ok (.ifnull 14, 3) := dk_198 0 14 (dk_at dksX22_holds_0 4 rfl rfl)
theorem dX22_holds_7 : decode cX22_holds 7 = .ok (.aload_n 0, 1) := dk_42 (dk_at dksX22_holds_0 7 rfl rfl)
theorem dX22_holds_8 : decode cX22_holds 8 = .ok (.getfield 7, 3) := dk_180 0 7 (dk_at dksX22_holds_0 8 rfl rfl)
theorem dX22_holds_11 : decode cX22_holds 11 = .ok (.aload_n 1, 1) := dk_43 (dk_at dksX22_holds_0 11 rfl rfl)
theorem dX22_holds_12 : decode cX22_holds 12 = .ok (.invokevirtual 17, 3) := dk_182 0 17 (dk_at dksX22_holds_0 12 rfl rfl)
theorem dX22_holds_15 : decode cX22_holds 15 = .ok (.ifCond .eq 7, 3) := dk_153 0 7 (dk_at dksX22_holds_0 15 rfl rfl)
theorem dX22_holds_18 : decode cX22_holds 18 = .ok (.iconst 1, 1) := dk_4 (dk_at dksX22_holds_0 18 rfl rfl)
theorem dX22_holds_19 : decode cX22_holds 19 = .ok (.goto 4, 3) := dk_167 0 4 (dk_at dksX22_holds_0 19 rfl rfl)
theorem dX22_holds_22 : decode cX22_holds 22 = .ok (.iconst 0, 1) := dk_3 (dk_at dksX22_holds_0 22 rfl rfl)
theorem dX22_holds_23 : decode cX22_holds 23 = .ok (.ireturn, 1) := dk_172 (dk_at dksX22_holds_0 23 rfl rfl)
theorem q127 : (Jvm.Cond.initialized "BalloonStall$Clause") ∈ lw_all := lw_g (lw_at lw_m1 25 rfl) rfl
theorem q675 : (Jvm.Cond.instantiable "BalloonStall$Clause" (3 : Nat)) ∈ lw_all := lw_g (lw_at lw_m3 93 rfl) rfl
theorem q677 : (Jvm.Cond.instanceMethod ({ cls := "BalloonStall$Clause", name := "<init>", desc := "(LBalloonStall$Test;LBalloonStall$Sum;)V" } : Jvm.MethodName)) ∈ lw_all := lw_g (lw_at lw_m3 95 rfl) rfl
theorem q678 : (Jvm.Cond.code ({ cls := "BalloonStall$Clause", name := "<init>", desc := "(LBalloonStall$Test;LBalloonStall$Sum;)V" } : Jvm.MethodName) prog_4_method_1_code (3 : Nat) (Option.none : Option Jvm.ClassFile.FieldType)) ∈ lw_all := lw_g (lw_at lw_m3 96 rfl) rfl
theorem q679 : (Jvm.Cond.methodLink "BalloonStall$Clause" (1 : Nat) ({ cls := "java/lang/Object", name := "<init>", desc := "()V" } : Jvm.MethodName)) ∈ lw_all := lw_g (lw_at lw_m3 97 rfl) rfl
theorem q680 : (Jvm.Cond.fieldLink "BalloonStall$Clause" (7 : Nat) "BalloonStall$Clause" "test" "LBalloonStall$Test;") ∈ lw_all := lw_g (lw_at lw_m3 98 rfl) rfl
theorem q681 : (Jvm.Cond.fieldLink "BalloonStall$Clause" (13 : Nat) "BalloonStall$Clause" "sum" "LBalloonStall$Sum;") ∈ lw_all := lw_g (lw_at lw_m3 99 rfl) rfl
theorem q685 : (Jvm.Cond.laysFinal "BalloonStall$Clause" "BalloonStall$Clause" "test" "LBalloonStall$Test;") ∈ lw_all := lw_g (lw_at lw_m3 103 rfl) rfl
theorem q686 : (Jvm.Cond.soleField "BalloonStall$Clause" "test") ∈ lw_all := lw_g (lw_at lw_m3 104 rfl) rfl
theorem q687 : (Jvm.Cond.laysFinal "BalloonStall$Clause" "BalloonStall$Clause" "sum" "LBalloonStall$Sum;") ∈ lw_all := lw_g (lw_at lw_m3 105 rfl) rfl
theorem q688 : (Jvm.Cond.soleField "BalloonStall$Clause" "sum") ∈ lw_all := lw_g (lw_at lw_m3 106 rfl) rfl
theorem q689 : (Jvm.Cond.lays "BalloonStall$Clause" "BalloonStall$Clause" "next" "LBalloonStall$Clause;") ∈ lw_all := lw_g (lw_at lw_m3 107 rfl) rfl
theorem q690 : (Jvm.Cond.soleField "BalloonStall$Clause" "next") ∈ lw_all := lw_g (lw_at lw_m3 108 rfl) rfl
theorem q691 : (Jvm.Cond.superclass "BalloonStall$Clause" "java/lang/Object") ∈ lw_all := lw_g (lw_at lw_m3 109 rfl) rfl
theorem q1213 : (Jvm.Cond.instanceMethod ({ cls := "BalloonStall$Clause", name := "holds", desc := "(LBalloonStall$Letters;)Z" } : Jvm.MethodName)) ∈ lw_all := lw_g (lw_at lw_m5 151 rfl) rfl
theorem q1214 : (Jvm.Cond.selects "BalloonStall$Clause" ({ cls := "BalloonStall$Clause", name := "holds", desc := "(LBalloonStall$Letters;)Z" } : Jvm.MethodName) ({ cls := "BalloonStall$Clause", name := "holds", desc := "(LBalloonStall$Letters;)Z" } : Jvm.MethodName)) ∈ lw_all := lw_g (lw_at lw_m5 152 rfl) rfl
theorem q1215 : (Jvm.Cond.code ({ cls := "BalloonStall$Clause", name := "holds", desc := "(LBalloonStall$Letters;)Z" } : Jvm.MethodName) prog_4_method_2_code (2 : Nat) (Option.some Jvm.ClassFile.FieldType.boolean)) ∈ lw_all := lw_g (lw_at lw_m5 153 rfl) rfl
theorem q1216 : (Jvm.Cond.methodLink "BalloonStall$Clause" (17 : Nat) ({ cls := "BalloonStall$Test", name := "holds", desc := "(LBalloonStall$Letters;)Z" } : Jvm.MethodName)) ∈ lw_all := lw_g (lw_at lw_m5 154 rfl) rfl
theorem q1908 : (Jvm.Cond.castable "BalloonStall$Clause" "java/lang/Object") ∈ lw_tbl := lw_at lw_m8 126 rfl
theorem in_X22 : ∀ w ∈ wsX220, w ∈ lw_all := lw_in wsX220 [685, 687, 689] (by decide +kernel) (by decide +kernel)
/-! BalloonStall$Hand -/
set_option maxRecDepth 100000
def RX23 : String := "BalloonStall$Hand"
def TX23 : u_T := fun k => match k with
  | 0 => ("BalloonStall$Hand", "joined", "[I", true)
  | 1 => ("BalloonStall$Hand", "named", "[I", true)
  | 2 => ("BalloonStall$Hand", "from", "[I", true)
  | 3 => ("BalloonStall$Hand", "to", "[I", true)
  | 4 => ("BalloonStall$Hand", "lengths", "[I", true)
  | 5 => ("BalloonStall$Hand", "balloon", "[I", true)
  | 6 => ("BalloonStall$Hand", "sort", "[I", true)
  | 7 => ("BalloonStall$Hand", "at", "I", false)
  | 8 => ("BalloonStall$Hand", "points", "I", false)
  | 9 => ("BalloonStall$Hand", "bubbles", "I", false)
  | 10 => ("BalloonStall$Hand", "balloons", "I", false)
  | _ => ("BalloonStall$Hand", "most", "I", false)
def tyX23 : Nat → FieldType := fun k => match k with
  | 0 => .array .int
  | 1 => .array .int
  | 2 => .array .int
  | 3 => .array .int
  | 4 => .array .int
  | 5 => .array .int
  | 6 => .array .int
  | 7 => .int
  | 8 => .int
  | 9 => .int
  | 10 => .int
  | _ => .int
abbrev wsX230 : List Cond := u_ws RX23 TX23 12
theorem nmX23 : ∀ a, a < 12 → ∀ b, b < 12 → a ≠ b → (TX23 a).2.1 ≠ (TX23 b).2.1 := by decide +kernel
theorem tyX23_ok : ∀ k, k < 12 → parseFieldDescriptor (TX23 k).2.2.1 = some (tyX23 k) := by decide +kernel
abbrev cX23_init : ByteArray := prog_10_method_1_code
def yX23_init : MethodName := ⟨RX23, "<init>", "()V"⟩
def dkwX23_init_3 : List UInt8 := [180, 0, 15, 27, 2, 79, 132, 1, 1, 167, 255, 240, 177]
abbrev dktX23_init_3 : List UInt8 := dkwX23_init_3 ++ []
def dkwX23_init_2 : List UInt8 := [188, 10, 181, 0, 27, 42, 16, 6, 188, 10, 181, 0, 30, 3, 60, 27, 16, 8, 162, 0, 16, 42]
abbrev dktX23_init_2 : List UInt8 := dkwX23_init_2 ++ dktX23_init_3
def dkwX23_init_1 : List UInt8 := [188, 10, 181, 0, 18, 42, 16, 24, 188, 10, 181, 0, 21, 42, 16, 24, 188, 10, 181, 0, 24, 42, 16, 24]
abbrev dktX23_init_1 : List UInt8 := dkwX23_init_1 ++ dktX23_init_2
def dkwX23_init_0 : List UInt8 := [42, 183, 0, 3, 42, 16, 32, 188, 10, 181, 0, 9, 42, 16, 8, 188, 10, 181, 0, 15, 42, 16, 24]
abbrev dktX23_init_0 : List UInt8 := dkwX23_init_0 ++ dktX23_init_1
theorem dksX23_init_0 : cX23_init.data.toList.drop 0 = dktX23_init_0 := by decide +kernel
theorem dksX23_init_1 : cX23_init.data.toList.drop 23 = dktX23_init_1 := dk_seg dksX23_init_0 23 rfl rfl
theorem dksX23_init_2 : cX23_init.data.toList.drop 47 = dktX23_init_2 := dk_seg dksX23_init_1 24 rfl rfl
theorem dksX23_init_3 : cX23_init.data.toList.drop 69 = dktX23_init_3 := dk_seg dksX23_init_2 22 rfl rfl
theorem dX23_init_0 : decode cX23_init 0 = .ok (.aload_n 0, 1) := dk_42 (dk_at dksX23_init_0 0 rfl rfl)
theorem dX23_init_1 : decode cX23_init 1 = .ok (.invokespecial 3, 3) := dk_183 0 3 (dk_at dksX23_init_0 1 rfl rfl)
theorem dX23_init_4 : decode cX23_init 4 = .ok (.aload_n 0, 1) := dk_42 (dk_at dksX23_init_0 4 rfl rfl)
theorem dX23_init_5 : decode cX23_init 5 = .ok (.bipush 32, 2) := dk_16 32 (dk_at dksX23_init_0 5 rfl rfl)
theorem dX23_init_7 : decode cX23_init 7 = .ok (.newarray .int, 2) := dk_188_10 (dk_at dksX23_init_0 7 rfl rfl)
theorem dX23_init_9 : decode cX23_init 9 = .ok (.putfield 9, 3) := dk_181 0 9 (dk_at dksX23_init_0 9 rfl rfl)
theorem dX23_init_12 : decode cX23_init 12 = .ok (.aload_n 0, 1) := dk_42 (dk_at dksX23_init_0 12 rfl rfl)
theorem dX23_init_13 : decode cX23_init 13 = .ok (.bipush 8, 2) := dk_16 8 (dk_at dksX23_init_0 13 rfl rfl)
theorem dX23_init_15 : decode cX23_init 15 = .ok (.newarray .int, 2) := dk_188_10 (dk_at dksX23_init_0 15 rfl rfl)
theorem dX23_init_17 : decode cX23_init 17 = .ok (.putfield 15, 3) := dk_181 0 15 (dk_at dksX23_init_0 17 rfl rfl)
theorem dX23_init_20 : decode cX23_init 20 = .ok (.aload_n 0, 1) := dk_42 (dk_at dksX23_init_0 20 rfl rfl)
theorem dX23_init_21 : decode cX23_init 21 = .ok (.bipush 24, 2) := dk_16 24 (dk_at dksX23_init_0 21 rfl rfl)
theorem dX23_init_23 : decode cX23_init 23 = .ok (.newarray .int, 2) := dk_188_10 (dk_at dksX23_init_1 0 rfl rfl)
theorem dX23_init_25 : decode cX23_init 25 = .ok (.putfield 18, 3) := dk_181 0 18 (dk_at dksX23_init_1 2 rfl rfl)
theorem dX23_init_28 : decode cX23_init 28 = .ok (.aload_n 0, 1) := dk_42 (dk_at dksX23_init_1 5 rfl rfl)
theorem dX23_init_29 : decode cX23_init 29 = .ok (.bipush 24, 2) := dk_16 24 (dk_at dksX23_init_1 6 rfl rfl)
theorem dX23_init_31 : decode cX23_init 31 = .ok (.newarray .int, 2) := dk_188_10 (dk_at dksX23_init_1 8 rfl rfl)
theorem dX23_init_33 : decode cX23_init 33 = .ok (.putfield 21, 3) := dk_181 0 21 (dk_at dksX23_init_1 10 rfl rfl)
theorem dX23_init_36 : decode cX23_init 36 = .ok (.aload_n 0, 1) := dk_42 (dk_at dksX23_init_1 13 rfl rfl)
theorem dX23_init_37 : decode cX23_init 37 = .ok (.bipush 24, 2) := dk_16 24 (dk_at dksX23_init_1 14 rfl rfl)
theorem dX23_init_39 : decode cX23_init 39 = .ok (.newarray .int, 2) := dk_188_10 (dk_at dksX23_init_1 16 rfl rfl)
theorem dX23_init_41 : decode cX23_init 41 = .ok (.putfield 24, 3) := dk_181 0 24 (dk_at dksX23_init_1 18 rfl rfl)
theorem dX23_init_44 : decode cX23_init 44 = .ok (.aload_n 0, 1) := dk_42 (dk_at dksX23_init_1 21 rfl rfl)
theorem dX23_init_45 : decode cX23_init 45 = .ok (.bipush 24, 2) := dk_16 24 (dk_at dksX23_init_1 22 rfl rfl)
theorem dX23_init_47 : decode cX23_init 47 = .ok (.newarray .int, 2) := dk_188_10 (dk_at dksX23_init_2 0 rfl rfl)
theorem dX23_init_49 : decode cX23_init 49 = .ok (.putfield 27, 3) := dk_181 0 27 (dk_at dksX23_init_2 2 rfl rfl)
theorem dX23_init_52 : decode cX23_init 52 = .ok (.aload_n 0, 1) := dk_42 (dk_at dksX23_init_2 5 rfl rfl)
theorem dX23_init_53 : decode cX23_init 53 = .ok (.bipush 6, 2) := dk_16 6 (dk_at dksX23_init_2 6 rfl rfl)
theorem dX23_init_55 : decode cX23_init 55 = .ok (.newarray .int, 2) := dk_188_10 (dk_at dksX23_init_2 8 rfl rfl)
theorem dX23_init_57 : decode cX23_init 57 = .ok (.putfield 30, 3) := dk_181 0 30 (dk_at dksX23_init_2 10 rfl rfl)
theorem dX23_init_60 : decode cX23_init 60 = .ok (.iconst 0, 1) := dk_3 (dk_at dksX23_init_2 13 rfl rfl)
theorem dX23_init_61 : decode cX23_init 61 = .ok (.istore_n 1, 1) := dk_60 (dk_at dksX23_init_2 14 rfl rfl)
theorem dX23_init_62 : decode cX23_init 62 = .ok (.iload_n 1, 1) := dk_27 (dk_at dksX23_init_2 15 rfl rfl)
theorem dX23_init_63 : decode cX23_init 63 = .ok (.bipush 8, 2) := dk_16 8 (dk_at dksX23_init_2 16 rfl rfl)
theorem dX23_init_65 : decode cX23_init 65 = .ok (.if_icmp .ge 16, 3) := dk_162 0 16 (dk_at dksX23_init_2 18 rfl rfl)
theorem dX23_init_68 : decode cX23_init 68 = .ok (.aload_n 0, 1) := dk_42 (dk_at dksX23_init_2 21 rfl rfl)
theorem dX23_init_69 : decode cX23_init 69 = .ok (.getfield 15, 3) := dk_180 0 15 (dk_at dksX23_init_3 0 rfl rfl)
theorem dX23_init_72 : decode cX23_init 72 = .ok (.iload_n 1, 1) := dk_27 (dk_at dksX23_init_3 3 rfl rfl)
theorem dX23_init_73 : decode cX23_init 73 = .ok (.iconst (-1), 1) := dk_2 (dk_at dksX23_init_3 4 rfl rfl)
theorem dX23_init_74 : decode cX23_init 74 = .ok (.iastore, 1) := dk_79 (dk_at dksX23_init_3 5 rfl rfl)
theorem dX23_init_75 : decode cX23_init 75 = .ok (.iinc 1 1, 3) := dk_132 1 1 (dk_at dksX23_init_3 6 rfl rfl)
theorem dX23_init_78 : decode cX23_init 78 = .ok (.goto (-16), 3) := dk_167 255 240 (dk_at dksX23_init_3 9 rfl rfl)
theorem dX23_init_81 : decode cX23_init 81 = .ok (.return_, 1) := dk_177 (dk_at dksX23_init_3 12 rfl rfl)
abbrev cX23_blows : ByteArray := prog_10_method_6_code
def yX23_blows : MethodName := ⟨RX23, "blows", "(I)V"⟩
def dkwX23_blows_1 : List UInt8 := [181, 0, 54, 177]
abbrev dktX23_blows_1 : List UInt8 := dkwX23_blows_1 ++ []
def dkwX23_blows_0 : List UInt8 := [42, 182, 0, 50, 61, 42, 27, 42, 180, 0, 54, 28, 42, 180, 0, 57, 4, 100, 182, 0, 60, 42, 28]
abbrev dktX23_blows_0 : List UInt8 := dkwX23_blows_0 ++ dktX23_blows_1
theorem dksX23_blows_0 : cX23_blows.data.toList.drop 0 = dktX23_blows_0 := by decide +kernel
theorem dksX23_blows_1 : cX23_blows.data.toList.drop 23 = dktX23_blows_1 := dk_seg dksX23_blows_0 23 rfl rfl
theorem dX23_blows_0 : decode cX23_blows 0 = .ok (.aload_n 0, 1) := dk_42 (dk_at dksX23_blows_0 0 rfl rfl)
theorem dX23_blows_1 : decode cX23_blows 1 = .ok (.invokevirtual 50, 3) := dk_182 0 50 (dk_at dksX23_blows_0 1 rfl rfl)
theorem dX23_blows_4 : decode cX23_blows 4 = .ok (.istore_n 2, 1) := dk_61 (dk_at dksX23_blows_0 4 rfl rfl)
theorem dX23_blows_5 : decode cX23_blows 5 = .ok (.aload_n 0, 1) := dk_42 (dk_at dksX23_blows_0 5 rfl rfl)
theorem dX23_blows_6 : decode cX23_blows 6 = .ok (.iload_n 1, 1) := dk_27 (dk_at dksX23_blows_0 6 rfl rfl)
theorem dX23_blows_7 : decode cX23_blows 7 = .ok (.aload_n 0, 1) := dk_42 (dk_at dksX23_blows_0 7 rfl rfl)
theorem dX23_blows_8 : decode cX23_blows 8 = .ok (.getfield 54, 3) := dk_180 0 54 (dk_at dksX23_blows_0 8 rfl rfl)
theorem dX23_blows_11 : decode cX23_blows 11 = .ok (.iload_n 2, 1) := dk_28 (dk_at dksX23_blows_0 11 rfl rfl)
theorem dX23_blows_12 : decode cX23_blows 12 = .ok (.aload_n 0, 1) := dk_42 (dk_at dksX23_blows_0 12 rfl rfl)
theorem dX23_blows_13 : decode cX23_blows 13 = .ok (.getfield 57, 3) := dk_180 0 57 (dk_at dksX23_blows_0 13 rfl rfl)
theorem dX23_blows_16 : decode cX23_blows 16 = .ok (.iconst 1, 1) := dk_4 (dk_at dksX23_blows_0 16 rfl rfl)
theorem dX23_blows_17 : decode cX23_blows 17 = .ok (.isub, 1) := dk_100 (dk_at dksX23_blows_0 17 rfl rfl)
theorem dX23_blows_18 : decode cX23_blows 18 = .ok (.invokevirtual 60, 3) := dk_182 0 60 (dk_at dksX23_blows_0 18 rfl rfl)
theorem dX23_blows_21 : decode cX23_blows 21 = .ok (.aload_n 0, 1) := dk_42 (dk_at dksX23_blows_0 21 rfl rfl)
theorem dX23_blows_22 : decode cX23_blows 22 = .ok (.iload_n 2, 1) := dk_28 (dk_at dksX23_blows_0 22 rfl rfl)
theorem dX23_blows_23 : decode cX23_blows 23 = .ok (.putfield 54, 3) := dk_181 0 54 (dk_at dksX23_blows_1 0 rfl rfl)
theorem dX23_blows_26 : decode cX23_blows 26 = .ok (.return_, 1) := dk_177 (dk_at dksX23_blows_1 3 rfl rfl)
abbrev cX23_point : ByteArray := prog_10_method_2_code
def yX23_point : MethodName := ⟨RX23, "point", "()I"⟩
def dkwX23_point_1 : List UInt8 := [180, 0, 33, 4, 100, 172]
abbrev dktX23_point_1 : List UInt8 := dkwX23_point_1 ++ []
def dkwX23_point_0 : List UInt8 := [42, 180, 0, 9, 42, 180, 0, 33, 42, 180, 0, 33, 79, 42, 89, 180, 0, 33, 4, 96, 181, 0, 33, 42]
abbrev dktX23_point_0 : List UInt8 := dkwX23_point_0 ++ dktX23_point_1
theorem dksX23_point_0 : cX23_point.data.toList.drop 0 = dktX23_point_0 := by decide +kernel
theorem dksX23_point_1 : cX23_point.data.toList.drop 24 = dktX23_point_1 := dk_seg dksX23_point_0 24 rfl rfl
theorem dX23_point_0 : decode cX23_point 0 = .ok (.aload_n 0, 1) := dk_42 (dk_at dksX23_point_0 0 rfl rfl)
theorem dX23_point_1 : decode cX23_point 1 = .ok (.getfield 9, 3) := dk_180 0 9 (dk_at dksX23_point_0 1 rfl rfl)
theorem dX23_point_4 : decode cX23_point 4 = .ok (.aload_n 0, 1) := dk_42 (dk_at dksX23_point_0 4 rfl rfl)
theorem dX23_point_5 : decode cX23_point 5 = .ok (.getfield 33, 3) := dk_180 0 33 (dk_at dksX23_point_0 5 rfl rfl)
theorem dX23_point_8 : decode cX23_point 8 = .ok (.aload_n 0, 1) := dk_42 (dk_at dksX23_point_0 8 rfl rfl)
theorem dX23_point_9 : decode cX23_point 9 = .ok (.getfield 33, 3) := dk_180 0 33 (dk_at dksX23_point_0 9 rfl rfl)
theorem dX23_point_12 : decode cX23_point 12 = .ok (.iastore, 1) := dk_79 (dk_at dksX23_point_0 12 rfl rfl)
theorem dX23_point_13 : decode cX23_point 13 = .ok (.aload_n 0, 1) := dk_42 (dk_at dksX23_point_0 13 rfl rfl)
theorem dX23_point_14 : decode cX23_point 14 = .ok (.dup, 1) := dk_89 (dk_at dksX23_point_0 14 rfl rfl)
theorem dX23_point_15 : decode cX23_point 15 = .ok (.getfield 33, 3) := dk_180 0 33 (dk_at dksX23_point_0 15 rfl rfl)
theorem dX23_point_18 : decode cX23_point 18 = .ok (.iconst 1, 1) := dk_4 (dk_at dksX23_point_0 18 rfl rfl)
theorem dX23_point_19 : decode cX23_point 19 = .ok (.iadd, 1) := dk_96 (dk_at dksX23_point_0 19 rfl rfl)
theorem dX23_point_20 : decode cX23_point 20 = .ok (.putfield 33, 3) := dk_181 0 33 (dk_at dksX23_point_0 20 rfl rfl)
theorem dX23_point_23 : decode cX23_point 23 = .ok (.aload_n 0, 1) := dk_42 (dk_at dksX23_point_0 23 rfl rfl)
theorem dX23_point_24 : decode cX23_point 24 = .ok (.getfield 33, 3) := dk_180 0 33 (dk_at dksX23_point_1 0 rfl rfl)
theorem dX23_point_27 : decode cX23_point 27 = .ok (.iconst 1, 1) := dk_4 (dk_at dksX23_point_1 3 rfl rfl)
theorem dX23_point_28 : decode cX23_point 28 = .ok (.isub, 1) := dk_100 (dk_at dksX23_point_1 4 rfl rfl)
theorem dX23_point_29 : decode cX23_point 29 = .ok (.ireturn, 1) := dk_172 (dk_at dksX23_point_1 5 rfl rfl)
abbrev cX23_adds : ByteArray := prog_10_method_8_code
def yX23_adds : MethodName := ⟨RX23, "adds", "(IIII)V"⟩
def dkwX23_adds_2 : List UInt8 := [181, 0, 81, 42, 42, 180, 0, 82, 42, 182, 0, 85, 184, 0, 41, 181, 0, 82, 177]
abbrev dktX23_adds_2 : List UInt8 := dkwX23_adds_2 ++ []
def dkwX23_adds_1 : List UInt8 := [42, 180, 0, 81, 27, 79, 42, 180, 0, 27, 42, 180, 0, 81, 21, 4, 79, 42, 89, 180, 0, 81, 4, 96]
abbrev dktX23_adds_1 : List UInt8 := dkwX23_adds_1 ++ dktX23_adds_2
def dkwX23_adds_0 : List UInt8 := [42, 180, 0, 18, 42, 180, 0, 81, 28, 79, 42, 180, 0, 21, 42, 180, 0, 81, 29, 79, 42, 180, 0, 24]
abbrev dktX23_adds_0 : List UInt8 := dkwX23_adds_0 ++ dktX23_adds_1
theorem dksX23_adds_0 : cX23_adds.data.toList.drop 0 = dktX23_adds_0 := by decide +kernel
theorem dksX23_adds_1 : cX23_adds.data.toList.drop 24 = dktX23_adds_1 := dk_seg dksX23_adds_0 24 rfl rfl
theorem dksX23_adds_2 : cX23_adds.data.toList.drop 48 = dktX23_adds_2 := dk_seg dksX23_adds_1 24 rfl rfl
theorem dX23_adds_0 : decode cX23_adds 0 = .ok (.aload_n 0, 1) := dk_42 (dk_at dksX23_adds_0 0 rfl rfl)
theorem dX23_adds_1 : decode cX23_adds 1 = .ok (.getfield 18, 3) := dk_180 0 18 (dk_at dksX23_adds_0 1 rfl rfl)
theorem dX23_adds_4 : decode cX23_adds 4 = .ok (.aload_n 0, 1) := dk_42 (dk_at dksX23_adds_0 4 rfl rfl)
theorem dX23_adds_5 : decode cX23_adds 5 = .ok (.getfield 81, 3) := dk_180 0 81 (dk_at dksX23_adds_0 5 rfl rfl)
theorem dX23_adds_8 : decode cX23_adds 8 = .ok (.iload_n 2, 1) := dk_28 (dk_at dksX23_adds_0 8 rfl rfl)
theorem dX23_adds_9 : decode cX23_adds 9 = .ok (.iastore, 1) := dk_79 (dk_at dksX23_adds_0 9 rfl rfl)
theorem dX23_adds_10 : decode cX23_adds 10 = .ok (.aload_n 0, 1) := dk_42 (dk_at dksX23_adds_0 10 rfl rfl)
theorem dX23_adds_11 : decode cX23_adds 11 = .ok (.getfield 21, 3) := dk_180 0 21 (dk_at dksX23_adds_0 11 rfl rfl)
theorem dX23_adds_14 : decode cX23_adds 14 = .ok (.aload_n 0, 1) := dk_42 (dk_at dksX23_adds_0 14 rfl rfl)
theorem dX23_adds_15 : decode cX23_adds 15 = .ok (.getfield 81, 3) := dk_180 0 81 (dk_at dksX23_adds_0 15 rfl rfl)
theorem dX23_adds_18 : decode cX23_adds 18 = .ok (.iload_n 3, 1) := dk_29 (dk_at dksX23_adds_0 18 rfl rfl)
theorem dX23_adds_19 : decode cX23_adds 19 = .ok (.iastore, 1) := dk_79 (dk_at dksX23_adds_0 19 rfl rfl)
theorem dX23_adds_20 : decode cX23_adds 20 = .ok (.aload_n 0, 1) := dk_42 (dk_at dksX23_adds_0 20 rfl rfl)
theorem dX23_adds_21 : decode cX23_adds 21 = .ok (.getfield 24, 3) := dk_180 0 24 (dk_at dksX23_adds_0 21 rfl rfl)
theorem dX23_adds_24 : decode cX23_adds 24 = .ok (.aload_n 0, 1) := dk_42 (dk_at dksX23_adds_1 0 rfl rfl)
theorem dX23_adds_25 : decode cX23_adds 25 = .ok (.getfield 81, 3) := dk_180 0 81 (dk_at dksX23_adds_1 1 rfl rfl)
theorem dX23_adds_28 : decode cX23_adds 28 = .ok (.iload_n 1, 1) := dk_27 (dk_at dksX23_adds_1 4 rfl rfl)
theorem dX23_adds_29 : decode cX23_adds 29 = .ok (.iastore, 1) := dk_79 (dk_at dksX23_adds_1 5 rfl rfl)
theorem dX23_adds_30 : decode cX23_adds 30 = .ok (.aload_n 0, 1) := dk_42 (dk_at dksX23_adds_1 6 rfl rfl)
theorem dX23_adds_31 : decode cX23_adds 31 = .ok (.getfield 27, 3) := dk_180 0 27 (dk_at dksX23_adds_1 7 rfl rfl)
theorem dX23_adds_34 : decode cX23_adds 34 = .ok (.aload_n 0, 1) := dk_42 (dk_at dksX23_adds_1 10 rfl rfl)
theorem dX23_adds_35 : decode cX23_adds 35 = .ok (.getfield 81, 3) := dk_180 0 81 (dk_at dksX23_adds_1 11 rfl rfl)
theorem dX23_adds_38 : decode cX23_adds 38 = .ok (.iload 4, 2) := dk_21 4 (dk_at dksX23_adds_1 14 rfl rfl)
theorem dX23_adds_40 : decode cX23_adds 40 = .ok (.iastore, 1) := dk_79 (dk_at dksX23_adds_1 16 rfl rfl)
theorem dX23_adds_41 : decode cX23_adds 41 = .ok (.aload_n 0, 1) := dk_42 (dk_at dksX23_adds_1 17 rfl rfl)
theorem dX23_adds_42 : decode cX23_adds 42 = .ok (.dup, 1) := dk_89 (dk_at dksX23_adds_1 18 rfl rfl)
theorem dX23_adds_43 : decode cX23_adds 43 = .ok (.getfield 81, 3) := dk_180 0 81 (dk_at dksX23_adds_1 19 rfl rfl)
theorem dX23_adds_46 : decode cX23_adds 46 = .ok (.iconst 1, 1) := dk_4 (dk_at dksX23_adds_1 22 rfl rfl)
theorem dX23_adds_47 : decode cX23_adds 47 = .ok (.iadd, 1) := dk_96 (dk_at dksX23_adds_1 23 rfl rfl)
theorem dX23_adds_48 : decode cX23_adds 48 = .ok (.putfield 81, 3) := dk_181 0 81 (dk_at dksX23_adds_2 0 rfl rfl)
theorem dX23_adds_51 : decode cX23_adds 51 = .ok (.aload_n 0, 1) := dk_42 (dk_at dksX23_adds_2 3 rfl rfl)
theorem dX23_adds_52 : decode cX23_adds 52 = .ok (.aload_n 0, 1) := dk_42 (dk_at dksX23_adds_2 4 rfl rfl)
theorem dX23_adds_53 : decode cX23_adds 53 = .ok (.getfield 82, 3) := dk_180 0 82 (dk_at dksX23_adds_2 5 rfl rfl)
theorem dX23_adds_56 : decode cX23_adds 56 = .ok (.aload_n 0, 1) := dk_42 (dk_at dksX23_adds_2 8 rfl rfl)
theorem dX23_adds_57 : decode cX23_adds 57 = .ok (.invokevirtual 85, 3) := dk_182 0 85 (dk_at dksX23_adds_2 9 rfl rfl)
theorem dX23_adds_60 : decode cX23_adds 60 = .ok (.invokestatic 41, 3) := dk_184 0 41 (dk_at dksX23_adds_2 12 rfl rfl)
theorem dX23_adds_63 : decode cX23_adds 63 = .ok (.putfield 82, 3) := dk_181 0 82 (dk_at dksX23_adds_2 15 rfl rfl)
theorem dX23_adds_66 : decode cX23_adds 66 = .ok (.return_, 1) := dk_177 (dk_at dksX23_adds_2 18 rfl rfl)
abbrev cX23_held : ByteArray := prog_10_method_10_code
def yX23_held : MethodName := ⟨RX23, "held", "()I"⟩
def dkwX23_held_2 : List UInt8 := [6, 162, 0, 7, 4, 167, 0, 4, 3, 96, 60, 132, 2, 1, 167, 255, 200, 27, 172]
abbrev dktX23_held_2 : List UInt8 := dkwX23_held_2 ++ []
def dkwX23_held_1 : List UInt8 := [180, 0, 27, 28, 4, 96, 46, 160, 0, 25, 42, 42, 42, 180, 0, 21, 28, 46, 182, 0, 37, 182, 0, 88]
abbrev dktX23_held_1 : List UInt8 := dkwX23_held_1 ++ dktX23_held_2
def dkwX23_held_0 : List UInt8 := [3, 60, 3, 61, 28, 4, 96, 42, 180, 0, 81, 162, 0, 52, 27, 42, 180, 0, 27, 28, 46, 42]
abbrev dktX23_held_0 : List UInt8 := dkwX23_held_0 ++ dktX23_held_1
theorem dksX23_held_0 : cX23_held.data.toList.drop 0 = dktX23_held_0 := by decide +kernel
theorem dksX23_held_1 : cX23_held.data.toList.drop 22 = dktX23_held_1 := dk_seg dksX23_held_0 22 rfl rfl
theorem dksX23_held_2 : cX23_held.data.toList.drop 46 = dktX23_held_2 := dk_seg dksX23_held_1 24 rfl rfl
theorem dX23_held_0 : decode cX23_held 0 = .ok (.iconst 0, 1) := dk_3 (dk_at dksX23_held_0 0 rfl rfl)
theorem dX23_held_1 : decode cX23_held 1 = .ok (.istore_n 1, 1) := dk_60 (dk_at dksX23_held_0 1 rfl rfl)
theorem dX23_held_2 : decode cX23_held 2 = .ok (.iconst 0, 1) := dk_3 (dk_at dksX23_held_0 2 rfl rfl)
theorem dX23_held_3 : decode cX23_held 3 = .ok (.istore_n 2, 1) := dk_61 (dk_at dksX23_held_0 3 rfl rfl)
theorem dX23_held_4 : decode cX23_held 4 = .ok (.iload_n 2, 1) := dk_28 (dk_at dksX23_held_0 4 rfl rfl)
theorem dX23_held_5 : decode cX23_held 5 = .ok (.iconst 1, 1) := dk_4 (dk_at dksX23_held_0 5 rfl rfl)
theorem dX23_held_6 : decode cX23_held 6 = .ok (.iadd, 1) := dk_96 (dk_at dksX23_held_0 6 rfl rfl)
theorem dX23_held_7 : decode cX23_held 7 = .ok (.aload_n 0, 1) := dk_42 (dk_at dksX23_held_0 7 rfl rfl)
theorem dX23_held_8 : decode cX23_held 8 = .ok (.getfield 81, 3) := dk_180 0 81 (dk_at dksX23_held_0 8 rfl rfl)
theorem dX23_held_11 : decode cX23_held 11 = .ok (.if_icmp .ge 52, 3) := dk_162 0 52 (dk_at dksX23_held_0 11 rfl rfl)
theorem dX23_held_14 : decode cX23_held 14 = .ok (.iload_n 1, 1) := dk_27 (dk_at dksX23_held_0 14 rfl rfl)
theorem dX23_held_15 : decode cX23_held 15 = .ok (.aload_n 0, 1) := dk_42 (dk_at dksX23_held_0 15 rfl rfl)
theorem dX23_held_16 : decode cX23_held 16 = .ok (.getfield 27, 3) := dk_180 0 27 (dk_at dksX23_held_0 16 rfl rfl)
theorem dX23_held_19 : decode cX23_held 19 = .ok (.iload_n 2, 1) := dk_28 (dk_at dksX23_held_0 19 rfl rfl)
theorem dX23_held_20 : decode cX23_held 20 = .ok (.iaload, 1) := dk_46 (dk_at dksX23_held_0 20 rfl rfl)
theorem dX23_held_21 : decode cX23_held 21 = .ok (.aload_n 0, 1) := dk_42 (dk_at dksX23_held_0 21 rfl rfl)
theorem dX23_held_22 : decode cX23_held 22 = .ok (.getfield 27, 3) := dk_180 0 27 (dk_at dksX23_held_1 0 rfl rfl)
theorem dX23_held_25 : decode cX23_held 25 = .ok (.iload_n 2, 1) := dk_28 (dk_at dksX23_held_1 3 rfl rfl)
theorem dX23_held_26 : decode cX23_held 26 = .ok (.iconst 1, 1) := dk_4 (dk_at dksX23_held_1 4 rfl rfl)
theorem dX23_held_27 : decode cX23_held 27 = .ok (.iadd, 1) := dk_96 (dk_at dksX23_held_1 5 rfl rfl)
theorem dX23_held_28 : decode cX23_held 28 = .ok (.iaload, 1) := dk_46 (dk_at dksX23_held_1 6 rfl rfl)
theorem dX23_held_29 : decode cX23_held 29 = .ok (.if_icmp .ne 25, 3) := dk_160 0 25 (dk_at dksX23_held_1 7 rfl rfl)
theorem dX23_held_32 : decode cX23_held 32 = .ok (.aload_n 0, 1) := dk_42 (dk_at dksX23_held_1 10 rfl rfl)
theorem dX23_held_33 : decode cX23_held 33 = .ok (.aload_n 0, 1) := dk_42 (dk_at dksX23_held_1 11 rfl rfl)
theorem dX23_held_34 : decode cX23_held 34 = .ok (.aload_n 0, 1) := dk_42 (dk_at dksX23_held_1 12 rfl rfl)
theorem dX23_held_35 : decode cX23_held 35 = .ok (.getfield 21, 3) := dk_180 0 21 (dk_at dksX23_held_1 13 rfl rfl)
theorem dX23_held_38 : decode cX23_held 38 = .ok (.iload_n 2, 1) := dk_28 (dk_at dksX23_held_1 16 rfl rfl)
theorem dX23_held_39 : decode cX23_held 39 = .ok (.iaload, 1) := dk_46 (dk_at dksX23_held_1 17 rfl rfl)
theorem dX23_held_40 : decode cX23_held 40 = .ok (.invokevirtual 37, 3) := dk_182 0 37 (dk_at dksX23_held_1 18 rfl rfl)
theorem dX23_held_43 : decode cX23_held 43 = .ok (.invokevirtual 88, 3) := dk_182 0 88 (dk_at dksX23_held_1 21 rfl rfl)
theorem dX23_held_46 : decode cX23_held 46 = .ok (.iconst 3, 1) := dk_6 (dk_at dksX23_held_2 0 rfl rfl)
theorem dX23_held_47 : decode cX23_held 47 = .ok (.if_icmp .ge 7, 3) := dk_162 0 7 (dk_at dksX23_held_2 1 rfl rfl)
theorem dX23_held_50 : decode cX23_held 50 = .ok (.iconst 1, 1) := dk_4 (dk_at dksX23_held_2 4 rfl rfl)
theorem dX23_held_51 : decode cX23_held 51 = .ok (.goto 4, 3) := dk_167 0 4 (dk_at dksX23_held_2 5 rfl rfl)
theorem dX23_held_54 : decode cX23_held 54 = .ok (.iconst 0, 1) := dk_3 (dk_at dksX23_held_2 8 rfl rfl)
theorem dX23_held_55 : decode cX23_held 55 = .ok (.iadd, 1) := dk_96 (dk_at dksX23_held_2 9 rfl rfl)
theorem dX23_held_56 : decode cX23_held 56 = .ok (.istore_n 1, 1) := dk_60 (dk_at dksX23_held_2 10 rfl rfl)
theorem dX23_held_57 : decode cX23_held 57 = .ok (.iinc 2 1, 3) := dk_132 2 1 (dk_at dksX23_held_2 11 rfl rfl)
theorem dX23_held_60 : decode cX23_held 60 = .ok (.goto (-56), 3) := dk_167 255 200 (dk_at dksX23_held_2 14 rfl rfl)
theorem dX23_held_63 : decode cX23_held 63 = .ok (.iload_n 1, 1) := dk_27 (dk_at dksX23_held_2 17 rfl rfl)
theorem dX23_held_64 : decode cX23_held 64 = .ok (.ireturn, 1) := dk_172 (dk_at dksX23_held_2 18 rfl rfl)
abbrev cX23_root : ByteArray := prog_10_method_3_code
def yX23_root : MethodName := ⟨RX23, "root", "(I)I"⟩
def dkwX23_root_0 : List UInt8 := [27, 61, 42, 180, 0, 9, 28, 46, 28, 159, 0, 13, 42, 180, 0, 9, 28, 46, 61, 167, 255, 239, 28, 172]
abbrev dktX23_root_0 : List UInt8 := dkwX23_root_0 ++ []
theorem dksX23_root_0 : cX23_root.data.toList.drop 0 = dktX23_root_0 := by decide +kernel
theorem dX23_root_0 : decode cX23_root 0 = .ok (.iload_n 1, 1) := dk_27 (dk_at dksX23_root_0 0 rfl rfl)
theorem dX23_root_1 : decode cX23_root 1 = .ok (.istore_n 2, 1) := dk_61 (dk_at dksX23_root_0 1 rfl rfl)
theorem dX23_root_2 : decode cX23_root 2 = .ok (.aload_n 0, 1) := dk_42 (dk_at dksX23_root_0 2 rfl rfl)
theorem dX23_root_3 : decode cX23_root 3 = .ok (.getfield 9, 3) := dk_180 0 9 (dk_at dksX23_root_0 3 rfl rfl)
theorem dX23_root_6 : decode cX23_root 6 = .ok (.iload_n 2, 1) := dk_28 (dk_at dksX23_root_0 6 rfl rfl)
theorem dX23_root_7 : decode cX23_root 7 = .ok (.iaload, 1) := dk_46 (dk_at dksX23_root_0 7 rfl rfl)
theorem dX23_root_8 : decode cX23_root 8 = .ok (.iload_n 2, 1) := dk_28 (dk_at dksX23_root_0 8 rfl rfl)
theorem dX23_root_9 : decode cX23_root 9 = .ok (.if_icmp .eq 13, 3) := dk_159 0 13 (dk_at dksX23_root_0 9 rfl rfl)
theorem dX23_root_12 : decode cX23_root 12 = .ok (.aload_n 0, 1) := dk_42 (dk_at dksX23_root_0 12 rfl rfl)
theorem dX23_root_13 : decode cX23_root 13 = .ok (.getfield 9, 3) := dk_180 0 9 (dk_at dksX23_root_0 13 rfl rfl)
theorem dX23_root_16 : decode cX23_root 16 = .ok (.iload_n 2, 1) := dk_28 (dk_at dksX23_root_0 16 rfl rfl)
theorem dX23_root_17 : decode cX23_root 17 = .ok (.iaload, 1) := dk_46 (dk_at dksX23_root_0 17 rfl rfl)
theorem dX23_root_18 : decode cX23_root 18 = .ok (.istore_n 2, 1) := dk_61 (dk_at dksX23_root_0 18 rfl rfl)
theorem dX23_root_19 : decode cX23_root 19 = .ok (.goto (-17), 3) := dk_167 255 239 (dk_at dksX23_root_0 19 rfl rfl)
theorem dX23_root_22 : decode cX23_root 22 = .ok (.iload_n 2, 1) := dk_28 (dk_at dksX23_root_0 22 rfl rfl)
theorem dX23_root_23 : decode cX23_root 23 = .ok (.ireturn, 1) := dk_172 (dk_at dksX23_root_0 23 rfl rfl)
abbrev cX23_ends : ByteArray := prog_10_method_9_code
def yX23_ends : MethodName := ⟨RX23, "ends", "(I)I"⟩
def dkwX23_ends_2 : List UInt8 := [167, 0, 4, 3, 96, 96, 61, 132, 3, 1, 167, 255, 203, 28, 172]
abbrev dktX23_ends_2 : List UInt8 := dkwX23_ends_2 ++ []
def dkwX23_ends_1 : List UInt8 := [160, 0, 7, 4, 167, 0, 4, 3, 42, 42, 180, 0, 21, 29, 46, 182, 0, 37, 27, 160, 0, 7, 4]
abbrev dktX23_ends_1 : List UInt8 := dkwX23_ends_1 ++ dktX23_ends_2
def dkwX23_ends_0 : List UInt8 := [3, 61, 3, 62, 29, 42, 180, 0, 81, 162, 0, 51, 28, 42, 42, 180, 0, 18, 29, 46, 182, 0, 37, 27]
abbrev dktX23_ends_0 : List UInt8 := dkwX23_ends_0 ++ dktX23_ends_1
theorem dksX23_ends_0 : cX23_ends.data.toList.drop 0 = dktX23_ends_0 := by decide +kernel
theorem dksX23_ends_1 : cX23_ends.data.toList.drop 24 = dktX23_ends_1 := dk_seg dksX23_ends_0 24 rfl rfl
theorem dksX23_ends_2 : cX23_ends.data.toList.drop 47 = dktX23_ends_2 := dk_seg dksX23_ends_1 23 rfl rfl
theorem dX23_ends_0 : decode cX23_ends 0 = .ok (.iconst 0, 1) := dk_3 (dk_at dksX23_ends_0 0 rfl rfl)
theorem dX23_ends_1 : decode cX23_ends 1 = .ok (.istore_n 2, 1) := dk_61 (dk_at dksX23_ends_0 1 rfl rfl)
theorem dX23_ends_2 : decode cX23_ends 2 = .ok (.iconst 0, 1) := dk_3 (dk_at dksX23_ends_0 2 rfl rfl)
theorem dX23_ends_3 : decode cX23_ends 3 = .ok (.istore_n 3, 1) := dk_62 (dk_at dksX23_ends_0 3 rfl rfl)
theorem dX23_ends_4 : decode cX23_ends 4 = .ok (.iload_n 3, 1) := dk_29 (dk_at dksX23_ends_0 4 rfl rfl)
theorem dX23_ends_5 : decode cX23_ends 5 = .ok (.aload_n 0, 1) := dk_42 (dk_at dksX23_ends_0 5 rfl rfl)
theorem dX23_ends_6 : decode cX23_ends 6 = .ok (.getfield 81, 3) := dk_180 0 81 (dk_at dksX23_ends_0 6 rfl rfl)
theorem dX23_ends_9 : decode cX23_ends 9 = .ok (.if_icmp .ge 51, 3) := dk_162 0 51 (dk_at dksX23_ends_0 9 rfl rfl)
theorem dX23_ends_12 : decode cX23_ends 12 = .ok (.iload_n 2, 1) := dk_28 (dk_at dksX23_ends_0 12 rfl rfl)
theorem dX23_ends_13 : decode cX23_ends 13 = .ok (.aload_n 0, 1) := dk_42 (dk_at dksX23_ends_0 13 rfl rfl)
theorem dX23_ends_14 : decode cX23_ends 14 = .ok (.aload_n 0, 1) := dk_42 (dk_at dksX23_ends_0 14 rfl rfl)
theorem dX23_ends_15 : decode cX23_ends 15 = .ok (.getfield 18, 3) := dk_180 0 18 (dk_at dksX23_ends_0 15 rfl rfl)
theorem dX23_ends_18 : decode cX23_ends 18 = .ok (.iload_n 3, 1) := dk_29 (dk_at dksX23_ends_0 18 rfl rfl)
theorem dX23_ends_19 : decode cX23_ends 19 = .ok (.iaload, 1) := dk_46 (dk_at dksX23_ends_0 19 rfl rfl)
theorem dX23_ends_20 : decode cX23_ends 20 = .ok (.invokevirtual 37, 3) := dk_182 0 37 (dk_at dksX23_ends_0 20 rfl rfl)
theorem dX23_ends_23 : decode cX23_ends 23 = .ok (.iload_n 1, 1) := dk_27 (dk_at dksX23_ends_0 23 rfl rfl)
theorem dX23_ends_24 : decode cX23_ends 24 = .ok (.if_icmp .ne 7, 3) := dk_160 0 7 (dk_at dksX23_ends_1 0 rfl rfl)
theorem dX23_ends_27 : decode cX23_ends 27 = .ok (.iconst 1, 1) := dk_4 (dk_at dksX23_ends_1 3 rfl rfl)
theorem dX23_ends_28 : decode cX23_ends 28 = .ok (.goto 4, 3) := dk_167 0 4 (dk_at dksX23_ends_1 4 rfl rfl)
theorem dX23_ends_31 : decode cX23_ends 31 = .ok (.iconst 0, 1) := dk_3 (dk_at dksX23_ends_1 7 rfl rfl)
theorem dX23_ends_32 : decode cX23_ends 32 = .ok (.aload_n 0, 1) := dk_42 (dk_at dksX23_ends_1 8 rfl rfl)
theorem dX23_ends_33 : decode cX23_ends 33 = .ok (.aload_n 0, 1) := dk_42 (dk_at dksX23_ends_1 9 rfl rfl)
theorem dX23_ends_34 : decode cX23_ends 34 = .ok (.getfield 21, 3) := dk_180 0 21 (dk_at dksX23_ends_1 10 rfl rfl)
theorem dX23_ends_37 : decode cX23_ends 37 = .ok (.iload_n 3, 1) := dk_29 (dk_at dksX23_ends_1 13 rfl rfl)
theorem dX23_ends_38 : decode cX23_ends 38 = .ok (.iaload, 1) := dk_46 (dk_at dksX23_ends_1 14 rfl rfl)
theorem dX23_ends_39 : decode cX23_ends 39 = .ok (.invokevirtual 37, 3) := dk_182 0 37 (dk_at dksX23_ends_1 15 rfl rfl)
theorem dX23_ends_42 : decode cX23_ends 42 = .ok (.iload_n 1, 1) := dk_27 (dk_at dksX23_ends_1 18 rfl rfl)
theorem dX23_ends_43 : decode cX23_ends 43 = .ok (.if_icmp .ne 7, 3) := dk_160 0 7 (dk_at dksX23_ends_1 19 rfl rfl)
theorem dX23_ends_46 : decode cX23_ends 46 = .ok (.iconst 1, 1) := dk_4 (dk_at dksX23_ends_1 22 rfl rfl)
theorem dX23_ends_47 : decode cX23_ends 47 = .ok (.goto 4, 3) := dk_167 0 4 (dk_at dksX23_ends_2 0 rfl rfl)
theorem dX23_ends_50 : decode cX23_ends 50 = .ok (.iconst 0, 1) := dk_3 (dk_at dksX23_ends_2 3 rfl rfl)
theorem dX23_ends_51 : decode cX23_ends 51 = .ok (.iadd, 1) := dk_96 (dk_at dksX23_ends_2 4 rfl rfl)
theorem dX23_ends_52 : decode cX23_ends 52 = .ok (.iadd, 1) := dk_96 (dk_at dksX23_ends_2 5 rfl rfl)
theorem dX23_ends_53 : decode cX23_ends 53 = .ok (.istore_n 2, 1) := dk_61 (dk_at dksX23_ends_2 6 rfl rfl)
theorem dX23_ends_54 : decode cX23_ends 54 = .ok (.iinc 3 1, 3) := dk_132 3 1 (dk_at dksX23_ends_2 7 rfl rfl)
theorem dX23_ends_57 : decode cX23_ends 57 = .ok (.goto (-53), 3) := dk_167 255 203 (dk_at dksX23_ends_2 10 rfl rfl)
theorem dX23_ends_60 : decode cX23_ends 60 = .ok (.iload_n 2, 1) := dk_28 (dk_at dksX23_ends_2 13 rfl rfl)
theorem dX23_ends_61 : decode cX23_ends 61 = .ok (.ireturn, 1) := dk_172 (dk_at dksX23_ends_2 14 rfl rfl)
abbrev cX23_begins : ByteArray := prog_10_method_5_code
def yX23_begins : MethodName := ⟨RX23, "begins", "(I)V"⟩
def dkwX23_begins_1 : List UInt8 := [96, 181, 0, 57, 177]
abbrev dktX23_begins_1 : List UInt8 := dkwX23_begins_1 ++ []
def dkwX23_begins_0 : List UInt8 := [42, 42, 182, 0, 50, 181, 0, 54, 42, 180, 0, 30, 42, 180, 0, 57, 27, 79, 42, 89, 180, 0, 57, 4]
abbrev dktX23_begins_0 : List UInt8 := dkwX23_begins_0 ++ dktX23_begins_1
theorem dksX23_begins_0 : cX23_begins.data.toList.drop 0 = dktX23_begins_0 := by decide +kernel
theorem dksX23_begins_1 : cX23_begins.data.toList.drop 24 = dktX23_begins_1 := dk_seg dksX23_begins_0 24 rfl rfl
theorem dX23_begins_0 : decode cX23_begins 0 = .ok (.aload_n 0, 1) := dk_42 (dk_at dksX23_begins_0 0 rfl rfl)
theorem dX23_begins_1 : decode cX23_begins 1 = .ok (.aload_n 0, 1) := dk_42 (dk_at dksX23_begins_0 1 rfl rfl)
theorem dX23_begins_2 : decode cX23_begins 2 = .ok (.invokevirtual 50, 3) := dk_182 0 50 (dk_at dksX23_begins_0 2 rfl rfl)
theorem dX23_begins_5 : decode cX23_begins 5 = .ok (.putfield 54, 3) := dk_181 0 54 (dk_at dksX23_begins_0 5 rfl rfl)
theorem dX23_begins_8 : decode cX23_begins 8 = .ok (.aload_n 0, 1) := dk_42 (dk_at dksX23_begins_0 8 rfl rfl)
theorem dX23_begins_9 : decode cX23_begins 9 = .ok (.getfield 30, 3) := dk_180 0 30 (dk_at dksX23_begins_0 9 rfl rfl)
theorem dX23_begins_12 : decode cX23_begins 12 = .ok (.aload_n 0, 1) := dk_42 (dk_at dksX23_begins_0 12 rfl rfl)
theorem dX23_begins_13 : decode cX23_begins 13 = .ok (.getfield 57, 3) := dk_180 0 57 (dk_at dksX23_begins_0 13 rfl rfl)
theorem dX23_begins_16 : decode cX23_begins 16 = .ok (.iload_n 1, 1) := dk_27 (dk_at dksX23_begins_0 16 rfl rfl)
theorem dX23_begins_17 : decode cX23_begins 17 = .ok (.iastore, 1) := dk_79 (dk_at dksX23_begins_0 17 rfl rfl)
theorem dX23_begins_18 : decode cX23_begins 18 = .ok (.aload_n 0, 1) := dk_42 (dk_at dksX23_begins_0 18 rfl rfl)
theorem dX23_begins_19 : decode cX23_begins 19 = .ok (.dup, 1) := dk_89 (dk_at dksX23_begins_0 19 rfl rfl)
theorem dX23_begins_20 : decode cX23_begins 20 = .ok (.getfield 57, 3) := dk_180 0 57 (dk_at dksX23_begins_0 20 rfl rfl)
theorem dX23_begins_23 : decode cX23_begins 23 = .ok (.iconst 1, 1) := dk_4 (dk_at dksX23_begins_0 23 rfl rfl)
theorem dX23_begins_24 : decode cX23_begins 24 = .ok (.iadd, 1) := dk_96 (dk_at dksX23_begins_1 0 rfl rfl)
theorem dX23_begins_25 : decode cX23_begins 25 = .ok (.putfield 57, 3) := dk_181 0 57 (dk_at dksX23_begins_1 1 rfl rfl)
theorem dX23_begins_28 : decode cX23_begins 28 = .ok (.return_, 1) := dk_177 (dk_at dksX23_begins_1 4 rfl rfl)
abbrev cX23_joins : ByteArray := prog_10_method_4_code
def yX23_joins : MethodName := ⟨RX23, "joins", "(II)V"⟩
def dkwX23_joins_1 : List UInt8 := [21, 4, 184, 0, 47, 79, 177]
abbrev dktX23_joins_1 : List UInt8 := dkwX23_joins_1 ++ []
def dkwX23_joins_0 : List UInt8 := [42, 27, 182, 0, 37, 62, 42, 28, 182, 0, 37, 54, 4, 42, 180, 0, 9, 29, 21, 4, 184, 0, 41, 29]
abbrev dktX23_joins_0 : List UInt8 := dkwX23_joins_0 ++ dktX23_joins_1
theorem dksX23_joins_0 : cX23_joins.data.toList.drop 0 = dktX23_joins_0 := by decide +kernel
theorem dksX23_joins_1 : cX23_joins.data.toList.drop 24 = dktX23_joins_1 := dk_seg dksX23_joins_0 24 rfl rfl
theorem dX23_joins_0 : decode cX23_joins 0 = .ok (.aload_n 0, 1) := dk_42 (dk_at dksX23_joins_0 0 rfl rfl)
theorem dX23_joins_1 : decode cX23_joins 1 = .ok (.iload_n 1, 1) := dk_27 (dk_at dksX23_joins_0 1 rfl rfl)
theorem dX23_joins_2 : decode cX23_joins 2 = .ok (.invokevirtual 37, 3) := dk_182 0 37 (dk_at dksX23_joins_0 2 rfl rfl)
theorem dX23_joins_5 : decode cX23_joins 5 = .ok (.istore_n 3, 1) := dk_62 (dk_at dksX23_joins_0 5 rfl rfl)
theorem dX23_joins_6 : decode cX23_joins 6 = .ok (.aload_n 0, 1) := dk_42 (dk_at dksX23_joins_0 6 rfl rfl)
theorem dX23_joins_7 : decode cX23_joins 7 = .ok (.iload_n 2, 1) := dk_28 (dk_at dksX23_joins_0 7 rfl rfl)
theorem dX23_joins_8 : decode cX23_joins 8 = .ok (.invokevirtual 37, 3) := dk_182 0 37 (dk_at dksX23_joins_0 8 rfl rfl)
theorem dX23_joins_11 : decode cX23_joins 11 = .ok (.istore 4, 2) := dk_54 4 (dk_at dksX23_joins_0 11 rfl rfl)
theorem dX23_joins_13 : decode cX23_joins 13 = .ok (.aload_n 0, 1) := dk_42 (dk_at dksX23_joins_0 13 rfl rfl)
theorem dX23_joins_14 : decode cX23_joins 14 = .ok (.getfield 9, 3) := dk_180 0 9 (dk_at dksX23_joins_0 14 rfl rfl)
theorem dX23_joins_17 : decode cX23_joins 17 = .ok (.iload_n 3, 1) := dk_29 (dk_at dksX23_joins_0 17 rfl rfl)
theorem dX23_joins_18 : decode cX23_joins 18 = .ok (.iload 4, 2) := dk_21 4 (dk_at dksX23_joins_0 18 rfl rfl)
theorem dX23_joins_20 : decode cX23_joins 20 = .ok (.invokestatic 41, 3) := dk_184 0 41 (dk_at dksX23_joins_0 20 rfl rfl)
theorem dX23_joins_23 : decode cX23_joins 23 = .ok (.iload_n 3, 1) := dk_29 (dk_at dksX23_joins_0 23 rfl rfl)
theorem dX23_joins_24 : decode cX23_joins 24 = .ok (.iload 4, 2) := dk_21 4 (dk_at dksX23_joins_1 0 rfl rfl)
theorem dX23_joins_26 : decode cX23_joins 26 = .ok (.invokestatic 47, 3) := dk_184 0 47 (dk_at dksX23_joins_1 2 rfl rfl)
theorem dX23_joins_29 : decode cX23_joins 29 = .ok (.iastore, 1) := dk_79 (dk_at dksX23_joins_1 5 rfl rfl)
theorem dX23_joins_30 : decode cX23_joins 30 = .ok (.return_, 1) := dk_177 (dk_at dksX23_joins_1 6 rfl rfl)
abbrev cX23_takes : ByteArray := prog_10_method_7_code
def yX23_takes : MethodName := ⟨RX23, "takes", "(LBalloonStall$Figure;I)V"⟩
def dkwX23_takes_3 : List UInt8 := [96, 29, 43, 180, 0, 80, 21, 4, 46, 96, 182, 0, 60, 132, 4, 1, 167, 255, 206, 177]
abbrev dktX23_takes_3 : List UInt8 := dkwX23_takes_3 ++ []
def dkwX23_takes_2 : List UInt8 := [43, 180, 0, 77, 21, 4, 46, 28, 43, 180, 0, 78, 21, 4, 46, 96, 28, 43, 180, 0, 79, 21, 4, 46]
abbrev dktX23_takes_2 : List UInt8 := dkwX23_takes_2 ++ dktX23_takes_3
def dkwX23_takes_1 : List UInt8 := [180, 0, 57, 43, 180, 0, 67, 96, 181, 0, 57, 3, 54, 4, 21, 4, 43, 180, 0, 74, 162, 0, 47, 42]
abbrev dktX23_takes_1 : List UInt8 := dkwX23_takes_1 ++ dktX23_takes_2
def dkwX23_takes_0 : List UInt8 := [42, 180, 0, 57, 62, 43, 180, 0, 64, 3, 42, 180, 0, 30, 29, 43, 180, 0, 67, 184, 0, 68, 42, 89]
abbrev dktX23_takes_0 : List UInt8 := dkwX23_takes_0 ++ dktX23_takes_1
theorem dksX23_takes_0 : cX23_takes.data.toList.drop 0 = dktX23_takes_0 := by decide +kernel
theorem dksX23_takes_1 : cX23_takes.data.toList.drop 24 = dktX23_takes_1 := dk_seg dksX23_takes_0 24 rfl rfl
theorem dksX23_takes_2 : cX23_takes.data.toList.drop 48 = dktX23_takes_2 := dk_seg dksX23_takes_1 24 rfl rfl
theorem dksX23_takes_3 : cX23_takes.data.toList.drop 72 = dktX23_takes_3 := dk_seg dksX23_takes_2 24 rfl rfl
theorem dX23_takes_0 : decode cX23_takes 0 = .ok (.aload_n 0, 1) := dk_42 (dk_at dksX23_takes_0 0 rfl rfl)
theorem dX23_takes_1 : decode cX23_takes 1 = .ok (.getfield 57, 3) := dk_180 0 57 (dk_at dksX23_takes_0 1 rfl rfl)
theorem dX23_takes_4 : decode cX23_takes 4 = .ok (.istore_n 3, 1) := dk_62 (dk_at dksX23_takes_0 4 rfl rfl)
theorem dX23_takes_5 : decode cX23_takes 5 = .ok (.aload_n 1, 1) := dk_43 (dk_at dksX23_takes_0 5 rfl rfl)
theorem dX23_takes_6 : decode cX23_takes 6 = .ok (.getfield 64, 3) := dk_180 0 64 (dk_at dksX23_takes_0 6 rfl rfl)
theorem dX23_takes_9 : decode cX23_takes 9 = .ok (.iconst 0, 1) := dk_3 (dk_at dksX23_takes_0 9 rfl rfl)
theorem dX23_takes_10 : decode cX23_takes 10 = .ok (.aload_n 0, 1) := dk_42 (dk_at dksX23_takes_0 10 rfl rfl)
theorem dX23_takes_11 : decode cX23_takes 11 = .ok (.getfield 30, 3) := dk_180 0 30 (dk_at dksX23_takes_0 11 rfl rfl)
theorem dX23_takes_14 : decode cX23_takes 14 = .ok (.iload_n 3, 1) := dk_29 (dk_at dksX23_takes_0 14 rfl rfl)
theorem dX23_takes_15 : decode cX23_takes 15 = .ok (.aload_n 1, 1) := dk_43 (dk_at dksX23_takes_0 15 rfl rfl)
theorem dX23_takes_16 : decode cX23_takes 16 = .ok (.getfield 67, 3) := dk_180 0 67 (dk_at dksX23_takes_0 16 rfl rfl)
theorem dX23_takes_19 : decode cX23_takes 19 = .ok (.invokestatic 68, 3) := dk_184 0 68 (dk_at dksX23_takes_0 19 rfl rfl)
theorem dX23_takes_22 : decode cX23_takes 22 = .ok (.aload_n 0, 1) := dk_42 (dk_at dksX23_takes_0 22 rfl rfl)
theorem dX23_takes_23 : decode cX23_takes 23 = .ok (.dup, 1) := dk_89 (dk_at dksX23_takes_0 23 rfl rfl)
theorem dX23_takes_24 : decode cX23_takes 24 = .ok (.getfield 57, 3) := dk_180 0 57 (dk_at dksX23_takes_1 0 rfl rfl)
theorem dX23_takes_27 : decode cX23_takes 27 = .ok (.aload_n 1, 1) := dk_43 (dk_at dksX23_takes_1 3 rfl rfl)
theorem dX23_takes_28 : decode cX23_takes 28 = .ok (.getfield 67, 3) := dk_180 0 67 (dk_at dksX23_takes_1 4 rfl rfl)
theorem dX23_takes_31 : decode cX23_takes 31 = .ok (.iadd, 1) := dk_96 (dk_at dksX23_takes_1 7 rfl rfl)
theorem dX23_takes_32 : decode cX23_takes 32 = .ok (.putfield 57, 3) := dk_181 0 57 (dk_at dksX23_takes_1 8 rfl rfl)
theorem dX23_takes_35 : decode cX23_takes 35 = .ok (.iconst 0, 1) := dk_3 (dk_at dksX23_takes_1 11 rfl rfl)
theorem dX23_takes_36 : decode cX23_takes 36 = .ok (.istore 4, 2) := dk_54 4 (dk_at dksX23_takes_1 12 rfl rfl)
theorem dX23_takes_38 : decode cX23_takes 38 = .ok (.iload 4, 2) := dk_21 4 (dk_at dksX23_takes_1 14 rfl rfl)
theorem dX23_takes_40 : decode cX23_takes 40 = .ok (.aload_n 1, 1) := dk_43 (dk_at dksX23_takes_1 16 rfl rfl)
theorem dX23_takes_41 : decode cX23_takes 41 = .ok (.getfield 74, 3) := dk_180 0 74 (dk_at dksX23_takes_1 17 rfl rfl)
theorem dX23_takes_44 : decode cX23_takes 44 = .ok (.if_icmp .ge 47, 3) := dk_162 0 47 (dk_at dksX23_takes_1 20 rfl rfl)
theorem dX23_takes_47 : decode cX23_takes 47 = .ok (.aload_n 0, 1) := dk_42 (dk_at dksX23_takes_1 23 rfl rfl)
theorem dX23_takes_48 : decode cX23_takes 48 = .ok (.aload_n 1, 1) := dk_43 (dk_at dksX23_takes_2 0 rfl rfl)
theorem dX23_takes_49 : decode cX23_takes 49 = .ok (.getfield 77, 3) := dk_180 0 77 (dk_at dksX23_takes_2 1 rfl rfl)
theorem dX23_takes_52 : decode cX23_takes 52 = .ok (.iload 4, 2) := dk_21 4 (dk_at dksX23_takes_2 4 rfl rfl)
theorem dX23_takes_54 : decode cX23_takes 54 = .ok (.iaload, 1) := dk_46 (dk_at dksX23_takes_2 6 rfl rfl)
theorem dX23_takes_55 : decode cX23_takes 55 = .ok (.iload_n 2, 1) := dk_28 (dk_at dksX23_takes_2 7 rfl rfl)
theorem dX23_takes_56 : decode cX23_takes 56 = .ok (.aload_n 1, 1) := dk_43 (dk_at dksX23_takes_2 8 rfl rfl)
theorem dX23_takes_57 : decode cX23_takes 57 = .ok (.getfield 78, 3) := dk_180 0 78 (dk_at dksX23_takes_2 9 rfl rfl)
theorem dX23_takes_60 : decode cX23_takes 60 = .ok (.iload 4, 2) := dk_21 4 (dk_at dksX23_takes_2 12 rfl rfl)
theorem dX23_takes_62 : decode cX23_takes 62 = .ok (.iaload, 1) := dk_46 (dk_at dksX23_takes_2 14 rfl rfl)
theorem dX23_takes_63 : decode cX23_takes 63 = .ok (.iadd, 1) := dk_96 (dk_at dksX23_takes_2 15 rfl rfl)
theorem dX23_takes_64 : decode cX23_takes 64 = .ok (.iload_n 2, 1) := dk_28 (dk_at dksX23_takes_2 16 rfl rfl)
theorem dX23_takes_65 : decode cX23_takes 65 = .ok (.aload_n 1, 1) := dk_43 (dk_at dksX23_takes_2 17 rfl rfl)
theorem dX23_takes_66 : decode cX23_takes 66 = .ok (.getfield 79, 3) := dk_180 0 79 (dk_at dksX23_takes_2 18 rfl rfl)
theorem dX23_takes_69 : decode cX23_takes 69 = .ok (.iload 4, 2) := dk_21 4 (dk_at dksX23_takes_2 21 rfl rfl)
theorem dX23_takes_71 : decode cX23_takes 71 = .ok (.iaload, 1) := dk_46 (dk_at dksX23_takes_2 23 rfl rfl)
theorem dX23_takes_72 : decode cX23_takes 72 = .ok (.iadd, 1) := dk_96 (dk_at dksX23_takes_3 0 rfl rfl)
theorem dX23_takes_73 : decode cX23_takes 73 = .ok (.iload_n 3, 1) := dk_29 (dk_at dksX23_takes_3 1 rfl rfl)
theorem dX23_takes_74 : decode cX23_takes 74 = .ok (.aload_n 1, 1) := dk_43 (dk_at dksX23_takes_3 2 rfl rfl)
theorem dX23_takes_75 : decode cX23_takes 75 = .ok (.getfield 80, 3) := dk_180 0 80 (dk_at dksX23_takes_3 3 rfl rfl)
theorem dX23_takes_78 : decode cX23_takes 78 = .ok (.iload 4, 2) := dk_21 4 (dk_at dksX23_takes_3 6 rfl rfl)
theorem dX23_takes_80 : decode cX23_takes 80 = .ok (.iaload, 1) := dk_46 (dk_at dksX23_takes_3 8 rfl rfl)
theorem dX23_takes_81 : decode cX23_takes 81 = .ok (.iadd, 1) := dk_96 (dk_at dksX23_takes_3 9 rfl rfl)
theorem dX23_takes_82 : decode cX23_takes 82 = .ok (.invokevirtual 60, 3) := dk_182 0 60 (dk_at dksX23_takes_3 10 rfl rfl)
theorem dX23_takes_85 : decode cX23_takes 85 = .ok (.iinc 4 1, 3) := dk_132 4 1 (dk_at dksX23_takes_3 13 rfl rfl)
theorem dX23_takes_88 : decode cX23_takes 88 = .ok (.goto (-50), 3) := dk_167 255 206 (dk_at dksX23_takes_3 16 rfl rfl)
theorem dX23_takes_91 : decode cX23_takes 91 = .ok (.return_, 1) := dk_177 (dk_at dksX23_takes_3 19 rfl rfl)
theorem q129 : (Jvm.Cond.initialized "BalloonStall$Hand") ∈ lw_all := lw_g (lw_at lw_m1 27 rfl) rfl
theorem q699 : (Jvm.Cond.instantiable "BalloonStall$Hand" (12 : Nat)) ∈ lw_all := lw_g (lw_at lw_m3 117 rfl) rfl
theorem q701 : (Jvm.Cond.instanceMethod ({ cls := "BalloonStall$Hand", name := "<init>", desc := "()V" } : Jvm.MethodName)) ∈ lw_all := lw_g (lw_at lw_m3 119 rfl) rfl
theorem q702 : (Jvm.Cond.code ({ cls := "BalloonStall$Hand", name := "<init>", desc := "()V" } : Jvm.MethodName) prog_10_method_1_code (2 : Nat) (Option.none : Option Jvm.ClassFile.FieldType)) ∈ lw_all := lw_g (lw_at lw_m3 120 rfl) rfl
theorem q703 : (Jvm.Cond.methodLink "BalloonStall$Hand" (3 : Nat) ({ cls := "java/lang/Object", name := "<init>", desc := "()V" } : Jvm.MethodName)) ∈ lw_all := lw_g (lw_at lw_m3 121 rfl) rfl
theorem q704 : (Jvm.Cond.fieldLink "BalloonStall$Hand" (9 : Nat) "BalloonStall$Hand" "joined" "[I") ∈ lw_all := lw_g (lw_at lw_m3 122 rfl) rfl
theorem q705 : (Jvm.Cond.fieldLink "BalloonStall$Hand" (15 : Nat) "BalloonStall$Hand" "named" "[I") ∈ lw_all := lw_g (lw_at lw_m3 123 rfl) rfl
theorem q707 : (Jvm.Cond.fieldLink "BalloonStall$Hand" (18 : Nat) "BalloonStall$Hand" "from" "[I") ∈ lw_all := lw_g (lw_at lw_m3 125 rfl) rfl
theorem q709 : (Jvm.Cond.fieldLink "BalloonStall$Hand" (21 : Nat) "BalloonStall$Hand" "to" "[I") ∈ lw_all := lw_g (lw_at lw_m3 127 rfl) rfl
theorem q711 : (Jvm.Cond.fieldLink "BalloonStall$Hand" (24 : Nat) "BalloonStall$Hand" "lengths" "[I") ∈ lw_all := lw_g (lw_at lw_m3 129 rfl) rfl
theorem q713 : (Jvm.Cond.fieldLink "BalloonStall$Hand" (27 : Nat) "BalloonStall$Hand" "balloon" "[I") ∈ lw_all := lw_g (lw_at lw_m3 131 rfl) rfl
theorem q715 : (Jvm.Cond.fieldLink "BalloonStall$Hand" (30 : Nat) "BalloonStall$Hand" "sort" "[I") ∈ lw_all := lw_g (lw_at lw_m3 133 rfl) rfl
theorem q720 : (Jvm.Cond.fieldLink "BalloonStall$Hand" (54 : Nat) "BalloonStall$Hand" "at" "I") ∈ lw_all := lw_g (lw_at lw_m3 138 rfl) rfl
theorem q722 : (Jvm.Cond.fieldLink "BalloonStall$Hand" (33 : Nat) "BalloonStall$Hand" "points" "I") ∈ lw_all := lw_g (lw_at lw_m3 140 rfl) rfl
theorem q724 : (Jvm.Cond.fieldLink "BalloonStall$Hand" (81 : Nat) "BalloonStall$Hand" "bubbles" "I") ∈ lw_all := lw_g (lw_at lw_m3 142 rfl) rfl
theorem q726 : (Jvm.Cond.fieldLink "BalloonStall$Hand" (57 : Nat) "BalloonStall$Hand" "balloons" "I") ∈ lw_all := lw_g (lw_at lw_m3 144 rfl) rfl
theorem q729 : (Jvm.Cond.fieldLink "BalloonStall$Hand" (82 : Nat) "BalloonStall$Hand" "most" "I") ∈ lw_all := lw_g (lw_at lw_m3 147 rfl) rfl
theorem q730 : (Jvm.Cond.laysFinal "BalloonStall$Hand" "BalloonStall$Hand" "joined" "[I") ∈ lw_all := lw_g (lw_at lw_m3 148 rfl) rfl
theorem q731 : (Jvm.Cond.soleField "BalloonStall$Hand" "joined") ∈ lw_all := lw_g (lw_at lw_m3 149 rfl) rfl
theorem q732 : (Jvm.Cond.laysFinal "BalloonStall$Hand" "BalloonStall$Hand" "named" "[I") ∈ lw_all := lw_g (lw_at lw_m3 150 rfl) rfl
theorem q733 : (Jvm.Cond.soleField "BalloonStall$Hand" "named") ∈ lw_all := lw_g (lw_at lw_m3 151 rfl) rfl
theorem q734 : (Jvm.Cond.laysFinal "BalloonStall$Hand" "BalloonStall$Hand" "from" "[I") ∈ lw_all := lw_g (lw_at lw_m3 152 rfl) rfl
theorem q735 : (Jvm.Cond.soleField "BalloonStall$Hand" "from") ∈ lw_all := lw_g (lw_at lw_m3 153 rfl) rfl
theorem q736 : (Jvm.Cond.laysFinal "BalloonStall$Hand" "BalloonStall$Hand" "to" "[I") ∈ lw_all := lw_g (lw_at lw_m3 154 rfl) rfl
theorem q737 : (Jvm.Cond.soleField "BalloonStall$Hand" "to") ∈ lw_all := lw_g (lw_at lw_m3 155 rfl) rfl
theorem q738 : (Jvm.Cond.laysFinal "BalloonStall$Hand" "BalloonStall$Hand" "lengths" "[I") ∈ lw_all := lw_g (lw_at lw_m3 156 rfl) rfl
theorem q739 : (Jvm.Cond.soleField "BalloonStall$Hand" "lengths") ∈ lw_all := lw_g (lw_at lw_m3 157 rfl) rfl
theorem q740 : (Jvm.Cond.laysFinal "BalloonStall$Hand" "BalloonStall$Hand" "balloon" "[I") ∈ lw_all := lw_g (lw_at lw_m3 158 rfl) rfl
theorem q741 : (Jvm.Cond.soleField "BalloonStall$Hand" "balloon") ∈ lw_all := lw_g (lw_at lw_m3 159 rfl) rfl
theorem q742 : (Jvm.Cond.laysFinal "BalloonStall$Hand" "BalloonStall$Hand" "sort" "[I") ∈ lw_all := lw_g (lw_at lw_m3 160 rfl) rfl
theorem q743 : (Jvm.Cond.soleField "BalloonStall$Hand" "sort") ∈ lw_all := lw_g (lw_at lw_m3 161 rfl) rfl
theorem q744 : (Jvm.Cond.lays "BalloonStall$Hand" "BalloonStall$Hand" "at" "I") ∈ lw_all := lw_g (lw_at lw_m3 162 rfl) rfl
theorem q745 : (Jvm.Cond.soleField "BalloonStall$Hand" "at") ∈ lw_all := lw_g (lw_at lw_m3 163 rfl) rfl
theorem q746 : (Jvm.Cond.lays "BalloonStall$Hand" "BalloonStall$Hand" "points" "I") ∈ lw_all := lw_g (lw_at lw_m3 164 rfl) rfl
theorem q747 : (Jvm.Cond.soleField "BalloonStall$Hand" "points") ∈ lw_all := lw_g (lw_at lw_m3 165 rfl) rfl
theorem q748 : (Jvm.Cond.lays "BalloonStall$Hand" "BalloonStall$Hand" "bubbles" "I") ∈ lw_all := lw_g (lw_at lw_m3 166 rfl) rfl
theorem q749 : (Jvm.Cond.soleField "BalloonStall$Hand" "bubbles") ∈ lw_all := lw_g (lw_at lw_m3 167 rfl) rfl
theorem q750 : (Jvm.Cond.lays "BalloonStall$Hand" "BalloonStall$Hand" "balloons" "I") ∈ lw_all := lw_g (lw_at lw_m3 168 rfl) rfl
theorem q751 : (Jvm.Cond.soleField "BalloonStall$Hand" "balloons") ∈ lw_all := lw_g (lw_at lw_m3 169 rfl) rfl
theorem q752 : (Jvm.Cond.lays "BalloonStall$Hand" "BalloonStall$Hand" "most" "I") ∈ lw_all := lw_g (lw_at lw_m3 170 rfl) rfl
theorem q753 : (Jvm.Cond.soleField "BalloonStall$Hand" "most") ∈ lw_all := lw_g (lw_at lw_m3 171 rfl) rfl
theorem q754 : (Jvm.Cond.superclass "BalloonStall$Hand" "java/lang/Object") ∈ lw_all := lw_g (lw_at lw_m3 172 rfl) rfl
theorem q770 : (Jvm.Cond.instanceMethod ({ cls := "BalloonStall$Hand", name := "blows", desc := "(I)V" } : Jvm.MethodName)) ∈ lw_all := lw_g (lw_at lw_m3 188 rfl) rfl
theorem q771 : (Jvm.Cond.selects "BalloonStall$Hand" ({ cls := "BalloonStall$Hand", name := "blows", desc := "(I)V" } : Jvm.MethodName) ({ cls := "BalloonStall$Hand", name := "blows", desc := "(I)V" } : Jvm.MethodName)) ∈ lw_all := lw_g (lw_at lw_m3 189 rfl) rfl
theorem q772 : (Jvm.Cond.code ({ cls := "BalloonStall$Hand", name := "blows", desc := "(I)V" } : Jvm.MethodName) prog_10_method_6_code (3 : Nat) (Option.none : Option Jvm.ClassFile.FieldType)) ∈ lw_all := lw_g (lw_at lw_m3 190 rfl) rfl
theorem q773 : (Jvm.Cond.methodLink "BalloonStall$Hand" (50 : Nat) ({ cls := "BalloonStall$Hand", name := "point", desc := "()I" } : Jvm.MethodName)) ∈ lw_all := lw_g (lw_at lw_m3 191 rfl) rfl
theorem q774 : (Jvm.Cond.instanceMethod ({ cls := "BalloonStall$Hand", name := "point", desc := "()I" } : Jvm.MethodName)) ∈ lw_all := lw_g (lw_at lw_m3 192 rfl) rfl
theorem q775 : (Jvm.Cond.selects "BalloonStall$Hand" ({ cls := "BalloonStall$Hand", name := "point", desc := "()I" } : Jvm.MethodName) ({ cls := "BalloonStall$Hand", name := "point", desc := "()I" } : Jvm.MethodName)) ∈ lw_all := lw_g (lw_at lw_m3 193 rfl) rfl
theorem q776 : (Jvm.Cond.code ({ cls := "BalloonStall$Hand", name := "point", desc := "()I" } : Jvm.MethodName) prog_10_method_2_code (1 : Nat) (Option.some Jvm.ClassFile.FieldType.int)) ∈ lw_all := lw_g (lw_at lw_m3 194 rfl) rfl
theorem q777 : (Jvm.Cond.methodLink "BalloonStall$Hand" (60 : Nat) ({ cls := "BalloonStall$Hand", name := "adds", desc := "(IIII)V" } : Jvm.MethodName)) ∈ lw_all := lw_g (lw_at lw_m3 195 rfl) rfl
theorem q778 : (Jvm.Cond.instanceMethod ({ cls := "BalloonStall$Hand", name := "adds", desc := "(IIII)V" } : Jvm.MethodName)) ∈ lw_all := lw_g (lw_at lw_m3 196 rfl) rfl
theorem q779 : (Jvm.Cond.selects "BalloonStall$Hand" ({ cls := "BalloonStall$Hand", name := "adds", desc := "(IIII)V" } : Jvm.MethodName) ({ cls := "BalloonStall$Hand", name := "adds", desc := "(IIII)V" } : Jvm.MethodName)) ∈ lw_all := lw_g (lw_at lw_m3 197 rfl) rfl
theorem q780 : (Jvm.Cond.code ({ cls := "BalloonStall$Hand", name := "adds", desc := "(IIII)V" } : Jvm.MethodName) prog_10_method_8_code (5 : Nat) (Option.none : Option Jvm.ClassFile.FieldType)) ∈ lw_all := lw_g (lw_at lw_m3 198 rfl) rfl
theorem q781 : (Jvm.Cond.methodLink "BalloonStall$Hand" (85 : Nat) ({ cls := "BalloonStall$Hand", name := "held", desc := "()I" } : Jvm.MethodName)) ∈ lw_all := lw_g (lw_at lw_m3 199 rfl) rfl
theorem q782 : (Jvm.Cond.privateMethod ({ cls := "BalloonStall$Hand", name := "held", desc := "()I" } : Jvm.MethodName)) ∈ lw_tbl := lw_at lw_m3 200 rfl
theorem q783 : (Jvm.Cond.instanceMethod ({ cls := "BalloonStall$Hand", name := "held", desc := "()I" } : Jvm.MethodName)) ∈ lw_all := lw_g (lw_at lw_m3 201 rfl) rfl
theorem q784 : (Jvm.Cond.code ({ cls := "BalloonStall$Hand", name := "held", desc := "()I" } : Jvm.MethodName) prog_10_method_10_code (3 : Nat) (Option.some Jvm.ClassFile.FieldType.int)) ∈ lw_all := lw_g (lw_at lw_m3 202 rfl) rfl
theorem q785 : (Jvm.Cond.methodLink "BalloonStall$Hand" (37 : Nat) ({ cls := "BalloonStall$Hand", name := "root", desc := "(I)I" } : Jvm.MethodName)) ∈ lw_all := lw_g (lw_at lw_m3 203 rfl) rfl
theorem q786 : (Jvm.Cond.instanceMethod ({ cls := "BalloonStall$Hand", name := "root", desc := "(I)I" } : Jvm.MethodName)) ∈ lw_all := lw_g (lw_at lw_m3 204 rfl) rfl
theorem q787 : (Jvm.Cond.selects "BalloonStall$Hand" ({ cls := "BalloonStall$Hand", name := "root", desc := "(I)I" } : Jvm.MethodName) ({ cls := "BalloonStall$Hand", name := "root", desc := "(I)I" } : Jvm.MethodName)) ∈ lw_all := lw_g (lw_at lw_m3 205 rfl) rfl
theorem q788 : (Jvm.Cond.code ({ cls := "BalloonStall$Hand", name := "root", desc := "(I)I" } : Jvm.MethodName) prog_10_method_3_code (3 : Nat) (Option.some Jvm.ClassFile.FieldType.int)) ∈ lw_all := lw_g (lw_at lw_m3 206 rfl) rfl
theorem q789 : (Jvm.Cond.methodLink "BalloonStall$Hand" (88 : Nat) ({ cls := "BalloonStall$Hand", name := "ends", desc := "(I)I" } : Jvm.MethodName)) ∈ lw_all := lw_g (lw_at lw_m3 207 rfl) rfl
theorem q790 : (Jvm.Cond.privateMethod ({ cls := "BalloonStall$Hand", name := "ends", desc := "(I)I" } : Jvm.MethodName)) ∈ lw_tbl := lw_at lw_m3 208 rfl
theorem q791 : (Jvm.Cond.instanceMethod ({ cls := "BalloonStall$Hand", name := "ends", desc := "(I)I" } : Jvm.MethodName)) ∈ lw_all := lw_g (lw_at lw_m3 209 rfl) rfl
theorem q792 : (Jvm.Cond.code ({ cls := "BalloonStall$Hand", name := "ends", desc := "(I)I" } : Jvm.MethodName) prog_10_method_9_code (4 : Nat) (Option.some Jvm.ClassFile.FieldType.int)) ∈ lw_all := lw_g (lw_at lw_m3 210 rfl) rfl
theorem q793 : (Jvm.Cond.methodLink "BalloonStall$Hand" (41 : Nat) ({ cls := "java/lang/Math", name := "max", desc := "(II)I" } : Jvm.MethodName)) ∈ lw_all := lw_g (lw_at lw_m3 211 rfl) rfl
theorem q800 : (Jvm.Cond.instanceMethod ({ cls := "BalloonStall$Hand", name := "begins", desc := "(I)V" } : Jvm.MethodName)) ∈ lw_all := lw_g (lw_at lw_m3 218 rfl) rfl
theorem q801 : (Jvm.Cond.selects "BalloonStall$Hand" ({ cls := "BalloonStall$Hand", name := "begins", desc := "(I)V" } : Jvm.MethodName) ({ cls := "BalloonStall$Hand", name := "begins", desc := "(I)V" } : Jvm.MethodName)) ∈ lw_all := lw_g (lw_at lw_m3 219 rfl) rfl
theorem q802 : (Jvm.Cond.code ({ cls := "BalloonStall$Hand", name := "begins", desc := "(I)V" } : Jvm.MethodName) prog_10_method_5_code (2 : Nat) (Option.none : Option Jvm.ClassFile.FieldType)) ∈ lw_all := lw_g (lw_at lw_m3 220 rfl) rfl
theorem q808 : (Jvm.Cond.instanceMethod ({ cls := "BalloonStall$Hand", name := "joins", desc := "(II)V" } : Jvm.MethodName)) ∈ lw_all := lw_g (lw_at lw_m3 226 rfl) rfl
theorem q809 : (Jvm.Cond.selects "BalloonStall$Hand" ({ cls := "BalloonStall$Hand", name := "joins", desc := "(II)V" } : Jvm.MethodName) ({ cls := "BalloonStall$Hand", name := "joins", desc := "(II)V" } : Jvm.MethodName)) ∈ lw_all := lw_g (lw_at lw_m3 227 rfl) rfl
theorem q810 : (Jvm.Cond.code ({ cls := "BalloonStall$Hand", name := "joins", desc := "(II)V" } : Jvm.MethodName) prog_10_method_4_code (5 : Nat) (Option.none : Option Jvm.ClassFile.FieldType)) ∈ lw_all := lw_g (lw_at lw_m3 228 rfl) rfl
theorem q811 : (Jvm.Cond.methodLink "BalloonStall$Hand" (47 : Nat) ({ cls := "java/lang/Math", name := "min", desc := "(II)I" } : Jvm.MethodName)) ∈ lw_all := lw_g (lw_at lw_m3 229 rfl) rfl
theorem q829 : (Jvm.Cond.fieldLinkNest "BalloonStall$Hand" (78 : Nat) "BalloonStall$Figure" "from" "[I" "BalloonStall") ∈ lw_tbl := lw_at lw_m4 7 rfl
theorem q832 : (Jvm.Cond.fieldLinkNest "BalloonStall$Hand" (79 : Nat) "BalloonStall$Figure" "to" "[I" "BalloonStall") ∈ lw_tbl := lw_at lw_m4 10 rfl
theorem q835 : (Jvm.Cond.fieldLinkNest "BalloonStall$Hand" (77 : Nat) "BalloonStall$Figure" "lengths" "[I" "BalloonStall") ∈ lw_tbl := lw_at lw_m4 13 rfl
theorem q838 : (Jvm.Cond.fieldLinkNest "BalloonStall$Hand" (80 : Nat) "BalloonStall$Figure" "balloon" "[I" "BalloonStall") ∈ lw_tbl := lw_at lw_m4 16 rfl
theorem q841 : (Jvm.Cond.fieldLinkNest "BalloonStall$Hand" (64 : Nat) "BalloonStall$Figure" "sort" "[I" "BalloonStall") ∈ lw_tbl := lw_at lw_m4 19 rfl
theorem q846 : (Jvm.Cond.fieldLinkNest "BalloonStall$Hand" (74 : Nat) "BalloonStall$Figure" "bubbles" "I" "BalloonStall") ∈ lw_tbl := lw_at lw_m4 24 rfl
theorem q849 : (Jvm.Cond.fieldLinkNest "BalloonStall$Hand" (67 : Nat) "BalloonStall$Figure" "balloons" "I" "BalloonStall") ∈ lw_tbl := lw_at lw_m4 27 rfl
theorem q1011 : (Jvm.Cond.instanceMethod ({ cls := "BalloonStall$Hand", name := "takes", desc := "(LBalloonStall$Figure;I)V" } : Jvm.MethodName)) ∈ lw_all := lw_g (lw_at lw_m4 189 rfl) rfl
theorem q1012 : (Jvm.Cond.selects "BalloonStall$Hand" ({ cls := "BalloonStall$Hand", name := "takes", desc := "(LBalloonStall$Figure;I)V" } : Jvm.MethodName) ({ cls := "BalloonStall$Hand", name := "takes", desc := "(LBalloonStall$Figure;I)V" } : Jvm.MethodName)) ∈ lw_all := lw_g (lw_at lw_m4 190 rfl) rfl
theorem q1013 : (Jvm.Cond.code ({ cls := "BalloonStall$Hand", name := "takes", desc := "(LBalloonStall$Figure;I)V" } : Jvm.MethodName) prog_10_method_7_code (5 : Nat) (Option.none : Option Jvm.ClassFile.FieldType)) ∈ lw_all := lw_g (lw_at lw_m4 191 rfl) rfl
theorem q1014 : (Jvm.Cond.methodLink "BalloonStall$Hand" (68 : Nat) ({ cls := "java/lang/System", name := "arraycopy", desc := "(Ljava/lang/Object;ILjava/lang/Object;II)V" } : Jvm.MethodName)) ∈ lw_all := lw_g (lw_at lw_m4 192 rfl) rfl
theorem q1909 : (Jvm.Cond.castable "BalloonStall$Hand" "java/lang/Object") ∈ lw_tbl := lw_at lw_m8 127 rfl
theorem in_X23 : ∀ w ∈ wsX230, w ∈ lw_all := lw_in wsX230 [730, 732, 734, 736, 738, 740, 742, 744, 746, 748, 750, 752] (by decide +kernel) (by decide +kernel)
/-! BalloonStall$Figure -/
set_option maxRecDepth 100000
def RX24 : String := "BalloonStall$Figure"
def TX24 : u_T := fun k => match k with
  | 0 => ("BalloonStall$Figure", "from", "[I", true)
  | 1 => ("BalloonStall$Figure", "to", "[I", true)
  | 2 => ("BalloonStall$Figure", "lengths", "[I", true)
  | 3 => ("BalloonStall$Figure", "balloon", "[I", true)
  | 4 => ("BalloonStall$Figure", "sort", "[I", true)
  | 5 => ("BalloonStall$Figure", "ends", "[I", true)
  | 6 => ("BalloonStall$Figure", "bubbles", "I", true)
  | 7 => ("BalloonStall$Figure", "balloons", "I", true)
  | 8 => ("BalloonStall$Figure", "points", "I", true)
  | _ => ("BalloonStall$Figure", "hands", "I", true)
def tyX24 : Nat → FieldType := fun k => match k with
  | 0 => .array .int
  | 1 => .array .int
  | 2 => .array .int
  | 3 => .array .int
  | 4 => .array .int
  | 5 => .array .int
  | 6 => .int
  | 7 => .int
  | 8 => .int
  | _ => .int
abbrev wsX240 : List Cond := u_ws RX24 TX24 10
theorem nmX24 : ∀ a, a < 10 → ∀ b, b < 10 → a ≠ b → (TX24 a).2.1 ≠ (TX24 b).2.1 := by decide +kernel
theorem tyX24_ok : ∀ k, k < 10 → parseFieldDescriptor (TX24 k).2.2.1 = some (tyX24 k) := by decide +kernel
abbrev cX24_init : ByteArray := prog_6_method_1_code
def yX24_init : MethodName := ⟨RX24, "<init>", "(LBalloonStall$Hand;)V"⟩
def dkwX24_init_11 : List UInt8 := [16, 6, 184, 0, 60, 177]
abbrev dktX24_init_11 : List UInt8 := dkwX24_init_11 ++ []
def dkwX24_init_10 : List UInt8 := [21, 4, 46, 92, 46, 4, 96, 79, 132, 4, 1, 167, 255, 144, 43, 180, 0, 59, 3, 42, 180, 0, 24, 3]
abbrev dktX24_init_10 : List UInt8 := dkwX24_init_10 ++ dktX24_init_11
def dkwX24_init_9 : List UInt8 := [42, 180, 0, 27, 42, 180, 0, 9, 21, 4, 46, 92, 46, 4, 96, 79, 42, 180, 0, 27, 42, 180, 0, 15]
abbrev dktX24_init_9 : List UInt8 := dkwX24_init_9 ++ dktX24_init_10
def dkwX24_init_8 : List UInt8 := [21, 4, 43, 180, 0, 57, 21, 4, 46, 79, 42, 180, 0, 21, 21, 4, 43, 180, 0, 58, 21, 4, 46, 79]
abbrev dktX24_init_8 : List UInt8 := dkwX24_init_8 ++ dktX24_init_9
def dkwX24_init_7 : List UInt8 := [180, 0, 15, 21, 4, 44, 43, 43, 180, 0, 56, 21, 4, 46, 182, 0, 50, 46, 79, 42, 180, 0, 18]
abbrev dktX24_init_7 : List UInt8 := dkwX24_init_7 ++ dktX24_init_8
def dkwX24_init_6 : List UInt8 := [162, 0, 109, 42, 180, 0, 9, 21, 4, 44, 43, 43, 180, 0, 55, 21, 4, 46, 182, 0, 50, 46, 79, 42]
abbrev dktX24_init_6 : List UInt8 := dkwX24_init_6 ++ dktX24_init_7
def dkwX24_init_5 : List UInt8 := [132, 3, 1, 132, 4, 1, 167, 255, 222, 42, 29, 181, 0, 54, 3, 54, 4, 21, 4, 42, 180, 0, 36]
abbrev dktX24_init_5 : List UInt8 := dkwX24_init_5 ++ dktX24_init_6
def dkwX24_init_4 : List UInt8 := [162, 0, 31, 43, 21, 4, 182, 0, 50, 21, 4, 159, 0, 6, 167, 0, 11, 44, 21, 4, 29, 79]
abbrev dktX24_init_4 : List UInt8 := dkwX24_init_4 ++ dktX24_init_5
def dkwX24_init_3 : List UInt8 := [180, 0, 41, 181, 0, 44, 16, 32, 188, 10, 77, 3, 62, 3, 54, 4, 21, 4, 43, 180, 0, 47]
abbrev dktX24_init_3 : List UInt8 := dkwX24_init_3 ++ dktX24_init_4
def dkwX24_init_2 : List UInt8 := [188, 10, 181, 0, 27, 42, 43, 180, 0, 30, 181, 0, 36, 42, 43, 180, 0, 37, 181, 0, 40, 42, 43]
abbrev dktX24_init_2 : List UInt8 := dkwX24_init_2 ++ dktX24_init_3
def dkwX24_init_1 : List UInt8 := [188, 10, 181, 0, 18, 42, 16, 24, 188, 10, 181, 0, 21, 42, 16, 6, 188, 10, 181, 0, 24, 42, 16, 32]
abbrev dktX24_init_1 : List UInt8 := dkwX24_init_1 ++ dktX24_init_2
def dkwX24_init_0 : List UInt8 := [42, 183, 0, 3, 42, 16, 24, 188, 10, 181, 0, 9, 42, 16, 24, 188, 10, 181, 0, 15, 42, 16, 24]
abbrev dktX24_init_0 : List UInt8 := dkwX24_init_0 ++ dktX24_init_1
theorem dksX24_init_0 : cX24_init.data.toList.drop 0 = dktX24_init_0 := by decide +kernel
theorem dksX24_init_1 : cX24_init.data.toList.drop 23 = dktX24_init_1 := dk_seg dksX24_init_0 23 rfl rfl
theorem dksX24_init_2 : cX24_init.data.toList.drop 47 = dktX24_init_2 := dk_seg dksX24_init_1 24 rfl rfl
theorem dksX24_init_3 : cX24_init.data.toList.drop 70 = dktX24_init_3 := dk_seg dksX24_init_2 23 rfl rfl
theorem dksX24_init_4 : cX24_init.data.toList.drop 92 = dktX24_init_4 := dk_seg dksX24_init_3 22 rfl rfl
theorem dksX24_init_5 : cX24_init.data.toList.drop 114 = dktX24_init_5 := dk_seg dksX24_init_4 22 rfl rfl
theorem dksX24_init_6 : cX24_init.data.toList.drop 137 = dktX24_init_6 := dk_seg dksX24_init_5 23 rfl rfl
theorem dksX24_init_7 : cX24_init.data.toList.drop 161 = dktX24_init_7 := dk_seg dksX24_init_6 24 rfl rfl
theorem dksX24_init_8 : cX24_init.data.toList.drop 184 = dktX24_init_8 := dk_seg dksX24_init_7 23 rfl rfl
theorem dksX24_init_9 : cX24_init.data.toList.drop 208 = dktX24_init_9 := dk_seg dksX24_init_8 24 rfl rfl
theorem dksX24_init_10 : cX24_init.data.toList.drop 232 = dktX24_init_10 := dk_seg dksX24_init_9 24 rfl rfl
theorem dksX24_init_11 : cX24_init.data.toList.drop 256 = dktX24_init_11 := dk_seg dksX24_init_10 24 rfl rfl
theorem dX24_init_0 : decode cX24_init 0 = .ok (.aload_n 0, 1) := dk_42 (dk_at dksX24_init_0 0 rfl rfl)
theorem dX24_init_1 : decode cX24_init 1 = .ok (.invokespecial 3, 3) := dk_183 0 3 (dk_at dksX24_init_0 1 rfl rfl)
theorem dX24_init_4 : decode cX24_init 4 = .ok (.aload_n 0, 1) := dk_42 (dk_at dksX24_init_0 4 rfl rfl)
theorem dX24_init_5 : decode cX24_init 5 = .ok (.bipush 24, 2) := dk_16 24 (dk_at dksX24_init_0 5 rfl rfl)
theorem dX24_init_7 : decode cX24_init 7 = .ok (.newarray .int, 2) := dk_188_10 (dk_at dksX24_init_0 7 rfl rfl)
theorem dX24_init_9 : decode cX24_init 9 = .ok (.putfield 9, 3) := dk_181 0 9 (dk_at dksX24_init_0 9 rfl rfl)
theorem dX24_init_12 : decode cX24_init 12 = .ok (.aload_n 0, 1) := dk_42 (dk_at dksX24_init_0 12 rfl rfl)
theorem dX24_init_13 : decode cX24_init 13 = .ok (.bipush 24, 2) := dk_16 24 (dk_at dksX24_init_0 13 rfl rfl)
theorem dX24_init_15 : decode cX24_init 15 = .ok (.newarray .int, 2) := dk_188_10 (dk_at dksX24_init_0 15 rfl rfl)
theorem dX24_init_17 : decode cX24_init 17 = .ok (.putfield 15, 3) := dk_181 0 15 (dk_at dksX24_init_0 17 rfl rfl)
theorem dX24_init_20 : decode cX24_init 20 = .ok (.aload_n 0, 1) := dk_42 (dk_at dksX24_init_0 20 rfl rfl)
theorem dX24_init_21 : decode cX24_init 21 = .ok (.bipush 24, 2) := dk_16 24 (dk_at dksX24_init_0 21 rfl rfl)
theorem dX24_init_23 : decode cX24_init 23 = .ok (.newarray .int, 2) := dk_188_10 (dk_at dksX24_init_1 0 rfl rfl)
theorem dX24_init_25 : decode cX24_init 25 = .ok (.putfield 18, 3) := dk_181 0 18 (dk_at dksX24_init_1 2 rfl rfl)
theorem dX24_init_28 : decode cX24_init 28 = .ok (.aload_n 0, 1) := dk_42 (dk_at dksX24_init_1 5 rfl rfl)
theorem dX24_init_29 : decode cX24_init 29 = .ok (.bipush 24, 2) := dk_16 24 (dk_at dksX24_init_1 6 rfl rfl)
theorem dX24_init_31 : decode cX24_init 31 = .ok (.newarray .int, 2) := dk_188_10 (dk_at dksX24_init_1 8 rfl rfl)
theorem dX24_init_33 : decode cX24_init 33 = .ok (.putfield 21, 3) := dk_181 0 21 (dk_at dksX24_init_1 10 rfl rfl)
theorem dX24_init_36 : decode cX24_init 36 = .ok (.aload_n 0, 1) := dk_42 (dk_at dksX24_init_1 13 rfl rfl)
theorem dX24_init_37 : decode cX24_init 37 = .ok (.bipush 6, 2) := dk_16 6 (dk_at dksX24_init_1 14 rfl rfl)
theorem dX24_init_39 : decode cX24_init 39 = .ok (.newarray .int, 2) := dk_188_10 (dk_at dksX24_init_1 16 rfl rfl)
theorem dX24_init_41 : decode cX24_init 41 = .ok (.putfield 24, 3) := dk_181 0 24 (dk_at dksX24_init_1 18 rfl rfl)
theorem dX24_init_44 : decode cX24_init 44 = .ok (.aload_n 0, 1) := dk_42 (dk_at dksX24_init_1 21 rfl rfl)
theorem dX24_init_45 : decode cX24_init 45 = .ok (.bipush 32, 2) := dk_16 32 (dk_at dksX24_init_1 22 rfl rfl)
theorem dX24_init_47 : decode cX24_init 47 = .ok (.newarray .int, 2) := dk_188_10 (dk_at dksX24_init_2 0 rfl rfl)
theorem dX24_init_49 : decode cX24_init 49 = .ok (.putfield 27, 3) := dk_181 0 27 (dk_at dksX24_init_2 2 rfl rfl)
theorem dX24_init_52 : decode cX24_init 52 = .ok (.aload_n 0, 1) := dk_42 (dk_at dksX24_init_2 5 rfl rfl)
theorem dX24_init_53 : decode cX24_init 53 = .ok (.aload_n 1, 1) := dk_43 (dk_at dksX24_init_2 6 rfl rfl)
theorem dX24_init_54 : decode cX24_init 54 = .ok (.getfield 30, 3) := dk_180 0 30 (dk_at dksX24_init_2 7 rfl rfl)
theorem dX24_init_57 : decode cX24_init 57 = .ok (.putfield 36, 3) := dk_181 0 36 (dk_at dksX24_init_2 10 rfl rfl)
theorem dX24_init_60 : decode cX24_init 60 = .ok (.aload_n 0, 1) := dk_42 (dk_at dksX24_init_2 13 rfl rfl)
theorem dX24_init_61 : decode cX24_init 61 = .ok (.aload_n 1, 1) := dk_43 (dk_at dksX24_init_2 14 rfl rfl)
theorem dX24_init_62 : decode cX24_init 62 = .ok (.getfield 37, 3) := dk_180 0 37 (dk_at dksX24_init_2 15 rfl rfl)
theorem dX24_init_65 : decode cX24_init 65 = .ok (.putfield 40, 3) := dk_181 0 40 (dk_at dksX24_init_2 18 rfl rfl)
theorem dX24_init_68 : decode cX24_init 68 = .ok (.aload_n 0, 1) := dk_42 (dk_at dksX24_init_2 21 rfl rfl)
theorem dX24_init_69 : decode cX24_init 69 = .ok (.aload_n 1, 1) := dk_43 (dk_at dksX24_init_2 22 rfl rfl)
theorem dX24_init_70 : decode cX24_init 70 = .ok (.getfield 41, 3) := dk_180 0 41 (dk_at dksX24_init_3 0 rfl rfl)
theorem dX24_init_73 : decode cX24_init 73 = .ok (.putfield 44, 3) := dk_181 0 44 (dk_at dksX24_init_3 3 rfl rfl)
theorem dX24_init_76 : decode cX24_init 76 = .ok (.bipush 32, 2) := dk_16 32 (dk_at dksX24_init_3 6 rfl rfl)
theorem dX24_init_78 : decode cX24_init 78 = .ok (.newarray .int, 2) := dk_188_10 (dk_at dksX24_init_3 8 rfl rfl)
theorem dX24_init_80 : decode cX24_init 80 = .ok (.astore_n 2, 1) := dk_77 (dk_at dksX24_init_3 10 rfl rfl)
theorem dX24_init_81 : decode cX24_init 81 = .ok (.iconst 0, 1) := dk_3 (dk_at dksX24_init_3 11 rfl rfl)
theorem dX24_init_82 : decode cX24_init 82 = .ok (.istore_n 3, 1) := dk_62 (dk_at dksX24_init_3 12 rfl rfl)
theorem dX24_init_83 : decode cX24_init 83 = .ok (.iconst 0, 1) := dk_3 (dk_at dksX24_init_3 13 rfl rfl)
theorem dX24_init_84 : decode cX24_init 84 = .ok (.istore 4, 2) := dk_54 4 (dk_at dksX24_init_3 14 rfl rfl)
theorem dX24_init_86 : decode cX24_init 86 = .ok (.iload 4, 2) := dk_21 4 (dk_at dksX24_init_3 16 rfl rfl)
theorem dX24_init_88 : decode cX24_init 88 = .ok (.aload_n 1, 1) := dk_43 (dk_at dksX24_init_3 18 rfl rfl)
theorem dX24_init_89 : decode cX24_init 89 = .ok (.getfield 47, 3) := dk_180 0 47 (dk_at dksX24_init_3 19 rfl rfl)
theorem dX24_init_92 : decode cX24_init 92 = .ok (.if_icmp .ge 31, 3) := dk_162 0 31 (dk_at dksX24_init_4 0 rfl rfl)
theorem dX24_init_95 : decode cX24_init 95 = .ok (.aload_n 1, 1) := dk_43 (dk_at dksX24_init_4 3 rfl rfl)
theorem dX24_init_96 : decode cX24_init 96 = .ok (.iload 4, 2) := dk_21 4 (dk_at dksX24_init_4 4 rfl rfl)
theorem dX24_init_98 : decode cX24_init 98 = .ok (.invokevirtual 50, 3) := dk_182 0 50 (dk_at dksX24_init_4 6 rfl rfl)
theorem dX24_init_101 : decode cX24_init 101 = .ok (.iload 4, 2) := dk_21 4 (dk_at dksX24_init_4 9 rfl rfl)
theorem dX24_init_103 : decode cX24_init 103 = .ok (.if_icmp .eq 6, 3) := dk_159 0 6 (dk_at dksX24_init_4 11 rfl rfl)
theorem dX24_init_106 : decode cX24_init 106 = .ok (.goto 11, 3) := dk_167 0 11 (dk_at dksX24_init_4 14 rfl rfl)
theorem dX24_init_109 : decode cX24_init 109 = .ok (.aload_n 2, 1) := dk_44 (dk_at dksX24_init_4 17 rfl rfl)
theorem dX24_init_110 : decode cX24_init 110 = .ok (.iload 4, 2) := dk_21 4 (dk_at dksX24_init_4 18 rfl rfl)
theorem dX24_init_112 : decode cX24_init 112 = .ok (.iload_n 3, 1) := dk_29 (dk_at dksX24_init_4 20 rfl rfl)
theorem dX24_init_113 : decode cX24_init 113 = .ok (.iastore, 1) := dk_79 (dk_at dksX24_init_4 21 rfl rfl)
theorem dX24_init_114 : decode cX24_init 114 = .ok (.iinc 3 1, 3) := dk_132 3 1 (dk_at dksX24_init_5 0 rfl rfl)
theorem dX24_init_117 : decode cX24_init 117 = .ok (.iinc 4 1, 3) := dk_132 4 1 (dk_at dksX24_init_5 3 rfl rfl)
theorem dX24_init_120 : decode cX24_init 120 = .ok (.goto (-34), 3) := dk_167 255 222 (dk_at dksX24_init_5 6 rfl rfl)
theorem dX24_init_123 : decode cX24_init 123 = .ok (.aload_n 0, 1) := dk_42 (dk_at dksX24_init_5 9 rfl rfl)
theorem dX24_init_124 : decode cX24_init 124 = .ok (.iload_n 3, 1) := dk_29 (dk_at dksX24_init_5 10 rfl rfl)
theorem dX24_init_125 : decode cX24_init 125 = .ok (.putfield 54, 3) := dk_181 0 54 (dk_at dksX24_init_5 11 rfl rfl)
theorem dX24_init_128 : decode cX24_init 128 = .ok (.iconst 0, 1) := dk_3 (dk_at dksX24_init_5 14 rfl rfl)
theorem dX24_init_129 : decode cX24_init 129 = .ok (.istore 4, 2) := dk_54 4 (dk_at dksX24_init_5 15 rfl rfl)
theorem dX24_init_131 : decode cX24_init 131 = .ok (.iload 4, 2) := dk_21 4 (dk_at dksX24_init_5 17 rfl rfl)
theorem dX24_init_133 : decode cX24_init 133 = .ok (.aload_n 0, 1) := dk_42 (dk_at dksX24_init_5 19 rfl rfl)
theorem dX24_init_134 : decode cX24_init 134 = .ok (.getfield 36, 3) := dk_180 0 36 (dk_at dksX24_init_5 20 rfl rfl)
theorem dX24_init_137 : decode cX24_init 137 = .ok (.if_icmp .ge 109, 3) := dk_162 0 109 (dk_at dksX24_init_6 0 rfl rfl)
theorem dX24_init_140 : decode cX24_init 140 = .ok (.aload_n 0, 1) := dk_42 (dk_at dksX24_init_6 3 rfl rfl)
theorem dX24_init_141 : decode cX24_init 141 = .ok (.getfield 9, 3) := dk_180 0 9 (dk_at dksX24_init_6 4 rfl rfl)
theorem dX24_init_144 : decode cX24_init 144 = .ok (.iload 4, 2) := dk_21 4 (dk_at dksX24_init_6 7 rfl rfl)
theorem dX24_init_146 : decode cX24_init 146 = .ok (.aload_n 2, 1) := dk_44 (dk_at dksX24_init_6 9 rfl rfl)
theorem dX24_init_147 : decode cX24_init 147 = .ok (.aload_n 1, 1) := dk_43 (dk_at dksX24_init_6 10 rfl rfl)
theorem dX24_init_148 : decode cX24_init 148 = .ok (.aload_n 1, 1) := dk_43 (dk_at dksX24_init_6 11 rfl rfl)
theorem dX24_init_149 : decode cX24_init 149 = .ok (.getfield 55, 3) := dk_180 0 55 (dk_at dksX24_init_6 12 rfl rfl)
theorem dX24_init_152 : decode cX24_init 152 = .ok (.iload 4, 2) := dk_21 4 (dk_at dksX24_init_6 15 rfl rfl)
theorem dX24_init_154 : decode cX24_init 154 = .ok (.iaload, 1) := dk_46 (dk_at dksX24_init_6 17 rfl rfl)
theorem dX24_init_155 : decode cX24_init 155 = .ok (.invokevirtual 50, 3) := dk_182 0 50 (dk_at dksX24_init_6 18 rfl rfl)
theorem dX24_init_158 : decode cX24_init 158 = .ok (.iaload, 1) := dk_46 (dk_at dksX24_init_6 21 rfl rfl)
theorem dX24_init_159 : decode cX24_init 159 = .ok (.iastore, 1) := dk_79 (dk_at dksX24_init_6 22 rfl rfl)
theorem dX24_init_160 : decode cX24_init 160 = .ok (.aload_n 0, 1) := dk_42 (dk_at dksX24_init_6 23 rfl rfl)
theorem dX24_init_161 : decode cX24_init 161 = .ok (.getfield 15, 3) := dk_180 0 15 (dk_at dksX24_init_7 0 rfl rfl)
theorem dX24_init_164 : decode cX24_init 164 = .ok (.iload 4, 2) := dk_21 4 (dk_at dksX24_init_7 3 rfl rfl)
theorem dX24_init_166 : decode cX24_init 166 = .ok (.aload_n 2, 1) := dk_44 (dk_at dksX24_init_7 5 rfl rfl)
theorem dX24_init_167 : decode cX24_init 167 = .ok (.aload_n 1, 1) := dk_43 (dk_at dksX24_init_7 6 rfl rfl)
theorem dX24_init_168 : decode cX24_init 168 = .ok (.aload_n 1, 1) := dk_43 (dk_at dksX24_init_7 7 rfl rfl)
theorem dX24_init_169 : decode cX24_init 169 = .ok (.getfield 56, 3) := dk_180 0 56 (dk_at dksX24_init_7 8 rfl rfl)
theorem dX24_init_172 : decode cX24_init 172 = .ok (.iload 4, 2) := dk_21 4 (dk_at dksX24_init_7 11 rfl rfl)
theorem dX24_init_174 : decode cX24_init 174 = .ok (.iaload, 1) := dk_46 (dk_at dksX24_init_7 13 rfl rfl)
theorem dX24_init_175 : decode cX24_init 175 = .ok (.invokevirtual 50, 3) := dk_182 0 50 (dk_at dksX24_init_7 14 rfl rfl)
theorem dX24_init_178 : decode cX24_init 178 = .ok (.iaload, 1) := dk_46 (dk_at dksX24_init_7 17 rfl rfl)
theorem dX24_init_179 : decode cX24_init 179 = .ok (.iastore, 1) := dk_79 (dk_at dksX24_init_7 18 rfl rfl)
theorem dX24_init_180 : decode cX24_init 180 = .ok (.aload_n 0, 1) := dk_42 (dk_at dksX24_init_7 19 rfl rfl)
theorem dX24_init_181 : decode cX24_init 181 = .ok (.getfield 18, 3) := dk_180 0 18 (dk_at dksX24_init_7 20 rfl rfl)
theorem dX24_init_184 : decode cX24_init 184 = .ok (.iload 4, 2) := dk_21 4 (dk_at dksX24_init_8 0 rfl rfl)
theorem dX24_init_186 : decode cX24_init 186 = .ok (.aload_n 1, 1) := dk_43 (dk_at dksX24_init_8 2 rfl rfl)
theorem dX24_init_187 : decode cX24_init 187 = .ok (.getfield 57, 3) := dk_180 0 57 (dk_at dksX24_init_8 3 rfl rfl)
theorem dX24_init_190 : decode cX24_init 190 = .ok (.iload 4, 2) := dk_21 4 (dk_at dksX24_init_8 6 rfl rfl)
theorem dX24_init_192 : decode cX24_init 192 = .ok (.iaload, 1) := dk_46 (dk_at dksX24_init_8 8 rfl rfl)
theorem dX24_init_193 : decode cX24_init 193 = .ok (.iastore, 1) := dk_79 (dk_at dksX24_init_8 9 rfl rfl)
theorem dX24_init_194 : decode cX24_init 194 = .ok (.aload_n 0, 1) := dk_42 (dk_at dksX24_init_8 10 rfl rfl)
theorem dX24_init_195 : decode cX24_init 195 = .ok (.getfield 21, 3) := dk_180 0 21 (dk_at dksX24_init_8 11 rfl rfl)
theorem dX24_init_198 : decode cX24_init 198 = .ok (.iload 4, 2) := dk_21 4 (dk_at dksX24_init_8 14 rfl rfl)
theorem dX24_init_200 : decode cX24_init 200 = .ok (.aload_n 1, 1) := dk_43 (dk_at dksX24_init_8 16 rfl rfl)
theorem dX24_init_201 : decode cX24_init 201 = .ok (.getfield 58, 3) := dk_180 0 58 (dk_at dksX24_init_8 17 rfl rfl)
theorem dX24_init_204 : decode cX24_init 204 = .ok (.iload 4, 2) := dk_21 4 (dk_at dksX24_init_8 20 rfl rfl)
theorem dX24_init_206 : decode cX24_init 206 = .ok (.iaload, 1) := dk_46 (dk_at dksX24_init_8 22 rfl rfl)
theorem dX24_init_207 : decode cX24_init 207 = .ok (.iastore, 1) := dk_79 (dk_at dksX24_init_8 23 rfl rfl)
theorem dX24_init_208 : decode cX24_init 208 = .ok (.aload_n 0, 1) := dk_42 (dk_at dksX24_init_9 0 rfl rfl)
theorem dX24_init_209 : decode cX24_init 209 = .ok (.getfield 27, 3) := dk_180 0 27 (dk_at dksX24_init_9 1 rfl rfl)
theorem dX24_init_212 : decode cX24_init 212 = .ok (.aload_n 0, 1) := dk_42 (dk_at dksX24_init_9 4 rfl rfl)
theorem dX24_init_213 : decode cX24_init 213 = .ok (.getfield 9, 3) := dk_180 0 9 (dk_at dksX24_init_9 5 rfl rfl)
theorem dX24_init_216 : decode cX24_init 216 = .ok (.iload 4, 2) := dk_21 4 (dk_at dksX24_init_9 8 rfl rfl)
theorem dX24_init_218 : decode cX24_init 218 = .ok (.iaload, 1) := dk_46 (dk_at dksX24_init_9 10 rfl rfl)
theorem dX24_init_219 : decode cX24_init 219 = .ok (.dup2, 1) := dk_92 (dk_at dksX24_init_9 11 rfl rfl)
theorem dX24_init_220 : decode cX24_init 220 = .ok (.iaload, 1) := dk_46 (dk_at dksX24_init_9 12 rfl rfl)
theorem dX24_init_221 : decode cX24_init 221 = .ok (.iconst 1, 1) := dk_4 (dk_at dksX24_init_9 13 rfl rfl)
theorem dX24_init_222 : decode cX24_init 222 = .ok (.iadd, 1) := dk_96 (dk_at dksX24_init_9 14 rfl rfl)
theorem dX24_init_223 : decode cX24_init 223 = .ok (.iastore, 1) := dk_79 (dk_at dksX24_init_9 15 rfl rfl)
theorem dX24_init_224 : decode cX24_init 224 = .ok (.aload_n 0, 1) := dk_42 (dk_at dksX24_init_9 16 rfl rfl)
theorem dX24_init_225 : decode cX24_init 225 = .ok (.getfield 27, 3) := dk_180 0 27 (dk_at dksX24_init_9 17 rfl rfl)
theorem dX24_init_228 : decode cX24_init 228 = .ok (.aload_n 0, 1) := dk_42 (dk_at dksX24_init_9 20 rfl rfl)
theorem dX24_init_229 : decode cX24_init 229 = .ok (.getfield 15, 3) := dk_180 0 15 (dk_at dksX24_init_9 21 rfl rfl)
theorem dX24_init_232 : decode cX24_init 232 = .ok (.iload 4, 2) := dk_21 4 (dk_at dksX24_init_10 0 rfl rfl)
theorem dX24_init_234 : decode cX24_init 234 = .ok (.iaload, 1) := dk_46 (dk_at dksX24_init_10 2 rfl rfl)
theorem dX24_init_235 : decode cX24_init 235 = .ok (.dup2, 1) := dk_92 (dk_at dksX24_init_10 3 rfl rfl)
theorem dX24_init_236 : decode cX24_init 236 = .ok (.iaload, 1) := dk_46 (dk_at dksX24_init_10 4 rfl rfl)
theorem dX24_init_237 : decode cX24_init 237 = .ok (.iconst 1, 1) := dk_4 (dk_at dksX24_init_10 5 rfl rfl)
theorem dX24_init_238 : decode cX24_init 238 = .ok (.iadd, 1) := dk_96 (dk_at dksX24_init_10 6 rfl rfl)
theorem dX24_init_239 : decode cX24_init 239 = .ok (.iastore, 1) := dk_79 (dk_at dksX24_init_10 7 rfl rfl)
theorem dX24_init_240 : decode cX24_init 240 = .ok (.iinc 4 1, 3) := dk_132 4 1 (dk_at dksX24_init_10 8 rfl rfl)
theorem dX24_init_243 : decode cX24_init 243 = .ok (.goto (-112), 3) := dk_167 255 144 (dk_at dksX24_init_10 11 rfl rfl)
theorem dX24_init_246 : decode cX24_init 246 = .ok (.aload_n 1, 1) := dk_43 (dk_at dksX24_init_10 14 rfl rfl)
theorem dX24_init_247 : decode cX24_init 247 = .ok (.getfield 59, 3) := dk_180 0 59 (dk_at dksX24_init_10 15 rfl rfl)
theorem dX24_init_250 : decode cX24_init 250 = .ok (.iconst 0, 1) := dk_3 (dk_at dksX24_init_10 18 rfl rfl)
theorem dX24_init_251 : decode cX24_init 251 = .ok (.aload_n 0, 1) := dk_42 (dk_at dksX24_init_10 19 rfl rfl)
theorem dX24_init_252 : decode cX24_init 252 = .ok (.getfield 24, 3) := dk_180 0 24 (dk_at dksX24_init_10 20 rfl rfl)
theorem dX24_init_255 : decode cX24_init 255 = .ok (.iconst 0, 1) := dk_3 (dk_at dksX24_init_10 23 rfl rfl)
theorem dX24_init_256 : decode cX24_init 256 = .ok (.bipush 6, 2) := dk_16 6 (dk_at dksX24_init_11 0 rfl rfl)
theorem dX24_init_258 : decode cX24_init 258 = .ok (.invokestatic 60, 3) := dk_184 0 60 (dk_at dksX24_init_11 2 rfl rfl)
theorem dX24_init_261 : decode cX24_init 261 = .ok (.return_, 1) := dk_177 (dk_at dksX24_init_11 5 rfl rfl)
abbrev cX24_twists : ByteArray := prog_6_method_4_code
def yX24_twists : MethodName := ⟨RX24, "twists", "()I"⟩
def dkwX24_twists_1 : List UInt8 := [167, 0, 4, 3, 96, 60, 132, 2, 1, 167, 255, 229, 27, 172]
abbrev dktX24_twists_1 : List UInt8 := dkwX24_twists_1 ++ []
def dkwX24_twists_0 : List UInt8 := [3, 60, 3, 61, 28, 42, 180, 0, 36, 162, 0, 25, 27, 42, 28, 182, 0, 66, 153, 0, 7, 4]
abbrev dktX24_twists_0 : List UInt8 := dkwX24_twists_0 ++ dktX24_twists_1
theorem dksX24_twists_0 : cX24_twists.data.toList.drop 0 = dktX24_twists_0 := by decide +kernel
theorem dksX24_twists_1 : cX24_twists.data.toList.drop 22 = dktX24_twists_1 := dk_seg dksX24_twists_0 22 rfl rfl
theorem dX24_twists_0 : decode cX24_twists 0 = .ok (.iconst 0, 1) := dk_3 (dk_at dksX24_twists_0 0 rfl rfl)
theorem dX24_twists_1 : decode cX24_twists 1 = .ok (.istore_n 1, 1) := dk_60 (dk_at dksX24_twists_0 1 rfl rfl)
theorem dX24_twists_2 : decode cX24_twists 2 = .ok (.iconst 0, 1) := dk_3 (dk_at dksX24_twists_0 2 rfl rfl)
theorem dX24_twists_3 : decode cX24_twists 3 = .ok (.istore_n 2, 1) := dk_61 (dk_at dksX24_twists_0 3 rfl rfl)
theorem dX24_twists_4 : decode cX24_twists 4 = .ok (.iload_n 2, 1) := dk_28 (dk_at dksX24_twists_0 4 rfl rfl)
theorem dX24_twists_5 : decode cX24_twists 5 = .ok (.aload_n 0, 1) := dk_42 (dk_at dksX24_twists_0 5 rfl rfl)
theorem dX24_twists_6 : decode cX24_twists 6 = .ok (.getfield 36, 3) := dk_180 0 36 (dk_at dksX24_twists_0 6 rfl rfl)
theorem dX24_twists_9 : decode cX24_twists 9 = .ok (.if_icmp .ge 25, 3) := dk_162 0 25 (dk_at dksX24_twists_0 9 rfl rfl)
theorem dX24_twists_12 : decode cX24_twists 12 = .ok (.iload_n 1, 1) := dk_27 (dk_at dksX24_twists_0 12 rfl rfl)
theorem dX24_twists_13 : decode cX24_twists 13 = .ok (.aload_n 0, 1) := dk_42 (dk_at dksX24_twists_0 13 rfl rfl)
theorem dX24_twists_14 : decode cX24_twists 14 = .ok (.iload_n 2, 1) := dk_28 (dk_at dksX24_twists_0 14 rfl rfl)
theorem dX24_twists_15 : decode cX24_twists 15 = .ok (.invokevirtual 66, 3) := dk_182 0 66 (dk_at dksX24_twists_0 15 rfl rfl)
theorem dX24_twists_18 : decode cX24_twists 18 = .ok (.ifCond .eq 7, 3) := dk_153 0 7 (dk_at dksX24_twists_0 18 rfl rfl)
theorem dX24_twists_21 : decode cX24_twists 21 = .ok (.iconst 1, 1) := dk_4 (dk_at dksX24_twists_0 21 rfl rfl)
theorem dX24_twists_22 : decode cX24_twists 22 = .ok (.goto 4, 3) := dk_167 0 4 (dk_at dksX24_twists_1 0 rfl rfl)
theorem dX24_twists_25 : decode cX24_twists 25 = .ok (.iconst 0, 1) := dk_3 (dk_at dksX24_twists_1 3 rfl rfl)
theorem dX24_twists_26 : decode cX24_twists 26 = .ok (.iadd, 1) := dk_96 (dk_at dksX24_twists_1 4 rfl rfl)
theorem dX24_twists_27 : decode cX24_twists 27 = .ok (.istore_n 1, 1) := dk_60 (dk_at dksX24_twists_1 5 rfl rfl)
theorem dX24_twists_28 : decode cX24_twists 28 = .ok (.iinc 2 1, 3) := dk_132 2 1 (dk_at dksX24_twists_1 6 rfl rfl)
theorem dX24_twists_31 : decode cX24_twists 31 = .ok (.goto (-27), 3) := dk_167 255 229 (dk_at dksX24_twists_1 9 rfl rfl)
theorem dX24_twists_34 : decode cX24_twists 34 = .ok (.iload_n 1, 1) := dk_27 (dk_at dksX24_twists_1 12 rfl rfl)
theorem dX24_twists_35 : decode cX24_twists 35 = .ok (.ireturn, 1) := dk_172 (dk_at dksX24_twists_1 13 rfl rfl)
abbrev cX24_isTwist : ByteArray := prog_6_method_2_code
def yX24_isTwist : MethodName := ⟨RX24, "isTwist", "(I)Z"⟩
def dkwX24_isTwist_1 : List UInt8 := [160, 0, 7, 4, 167, 0, 4, 3, 172]
abbrev dktX24_isTwist_1 : List UInt8 := dkwX24_isTwist_1 ++ []
def dkwX24_isTwist_0 : List UInt8 := [27, 4, 96, 42, 180, 0, 36, 162, 0, 24, 42, 180, 0, 21, 27, 46, 42, 180, 0, 21, 27, 4, 96, 46]
abbrev dktX24_isTwist_0 : List UInt8 := dkwX24_isTwist_0 ++ dktX24_isTwist_1
theorem dksX24_isTwist_0 : cX24_isTwist.data.toList.drop 0 = dktX24_isTwist_0 := by decide +kernel
theorem dksX24_isTwist_1 : cX24_isTwist.data.toList.drop 24 = dktX24_isTwist_1 := dk_seg dksX24_isTwist_0 24 rfl rfl
theorem dX24_isTwist_0 : decode cX24_isTwist 0 = .ok (.iload_n 1, 1) := dk_27 (dk_at dksX24_isTwist_0 0 rfl rfl)
theorem dX24_isTwist_1 : decode cX24_isTwist 1 = .ok (.iconst 1, 1) := dk_4 (dk_at dksX24_isTwist_0 1 rfl rfl)
theorem dX24_isTwist_2 : decode cX24_isTwist 2 = .ok (.iadd, 1) := dk_96 (dk_at dksX24_isTwist_0 2 rfl rfl)
theorem dX24_isTwist_3 : decode cX24_isTwist 3 = .ok (.aload_n 0, 1) := dk_42 (dk_at dksX24_isTwist_0 3 rfl rfl)
theorem dX24_isTwist_4 : decode cX24_isTwist 4 = .ok (.getfield 36, 3) := dk_180 0 36 (dk_at dksX24_isTwist_0 4 rfl rfl)
theorem dX24_isTwist_7 : decode cX24_isTwist 7 = .ok (.if_icmp .ge 24, 3) := dk_162 0 24 (dk_at dksX24_isTwist_0 7 rfl rfl)
theorem dX24_isTwist_10 : decode cX24_isTwist 10 = .ok (.aload_n 0, 1) := dk_42 (dk_at dksX24_isTwist_0 10 rfl rfl)
theorem dX24_isTwist_11 : decode cX24_isTwist 11 = .ok (.getfield 21, 3) := dk_180 0 21 (dk_at dksX24_isTwist_0 11 rfl rfl)
theorem dX24_isTwist_14 : decode cX24_isTwist 14 = .ok (.iload_n 1, 1) := dk_27 (dk_at dksX24_isTwist_0 14 rfl rfl)
theorem dX24_isTwist_15 : decode cX24_isTwist 15 = .ok (.iaload, 1) := dk_46 (dk_at dksX24_isTwist_0 15 rfl rfl)
theorem dX24_isTwist_16 : decode cX24_isTwist 16 = .ok (.aload_n 0, 1) := dk_42 (dk_at dksX24_isTwist_0 16 rfl rfl)
theorem dX24_isTwist_17 : decode cX24_isTwist 17 = .ok (.getfield 21, 3) := dk_180 0 21 (dk_at dksX24_isTwist_0 17 rfl rfl)
theorem dX24_isTwist_20 : decode cX24_isTwist 20 = .ok (.iload_n 1, 1) := dk_27 (dk_at dksX24_isTwist_0 20 rfl rfl)
theorem dX24_isTwist_21 : decode cX24_isTwist 21 = .ok (.iconst 1, 1) := dk_4 (dk_at dksX24_isTwist_0 21 rfl rfl)
theorem dX24_isTwist_22 : decode cX24_isTwist 22 = .ok (.iadd, 1) := dk_96 (dk_at dksX24_isTwist_0 22 rfl rfl)
theorem dX24_isTwist_23 : decode cX24_isTwist 23 = .ok (.iaload, 1) := dk_46 (dk_at dksX24_isTwist_0 23 rfl rfl)
theorem dX24_isTwist_24 : decode cX24_isTwist 24 = .ok (.if_icmp .ne 7, 3) := dk_160 0 7 (dk_at dksX24_isTwist_1 0 rfl rfl)
theorem dX24_isTwist_27 : decode cX24_isTwist 27 = .ok (.iconst 1, 1) := dk_4 (dk_at dksX24_isTwist_1 3 rfl rfl)
theorem dX24_isTwist_28 : decode cX24_isTwist 28 = .ok (.goto 4, 3) := dk_167 0 4 (dk_at dksX24_isTwist_1 4 rfl rfl)
theorem dX24_isTwist_31 : decode cX24_isTwist 31 = .ok (.iconst 0, 1) := dk_3 (dk_at dksX24_isTwist_1 7 rfl rfl)
theorem dX24_isTwist_32 : decode cX24_isTwist 32 = .ok (.ireturn, 1) := dk_172 (dk_at dksX24_isTwist_1 8 rfl rfl)
abbrev cX24_slack : ByteArray := prog_6_method_5_code
def yX24_slack : MethodName := ⟨RX24, "slack", "()I"⟩
def dkwX24_slack_1 : List UInt8 := [182, 0, 70, 154, 0, 7, 4, 167, 0, 4, 3, 96, 60, 132, 2, 1, 167, 255, 221, 27, 172]
abbrev dktX24_slack_1 : List UInt8 := dkwX24_slack_1 ++ []
def dkwX24_slack_0 : List UInt8 := [3, 60, 3, 61, 28, 42, 180, 0, 36, 162, 0, 33, 27, 42, 28, 182, 0, 66, 153, 0, 15, 42, 28]
abbrev dktX24_slack_0 : List UInt8 := dkwX24_slack_0 ++ dktX24_slack_1
theorem dksX24_slack_0 : cX24_slack.data.toList.drop 0 = dktX24_slack_0 := by decide +kernel
theorem dksX24_slack_1 : cX24_slack.data.toList.drop 23 = dktX24_slack_1 := dk_seg dksX24_slack_0 23 rfl rfl
theorem dX24_slack_0 : decode cX24_slack 0 = .ok (.iconst 0, 1) := dk_3 (dk_at dksX24_slack_0 0 rfl rfl)
theorem dX24_slack_1 : decode cX24_slack 1 = .ok (.istore_n 1, 1) := dk_60 (dk_at dksX24_slack_0 1 rfl rfl)
theorem dX24_slack_2 : decode cX24_slack 2 = .ok (.iconst 0, 1) := dk_3 (dk_at dksX24_slack_0 2 rfl rfl)
theorem dX24_slack_3 : decode cX24_slack 3 = .ok (.istore_n 2, 1) := dk_61 (dk_at dksX24_slack_0 3 rfl rfl)
theorem dX24_slack_4 : decode cX24_slack 4 = .ok (.iload_n 2, 1) := dk_28 (dk_at dksX24_slack_0 4 rfl rfl)
theorem dX24_slack_5 : decode cX24_slack 5 = .ok (.aload_n 0, 1) := dk_42 (dk_at dksX24_slack_0 5 rfl rfl)
theorem dX24_slack_6 : decode cX24_slack 6 = .ok (.getfield 36, 3) := dk_180 0 36 (dk_at dksX24_slack_0 6 rfl rfl)
theorem dX24_slack_9 : decode cX24_slack 9 = .ok (.if_icmp .ge 33, 3) := dk_162 0 33 (dk_at dksX24_slack_0 9 rfl rfl)
theorem dX24_slack_12 : decode cX24_slack 12 = .ok (.iload_n 1, 1) := dk_27 (dk_at dksX24_slack_0 12 rfl rfl)
theorem dX24_slack_13 : decode cX24_slack 13 = .ok (.aload_n 0, 1) := dk_42 (dk_at dksX24_slack_0 13 rfl rfl)
theorem dX24_slack_14 : decode cX24_slack 14 = .ok (.iload_n 2, 1) := dk_28 (dk_at dksX24_slack_0 14 rfl rfl)
theorem dX24_slack_15 : decode cX24_slack 15 = .ok (.invokevirtual 66, 3) := dk_182 0 66 (dk_at dksX24_slack_0 15 rfl rfl)
theorem dX24_slack_18 : decode cX24_slack 18 = .ok (.ifCond .eq 15, 3) := dk_153 0 15 (dk_at dksX24_slack_0 18 rfl rfl)
theorem dX24_slack_21 : decode cX24_slack 21 = .ok (.aload_n 0, 1) := dk_42 (dk_at dksX24_slack_0 21 rfl rfl)
theorem dX24_slack_22 : decode cX24_slack 22 = .ok (.iload_n 2, 1) := dk_28 (dk_at dksX24_slack_0 22 rfl rfl)
theorem dX24_slack_23 : decode cX24_slack 23 = .ok (.invokevirtual 70, 3) := dk_182 0 70 (dk_at dksX24_slack_1 0 rfl rfl)
theorem dX24_slack_26 : decode cX24_slack 26 = .ok (.ifCond .ne 7, 3) := dk_154 0 7 (dk_at dksX24_slack_1 3 rfl rfl)
theorem dX24_slack_29 : decode cX24_slack 29 = .ok (.iconst 1, 1) := dk_4 (dk_at dksX24_slack_1 6 rfl rfl)
theorem dX24_slack_30 : decode cX24_slack 30 = .ok (.goto 4, 3) := dk_167 0 4 (dk_at dksX24_slack_1 7 rfl rfl)
theorem dX24_slack_33 : decode cX24_slack 33 = .ok (.iconst 0, 1) := dk_3 (dk_at dksX24_slack_1 10 rfl rfl)
theorem dX24_slack_34 : decode cX24_slack 34 = .ok (.iadd, 1) := dk_96 (dk_at dksX24_slack_1 11 rfl rfl)
theorem dX24_slack_35 : decode cX24_slack 35 = .ok (.istore_n 1, 1) := dk_60 (dk_at dksX24_slack_1 12 rfl rfl)
theorem dX24_slack_36 : decode cX24_slack 36 = .ok (.iinc 2 1, 3) := dk_132 2 1 (dk_at dksX24_slack_1 13 rfl rfl)
theorem dX24_slack_39 : decode cX24_slack 39 = .ok (.goto (-35), 3) := dk_167 255 221 (dk_at dksX24_slack_1 16 rfl rfl)
theorem dX24_slack_42 : decode cX24_slack 42 = .ok (.iload_n 1, 1) := dk_27 (dk_at dksX24_slack_1 19 rfl rfl)
theorem dX24_slack_43 : decode cX24_slack 43 = .ok (.ireturn, 1) := dk_172 (dk_at dksX24_slack_1 20 rfl rfl)
abbrev cX24_holds : ByteArray := prog_6_method_3_code
def yX24_holds : MethodName := ⟨RX24, "holds", "(I)Z"⟩
def dkwX24_holds_0 : List UInt8 := [42, 180, 0, 27, 42, 180, 0, 15, 27, 46, 46, 5, 164, 0, 7, 4, 167, 0, 4, 3, 172]
abbrev dktX24_holds_0 : List UInt8 := dkwX24_holds_0 ++ []
theorem dksX24_holds_0 : cX24_holds.data.toList.drop 0 = dktX24_holds_0 := by decide +kernel
theorem dX24_holds_0 : decode cX24_holds 0 = .ok (.aload_n 0, 1) := dk_42 (dk_at dksX24_holds_0 0 rfl rfl)
theorem dX24_holds_1 : decode cX24_holds 1 = .ok (.getfield 27, 3) := dk_180 0 27 (dk_at dksX24_holds_0 1 rfl rfl)
theorem dX24_holds_4 : decode cX24_holds 4 = .ok (.aload_n 0, 1) := dk_42 (dk_at dksX24_holds_0 4 rfl rfl)
theorem dX24_holds_5 : decode cX24_holds 5 = .ok (.getfield 15, 3) := dk_180 0 15 (dk_at dksX24_holds_0 5 rfl rfl)
theorem dX24_holds_8 : decode cX24_holds 8 = .ok (.iload_n 1, 1) := dk_27 (dk_at dksX24_holds_0 8 rfl rfl)
theorem dX24_holds_9 : decode cX24_holds 9 = .ok (.iaload, 1) := dk_46 (dk_at dksX24_holds_0 9 rfl rfl)
theorem dX24_holds_10 : decode cX24_holds 10 = .ok (.iaload, 1) := dk_46 (dk_at dksX24_holds_0 10 rfl rfl)
theorem dX24_holds_11 : decode cX24_holds 11 = .ok (.iconst 2, 1) := dk_5 (dk_at dksX24_holds_0 11 rfl rfl)
theorem dX24_holds_12 : decode cX24_holds 12 = .ok (.if_icmp .le 7, 3) := dk_164 0 7 (dk_at dksX24_holds_0 12 rfl rfl)
theorem dX24_holds_15 : decode cX24_holds 15 = .ok (.iconst 1, 1) := dk_4 (dk_at dksX24_holds_0 15 rfl rfl)
theorem dX24_holds_16 : decode cX24_holds 16 = .ok (.goto 4, 3) := dk_167 0 4 (dk_at dksX24_holds_0 16 rfl rfl)
theorem dX24_holds_19 : decode cX24_holds 19 = .ok (.iconst 0, 1) := dk_3 (dk_at dksX24_holds_0 19 rfl rfl)
theorem dX24_holds_20 : decode cX24_holds 20 = .ok (.ireturn, 1) := dk_172 (dk_at dksX24_holds_0 20 rfl rfl)
abbrev cX24_odd : ByteArray := prog_6_method_6_code
def yX24_odd : MethodName := ⟨RX24, "odd", "()I"⟩
def dkwX24_odd_1 : List UInt8 := [132, 2, 1, 167, 255, 234, 27, 172]
abbrev dktX24_odd_1 : List UInt8 := dkwX24_odd_1 ++ []
def dkwX24_odd_0 : List UInt8 := [3, 60, 3, 61, 28, 42, 180, 0, 54, 162, 0, 20, 27, 42, 180, 0, 27, 28, 46, 5, 112, 96, 60]
abbrev dktX24_odd_0 : List UInt8 := dkwX24_odd_0 ++ dktX24_odd_1
theorem dksX24_odd_0 : cX24_odd.data.toList.drop 0 = dktX24_odd_0 := by decide +kernel
theorem dksX24_odd_1 : cX24_odd.data.toList.drop 23 = dktX24_odd_1 := dk_seg dksX24_odd_0 23 rfl rfl
theorem dX24_odd_0 : decode cX24_odd 0 = .ok (.iconst 0, 1) := dk_3 (dk_at dksX24_odd_0 0 rfl rfl)
theorem dX24_odd_1 : decode cX24_odd 1 = .ok (.istore_n 1, 1) := dk_60 (dk_at dksX24_odd_0 1 rfl rfl)
theorem dX24_odd_2 : decode cX24_odd 2 = .ok (.iconst 0, 1) := dk_3 (dk_at dksX24_odd_0 2 rfl rfl)
theorem dX24_odd_3 : decode cX24_odd 3 = .ok (.istore_n 2, 1) := dk_61 (dk_at dksX24_odd_0 3 rfl rfl)
theorem dX24_odd_4 : decode cX24_odd 4 = .ok (.iload_n 2, 1) := dk_28 (dk_at dksX24_odd_0 4 rfl rfl)
theorem dX24_odd_5 : decode cX24_odd 5 = .ok (.aload_n 0, 1) := dk_42 (dk_at dksX24_odd_0 5 rfl rfl)
theorem dX24_odd_6 : decode cX24_odd 6 = .ok (.getfield 54, 3) := dk_180 0 54 (dk_at dksX24_odd_0 6 rfl rfl)
theorem dX24_odd_9 : decode cX24_odd 9 = .ok (.if_icmp .ge 20, 3) := dk_162 0 20 (dk_at dksX24_odd_0 9 rfl rfl)
theorem dX24_odd_12 : decode cX24_odd 12 = .ok (.iload_n 1, 1) := dk_27 (dk_at dksX24_odd_0 12 rfl rfl)
theorem dX24_odd_13 : decode cX24_odd 13 = .ok (.aload_n 0, 1) := dk_42 (dk_at dksX24_odd_0 13 rfl rfl)
theorem dX24_odd_14 : decode cX24_odd 14 = .ok (.getfield 27, 3) := dk_180 0 27 (dk_at dksX24_odd_0 14 rfl rfl)
theorem dX24_odd_17 : decode cX24_odd 17 = .ok (.iload_n 2, 1) := dk_28 (dk_at dksX24_odd_0 17 rfl rfl)
theorem dX24_odd_18 : decode cX24_odd 18 = .ok (.iaload, 1) := dk_46 (dk_at dksX24_odd_0 18 rfl rfl)
theorem dX24_odd_19 : decode cX24_odd 19 = .ok (.iconst 2, 1) := dk_5 (dk_at dksX24_odd_0 19 rfl rfl)
theorem dX24_odd_20 : decode cX24_odd 20 = .ok (.irem, 1) := dk_112 (dk_at dksX24_odd_0 20 rfl rfl)
theorem dX24_odd_21 : decode cX24_odd 21 = .ok (.iadd, 1) := dk_96 (dk_at dksX24_odd_0 21 rfl rfl)
theorem dX24_odd_22 : decode cX24_odd 22 = .ok (.istore_n 1, 1) := dk_60 (dk_at dksX24_odd_0 22 rfl rfl)
theorem dX24_odd_23 : decode cX24_odd 23 = .ok (.iinc 2 1, 3) := dk_132 2 1 (dk_at dksX24_odd_1 0 rfl rfl)
theorem dX24_odd_26 : decode cX24_odd 26 = .ok (.goto (-22), 3) := dk_167 255 234 (dk_at dksX24_odd_1 3 rfl rfl)
theorem dX24_odd_29 : decode cX24_odd 29 = .ok (.iload_n 1, 1) := dk_27 (dk_at dksX24_odd_1 6 rfl rfl)
theorem dX24_odd_30 : decode cX24_odd 30 = .ok (.ireturn, 1) := dk_172 (dk_at dksX24_odd_1 7 rfl rfl)
abbrev cX24_needs : ByteArray := prog_6_method_7_code
def yX24_needs : MethodName := ⟨RX24, "needs", "(IILBalloonStall$Sort;)I"⟩
def dkwX24_needs_2 : List UInt8 := [167, 255, 218, 21, 5, 45, 21, 4, 182, 0, 73, 96, 172]
abbrev dktX24_needs_2 : List UInt8 := dkwX24_needs_2 ++ []
def dkwX24_needs_1 : List UInt8 := [159, 0, 6, 167, 0, 18, 132, 4, 1, 21, 5, 42, 180, 0, 18, 21, 6, 46, 96, 54, 5, 132, 6, 1]
abbrev dktX24_needs_1 : List UInt8 := dkwX24_needs_1 ++ dktX24_needs_2
def dkwX24_needs_0 : List UInt8 := [3, 54, 4, 3, 54, 5, 3, 54, 6, 21, 6, 28, 163, 0, 38, 42, 180, 0, 21, 21, 6, 46, 27]
abbrev dktX24_needs_0 : List UInt8 := dkwX24_needs_0 ++ dktX24_needs_1
theorem dksX24_needs_0 : cX24_needs.data.toList.drop 0 = dktX24_needs_0 := by decide +kernel
theorem dksX24_needs_1 : cX24_needs.data.toList.drop 23 = dktX24_needs_1 := dk_seg dksX24_needs_0 23 rfl rfl
theorem dksX24_needs_2 : cX24_needs.data.toList.drop 47 = dktX24_needs_2 := dk_seg dksX24_needs_1 24 rfl rfl
theorem dX24_needs_0 : decode cX24_needs 0 = .ok (.iconst 0, 1) := dk_3 (dk_at dksX24_needs_0 0 rfl rfl)
theorem dX24_needs_1 : decode cX24_needs 1 = .ok (.istore 4, 2) := dk_54 4 (dk_at dksX24_needs_0 1 rfl rfl)
theorem dX24_needs_3 : decode cX24_needs 3 = .ok (.iconst 0, 1) := dk_3 (dk_at dksX24_needs_0 3 rfl rfl)
theorem dX24_needs_4 : decode cX24_needs 4 = .ok (.istore 5, 2) := dk_54 5 (dk_at dksX24_needs_0 4 rfl rfl)
theorem dX24_needs_6 : decode cX24_needs 6 = .ok (.iconst 0, 1) := dk_3 (dk_at dksX24_needs_0 6 rfl rfl)
theorem dX24_needs_7 : decode cX24_needs 7 = .ok (.istore 6, 2) := dk_54 6 (dk_at dksX24_needs_0 7 rfl rfl)
theorem dX24_needs_9 : decode cX24_needs 9 = .ok (.iload 6, 2) := dk_21 6 (dk_at dksX24_needs_0 9 rfl rfl)
theorem dX24_needs_11 : decode cX24_needs 11 = .ok (.iload_n 2, 1) := dk_28 (dk_at dksX24_needs_0 11 rfl rfl)
theorem dX24_needs_12 : decode cX24_needs 12 = .ok (.if_icmp .gt 38, 3) := dk_163 0 38 (dk_at dksX24_needs_0 12 rfl rfl)
theorem dX24_needs_15 : decode cX24_needs 15 = .ok (.aload_n 0, 1) := dk_42 (dk_at dksX24_needs_0 15 rfl rfl)
theorem dX24_needs_16 : decode cX24_needs 16 = .ok (.getfield 21, 3) := dk_180 0 21 (dk_at dksX24_needs_0 16 rfl rfl)
theorem dX24_needs_19 : decode cX24_needs 19 = .ok (.iload 6, 2) := dk_21 6 (dk_at dksX24_needs_0 19 rfl rfl)
theorem dX24_needs_21 : decode cX24_needs 21 = .ok (.iaload, 1) := dk_46 (dk_at dksX24_needs_0 21 rfl rfl)
theorem dX24_needs_22 : decode cX24_needs 22 = .ok (.iload_n 1, 1) := dk_27 (dk_at dksX24_needs_0 22 rfl rfl)
theorem dX24_needs_23 : decode cX24_needs 23 = .ok (.if_icmp .eq 6, 3) := dk_159 0 6 (dk_at dksX24_needs_1 0 rfl rfl)
theorem dX24_needs_26 : decode cX24_needs 26 = .ok (.goto 18, 3) := dk_167 0 18 (dk_at dksX24_needs_1 3 rfl rfl)
theorem dX24_needs_29 : decode cX24_needs 29 = .ok (.iinc 4 1, 3) := dk_132 4 1 (dk_at dksX24_needs_1 6 rfl rfl)
theorem dX24_needs_32 : decode cX24_needs 32 = .ok (.iload 5, 2) := dk_21 5 (dk_at dksX24_needs_1 9 rfl rfl)
theorem dX24_needs_34 : decode cX24_needs 34 = .ok (.aload_n 0, 1) := dk_42 (dk_at dksX24_needs_1 11 rfl rfl)
theorem dX24_needs_35 : decode cX24_needs 35 = .ok (.getfield 18, 3) := dk_180 0 18 (dk_at dksX24_needs_1 12 rfl rfl)
theorem dX24_needs_38 : decode cX24_needs 38 = .ok (.iload 6, 2) := dk_21 6 (dk_at dksX24_needs_1 15 rfl rfl)
theorem dX24_needs_40 : decode cX24_needs 40 = .ok (.iaload, 1) := dk_46 (dk_at dksX24_needs_1 17 rfl rfl)
theorem dX24_needs_41 : decode cX24_needs 41 = .ok (.iadd, 1) := dk_96 (dk_at dksX24_needs_1 18 rfl rfl)
theorem dX24_needs_42 : decode cX24_needs 42 = .ok (.istore 5, 2) := dk_54 5 (dk_at dksX24_needs_1 19 rfl rfl)
theorem dX24_needs_44 : decode cX24_needs 44 = .ok (.iinc 6 1, 3) := dk_132 6 1 (dk_at dksX24_needs_1 21 rfl rfl)
theorem dX24_needs_47 : decode cX24_needs 47 = .ok (.goto (-38), 3) := dk_167 255 218 (dk_at dksX24_needs_2 0 rfl rfl)
theorem dX24_needs_50 : decode cX24_needs 50 = .ok (.iload 5, 2) := dk_21 5 (dk_at dksX24_needs_2 3 rfl rfl)
theorem dX24_needs_52 : decode cX24_needs 52 = .ok (.aload_n 3, 1) := dk_45 (dk_at dksX24_needs_2 5 rfl rfl)
theorem dX24_needs_53 : decode cX24_needs 53 = .ok (.iload 4, 2) := dk_21 4 (dk_at dksX24_needs_2 6 rfl rfl)
theorem dX24_needs_55 : decode cX24_needs 55 = .ok (.invokevirtual 73, 3) := dk_182 0 73 (dk_at dksX24_needs_2 8 rfl rfl)
theorem dX24_needs_58 : decode cX24_needs 58 = .ok (.iadd, 1) := dk_96 (dk_at dksX24_needs_2 11 rfl rfl)
theorem dX24_needs_59 : decode cX24_needs 59 = .ok (.ireturn, 1) := dk_172 (dk_at dksX24_needs_2 12 rfl rfl)
abbrev cX24_lost : ByteArray := prog_6_method_10_code
def yX24_lost : MethodName := ⟨RX24, "lost", "(I)I"⟩
def dkwX24_lost_0 : List UInt8 := [42, 4, 27, 120, 182, 0, 78, 172]
abbrev dktX24_lost_0 : List UInt8 := dkwX24_lost_0 ++ []
theorem dksX24_lost_0 : cX24_lost.data.toList.drop 0 = dktX24_lost_0 := by decide +kernel
theorem dX24_lost_0 : decode cX24_lost 0 = .ok (.aload_n 0, 1) := dk_42 (dk_at dksX24_lost_0 0 rfl rfl)
theorem dX24_lost_1 : decode cX24_lost 1 = .ok (.iconst 1, 1) := dk_4 (dk_at dksX24_lost_0 1 rfl rfl)
theorem dX24_lost_2 : decode cX24_lost 2 = .ok (.iload_n 1, 1) := dk_27 (dk_at dksX24_lost_0 2 rfl rfl)
theorem dX24_lost_3 : decode cX24_lost 3 = .ok (.ishl, 1) := dk_120 (dk_at dksX24_lost_0 3 rfl rfl)
theorem dX24_lost_4 : decode cX24_lost 4 = .ok (.invokevirtual 78, 3) := dk_182 0 78 (dk_at dksX24_lost_0 4 rfl rfl)
theorem dX24_lost_7 : decode cX24_lost 7 = .ok (.ireturn, 1) := dk_172 (dk_at dksX24_lost_0 7 rfl rfl)
abbrev cX24_lostWith : ByteArray := prog_6_method_11_code
def yX24_lostWith : MethodName := ⟨RX24, "lostWith", "(I)I"⟩
def dkwX24_lostWith_3 : List UInt8 := [28, 6, 21, 4, 120, 128, 61, 132, 4, 1, 167, 255, 192, 167, 255, 179, 28, 172]
abbrev dktX24_lostWith_3 : List UInt8 := dkwX24_lostWith_3 ++ []
def dkwX24_lostWith_2 : List UInt8 := [4, 126, 159, 0, 29, 42, 28, 42, 180, 0, 15, 21, 4, 46, 182, 0, 81, 5, 164, 0, 6, 167, 0, 10]
abbrev dktX24_lostWith_2 : List UInt8 := dkwX24_lostWith_2 ++ dktX24_lostWith_3
def dkwX24_lostWith_1 : List UInt8 := [162, 0, 61, 42, 21, 4, 182, 0, 66, 153, 0, 46, 28, 21, 4, 122, 4, 126, 28, 21, 4, 4, 96, 122]
abbrev dktX24_lostWith_1 : List UInt8 := dkwX24_lostWith_1 ++ dktX24_lostWith_2
def dkwX24_lostWith_0 : List UInt8 := [27, 61, 27, 2, 130, 62, 29, 28, 159, 0, 78, 28, 62, 3, 54, 4, 21, 4, 42, 180, 0, 36]
abbrev dktX24_lostWith_0 : List UInt8 := dkwX24_lostWith_0 ++ dktX24_lostWith_1
theorem dksX24_lostWith_0 : cX24_lostWith.data.toList.drop 0 = dktX24_lostWith_0 := by decide +kernel
theorem dksX24_lostWith_1 : cX24_lostWith.data.toList.drop 22 = dktX24_lostWith_1 := dk_seg dksX24_lostWith_0 22 rfl rfl
theorem dksX24_lostWith_2 : cX24_lostWith.data.toList.drop 46 = dktX24_lostWith_2 := dk_seg dksX24_lostWith_1 24 rfl rfl
theorem dksX24_lostWith_3 : cX24_lostWith.data.toList.drop 70 = dktX24_lostWith_3 := dk_seg dksX24_lostWith_2 24 rfl rfl
theorem dX24_lostWith_0 : decode cX24_lostWith 0 = .ok (.iload_n 1, 1) := dk_27 (dk_at dksX24_lostWith_0 0 rfl rfl)
theorem dX24_lostWith_1 : decode cX24_lostWith 1 = .ok (.istore_n 2, 1) := dk_61 (dk_at dksX24_lostWith_0 1 rfl rfl)
theorem dX24_lostWith_2 : decode cX24_lostWith 2 = .ok (.iload_n 1, 1) := dk_27 (dk_at dksX24_lostWith_0 2 rfl rfl)
theorem dX24_lostWith_3 : decode cX24_lostWith 3 = .ok (.iconst (-1), 1) := dk_2 (dk_at dksX24_lostWith_0 3 rfl rfl)
theorem dX24_lostWith_4 : decode cX24_lostWith 4 = .ok (.ixor, 1) := dk_130 (dk_at dksX24_lostWith_0 4 rfl rfl)
theorem dX24_lostWith_5 : decode cX24_lostWith 5 = .ok (.istore_n 3, 1) := dk_62 (dk_at dksX24_lostWith_0 5 rfl rfl)
theorem dX24_lostWith_6 : decode cX24_lostWith 6 = .ok (.iload_n 3, 1) := dk_29 (dk_at dksX24_lostWith_0 6 rfl rfl)
theorem dX24_lostWith_7 : decode cX24_lostWith 7 = .ok (.iload_n 2, 1) := dk_28 (dk_at dksX24_lostWith_0 7 rfl rfl)
theorem dX24_lostWith_8 : decode cX24_lostWith 8 = .ok (.if_icmp .eq 78, 3) := dk_159 0 78 (dk_at dksX24_lostWith_0 8 rfl rfl)
theorem dX24_lostWith_11 : decode cX24_lostWith 11 = .ok (.iload_n 2, 1) := dk_28 (dk_at dksX24_lostWith_0 11 rfl rfl)
theorem dX24_lostWith_12 : decode cX24_lostWith 12 = .ok (.istore_n 3, 1) := dk_62 (dk_at dksX24_lostWith_0 12 rfl rfl)
theorem dX24_lostWith_13 : decode cX24_lostWith 13 = .ok (.iconst 0, 1) := dk_3 (dk_at dksX24_lostWith_0 13 rfl rfl)
theorem dX24_lostWith_14 : decode cX24_lostWith 14 = .ok (.istore 4, 2) := dk_54 4 (dk_at dksX24_lostWith_0 14 rfl rfl)
theorem dX24_lostWith_16 : decode cX24_lostWith 16 = .ok (.iload 4, 2) := dk_21 4 (dk_at dksX24_lostWith_0 16 rfl rfl)
theorem dX24_lostWith_18 : decode cX24_lostWith 18 = .ok (.aload_n 0, 1) := dk_42 (dk_at dksX24_lostWith_0 18 rfl rfl)
theorem dX24_lostWith_19 : decode cX24_lostWith 19 = .ok (.getfield 36, 3) := dk_180 0 36 (dk_at dksX24_lostWith_0 19 rfl rfl)
theorem dX24_lostWith_22 : decode cX24_lostWith 22 = .ok (.if_icmp .ge 61, 3) := dk_162 0 61 (dk_at dksX24_lostWith_1 0 rfl rfl)
theorem dX24_lostWith_25 : decode cX24_lostWith 25 = .ok (.aload_n 0, 1) := dk_42 (dk_at dksX24_lostWith_1 3 rfl rfl)
theorem dX24_lostWith_26 : decode cX24_lostWith 26 = .ok (.iload 4, 2) := dk_21 4 (dk_at dksX24_lostWith_1 4 rfl rfl)
theorem dX24_lostWith_28 : decode cX24_lostWith 28 = .ok (.invokevirtual 66, 3) := dk_182 0 66 (dk_at dksX24_lostWith_1 6 rfl rfl)
theorem dX24_lostWith_31 : decode cX24_lostWith 31 = .ok (.ifCond .eq 46, 3) := dk_153 0 46 (dk_at dksX24_lostWith_1 9 rfl rfl)
theorem dX24_lostWith_34 : decode cX24_lostWith 34 = .ok (.iload_n 2, 1) := dk_28 (dk_at dksX24_lostWith_1 12 rfl rfl)
theorem dX24_lostWith_35 : decode cX24_lostWith 35 = .ok (.iload 4, 2) := dk_21 4 (dk_at dksX24_lostWith_1 13 rfl rfl)
theorem dX24_lostWith_37 : decode cX24_lostWith 37 = .ok (.ishr, 1) := dk_122 (dk_at dksX24_lostWith_1 15 rfl rfl)
theorem dX24_lostWith_38 : decode cX24_lostWith 38 = .ok (.iconst 1, 1) := dk_4 (dk_at dksX24_lostWith_1 16 rfl rfl)
theorem dX24_lostWith_39 : decode cX24_lostWith 39 = .ok (.iand, 1) := dk_126 (dk_at dksX24_lostWith_1 17 rfl rfl)
theorem dX24_lostWith_40 : decode cX24_lostWith 40 = .ok (.iload_n 2, 1) := dk_28 (dk_at dksX24_lostWith_1 18 rfl rfl)
theorem dX24_lostWith_41 : decode cX24_lostWith 41 = .ok (.iload 4, 2) := dk_21 4 (dk_at dksX24_lostWith_1 19 rfl rfl)
theorem dX24_lostWith_43 : decode cX24_lostWith 43 = .ok (.iconst 1, 1) := dk_4 (dk_at dksX24_lostWith_1 21 rfl rfl)
theorem dX24_lostWith_44 : decode cX24_lostWith 44 = .ok (.iadd, 1) := dk_96 (dk_at dksX24_lostWith_1 22 rfl rfl)
theorem dX24_lostWith_45 : decode cX24_lostWith 45 = .ok (.ishr, 1) := dk_122 (dk_at dksX24_lostWith_1 23 rfl rfl)
theorem dX24_lostWith_46 : decode cX24_lostWith 46 = .ok (.iconst 1, 1) := dk_4 (dk_at dksX24_lostWith_2 0 rfl rfl)
theorem dX24_lostWith_47 : decode cX24_lostWith 47 = .ok (.iand, 1) := dk_126 (dk_at dksX24_lostWith_2 1 rfl rfl)
theorem dX24_lostWith_48 : decode cX24_lostWith 48 = .ok (.if_icmp .eq 29, 3) := dk_159 0 29 (dk_at dksX24_lostWith_2 2 rfl rfl)
theorem dX24_lostWith_51 : decode cX24_lostWith 51 = .ok (.aload_n 0, 1) := dk_42 (dk_at dksX24_lostWith_2 5 rfl rfl)
theorem dX24_lostWith_52 : decode cX24_lostWith 52 = .ok (.iload_n 2, 1) := dk_28 (dk_at dksX24_lostWith_2 6 rfl rfl)
theorem dX24_lostWith_53 : decode cX24_lostWith 53 = .ok (.aload_n 0, 1) := dk_42 (dk_at dksX24_lostWith_2 7 rfl rfl)
theorem dX24_lostWith_54 : decode cX24_lostWith 54 = .ok (.getfield 15, 3) := dk_180 0 15 (dk_at dksX24_lostWith_2 8 rfl rfl)
theorem dX24_lostWith_57 : decode cX24_lostWith 57 = .ok (.iload 4, 2) := dk_21 4 (dk_at dksX24_lostWith_2 11 rfl rfl)
theorem dX24_lostWith_59 : decode cX24_lostWith 59 = .ok (.iaload, 1) := dk_46 (dk_at dksX24_lostWith_2 13 rfl rfl)
theorem dX24_lostWith_60 : decode cX24_lostWith 60 = .ok (.invokevirtual 81, 3) := dk_182 0 81 (dk_at dksX24_lostWith_2 14 rfl rfl)
theorem dX24_lostWith_63 : decode cX24_lostWith 63 = .ok (.iconst 2, 1) := dk_5 (dk_at dksX24_lostWith_2 17 rfl rfl)
theorem dX24_lostWith_64 : decode cX24_lostWith 64 = .ok (.if_icmp .le 6, 3) := dk_164 0 6 (dk_at dksX24_lostWith_2 18 rfl rfl)
theorem dX24_lostWith_67 : decode cX24_lostWith 67 = .ok (.goto 10, 3) := dk_167 0 10 (dk_at dksX24_lostWith_2 21 rfl rfl)
theorem dX24_lostWith_70 : decode cX24_lostWith 70 = .ok (.iload_n 2, 1) := dk_28 (dk_at dksX24_lostWith_3 0 rfl rfl)
theorem dX24_lostWith_71 : decode cX24_lostWith 71 = .ok (.iconst 3, 1) := dk_6 (dk_at dksX24_lostWith_3 1 rfl rfl)
theorem dX24_lostWith_72 : decode cX24_lostWith 72 = .ok (.iload 4, 2) := dk_21 4 (dk_at dksX24_lostWith_3 2 rfl rfl)
theorem dX24_lostWith_74 : decode cX24_lostWith 74 = .ok (.ishl, 1) := dk_120 (dk_at dksX24_lostWith_3 4 rfl rfl)
theorem dX24_lostWith_75 : decode cX24_lostWith 75 = .ok (.ior, 1) := dk_128 (dk_at dksX24_lostWith_3 5 rfl rfl)
theorem dX24_lostWith_76 : decode cX24_lostWith 76 = .ok (.istore_n 2, 1) := dk_61 (dk_at dksX24_lostWith_3 6 rfl rfl)
theorem dX24_lostWith_77 : decode cX24_lostWith 77 = .ok (.iinc 4 1, 3) := dk_132 4 1 (dk_at dksX24_lostWith_3 7 rfl rfl)
theorem dX24_lostWith_80 : decode cX24_lostWith 80 = .ok (.goto (-64), 3) := dk_167 255 192 (dk_at dksX24_lostWith_3 10 rfl rfl)
theorem dX24_lostWith_83 : decode cX24_lostWith 83 = .ok (.goto (-77), 3) := dk_167 255 179 (dk_at dksX24_lostWith_3 13 rfl rfl)
theorem dX24_lostWith_86 : decode cX24_lostWith 86 = .ok (.iload_n 2, 1) := dk_28 (dk_at dksX24_lostWith_3 16 rfl rfl)
theorem dX24_lostWith_87 : decode cX24_lostWith 87 = .ok (.ireturn, 1) := dk_172 (dk_at dksX24_lostWith_3 17 rfl rfl)
abbrev cX24_left : ByteArray := prog_6_method_9_code
def yX24_left : MethodName := ⟨RX24, "left", "(II)I"⟩
def dkwX24_left_2 : List UInt8 := [160, 0, 7, 4, 167, 0, 4, 3, 96, 96, 62, 132, 4, 1, 167, 255, 199, 29, 172]
abbrev dktX24_left_2 : List UInt8 := dkwX24_left_2 ++ []
def dkwX24_left_1 : List UInt8 := [42, 180, 0, 9, 21, 4, 46, 28, 160, 0, 7, 4, 167, 0, 4, 3, 42, 180, 0, 15, 21, 4, 46, 28]
abbrev dktX24_left_1 : List UInt8 := dkwX24_left_1 ++ dktX24_left_2
def dkwX24_left_0 : List UInt8 := [3, 62, 3, 54, 4, 21, 4, 42, 180, 0, 36, 162, 0, 54, 27, 21, 4, 122, 4, 126, 154, 0, 39, 29]
abbrev dktX24_left_0 : List UInt8 := dkwX24_left_0 ++ dktX24_left_1
theorem dksX24_left_0 : cX24_left.data.toList.drop 0 = dktX24_left_0 := by decide +kernel
theorem dksX24_left_1 : cX24_left.data.toList.drop 24 = dktX24_left_1 := dk_seg dksX24_left_0 24 rfl rfl
theorem dksX24_left_2 : cX24_left.data.toList.drop 48 = dktX24_left_2 := dk_seg dksX24_left_1 24 rfl rfl
theorem dX24_left_0 : decode cX24_left 0 = .ok (.iconst 0, 1) := dk_3 (dk_at dksX24_left_0 0 rfl rfl)
theorem dX24_left_1 : decode cX24_left 1 = .ok (.istore_n 3, 1) := dk_62 (dk_at dksX24_left_0 1 rfl rfl)
theorem dX24_left_2 : decode cX24_left 2 = .ok (.iconst 0, 1) := dk_3 (dk_at dksX24_left_0 2 rfl rfl)
theorem dX24_left_3 : decode cX24_left 3 = .ok (.istore 4, 2) := dk_54 4 (dk_at dksX24_left_0 3 rfl rfl)
theorem dX24_left_5 : decode cX24_left 5 = .ok (.iload 4, 2) := dk_21 4 (dk_at dksX24_left_0 5 rfl rfl)
theorem dX24_left_7 : decode cX24_left 7 = .ok (.aload_n 0, 1) := dk_42 (dk_at dksX24_left_0 7 rfl rfl)
theorem dX24_left_8 : decode cX24_left 8 = .ok (.getfield 36, 3) := dk_180 0 36 (dk_at dksX24_left_0 8 rfl rfl)
theorem dX24_left_11 : decode cX24_left 11 = .ok (.if_icmp .ge 54, 3) := dk_162 0 54 (dk_at dksX24_left_0 11 rfl rfl)
theorem dX24_left_14 : decode cX24_left 14 = .ok (.iload_n 1, 1) := dk_27 (dk_at dksX24_left_0 14 rfl rfl)
theorem dX24_left_15 : decode cX24_left 15 = .ok (.iload 4, 2) := dk_21 4 (dk_at dksX24_left_0 15 rfl rfl)
theorem dX24_left_17 : decode cX24_left 17 = .ok (.ishr, 1) := dk_122 (dk_at dksX24_left_0 17 rfl rfl)
theorem dX24_left_18 : decode cX24_left 18 = .ok (.iconst 1, 1) := dk_4 (dk_at dksX24_left_0 18 rfl rfl)
theorem dX24_left_19 : decode cX24_left 19 = .ok (.iand, 1) := dk_126 (dk_at dksX24_left_0 19 rfl rfl)
theorem dX24_left_20 : decode cX24_left 20 = .ok (.ifCond .ne 39, 3) := dk_154 0 39 (dk_at dksX24_left_0 20 rfl rfl)
theorem dX24_left_23 : decode cX24_left 23 = .ok (.iload_n 3, 1) := dk_29 (dk_at dksX24_left_0 23 rfl rfl)
theorem dX24_left_24 : decode cX24_left 24 = .ok (.aload_n 0, 1) := dk_42 (dk_at dksX24_left_1 0 rfl rfl)
theorem dX24_left_25 : decode cX24_left 25 = .ok (.getfield 9, 3) := dk_180 0 9 (dk_at dksX24_left_1 1 rfl rfl)
theorem dX24_left_28 : decode cX24_left 28 = .ok (.iload 4, 2) := dk_21 4 (dk_at dksX24_left_1 4 rfl rfl)
theorem dX24_left_30 : decode cX24_left 30 = .ok (.iaload, 1) := dk_46 (dk_at dksX24_left_1 6 rfl rfl)
theorem dX24_left_31 : decode cX24_left 31 = .ok (.iload_n 2, 1) := dk_28 (dk_at dksX24_left_1 7 rfl rfl)
theorem dX24_left_32 : decode cX24_left 32 = .ok (.if_icmp .ne 7, 3) := dk_160 0 7 (dk_at dksX24_left_1 8 rfl rfl)
theorem dX24_left_35 : decode cX24_left 35 = .ok (.iconst 1, 1) := dk_4 (dk_at dksX24_left_1 11 rfl rfl)
theorem dX24_left_36 : decode cX24_left 36 = .ok (.goto 4, 3) := dk_167 0 4 (dk_at dksX24_left_1 12 rfl rfl)
theorem dX24_left_39 : decode cX24_left 39 = .ok (.iconst 0, 1) := dk_3 (dk_at dksX24_left_1 15 rfl rfl)
theorem dX24_left_40 : decode cX24_left 40 = .ok (.aload_n 0, 1) := dk_42 (dk_at dksX24_left_1 16 rfl rfl)
theorem dX24_left_41 : decode cX24_left 41 = .ok (.getfield 15, 3) := dk_180 0 15 (dk_at dksX24_left_1 17 rfl rfl)
theorem dX24_left_44 : decode cX24_left 44 = .ok (.iload 4, 2) := dk_21 4 (dk_at dksX24_left_1 20 rfl rfl)
theorem dX24_left_46 : decode cX24_left 46 = .ok (.iaload, 1) := dk_46 (dk_at dksX24_left_1 22 rfl rfl)
theorem dX24_left_47 : decode cX24_left 47 = .ok (.iload_n 2, 1) := dk_28 (dk_at dksX24_left_1 23 rfl rfl)
theorem dX24_left_48 : decode cX24_left 48 = .ok (.if_icmp .ne 7, 3) := dk_160 0 7 (dk_at dksX24_left_2 0 rfl rfl)
theorem dX24_left_51 : decode cX24_left 51 = .ok (.iconst 1, 1) := dk_4 (dk_at dksX24_left_2 3 rfl rfl)
theorem dX24_left_52 : decode cX24_left 52 = .ok (.goto 4, 3) := dk_167 0 4 (dk_at dksX24_left_2 4 rfl rfl)
theorem dX24_left_55 : decode cX24_left 55 = .ok (.iconst 0, 1) := dk_3 (dk_at dksX24_left_2 7 rfl rfl)
theorem dX24_left_56 : decode cX24_left 56 = .ok (.iadd, 1) := dk_96 (dk_at dksX24_left_2 8 rfl rfl)
theorem dX24_left_57 : decode cX24_left 57 = .ok (.iadd, 1) := dk_96 (dk_at dksX24_left_2 9 rfl rfl)
theorem dX24_left_58 : decode cX24_left 58 = .ok (.istore_n 3, 1) := dk_62 (dk_at dksX24_left_2 10 rfl rfl)
theorem dX24_left_59 : decode cX24_left 59 = .ok (.iinc 4 1, 3) := dk_132 4 1 (dk_at dksX24_left_2 11 rfl rfl)
theorem dX24_left_62 : decode cX24_left 62 = .ok (.goto (-57), 3) := dk_167 255 199 (dk_at dksX24_left_2 14 rfl rfl)
theorem dX24_left_65 : decode cX24_left 65 = .ok (.iload_n 3, 1) := dk_29 (dk_at dksX24_left_2 17 rfl rfl)
theorem dX24_left_66 : decode cX24_left 66 = .ok (.ireturn, 1) := dk_172 (dk_at dksX24_left_2 18 rfl rfl)
abbrev cX24_every : ByteArray := prog_6_method_15_code
def yX24_every : MethodName := ⟨RX24, "every", "()I"⟩
def dkwX24_every_0 : List UInt8 := [4, 42, 180, 0, 36, 120, 4, 100, 172]
abbrev dktX24_every_0 : List UInt8 := dkwX24_every_0 ++ []
theorem dksX24_every_0 : cX24_every.data.toList.drop 0 = dktX24_every_0 := by decide +kernel
theorem dX24_every_0 : decode cX24_every 0 = .ok (.iconst 1, 1) := dk_4 (dk_at dksX24_every_0 0 rfl rfl)
theorem dX24_every_1 : decode cX24_every 1 = .ok (.aload_n 0, 1) := dk_42 (dk_at dksX24_every_0 1 rfl rfl)
theorem dX24_every_2 : decode cX24_every 2 = .ok (.getfield 36, 3) := dk_180 0 36 (dk_at dksX24_every_0 2 rfl rfl)
theorem dX24_every_5 : decode cX24_every 5 = .ok (.ishl, 1) := dk_120 (dk_at dksX24_every_0 5 rfl rfl)
theorem dX24_every_6 : decode cX24_every 6 = .ok (.iconst 1, 1) := dk_4 (dk_at dksX24_every_0 6 rfl rfl)
theorem dX24_every_7 : decode cX24_every 7 = .ok (.isub, 1) := dk_100 (dk_at dksX24_every_0 7 rfl rfl)
theorem dX24_every_8 : decode cX24_every 8 = .ok (.ireturn, 1) := dk_172 (dk_at dksX24_every_0 8 rfl rfl)
abbrev cX24_parts : ByteArray := prog_6_method_14_code
def yX24_parts : MethodName := ⟨RX24, "parts", "(I)I"⟩
def dkwX24_parts_1 : List UInt8 := [132, 2, 1, 167, 255, 235, 28, 172]
abbrev dktX24_parts_1 : List UInt8 := dkwX24_parts_1 ++ []
def dkwX24_parts_0 : List UInt8 := [3, 61, 27, 62, 29, 153, 0, 23, 29, 42, 29, 29, 184, 0, 89, 182, 0, 94, 2, 130, 126, 62]
abbrev dktX24_parts_0 : List UInt8 := dkwX24_parts_0 ++ dktX24_parts_1
theorem dksX24_parts_0 : cX24_parts.data.toList.drop 0 = dktX24_parts_0 := by decide +kernel
theorem dksX24_parts_1 : cX24_parts.data.toList.drop 22 = dktX24_parts_1 := dk_seg dksX24_parts_0 22 rfl rfl
theorem dX24_parts_0 : decode cX24_parts 0 = .ok (.iconst 0, 1) := dk_3 (dk_at dksX24_parts_0 0 rfl rfl)
theorem dX24_parts_1 : decode cX24_parts 1 = .ok (.istore_n 2, 1) := dk_61 (dk_at dksX24_parts_0 1 rfl rfl)
theorem dX24_parts_2 : decode cX24_parts 2 = .ok (.iload_n 1, 1) := dk_27 (dk_at dksX24_parts_0 2 rfl rfl)
theorem dX24_parts_3 : decode cX24_parts 3 = .ok (.istore_n 3, 1) := dk_62 (dk_at dksX24_parts_0 3 rfl rfl)
theorem dX24_parts_4 : decode cX24_parts 4 = .ok (.iload_n 3, 1) := dk_29 (dk_at dksX24_parts_0 4 rfl rfl)
theorem dX24_parts_5 : decode cX24_parts 5 = .ok (.ifCond .eq 23, 3) := dk_153 0 23 (dk_at dksX24_parts_0 5 rfl rfl)
theorem dX24_parts_8 : decode cX24_parts 8 = .ok (.iload_n 3, 1) := dk_29 (dk_at dksX24_parts_0 8 rfl rfl)
theorem dX24_parts_9 : decode cX24_parts 9 = .ok (.aload_n 0, 1) := dk_42 (dk_at dksX24_parts_0 9 rfl rfl)
theorem dX24_parts_10 : decode cX24_parts 10 = .ok (.iload_n 3, 1) := dk_29 (dk_at dksX24_parts_0 10 rfl rfl)
theorem dX24_parts_11 : decode cX24_parts 11 = .ok (.iload_n 3, 1) := dk_29 (dk_at dksX24_parts_0 11 rfl rfl)
theorem dX24_parts_12 : decode cX24_parts 12 = .ok (.invokestatic 89, 3) := dk_184 0 89 (dk_at dksX24_parts_0 12 rfl rfl)
theorem dX24_parts_15 : decode cX24_parts 15 = .ok (.invokevirtual 94, 3) := dk_182 0 94 (dk_at dksX24_parts_0 15 rfl rfl)
theorem dX24_parts_18 : decode cX24_parts 18 = .ok (.iconst (-1), 1) := dk_2 (dk_at dksX24_parts_0 18 rfl rfl)
theorem dX24_parts_19 : decode cX24_parts 19 = .ok (.ixor, 1) := dk_130 (dk_at dksX24_parts_0 19 rfl rfl)
theorem dX24_parts_20 : decode cX24_parts 20 = .ok (.iand, 1) := dk_126 (dk_at dksX24_parts_0 20 rfl rfl)
theorem dX24_parts_21 : decode cX24_parts 21 = .ok (.istore_n 3, 1) := dk_62 (dk_at dksX24_parts_0 21 rfl rfl)
theorem dX24_parts_22 : decode cX24_parts 22 = .ok (.iinc 2 1, 3) := dk_132 2 1 (dk_at dksX24_parts_1 0 rfl rfl)
theorem dX24_parts_25 : decode cX24_parts 25 = .ok (.goto (-21), 3) := dk_167 255 235 (dk_at dksX24_parts_1 3 rfl rfl)
theorem dX24_parts_28 : decode cX24_parts 28 = .ok (.iload_n 2, 1) := dk_28 (dk_at dksX24_parts_1 6 rfl rfl)
theorem dX24_parts_29 : decode cX24_parts 29 = .ok (.ireturn, 1) := dk_172 (dk_at dksX24_parts_1 7 rfl rfl)
abbrev cX24_hang : ByteArray := prog_6_method_12_code
def yX24_hang : MethodName := ⟨RX24, "hang", "(II)I"⟩
def dkwX24_hang_4 : List UInt8 := [132, 6, 1, 167, 255, 216, 132, 5, 1, 167, 255, 176, 167, 255, 161, 29, 172]
abbrev dktX24_hang_4 : List UInt8 := dkwX24_hang_4 ++ []
def dkwX24_hang_3 : List UInt8 := [4, 160, 0, 21, 42, 21, 5, 21, 6, 182, 0, 85, 153, 0, 10, 29, 4, 21, 5, 120, 128, 62]
abbrev dktX24_hang_3 : List UInt8 := dkwX24_hang_3 ++ dktX24_hang_4
def dkwX24_hang_2 : List UInt8 := [160, 0, 6, 167, 0, 49, 3, 54, 6, 21, 6, 42, 180, 0, 36, 162, 0, 37, 29, 21, 6, 122, 4, 126]
abbrev dktX24_hang_2 : List UInt8 := dkwX24_hang_2 ++ dktX24_hang_3
def dkwX24_hang_1 : List UInt8 := [180, 0, 36, 162, 0, 77, 27, 21, 5, 122, 4, 126, 153, 0, 62, 29, 21, 5, 122, 4, 126, 4]
abbrev dktX24_hang_1 : List UInt8 := dkwX24_hang_1 ++ dktX24_hang_2
def dkwX24_hang_0 : List UInt8 := [4, 28, 120, 62, 3, 54, 4, 21, 4, 29, 159, 0, 95, 29, 54, 4, 3, 54, 5, 21, 5, 42]
abbrev dktX24_hang_0 : List UInt8 := dkwX24_hang_0 ++ dktX24_hang_1
theorem dksX24_hang_0 : cX24_hang.data.toList.drop 0 = dktX24_hang_0 := by decide +kernel
theorem dksX24_hang_1 : cX24_hang.data.toList.drop 22 = dktX24_hang_1 := dk_seg dksX24_hang_0 22 rfl rfl
theorem dksX24_hang_2 : cX24_hang.data.toList.drop 44 = dktX24_hang_2 := dk_seg dksX24_hang_1 22 rfl rfl
theorem dksX24_hang_3 : cX24_hang.data.toList.drop 68 = dktX24_hang_3 := dk_seg dksX24_hang_2 24 rfl rfl
theorem dksX24_hang_4 : cX24_hang.data.toList.drop 90 = dktX24_hang_4 := dk_seg dksX24_hang_3 22 rfl rfl
theorem dX24_hang_0 : decode cX24_hang 0 = .ok (.iconst 1, 1) := dk_4 (dk_at dksX24_hang_0 0 rfl rfl)
theorem dX24_hang_1 : decode cX24_hang 1 = .ok (.iload_n 2, 1) := dk_28 (dk_at dksX24_hang_0 1 rfl rfl)
theorem dX24_hang_2 : decode cX24_hang 2 = .ok (.ishl, 1) := dk_120 (dk_at dksX24_hang_0 2 rfl rfl)
theorem dX24_hang_3 : decode cX24_hang 3 = .ok (.istore_n 3, 1) := dk_62 (dk_at dksX24_hang_0 3 rfl rfl)
theorem dX24_hang_4 : decode cX24_hang 4 = .ok (.iconst 0, 1) := dk_3 (dk_at dksX24_hang_0 4 rfl rfl)
theorem dX24_hang_5 : decode cX24_hang 5 = .ok (.istore 4, 2) := dk_54 4 (dk_at dksX24_hang_0 5 rfl rfl)
theorem dX24_hang_7 : decode cX24_hang 7 = .ok (.iload 4, 2) := dk_21 4 (dk_at dksX24_hang_0 7 rfl rfl)
theorem dX24_hang_9 : decode cX24_hang 9 = .ok (.iload_n 3, 1) := dk_29 (dk_at dksX24_hang_0 9 rfl rfl)
theorem dX24_hang_10 : decode cX24_hang 10 = .ok (.if_icmp .eq 95, 3) := dk_159 0 95 (dk_at dksX24_hang_0 10 rfl rfl)
theorem dX24_hang_13 : decode cX24_hang 13 = .ok (.iload_n 3, 1) := dk_29 (dk_at dksX24_hang_0 13 rfl rfl)
theorem dX24_hang_14 : decode cX24_hang 14 = .ok (.istore 4, 2) := dk_54 4 (dk_at dksX24_hang_0 14 rfl rfl)
theorem dX24_hang_16 : decode cX24_hang 16 = .ok (.iconst 0, 1) := dk_3 (dk_at dksX24_hang_0 16 rfl rfl)
theorem dX24_hang_17 : decode cX24_hang 17 = .ok (.istore 5, 2) := dk_54 5 (dk_at dksX24_hang_0 17 rfl rfl)
theorem dX24_hang_19 : decode cX24_hang 19 = .ok (.iload 5, 2) := dk_21 5 (dk_at dksX24_hang_0 19 rfl rfl)
theorem dX24_hang_21 : decode cX24_hang 21 = .ok (.aload_n 0, 1) := dk_42 (dk_at dksX24_hang_0 21 rfl rfl)
theorem dX24_hang_22 : decode cX24_hang 22 = .ok (.getfield 36, 3) := dk_180 0 36 (dk_at dksX24_hang_1 0 rfl rfl)
theorem dX24_hang_25 : decode cX24_hang 25 = .ok (.if_icmp .ge 77, 3) := dk_162 0 77 (dk_at dksX24_hang_1 3 rfl rfl)
theorem dX24_hang_28 : decode cX24_hang 28 = .ok (.iload_n 1, 1) := dk_27 (dk_at dksX24_hang_1 6 rfl rfl)
theorem dX24_hang_29 : decode cX24_hang 29 = .ok (.iload 5, 2) := dk_21 5 (dk_at dksX24_hang_1 7 rfl rfl)
theorem dX24_hang_31 : decode cX24_hang 31 = .ok (.ishr, 1) := dk_122 (dk_at dksX24_hang_1 9 rfl rfl)
theorem dX24_hang_32 : decode cX24_hang 32 = .ok (.iconst 1, 1) := dk_4 (dk_at dksX24_hang_1 10 rfl rfl)
theorem dX24_hang_33 : decode cX24_hang 33 = .ok (.iand, 1) := dk_126 (dk_at dksX24_hang_1 11 rfl rfl)
theorem dX24_hang_34 : decode cX24_hang 34 = .ok (.ifCond .eq 62, 3) := dk_153 0 62 (dk_at dksX24_hang_1 12 rfl rfl)
theorem dX24_hang_37 : decode cX24_hang 37 = .ok (.iload_n 3, 1) := dk_29 (dk_at dksX24_hang_1 15 rfl rfl)
theorem dX24_hang_38 : decode cX24_hang 38 = .ok (.iload 5, 2) := dk_21 5 (dk_at dksX24_hang_1 16 rfl rfl)
theorem dX24_hang_40 : decode cX24_hang 40 = .ok (.ishr, 1) := dk_122 (dk_at dksX24_hang_1 18 rfl rfl)
theorem dX24_hang_41 : decode cX24_hang 41 = .ok (.iconst 1, 1) := dk_4 (dk_at dksX24_hang_1 19 rfl rfl)
theorem dX24_hang_42 : decode cX24_hang 42 = .ok (.iand, 1) := dk_126 (dk_at dksX24_hang_1 20 rfl rfl)
theorem dX24_hang_43 : decode cX24_hang 43 = .ok (.iconst 1, 1) := dk_4 (dk_at dksX24_hang_1 21 rfl rfl)
theorem dX24_hang_44 : decode cX24_hang 44 = .ok (.if_icmp .ne 6, 3) := dk_160 0 6 (dk_at dksX24_hang_2 0 rfl rfl)
theorem dX24_hang_47 : decode cX24_hang 47 = .ok (.goto 49, 3) := dk_167 0 49 (dk_at dksX24_hang_2 3 rfl rfl)
theorem dX24_hang_50 : decode cX24_hang 50 = .ok (.iconst 0, 1) := dk_3 (dk_at dksX24_hang_2 6 rfl rfl)
theorem dX24_hang_51 : decode cX24_hang 51 = .ok (.istore 6, 2) := dk_54 6 (dk_at dksX24_hang_2 7 rfl rfl)
theorem dX24_hang_53 : decode cX24_hang 53 = .ok (.iload 6, 2) := dk_21 6 (dk_at dksX24_hang_2 9 rfl rfl)
theorem dX24_hang_55 : decode cX24_hang 55 = .ok (.aload_n 0, 1) := dk_42 (dk_at dksX24_hang_2 11 rfl rfl)
theorem dX24_hang_56 : decode cX24_hang 56 = .ok (.getfield 36, 3) := dk_180 0 36 (dk_at dksX24_hang_2 12 rfl rfl)
theorem dX24_hang_59 : decode cX24_hang 59 = .ok (.if_icmp .ge 37, 3) := dk_162 0 37 (dk_at dksX24_hang_2 15 rfl rfl)
theorem dX24_hang_62 : decode cX24_hang 62 = .ok (.iload_n 3, 1) := dk_29 (dk_at dksX24_hang_2 18 rfl rfl)
theorem dX24_hang_63 : decode cX24_hang 63 = .ok (.iload 6, 2) := dk_21 6 (dk_at dksX24_hang_2 19 rfl rfl)
theorem dX24_hang_65 : decode cX24_hang 65 = .ok (.ishr, 1) := dk_122 (dk_at dksX24_hang_2 21 rfl rfl)
theorem dX24_hang_66 : decode cX24_hang 66 = .ok (.iconst 1, 1) := dk_4 (dk_at dksX24_hang_2 22 rfl rfl)
theorem dX24_hang_67 : decode cX24_hang 67 = .ok (.iand, 1) := dk_126 (dk_at dksX24_hang_2 23 rfl rfl)
theorem dX24_hang_68 : decode cX24_hang 68 = .ok (.iconst 1, 1) := dk_4 (dk_at dksX24_hang_3 0 rfl rfl)
theorem dX24_hang_69 : decode cX24_hang 69 = .ok (.if_icmp .ne 21, 3) := dk_160 0 21 (dk_at dksX24_hang_3 1 rfl rfl)
theorem dX24_hang_72 : decode cX24_hang 72 = .ok (.aload_n 0, 1) := dk_42 (dk_at dksX24_hang_3 4 rfl rfl)
theorem dX24_hang_73 : decode cX24_hang 73 = .ok (.iload 5, 2) := dk_21 5 (dk_at dksX24_hang_3 5 rfl rfl)
theorem dX24_hang_75 : decode cX24_hang 75 = .ok (.iload 6, 2) := dk_21 6 (dk_at dksX24_hang_3 7 rfl rfl)
theorem dX24_hang_77 : decode cX24_hang 77 = .ok (.invokevirtual 85, 3) := dk_182 0 85 (dk_at dksX24_hang_3 9 rfl rfl)
theorem dX24_hang_80 : decode cX24_hang 80 = .ok (.ifCond .eq 10, 3) := dk_153 0 10 (dk_at dksX24_hang_3 12 rfl rfl)
theorem dX24_hang_83 : decode cX24_hang 83 = .ok (.iload_n 3, 1) := dk_29 (dk_at dksX24_hang_3 15 rfl rfl)
theorem dX24_hang_84 : decode cX24_hang 84 = .ok (.iconst 1, 1) := dk_4 (dk_at dksX24_hang_3 16 rfl rfl)
theorem dX24_hang_85 : decode cX24_hang 85 = .ok (.iload 5, 2) := dk_21 5 (dk_at dksX24_hang_3 17 rfl rfl)
theorem dX24_hang_87 : decode cX24_hang 87 = .ok (.ishl, 1) := dk_120 (dk_at dksX24_hang_3 19 rfl rfl)
theorem dX24_hang_88 : decode cX24_hang 88 = .ok (.ior, 1) := dk_128 (dk_at dksX24_hang_3 20 rfl rfl)
theorem dX24_hang_89 : decode cX24_hang 89 = .ok (.istore_n 3, 1) := dk_62 (dk_at dksX24_hang_3 21 rfl rfl)
theorem dX24_hang_90 : decode cX24_hang 90 = .ok (.iinc 6 1, 3) := dk_132 6 1 (dk_at dksX24_hang_4 0 rfl rfl)
theorem dX24_hang_93 : decode cX24_hang 93 = .ok (.goto (-40), 3) := dk_167 255 216 (dk_at dksX24_hang_4 3 rfl rfl)
theorem dX24_hang_96 : decode cX24_hang 96 = .ok (.iinc 5 1, 3) := dk_132 5 1 (dk_at dksX24_hang_4 6 rfl rfl)
theorem dX24_hang_99 : decode cX24_hang 99 = .ok (.goto (-80), 3) := dk_167 255 176 (dk_at dksX24_hang_4 9 rfl rfl)
theorem dX24_hang_102 : decode cX24_hang 102 = .ok (.goto (-95), 3) := dk_167 255 161 (dk_at dksX24_hang_4 12 rfl rfl)
theorem dX24_hang_105 : decode cX24_hang 105 = .ok (.iload_n 3, 1) := dk_29 (dk_at dksX24_hang_4 15 rfl rfl)
theorem dX24_hang_106 : decode cX24_hang 106 = .ok (.ireturn, 1) := dk_172 (dk_at dksX24_hang_4 16 rfl rfl)
abbrev cX24_meets : ByteArray := prog_6_method_13_code
def yX24_meets : MethodName := ⟨RX24, "meets", "(II)Z"⟩
def dkwX24_meets_2 : List UInt8 := [180, 0, 15, 27, 46, 42, 180, 0, 15, 28, 46, 160, 0, 7, 4, 167, 0, 4, 3, 172]
abbrev dktX24_meets_2 : List UInt8 := dkwX24_meets_2 ++ []
def dkwX24_meets_1 : List UInt8 := [180, 0, 15, 28, 46, 159, 0, 33, 42, 180, 0, 15, 27, 46, 42, 180, 0, 9, 28, 46, 159, 0, 18, 42]
abbrev dktX24_meets_1 : List UInt8 := dkwX24_meets_1 ++ dktX24_meets_2
def dkwX24_meets_0 : List UInt8 := [42, 180, 0, 9, 27, 46, 42, 180, 0, 9, 28, 46, 159, 0, 48, 42, 180, 0, 9, 27, 46, 42]
abbrev dktX24_meets_0 : List UInt8 := dkwX24_meets_0 ++ dktX24_meets_1
theorem dksX24_meets_0 : cX24_meets.data.toList.drop 0 = dktX24_meets_0 := by decide +kernel
theorem dksX24_meets_1 : cX24_meets.data.toList.drop 22 = dktX24_meets_1 := dk_seg dksX24_meets_0 22 rfl rfl
theorem dksX24_meets_2 : cX24_meets.data.toList.drop 46 = dktX24_meets_2 := dk_seg dksX24_meets_1 24 rfl rfl
theorem dX24_meets_0 : decode cX24_meets 0 = .ok (.aload_n 0, 1) := dk_42 (dk_at dksX24_meets_0 0 rfl rfl)
theorem dX24_meets_1 : decode cX24_meets 1 = .ok (.getfield 9, 3) := dk_180 0 9 (dk_at dksX24_meets_0 1 rfl rfl)
theorem dX24_meets_4 : decode cX24_meets 4 = .ok (.iload_n 1, 1) := dk_27 (dk_at dksX24_meets_0 4 rfl rfl)
theorem dX24_meets_5 : decode cX24_meets 5 = .ok (.iaload, 1) := dk_46 (dk_at dksX24_meets_0 5 rfl rfl)
theorem dX24_meets_6 : decode cX24_meets 6 = .ok (.aload_n 0, 1) := dk_42 (dk_at dksX24_meets_0 6 rfl rfl)
theorem dX24_meets_7 : decode cX24_meets 7 = .ok (.getfield 9, 3) := dk_180 0 9 (dk_at dksX24_meets_0 7 rfl rfl)
theorem dX24_meets_10 : decode cX24_meets 10 = .ok (.iload_n 2, 1) := dk_28 (dk_at dksX24_meets_0 10 rfl rfl)
theorem dX24_meets_11 : decode cX24_meets 11 = .ok (.iaload, 1) := dk_46 (dk_at dksX24_meets_0 11 rfl rfl)
theorem dX24_meets_12 : decode cX24_meets 12 = .ok (.if_icmp .eq 48, 3) := dk_159 0 48 (dk_at dksX24_meets_0 12 rfl rfl)
theorem dX24_meets_15 : decode cX24_meets 15 = .ok (.aload_n 0, 1) := dk_42 (dk_at dksX24_meets_0 15 rfl rfl)
theorem dX24_meets_16 : decode cX24_meets 16 = .ok (.getfield 9, 3) := dk_180 0 9 (dk_at dksX24_meets_0 16 rfl rfl)
theorem dX24_meets_19 : decode cX24_meets 19 = .ok (.iload_n 1, 1) := dk_27 (dk_at dksX24_meets_0 19 rfl rfl)
theorem dX24_meets_20 : decode cX24_meets 20 = .ok (.iaload, 1) := dk_46 (dk_at dksX24_meets_0 20 rfl rfl)
theorem dX24_meets_21 : decode cX24_meets 21 = .ok (.aload_n 0, 1) := dk_42 (dk_at dksX24_meets_0 21 rfl rfl)
theorem dX24_meets_22 : decode cX24_meets 22 = .ok (.getfield 15, 3) := dk_180 0 15 (dk_at dksX24_meets_1 0 rfl rfl)
theorem dX24_meets_25 : decode cX24_meets 25 = .ok (.iload_n 2, 1) := dk_28 (dk_at dksX24_meets_1 3 rfl rfl)
theorem dX24_meets_26 : decode cX24_meets 26 = .ok (.iaload, 1) := dk_46 (dk_at dksX24_meets_1 4 rfl rfl)
theorem dX24_meets_27 : decode cX24_meets 27 = .ok (.if_icmp .eq 33, 3) := dk_159 0 33 (dk_at dksX24_meets_1 5 rfl rfl)
theorem dX24_meets_30 : decode cX24_meets 30 = .ok (.aload_n 0, 1) := dk_42 (dk_at dksX24_meets_1 8 rfl rfl)
theorem dX24_meets_31 : decode cX24_meets 31 = .ok (.getfield 15, 3) := dk_180 0 15 (dk_at dksX24_meets_1 9 rfl rfl)
theorem dX24_meets_34 : decode cX24_meets 34 = .ok (.iload_n 1, 1) := dk_27 (dk_at dksX24_meets_1 12 rfl rfl)
theorem dX24_meets_35 : decode cX24_meets 35 = .ok (.iaload, 1) := dk_46 (dk_at dksX24_meets_1 13 rfl rfl)
theorem dX24_meets_36 : decode cX24_meets 36 = .ok (.aload_n 0, 1) := dk_42 (dk_at dksX24_meets_1 14 rfl rfl)
theorem dX24_meets_37 : decode cX24_meets 37 = .ok (.getfield 9, 3) := dk_180 0 9 (dk_at dksX24_meets_1 15 rfl rfl)
theorem dX24_meets_40 : decode cX24_meets 40 = .ok (.iload_n 2, 1) := dk_28 (dk_at dksX24_meets_1 18 rfl rfl)
theorem dX24_meets_41 : decode cX24_meets 41 = .ok (.iaload, 1) := dk_46 (dk_at dksX24_meets_1 19 rfl rfl)
theorem dX24_meets_42 : decode cX24_meets 42 = .ok (.if_icmp .eq 18, 3) := dk_159 0 18 (dk_at dksX24_meets_1 20 rfl rfl)
theorem dX24_meets_45 : decode cX24_meets 45 = .ok (.aload_n 0, 1) := dk_42 (dk_at dksX24_meets_1 23 rfl rfl)
theorem dX24_meets_46 : decode cX24_meets 46 = .ok (.getfield 15, 3) := dk_180 0 15 (dk_at dksX24_meets_2 0 rfl rfl)
theorem dX24_meets_49 : decode cX24_meets 49 = .ok (.iload_n 1, 1) := dk_27 (dk_at dksX24_meets_2 3 rfl rfl)
theorem dX24_meets_50 : decode cX24_meets 50 = .ok (.iaload, 1) := dk_46 (dk_at dksX24_meets_2 4 rfl rfl)
theorem dX24_meets_51 : decode cX24_meets 51 = .ok (.aload_n 0, 1) := dk_42 (dk_at dksX24_meets_2 5 rfl rfl)
theorem dX24_meets_52 : decode cX24_meets 52 = .ok (.getfield 15, 3) := dk_180 0 15 (dk_at dksX24_meets_2 6 rfl rfl)
theorem dX24_meets_55 : decode cX24_meets 55 = .ok (.iload_n 2, 1) := dk_28 (dk_at dksX24_meets_2 9 rfl rfl)
theorem dX24_meets_56 : decode cX24_meets 56 = .ok (.iaload, 1) := dk_46 (dk_at dksX24_meets_2 10 rfl rfl)
theorem dX24_meets_57 : decode cX24_meets 57 = .ok (.if_icmp .ne 7, 3) := dk_160 0 7 (dk_at dksX24_meets_2 11 rfl rfl)
theorem dX24_meets_60 : decode cX24_meets 60 = .ok (.iconst 1, 1) := dk_4 (dk_at dksX24_meets_2 14 rfl rfl)
theorem dX24_meets_61 : decode cX24_meets 61 = .ok (.goto 4, 3) := dk_167 0 4 (dk_at dksX24_meets_2 15 rfl rfl)
theorem dX24_meets_64 : decode cX24_meets 64 = .ok (.iconst 0, 1) := dk_3 (dk_at dksX24_meets_2 18 rfl rfl)
theorem dX24_meets_65 : decode cX24_meets 65 = .ok (.ireturn, 1) := dk_172 (dk_at dksX24_meets_2 19 rfl rfl)
abbrev cX24_between : ByteArray := prog_6_method_20_code
def yX24_between : MethodName := ⟨RX24, "between", "(III)I"⟩
def dkwX24_between_3 : List UInt8 := [160, 0, 7, 4, 167, 0, 4, 3, 96, 54, 4, 132, 5, 1, 167, 255, 179, 21, 4, 172]
abbrev dktX24_between_3 : List UInt8 := dkwX24_between_3 ++ []
def dkwX24_between_2 : List UInt8 := [159, 0, 25, 42, 180, 0, 9, 21, 5, 46, 28, 160, 0, 18, 42, 180, 0, 15, 21, 5, 46, 27]
abbrev dktX24_between_2 : List UInt8 := dkwX24_between_2 ++ dktX24_between_3
def dkwX24_between_1 : List UInt8 := [29, 160, 0, 51, 42, 180, 0, 9, 21, 5, 46, 27, 160, 0, 14, 42, 180, 0, 15, 21, 5, 46, 28]
abbrev dktX24_between_1 : List UInt8 := dkwX24_between_1 ++ dktX24_between_2
def dkwX24_between_0 : List UInt8 := [3, 54, 4, 3, 54, 5, 21, 5, 42, 180, 0, 36, 162, 0, 74, 21, 4, 42, 180, 0, 18, 21, 5, 46]
abbrev dktX24_between_0 : List UInt8 := dkwX24_between_0 ++ dktX24_between_1
theorem dksX24_between_0 : cX24_between.data.toList.drop 0 = dktX24_between_0 := by decide +kernel
theorem dksX24_between_1 : cX24_between.data.toList.drop 24 = dktX24_between_1 := dk_seg dksX24_between_0 24 rfl rfl
theorem dksX24_between_2 : cX24_between.data.toList.drop 47 = dktX24_between_2 := dk_seg dksX24_between_1 23 rfl rfl
theorem dksX24_between_3 : cX24_between.data.toList.drop 69 = dktX24_between_3 := dk_seg dksX24_between_2 22 rfl rfl
theorem dX24_between_0 : decode cX24_between 0 = .ok (.iconst 0, 1) := dk_3 (dk_at dksX24_between_0 0 rfl rfl)
theorem dX24_between_1 : decode cX24_between 1 = .ok (.istore 4, 2) := dk_54 4 (dk_at dksX24_between_0 1 rfl rfl)
theorem dX24_between_3 : decode cX24_between 3 = .ok (.iconst 0, 1) := dk_3 (dk_at dksX24_between_0 3 rfl rfl)
theorem dX24_between_4 : decode cX24_between 4 = .ok (.istore 5, 2) := dk_54 5 (dk_at dksX24_between_0 4 rfl rfl)
theorem dX24_between_6 : decode cX24_between 6 = .ok (.iload 5, 2) := dk_21 5 (dk_at dksX24_between_0 6 rfl rfl)
theorem dX24_between_8 : decode cX24_between 8 = .ok (.aload_n 0, 1) := dk_42 (dk_at dksX24_between_0 8 rfl rfl)
theorem dX24_between_9 : decode cX24_between 9 = .ok (.getfield 36, 3) := dk_180 0 36 (dk_at dksX24_between_0 9 rfl rfl)
theorem dX24_between_12 : decode cX24_between 12 = .ok (.if_icmp .ge 74, 3) := dk_162 0 74 (dk_at dksX24_between_0 12 rfl rfl)
theorem dX24_between_15 : decode cX24_between 15 = .ok (.iload 4, 2) := dk_21 4 (dk_at dksX24_between_0 15 rfl rfl)
theorem dX24_between_17 : decode cX24_between 17 = .ok (.aload_n 0, 1) := dk_42 (dk_at dksX24_between_0 17 rfl rfl)
theorem dX24_between_18 : decode cX24_between 18 = .ok (.getfield 18, 3) := dk_180 0 18 (dk_at dksX24_between_0 18 rfl rfl)
theorem dX24_between_21 : decode cX24_between 21 = .ok (.iload 5, 2) := dk_21 5 (dk_at dksX24_between_0 21 rfl rfl)
theorem dX24_between_23 : decode cX24_between 23 = .ok (.iaload, 1) := dk_46 (dk_at dksX24_between_0 23 rfl rfl)
theorem dX24_between_24 : decode cX24_between 24 = .ok (.iload_n 3, 1) := dk_29 (dk_at dksX24_between_1 0 rfl rfl)
theorem dX24_between_25 : decode cX24_between 25 = .ok (.if_icmp .ne 51, 3) := dk_160 0 51 (dk_at dksX24_between_1 1 rfl rfl)
theorem dX24_between_28 : decode cX24_between 28 = .ok (.aload_n 0, 1) := dk_42 (dk_at dksX24_between_1 4 rfl rfl)
theorem dX24_between_29 : decode cX24_between 29 = .ok (.getfield 9, 3) := dk_180 0 9 (dk_at dksX24_between_1 5 rfl rfl)
theorem dX24_between_32 : decode cX24_between 32 = .ok (.iload 5, 2) := dk_21 5 (dk_at dksX24_between_1 8 rfl rfl)
theorem dX24_between_34 : decode cX24_between 34 = .ok (.iaload, 1) := dk_46 (dk_at dksX24_between_1 10 rfl rfl)
theorem dX24_between_35 : decode cX24_between 35 = .ok (.iload_n 1, 1) := dk_27 (dk_at dksX24_between_1 11 rfl rfl)
theorem dX24_between_36 : decode cX24_between 36 = .ok (.if_icmp .ne 14, 3) := dk_160 0 14 (dk_at dksX24_between_1 12 rfl rfl)
theorem dX24_between_39 : decode cX24_between 39 = .ok (.aload_n 0, 1) := dk_42 (dk_at dksX24_between_1 15 rfl rfl)
theorem dX24_between_40 : decode cX24_between 40 = .ok (.getfield 15, 3) := dk_180 0 15 (dk_at dksX24_between_1 16 rfl rfl)
theorem dX24_between_43 : decode cX24_between 43 = .ok (.iload 5, 2) := dk_21 5 (dk_at dksX24_between_1 19 rfl rfl)
theorem dX24_between_45 : decode cX24_between 45 = .ok (.iaload, 1) := dk_46 (dk_at dksX24_between_1 21 rfl rfl)
theorem dX24_between_46 : decode cX24_between 46 = .ok (.iload_n 2, 1) := dk_28 (dk_at dksX24_between_1 22 rfl rfl)
theorem dX24_between_47 : decode cX24_between 47 = .ok (.if_icmp .eq 25, 3) := dk_159 0 25 (dk_at dksX24_between_2 0 rfl rfl)
theorem dX24_between_50 : decode cX24_between 50 = .ok (.aload_n 0, 1) := dk_42 (dk_at dksX24_between_2 3 rfl rfl)
theorem dX24_between_51 : decode cX24_between 51 = .ok (.getfield 9, 3) := dk_180 0 9 (dk_at dksX24_between_2 4 rfl rfl)
theorem dX24_between_54 : decode cX24_between 54 = .ok (.iload 5, 2) := dk_21 5 (dk_at dksX24_between_2 7 rfl rfl)
theorem dX24_between_56 : decode cX24_between 56 = .ok (.iaload, 1) := dk_46 (dk_at dksX24_between_2 9 rfl rfl)
theorem dX24_between_57 : decode cX24_between 57 = .ok (.iload_n 2, 1) := dk_28 (dk_at dksX24_between_2 10 rfl rfl)
theorem dX24_between_58 : decode cX24_between 58 = .ok (.if_icmp .ne 18, 3) := dk_160 0 18 (dk_at dksX24_between_2 11 rfl rfl)
theorem dX24_between_61 : decode cX24_between 61 = .ok (.aload_n 0, 1) := dk_42 (dk_at dksX24_between_2 14 rfl rfl)
theorem dX24_between_62 : decode cX24_between 62 = .ok (.getfield 15, 3) := dk_180 0 15 (dk_at dksX24_between_2 15 rfl rfl)
theorem dX24_between_65 : decode cX24_between 65 = .ok (.iload 5, 2) := dk_21 5 (dk_at dksX24_between_2 18 rfl rfl)
theorem dX24_between_67 : decode cX24_between 67 = .ok (.iaload, 1) := dk_46 (dk_at dksX24_between_2 20 rfl rfl)
theorem dX24_between_68 : decode cX24_between 68 = .ok (.iload_n 1, 1) := dk_27 (dk_at dksX24_between_2 21 rfl rfl)
theorem dX24_between_69 : decode cX24_between 69 = .ok (.if_icmp .ne 7, 3) := dk_160 0 7 (dk_at dksX24_between_3 0 rfl rfl)
theorem dX24_between_72 : decode cX24_between 72 = .ok (.iconst 1, 1) := dk_4 (dk_at dksX24_between_3 3 rfl rfl)
theorem dX24_between_73 : decode cX24_between 73 = .ok (.goto 4, 3) := dk_167 0 4 (dk_at dksX24_between_3 4 rfl rfl)
theorem dX24_between_76 : decode cX24_between 76 = .ok (.iconst 0, 1) := dk_3 (dk_at dksX24_between_3 7 rfl rfl)
theorem dX24_between_77 : decode cX24_between 77 = .ok (.iadd, 1) := dk_96 (dk_at dksX24_between_3 8 rfl rfl)
theorem dX24_between_78 : decode cX24_between 78 = .ok (.istore 4, 2) := dk_54 4 (dk_at dksX24_between_3 9 rfl rfl)
theorem dX24_between_80 : decode cX24_between 80 = .ok (.iinc 5 1, 3) := dk_132 5 1 (dk_at dksX24_between_3 11 rfl rfl)
theorem dX24_between_83 : decode cX24_between 83 = .ok (.goto (-77), 3) := dk_167 255 179 (dk_at dksX24_between_3 14 rfl rfl)
theorem dX24_between_86 : decode cX24_between 86 = .ok (.iload 4, 2) := dk_21 4 (dk_at dksX24_between_3 17 rfl rfl)
theorem dX24_between_88 : decode cX24_between 88 = .ok (.ireturn, 1) := dk_172 (dk_at dksX24_between_3 19 rfl rfl)
abbrev cX24_strokes : ByteArray := prog_6_method_19_code
def yX24_strokes : MethodName := ⟨RX24, "strokes", "()I"⟩
def dkwX24_strokes_1 : List UInt8 := [29, 182, 0, 100, 5, 108, 184, 0, 110, 96, 60, 28, 29, 2, 130, 126, 61, 167, 255, 222, 27, 172]
abbrev dktX24_strokes_1 : List UInt8 := dkwX24_strokes_1 ++ []
def dkwX24_strokes_0 : List UInt8 := [3, 60, 42, 182, 0, 106, 61, 28, 153, 0, 36, 42, 28, 28, 184, 0, 89, 182, 0, 94, 62, 27, 4, 42]
abbrev dktX24_strokes_0 : List UInt8 := dkwX24_strokes_0 ++ dktX24_strokes_1
theorem dksX24_strokes_0 : cX24_strokes.data.toList.drop 0 = dktX24_strokes_0 := by decide +kernel
theorem dksX24_strokes_1 : cX24_strokes.data.toList.drop 24 = dktX24_strokes_1 := dk_seg dksX24_strokes_0 24 rfl rfl
theorem dX24_strokes_0 : decode cX24_strokes 0 = .ok (.iconst 0, 1) := dk_3 (dk_at dksX24_strokes_0 0 rfl rfl)
theorem dX24_strokes_1 : decode cX24_strokes 1 = .ok (.istore_n 1, 1) := dk_60 (dk_at dksX24_strokes_0 1 rfl rfl)
theorem dX24_strokes_2 : decode cX24_strokes 2 = .ok (.aload_n 0, 1) := dk_42 (dk_at dksX24_strokes_0 2 rfl rfl)
theorem dX24_strokes_3 : decode cX24_strokes 3 = .ok (.invokevirtual 106, 3) := dk_182 0 106 (dk_at dksX24_strokes_0 3 rfl rfl)
theorem dX24_strokes_6 : decode cX24_strokes 6 = .ok (.istore_n 2, 1) := dk_61 (dk_at dksX24_strokes_0 6 rfl rfl)
theorem dX24_strokes_7 : decode cX24_strokes 7 = .ok (.iload_n 2, 1) := dk_28 (dk_at dksX24_strokes_0 7 rfl rfl)
theorem dX24_strokes_8 : decode cX24_strokes 8 = .ok (.ifCond .eq 36, 3) := dk_153 0 36 (dk_at dksX24_strokes_0 8 rfl rfl)
theorem dX24_strokes_11 : decode cX24_strokes 11 = .ok (.aload_n 0, 1) := dk_42 (dk_at dksX24_strokes_0 11 rfl rfl)
theorem dX24_strokes_12 : decode cX24_strokes 12 = .ok (.iload_n 2, 1) := dk_28 (dk_at dksX24_strokes_0 12 rfl rfl)
theorem dX24_strokes_13 : decode cX24_strokes 13 = .ok (.iload_n 2, 1) := dk_28 (dk_at dksX24_strokes_0 13 rfl rfl)
theorem dX24_strokes_14 : decode cX24_strokes 14 = .ok (.invokestatic 89, 3) := dk_184 0 89 (dk_at dksX24_strokes_0 14 rfl rfl)
theorem dX24_strokes_17 : decode cX24_strokes 17 = .ok (.invokevirtual 94, 3) := dk_182 0 94 (dk_at dksX24_strokes_0 17 rfl rfl)
theorem dX24_strokes_20 : decode cX24_strokes 20 = .ok (.istore_n 3, 1) := dk_62 (dk_at dksX24_strokes_0 20 rfl rfl)
theorem dX24_strokes_21 : decode cX24_strokes 21 = .ok (.iload_n 1, 1) := dk_27 (dk_at dksX24_strokes_0 21 rfl rfl)
theorem dX24_strokes_22 : decode cX24_strokes 22 = .ok (.iconst 1, 1) := dk_4 (dk_at dksX24_strokes_0 22 rfl rfl)
theorem dX24_strokes_23 : decode cX24_strokes 23 = .ok (.aload_n 0, 1) := dk_42 (dk_at dksX24_strokes_0 23 rfl rfl)
theorem dX24_strokes_24 : decode cX24_strokes 24 = .ok (.iload_n 3, 1) := dk_29 (dk_at dksX24_strokes_1 0 rfl rfl)
theorem dX24_strokes_25 : decode cX24_strokes 25 = .ok (.invokevirtual 100, 3) := dk_182 0 100 (dk_at dksX24_strokes_1 1 rfl rfl)
theorem dX24_strokes_28 : decode cX24_strokes 28 = .ok (.iconst 2, 1) := dk_5 (dk_at dksX24_strokes_1 4 rfl rfl)
theorem dX24_strokes_29 : decode cX24_strokes 29 = .ok (.idiv, 1) := dk_108 (dk_at dksX24_strokes_1 5 rfl rfl)
theorem dX24_strokes_30 : decode cX24_strokes 30 = .ok (.invokestatic 110, 3) := dk_184 0 110 (dk_at dksX24_strokes_1 6 rfl rfl)
theorem dX24_strokes_33 : decode cX24_strokes 33 = .ok (.iadd, 1) := dk_96 (dk_at dksX24_strokes_1 9 rfl rfl)
theorem dX24_strokes_34 : decode cX24_strokes 34 = .ok (.istore_n 1, 1) := dk_60 (dk_at dksX24_strokes_1 10 rfl rfl)
theorem dX24_strokes_35 : decode cX24_strokes 35 = .ok (.iload_n 2, 1) := dk_28 (dk_at dksX24_strokes_1 11 rfl rfl)
theorem dX24_strokes_36 : decode cX24_strokes 36 = .ok (.iload_n 3, 1) := dk_29 (dk_at dksX24_strokes_1 12 rfl rfl)
theorem dX24_strokes_37 : decode cX24_strokes 37 = .ok (.iconst (-1), 1) := dk_2 (dk_at dksX24_strokes_1 13 rfl rfl)
theorem dX24_strokes_38 : decode cX24_strokes 38 = .ok (.ixor, 1) := dk_130 (dk_at dksX24_strokes_1 14 rfl rfl)
theorem dX24_strokes_39 : decode cX24_strokes 39 = .ok (.iand, 1) := dk_126 (dk_at dksX24_strokes_1 15 rfl rfl)
theorem dX24_strokes_40 : decode cX24_strokes 40 = .ok (.istore_n 2, 1) := dk_61 (dk_at dksX24_strokes_1 16 rfl rfl)
theorem dX24_strokes_41 : decode cX24_strokes 41 = .ok (.goto (-34), 3) := dk_167 255 222 (dk_at dksX24_strokes_1 17 rfl rfl)
theorem dX24_strokes_44 : decode cX24_strokes 44 = .ok (.iload_n 1, 1) := dk_27 (dk_at dksX24_strokes_1 20 rfl rfl)
theorem dX24_strokes_45 : decode cX24_strokes 45 = .ok (.ireturn, 1) := dk_172 (dk_at dksX24_strokes_1 21 rfl rfl)
abbrev cX24_oddOf : ByteArray := prog_6_method_17_code
def yX24_oddOf : MethodName := ⟨RX24, "oddOf", "(I)I"⟩
def dkwX24_oddOf_2 : List UInt8 := [184, 0, 103, 172]
abbrev dktX24_oddOf_2 : List UInt8 := dkwX24_oddOf_2 ++ []
def dkwX24_oddOf_1 : List UInt8 := [180, 0, 9, 29, 46, 120, 4, 42, 180, 0, 15, 29, 46, 120, 130, 130, 61, 132, 3, 1, 167, 255, 216, 28]
abbrev dktX24_oddOf_1 : List UInt8 := dkwX24_oddOf_1 ++ dktX24_oddOf_2
def dkwX24_oddOf_0 : List UInt8 := [3, 61, 3, 62, 29, 42, 180, 0, 36, 162, 0, 38, 27, 29, 122, 4, 126, 4, 160, 0, 23, 28, 4, 42]
abbrev dktX24_oddOf_0 : List UInt8 := dkwX24_oddOf_0 ++ dktX24_oddOf_1
theorem dksX24_oddOf_0 : cX24_oddOf.data.toList.drop 0 = dktX24_oddOf_0 := by decide +kernel
theorem dksX24_oddOf_1 : cX24_oddOf.data.toList.drop 24 = dktX24_oddOf_1 := dk_seg dksX24_oddOf_0 24 rfl rfl
theorem dksX24_oddOf_2 : cX24_oddOf.data.toList.drop 48 = dktX24_oddOf_2 := dk_seg dksX24_oddOf_1 24 rfl rfl
theorem dX24_oddOf_0 : decode cX24_oddOf 0 = .ok (.iconst 0, 1) := dk_3 (dk_at dksX24_oddOf_0 0 rfl rfl)
theorem dX24_oddOf_1 : decode cX24_oddOf 1 = .ok (.istore_n 2, 1) := dk_61 (dk_at dksX24_oddOf_0 1 rfl rfl)
theorem dX24_oddOf_2 : decode cX24_oddOf 2 = .ok (.iconst 0, 1) := dk_3 (dk_at dksX24_oddOf_0 2 rfl rfl)
theorem dX24_oddOf_3 : decode cX24_oddOf 3 = .ok (.istore_n 3, 1) := dk_62 (dk_at dksX24_oddOf_0 3 rfl rfl)
theorem dX24_oddOf_4 : decode cX24_oddOf 4 = .ok (.iload_n 3, 1) := dk_29 (dk_at dksX24_oddOf_0 4 rfl rfl)
theorem dX24_oddOf_5 : decode cX24_oddOf 5 = .ok (.aload_n 0, 1) := dk_42 (dk_at dksX24_oddOf_0 5 rfl rfl)
theorem dX24_oddOf_6 : decode cX24_oddOf 6 = .ok (.getfield 36, 3) := dk_180 0 36 (dk_at dksX24_oddOf_0 6 rfl rfl)
theorem dX24_oddOf_9 : decode cX24_oddOf 9 = .ok (.if_icmp .ge 38, 3) := dk_162 0 38 (dk_at dksX24_oddOf_0 9 rfl rfl)
theorem dX24_oddOf_12 : decode cX24_oddOf 12 = .ok (.iload_n 1, 1) := dk_27 (dk_at dksX24_oddOf_0 12 rfl rfl)
theorem dX24_oddOf_13 : decode cX24_oddOf 13 = .ok (.iload_n 3, 1) := dk_29 (dk_at dksX24_oddOf_0 13 rfl rfl)
theorem dX24_oddOf_14 : decode cX24_oddOf 14 = .ok (.ishr, 1) := dk_122 (dk_at dksX24_oddOf_0 14 rfl rfl)
theorem dX24_oddOf_15 : decode cX24_oddOf 15 = .ok (.iconst 1, 1) := dk_4 (dk_at dksX24_oddOf_0 15 rfl rfl)
theorem dX24_oddOf_16 : decode cX24_oddOf 16 = .ok (.iand, 1) := dk_126 (dk_at dksX24_oddOf_0 16 rfl rfl)
theorem dX24_oddOf_17 : decode cX24_oddOf 17 = .ok (.iconst 1, 1) := dk_4 (dk_at dksX24_oddOf_0 17 rfl rfl)
theorem dX24_oddOf_18 : decode cX24_oddOf 18 = .ok (.if_icmp .ne 23, 3) := dk_160 0 23 (dk_at dksX24_oddOf_0 18 rfl rfl)
theorem dX24_oddOf_21 : decode cX24_oddOf 21 = .ok (.iload_n 2, 1) := dk_28 (dk_at dksX24_oddOf_0 21 rfl rfl)
theorem dX24_oddOf_22 : decode cX24_oddOf 22 = .ok (.iconst 1, 1) := dk_4 (dk_at dksX24_oddOf_0 22 rfl rfl)
theorem dX24_oddOf_23 : decode cX24_oddOf 23 = .ok (.aload_n 0, 1) := dk_42 (dk_at dksX24_oddOf_0 23 rfl rfl)
theorem dX24_oddOf_24 : decode cX24_oddOf 24 = .ok (.getfield 9, 3) := dk_180 0 9 (dk_at dksX24_oddOf_1 0 rfl rfl)
theorem dX24_oddOf_27 : decode cX24_oddOf 27 = .ok (.iload_n 3, 1) := dk_29 (dk_at dksX24_oddOf_1 3 rfl rfl)
theorem dX24_oddOf_28 : decode cX24_oddOf 28 = .ok (.iaload, 1) := dk_46 (dk_at dksX24_oddOf_1 4 rfl rfl)
theorem dX24_oddOf_29 : decode cX24_oddOf 29 = .ok (.ishl, 1) := dk_120 (dk_at dksX24_oddOf_1 5 rfl rfl)
theorem dX24_oddOf_30 : decode cX24_oddOf 30 = .ok (.iconst 1, 1) := dk_4 (dk_at dksX24_oddOf_1 6 rfl rfl)
theorem dX24_oddOf_31 : decode cX24_oddOf 31 = .ok (.aload_n 0, 1) := dk_42 (dk_at dksX24_oddOf_1 7 rfl rfl)
theorem dX24_oddOf_32 : decode cX24_oddOf 32 = .ok (.getfield 15, 3) := dk_180 0 15 (dk_at dksX24_oddOf_1 8 rfl rfl)
theorem dX24_oddOf_35 : decode cX24_oddOf 35 = .ok (.iload_n 3, 1) := dk_29 (dk_at dksX24_oddOf_1 11 rfl rfl)
theorem dX24_oddOf_36 : decode cX24_oddOf 36 = .ok (.iaload, 1) := dk_46 (dk_at dksX24_oddOf_1 12 rfl rfl)
theorem dX24_oddOf_37 : decode cX24_oddOf 37 = .ok (.ishl, 1) := dk_120 (dk_at dksX24_oddOf_1 13 rfl rfl)
theorem dX24_oddOf_38 : decode cX24_oddOf 38 = .ok (.ixor, 1) := dk_130 (dk_at dksX24_oddOf_1 14 rfl rfl)
theorem dX24_oddOf_39 : decode cX24_oddOf 39 = .ok (.ixor, 1) := dk_130 (dk_at dksX24_oddOf_1 15 rfl rfl)
theorem dX24_oddOf_40 : decode cX24_oddOf 40 = .ok (.istore_n 2, 1) := dk_61 (dk_at dksX24_oddOf_1 16 rfl rfl)
theorem dX24_oddOf_41 : decode cX24_oddOf 41 = .ok (.iinc 3 1, 3) := dk_132 3 1 (dk_at dksX24_oddOf_1 17 rfl rfl)
theorem dX24_oddOf_44 : decode cX24_oddOf 44 = .ok (.goto (-40), 3) := dk_167 255 216 (dk_at dksX24_oddOf_1 20 rfl rfl)
theorem dX24_oddOf_47 : decode cX24_oddOf 47 = .ok (.iload_n 2, 1) := dk_28 (dk_at dksX24_oddOf_1 23 rfl rfl)
theorem dX24_oddOf_48 : decode cX24_oddOf 48 = .ok (.invokestatic 103, 3) := dk_184 0 103 (dk_at dksX24_oddOf_2 0 rfl rfl)
theorem dX24_oddOf_51 : decode cX24_oddOf 51 = .ok (.ireturn, 1) := dk_172 (dk_at dksX24_oddOf_2 3 rfl rfl)
abbrev cX24_lengthOf : ByteArray := prog_6_method_18_code
def yX24_lengthOf : MethodName := ⟨RX24, "lengthOf", "(I)I"⟩
def dkwX24_lengthOf_1 : List UInt8 := [180, 0, 18, 29, 46, 167, 0, 4, 3, 96, 61, 132, 3, 1, 167, 255, 223, 28, 172]
abbrev dktX24_lengthOf_1 : List UInt8 := dkwX24_lengthOf_1 ++ []
def dkwX24_lengthOf_0 : List UInt8 := [3, 61, 3, 62, 29, 42, 180, 0, 36, 162, 0, 31, 28, 27, 29, 122, 4, 126, 4, 160, 0, 12, 42]
abbrev dktX24_lengthOf_0 : List UInt8 := dkwX24_lengthOf_0 ++ dktX24_lengthOf_1
theorem dksX24_lengthOf_0 : cX24_lengthOf.data.toList.drop 0 = dktX24_lengthOf_0 := by decide +kernel
theorem dksX24_lengthOf_1 : cX24_lengthOf.data.toList.drop 23 = dktX24_lengthOf_1 := dk_seg dksX24_lengthOf_0 23 rfl rfl
theorem dX24_lengthOf_0 : decode cX24_lengthOf 0 = .ok (.iconst 0, 1) := dk_3 (dk_at dksX24_lengthOf_0 0 rfl rfl)
theorem dX24_lengthOf_1 : decode cX24_lengthOf 1 = .ok (.istore_n 2, 1) := dk_61 (dk_at dksX24_lengthOf_0 1 rfl rfl)
theorem dX24_lengthOf_2 : decode cX24_lengthOf 2 = .ok (.iconst 0, 1) := dk_3 (dk_at dksX24_lengthOf_0 2 rfl rfl)
theorem dX24_lengthOf_3 : decode cX24_lengthOf 3 = .ok (.istore_n 3, 1) := dk_62 (dk_at dksX24_lengthOf_0 3 rfl rfl)
theorem dX24_lengthOf_4 : decode cX24_lengthOf 4 = .ok (.iload_n 3, 1) := dk_29 (dk_at dksX24_lengthOf_0 4 rfl rfl)
theorem dX24_lengthOf_5 : decode cX24_lengthOf 5 = .ok (.aload_n 0, 1) := dk_42 (dk_at dksX24_lengthOf_0 5 rfl rfl)
theorem dX24_lengthOf_6 : decode cX24_lengthOf 6 = .ok (.getfield 36, 3) := dk_180 0 36 (dk_at dksX24_lengthOf_0 6 rfl rfl)
theorem dX24_lengthOf_9 : decode cX24_lengthOf 9 = .ok (.if_icmp .ge 31, 3) := dk_162 0 31 (dk_at dksX24_lengthOf_0 9 rfl rfl)
theorem dX24_lengthOf_12 : decode cX24_lengthOf 12 = .ok (.iload_n 2, 1) := dk_28 (dk_at dksX24_lengthOf_0 12 rfl rfl)
theorem dX24_lengthOf_13 : decode cX24_lengthOf 13 = .ok (.iload_n 1, 1) := dk_27 (dk_at dksX24_lengthOf_0 13 rfl rfl)
theorem dX24_lengthOf_14 : decode cX24_lengthOf 14 = .ok (.iload_n 3, 1) := dk_29 (dk_at dksX24_lengthOf_0 14 rfl rfl)
theorem dX24_lengthOf_15 : decode cX24_lengthOf 15 = .ok (.ishr, 1) := dk_122 (dk_at dksX24_lengthOf_0 15 rfl rfl)
theorem dX24_lengthOf_16 : decode cX24_lengthOf 16 = .ok (.iconst 1, 1) := dk_4 (dk_at dksX24_lengthOf_0 16 rfl rfl)
theorem dX24_lengthOf_17 : decode cX24_lengthOf 17 = .ok (.iand, 1) := dk_126 (dk_at dksX24_lengthOf_0 17 rfl rfl)
theorem dX24_lengthOf_18 : decode cX24_lengthOf 18 = .ok (.iconst 1, 1) := dk_4 (dk_at dksX24_lengthOf_0 18 rfl rfl)
theorem dX24_lengthOf_19 : decode cX24_lengthOf 19 = .ok (.if_icmp .ne 12, 3) := dk_160 0 12 (dk_at dksX24_lengthOf_0 19 rfl rfl)
theorem dX24_lengthOf_22 : decode cX24_lengthOf 22 = .ok (.aload_n 0, 1) := dk_42 (dk_at dksX24_lengthOf_0 22 rfl rfl)
theorem dX24_lengthOf_23 : decode cX24_lengthOf 23 = .ok (.getfield 18, 3) := dk_180 0 18 (dk_at dksX24_lengthOf_1 0 rfl rfl)
theorem dX24_lengthOf_26 : decode cX24_lengthOf 26 = .ok (.iload_n 3, 1) := dk_29 (dk_at dksX24_lengthOf_1 3 rfl rfl)
theorem dX24_lengthOf_27 : decode cX24_lengthOf 27 = .ok (.iaload, 1) := dk_46 (dk_at dksX24_lengthOf_1 4 rfl rfl)
theorem dX24_lengthOf_28 : decode cX24_lengthOf 28 = .ok (.goto 4, 3) := dk_167 0 4 (dk_at dksX24_lengthOf_1 5 rfl rfl)
theorem dX24_lengthOf_31 : decode cX24_lengthOf 31 = .ok (.iconst 0, 1) := dk_3 (dk_at dksX24_lengthOf_1 8 rfl rfl)
theorem dX24_lengthOf_32 : decode cX24_lengthOf 32 = .ok (.iadd, 1) := dk_96 (dk_at dksX24_lengthOf_1 9 rfl rfl)
theorem dX24_lengthOf_33 : decode cX24_lengthOf 33 = .ok (.istore_n 2, 1) := dk_61 (dk_at dksX24_lengthOf_1 10 rfl rfl)
theorem dX24_lengthOf_34 : decode cX24_lengthOf 34 = .ok (.iinc 3 1, 3) := dk_132 3 1 (dk_at dksX24_lengthOf_1 11 rfl rfl)
theorem dX24_lengthOf_37 : decode cX24_lengthOf 37 = .ok (.goto (-33), 3) := dk_167 255 223 (dk_at dksX24_lengthOf_1 14 rfl rfl)
theorem dX24_lengthOf_40 : decode cX24_lengthOf 40 = .ok (.iload_n 2, 1) := dk_28 (dk_at dksX24_lengthOf_1 17 rfl rfl)
theorem dX24_lengthOf_41 : decode cX24_lengthOf 41 = .ok (.ireturn, 1) := dk_172 (dk_at dksX24_lengthOf_1 18 rfl rfl)
abbrev cX24_isWay : ByteArray := prog_6_method_16_code
def yX24_isWay : MethodName := ⟨RX24, "isWay", "(I)Z"⟩
def dkwX24_isWay_0 : List UInt8 := [42, 27, 182, 0, 97, 4, 160, 0, 16, 42, 27, 182, 0, 100, 5, 163, 0, 7, 4, 167, 0, 4, 3, 172]
abbrev dktX24_isWay_0 : List UInt8 := dkwX24_isWay_0 ++ []
theorem dksX24_isWay_0 : cX24_isWay.data.toList.drop 0 = dktX24_isWay_0 := by decide +kernel
theorem dX24_isWay_0 : decode cX24_isWay 0 = .ok (.aload_n 0, 1) := dk_42 (dk_at dksX24_isWay_0 0 rfl rfl)
theorem dX24_isWay_1 : decode cX24_isWay 1 = .ok (.iload_n 1, 1) := dk_27 (dk_at dksX24_isWay_0 1 rfl rfl)
theorem dX24_isWay_2 : decode cX24_isWay 2 = .ok (.invokevirtual 97, 3) := dk_182 0 97 (dk_at dksX24_isWay_0 2 rfl rfl)
theorem dX24_isWay_5 : decode cX24_isWay 5 = .ok (.iconst 1, 1) := dk_4 (dk_at dksX24_isWay_0 5 rfl rfl)
theorem dX24_isWay_6 : decode cX24_isWay 6 = .ok (.if_icmp .ne 16, 3) := dk_160 0 16 (dk_at dksX24_isWay_0 6 rfl rfl)
theorem dX24_isWay_9 : decode cX24_isWay 9 = .ok (.aload_n 0, 1) := dk_42 (dk_at dksX24_isWay_0 9 rfl rfl)
theorem dX24_isWay_10 : decode cX24_isWay 10 = .ok (.iload_n 1, 1) := dk_27 (dk_at dksX24_isWay_0 10 rfl rfl)
theorem dX24_isWay_11 : decode cX24_isWay 11 = .ok (.invokevirtual 100, 3) := dk_182 0 100 (dk_at dksX24_isWay_0 11 rfl rfl)
theorem dX24_isWay_14 : decode cX24_isWay 14 = .ok (.iconst 2, 1) := dk_5 (dk_at dksX24_isWay_0 14 rfl rfl)
theorem dX24_isWay_15 : decode cX24_isWay 15 = .ok (.if_icmp .gt 7, 3) := dk_163 0 7 (dk_at dksX24_isWay_0 15 rfl rfl)
theorem dX24_isWay_18 : decode cX24_isWay 18 = .ok (.iconst 1, 1) := dk_4 (dk_at dksX24_isWay_0 18 rfl rfl)
theorem dX24_isWay_19 : decode cX24_isWay 19 = .ok (.goto 4, 3) := dk_167 0 4 (dk_at dksX24_isWay_0 19 rfl rfl)
theorem dX24_isWay_22 : decode cX24_isWay 22 = .ok (.iconst 0, 1) := dk_3 (dk_at dksX24_isWay_0 22 rfl rfl)
theorem dX24_isWay_23 : decode cX24_isWay 23 = .ok (.ireturn, 1) := dk_172 (dk_at dksX24_isWay_0 23 rfl rfl)
abbrev cX24_bubblesOf : ByteArray := prog_6_method_8_code
def yX24_bubblesOf : MethodName := ⟨RX24, "bubblesOf", "(I)I"⟩
def dkwX24_bubblesOf_1 : List UInt8 := [167, 0, 4, 3, 96, 61, 132, 3, 1, 167, 255, 227, 28, 172]
abbrev dktX24_bubblesOf_1 : List UInt8 := dkwX24_bubblesOf_1 ++ []
def dkwX24_bubblesOf_0 : List UInt8 := [3, 61, 3, 62, 29, 42, 180, 0, 36, 162, 0, 27, 28, 42, 180, 0, 21, 29, 46, 27, 160, 0, 7, 4]
abbrev dktX24_bubblesOf_0 : List UInt8 := dkwX24_bubblesOf_0 ++ dktX24_bubblesOf_1
theorem dksX24_bubblesOf_0 : cX24_bubblesOf.data.toList.drop 0 = dktX24_bubblesOf_0 := by decide +kernel
theorem dksX24_bubblesOf_1 : cX24_bubblesOf.data.toList.drop 24 = dktX24_bubblesOf_1 := dk_seg dksX24_bubblesOf_0 24 rfl rfl
theorem dX24_bubblesOf_0 : decode cX24_bubblesOf 0 = .ok (.iconst 0, 1) := dk_3 (dk_at dksX24_bubblesOf_0 0 rfl rfl)
theorem dX24_bubblesOf_1 : decode cX24_bubblesOf 1 = .ok (.istore_n 2, 1) := dk_61 (dk_at dksX24_bubblesOf_0 1 rfl rfl)
theorem dX24_bubblesOf_2 : decode cX24_bubblesOf 2 = .ok (.iconst 0, 1) := dk_3 (dk_at dksX24_bubblesOf_0 2 rfl rfl)
theorem dX24_bubblesOf_3 : decode cX24_bubblesOf 3 = .ok (.istore_n 3, 1) := dk_62 (dk_at dksX24_bubblesOf_0 3 rfl rfl)
theorem dX24_bubblesOf_4 : decode cX24_bubblesOf 4 = .ok (.iload_n 3, 1) := dk_29 (dk_at dksX24_bubblesOf_0 4 rfl rfl)
theorem dX24_bubblesOf_5 : decode cX24_bubblesOf 5 = .ok (.aload_n 0, 1) := dk_42 (dk_at dksX24_bubblesOf_0 5 rfl rfl)
theorem dX24_bubblesOf_6 : decode cX24_bubblesOf 6 = .ok (.getfield 36, 3) := dk_180 0 36 (dk_at dksX24_bubblesOf_0 6 rfl rfl)
theorem dX24_bubblesOf_9 : decode cX24_bubblesOf 9 = .ok (.if_icmp .ge 27, 3) := dk_162 0 27 (dk_at dksX24_bubblesOf_0 9 rfl rfl)
theorem dX24_bubblesOf_12 : decode cX24_bubblesOf 12 = .ok (.iload_n 2, 1) := dk_28 (dk_at dksX24_bubblesOf_0 12 rfl rfl)
theorem dX24_bubblesOf_13 : decode cX24_bubblesOf 13 = .ok (.aload_n 0, 1) := dk_42 (dk_at dksX24_bubblesOf_0 13 rfl rfl)
theorem dX24_bubblesOf_14 : decode cX24_bubblesOf 14 = .ok (.getfield 21, 3) := dk_180 0 21 (dk_at dksX24_bubblesOf_0 14 rfl rfl)
theorem dX24_bubblesOf_17 : decode cX24_bubblesOf 17 = .ok (.iload_n 3, 1) := dk_29 (dk_at dksX24_bubblesOf_0 17 rfl rfl)
theorem dX24_bubblesOf_18 : decode cX24_bubblesOf 18 = .ok (.iaload, 1) := dk_46 (dk_at dksX24_bubblesOf_0 18 rfl rfl)
theorem dX24_bubblesOf_19 : decode cX24_bubblesOf 19 = .ok (.iload_n 1, 1) := dk_27 (dk_at dksX24_bubblesOf_0 19 rfl rfl)
theorem dX24_bubblesOf_20 : decode cX24_bubblesOf 20 = .ok (.if_icmp .ne 7, 3) := dk_160 0 7 (dk_at dksX24_bubblesOf_0 20 rfl rfl)
theorem dX24_bubblesOf_23 : decode cX24_bubblesOf 23 = .ok (.iconst 1, 1) := dk_4 (dk_at dksX24_bubblesOf_0 23 rfl rfl)
theorem dX24_bubblesOf_24 : decode cX24_bubblesOf 24 = .ok (.goto 4, 3) := dk_167 0 4 (dk_at dksX24_bubblesOf_1 0 rfl rfl)
theorem dX24_bubblesOf_27 : decode cX24_bubblesOf 27 = .ok (.iconst 0, 1) := dk_3 (dk_at dksX24_bubblesOf_1 3 rfl rfl)
theorem dX24_bubblesOf_28 : decode cX24_bubblesOf 28 = .ok (.iadd, 1) := dk_96 (dk_at dksX24_bubblesOf_1 4 rfl rfl)
theorem dX24_bubblesOf_29 : decode cX24_bubblesOf 29 = .ok (.istore_n 2, 1) := dk_61 (dk_at dksX24_bubblesOf_1 5 rfl rfl)
theorem dX24_bubblesOf_30 : decode cX24_bubblesOf 30 = .ok (.iinc 3 1, 3) := dk_132 3 1 (dk_at dksX24_bubblesOf_1 6 rfl rfl)
theorem dX24_bubblesOf_33 : decode cX24_bubblesOf 33 = .ok (.goto (-29), 3) := dk_167 255 227 (dk_at dksX24_bubblesOf_1 9 rfl rfl)
theorem dX24_bubblesOf_36 : decode cX24_bubblesOf 36 = .ok (.iload_n 2, 1) := dk_28 (dk_at dksX24_bubblesOf_1 12 rfl rfl)
theorem dX24_bubblesOf_37 : decode cX24_bubblesOf 37 = .ok (.ireturn, 1) := dk_172 (dk_at dksX24_bubblesOf_1 13 rfl rfl)
theorem q130 : (Jvm.Cond.initialized "BalloonStall$Figure") ∈ lw_all := lw_g (lw_at lw_m1 28 rfl) rfl
theorem q708 : (Jvm.Cond.fieldLinkNest "BalloonStall$Figure" (55 : Nat) "BalloonStall$Hand" "from" "[I" "BalloonStall") ∈ lw_tbl := lw_at lw_m3 126 rfl
theorem q710 : (Jvm.Cond.fieldLinkNest "BalloonStall$Figure" (56 : Nat) "BalloonStall$Hand" "to" "[I" "BalloonStall") ∈ lw_tbl := lw_at lw_m3 128 rfl
theorem q712 : (Jvm.Cond.fieldLinkNest "BalloonStall$Figure" (57 : Nat) "BalloonStall$Hand" "lengths" "[I" "BalloonStall") ∈ lw_tbl := lw_at lw_m3 130 rfl
theorem q714 : (Jvm.Cond.fieldLinkNest "BalloonStall$Figure" (58 : Nat) "BalloonStall$Hand" "balloon" "[I" "BalloonStall") ∈ lw_tbl := lw_at lw_m3 132 rfl
theorem q716 : (Jvm.Cond.fieldLinkNest "BalloonStall$Figure" (59 : Nat) "BalloonStall$Hand" "sort" "[I" "BalloonStall") ∈ lw_tbl := lw_at lw_m3 134 rfl
theorem q721 : (Jvm.Cond.fieldLinkNest "BalloonStall$Figure" (47 : Nat) "BalloonStall$Hand" "points" "I" "BalloonStall") ∈ lw_tbl := lw_at lw_m3 139 rfl
theorem q723 : (Jvm.Cond.fieldLinkNest "BalloonStall$Figure" (30 : Nat) "BalloonStall$Hand" "bubbles" "I" "BalloonStall") ∈ lw_tbl := lw_at lw_m3 141 rfl
theorem q725 : (Jvm.Cond.fieldLinkNest "BalloonStall$Figure" (37 : Nat) "BalloonStall$Hand" "balloons" "I" "BalloonStall") ∈ lw_tbl := lw_at lw_m3 143 rfl
theorem q728 : (Jvm.Cond.fieldLinkNest "BalloonStall$Figure" (41 : Nat) "BalloonStall$Hand" "most" "I" "BalloonStall") ∈ lw_tbl := lw_at lw_m3 146 rfl
theorem q819 : (Jvm.Cond.instantiable "BalloonStall$Figure" (10 : Nat)) ∈ lw_all := lw_g (lw_at lw_m3 237 rfl) rfl
theorem q821 : (Jvm.Cond.instanceMethod ({ cls := "BalloonStall$Figure", name := "<init>", desc := "(LBalloonStall$Hand;)V" } : Jvm.MethodName)) ∈ lw_all := lw_g (lw_at lw_m3 239 rfl) rfl
theorem q822 : (Jvm.Cond.code ({ cls := "BalloonStall$Figure", name := "<init>", desc := "(LBalloonStall$Hand;)V" } : Jvm.MethodName) prog_6_method_1_code (5 : Nat) (Option.none : Option Jvm.ClassFile.FieldType)) ∈ lw_all := lw_g (lw_at lw_m4 0 rfl) rfl
theorem q823 : (Jvm.Cond.methodLink "BalloonStall$Figure" (3 : Nat) ({ cls := "java/lang/Object", name := "<init>", desc := "()V" } : Jvm.MethodName)) ∈ lw_all := lw_g (lw_at lw_m4 1 rfl) rfl
theorem q824 : (Jvm.Cond.methodLink "BalloonStall$Figure" (50 : Nat) ({ cls := "BalloonStall$Hand", name := "root", desc := "(I)I" } : Jvm.MethodName)) ∈ lw_all := lw_g (lw_at lw_m4 2 rfl) rfl
theorem q825 : (Jvm.Cond.methodLink "BalloonStall$Figure" (60 : Nat) ({ cls := "java/lang/System", name := "arraycopy", desc := "(Ljava/lang/Object;ILjava/lang/Object;II)V" } : Jvm.MethodName)) ∈ lw_all := lw_g (lw_at lw_m4 3 rfl) rfl
theorem q828 : (Jvm.Cond.fieldLink "BalloonStall$Figure" (9 : Nat) "BalloonStall$Figure" "from" "[I") ∈ lw_all := lw_g (lw_at lw_m4 6 rfl) rfl
theorem q831 : (Jvm.Cond.fieldLink "BalloonStall$Figure" (15 : Nat) "BalloonStall$Figure" "to" "[I") ∈ lw_all := lw_g (lw_at lw_m4 9 rfl) rfl
theorem q834 : (Jvm.Cond.fieldLink "BalloonStall$Figure" (18 : Nat) "BalloonStall$Figure" "lengths" "[I") ∈ lw_all := lw_g (lw_at lw_m4 12 rfl) rfl
theorem q837 : (Jvm.Cond.fieldLink "BalloonStall$Figure" (21 : Nat) "BalloonStall$Figure" "balloon" "[I") ∈ lw_all := lw_g (lw_at lw_m4 15 rfl) rfl
theorem q840 : (Jvm.Cond.fieldLink "BalloonStall$Figure" (24 : Nat) "BalloonStall$Figure" "sort" "[I") ∈ lw_all := lw_g (lw_at lw_m4 18 rfl) rfl
theorem q843 : (Jvm.Cond.fieldLink "BalloonStall$Figure" (27 : Nat) "BalloonStall$Figure" "ends" "[I") ∈ lw_all := lw_g (lw_at lw_m4 21 rfl) rfl
theorem q845 : (Jvm.Cond.fieldLink "BalloonStall$Figure" (36 : Nat) "BalloonStall$Figure" "bubbles" "I") ∈ lw_all := lw_g (lw_at lw_m4 23 rfl) rfl
theorem q848 : (Jvm.Cond.fieldLink "BalloonStall$Figure" (40 : Nat) "BalloonStall$Figure" "balloons" "I") ∈ lw_all := lw_g (lw_at lw_m4 26 rfl) rfl
theorem q851 : (Jvm.Cond.fieldLink "BalloonStall$Figure" (54 : Nat) "BalloonStall$Figure" "points" "I") ∈ lw_all := lw_g (lw_at lw_m4 29 rfl) rfl
theorem q853 : (Jvm.Cond.fieldLink "BalloonStall$Figure" (44 : Nat) "BalloonStall$Figure" "hands" "I") ∈ lw_all := lw_g (lw_at lw_m4 31 rfl) rfl
theorem q855 : (Jvm.Cond.laysFinal "BalloonStall$Figure" "BalloonStall$Figure" "from" "[I") ∈ lw_all := lw_g (lw_at lw_m4 33 rfl) rfl
theorem q856 : (Jvm.Cond.soleField "BalloonStall$Figure" "from") ∈ lw_all := lw_g (lw_at lw_m4 34 rfl) rfl
theorem q857 : (Jvm.Cond.laysFinal "BalloonStall$Figure" "BalloonStall$Figure" "to" "[I") ∈ lw_all := lw_g (lw_at lw_m4 35 rfl) rfl
theorem q858 : (Jvm.Cond.soleField "BalloonStall$Figure" "to") ∈ lw_all := lw_g (lw_at lw_m4 36 rfl) rfl
theorem q859 : (Jvm.Cond.laysFinal "BalloonStall$Figure" "BalloonStall$Figure" "lengths" "[I") ∈ lw_all := lw_g (lw_at lw_m4 37 rfl) rfl
theorem q860 : (Jvm.Cond.soleField "BalloonStall$Figure" "lengths") ∈ lw_all := lw_g (lw_at lw_m4 38 rfl) rfl
theorem q861 : (Jvm.Cond.laysFinal "BalloonStall$Figure" "BalloonStall$Figure" "balloon" "[I") ∈ lw_all := lw_g (lw_at lw_m4 39 rfl) rfl
theorem q862 : (Jvm.Cond.soleField "BalloonStall$Figure" "balloon") ∈ lw_all := lw_g (lw_at lw_m4 40 rfl) rfl
theorem q863 : (Jvm.Cond.laysFinal "BalloonStall$Figure" "BalloonStall$Figure" "sort" "[I") ∈ lw_all := lw_g (lw_at lw_m4 41 rfl) rfl
theorem q864 : (Jvm.Cond.soleField "BalloonStall$Figure" "sort") ∈ lw_all := lw_g (lw_at lw_m4 42 rfl) rfl
theorem q865 : (Jvm.Cond.laysFinal "BalloonStall$Figure" "BalloonStall$Figure" "ends" "[I") ∈ lw_all := lw_g (lw_at lw_m4 43 rfl) rfl
theorem q866 : (Jvm.Cond.soleField "BalloonStall$Figure" "ends") ∈ lw_all := lw_g (lw_at lw_m4 44 rfl) rfl
theorem q867 : (Jvm.Cond.laysFinal "BalloonStall$Figure" "BalloonStall$Figure" "bubbles" "I") ∈ lw_all := lw_g (lw_at lw_m4 45 rfl) rfl
theorem q868 : (Jvm.Cond.soleField "BalloonStall$Figure" "bubbles") ∈ lw_all := lw_g (lw_at lw_m4 46 rfl) rfl
theorem q869 : (Jvm.Cond.laysFinal "BalloonStall$Figure" "BalloonStall$Figure" "balloons" "I") ∈ lw_all := lw_g (lw_at lw_m4 47 rfl) rfl
theorem q870 : (Jvm.Cond.soleField "BalloonStall$Figure" "balloons") ∈ lw_all := lw_g (lw_at lw_m4 48 rfl) rfl
theorem q871 : (Jvm.Cond.laysFinal "BalloonStall$Figure" "BalloonStall$Figure" "points" "I") ∈ lw_all := lw_g (lw_at lw_m4 49 rfl) rfl
theorem q872 : (Jvm.Cond.soleField "BalloonStall$Figure" "points") ∈ lw_all := lw_g (lw_at lw_m4 50 rfl) rfl
theorem q873 : (Jvm.Cond.laysFinal "BalloonStall$Figure" "BalloonStall$Figure" "hands" "I") ∈ lw_all := lw_g (lw_at lw_m4 51 rfl) rfl
theorem q874 : (Jvm.Cond.soleField "BalloonStall$Figure" "hands") ∈ lw_all := lw_g (lw_at lw_m4 52 rfl) rfl
theorem q875 : (Jvm.Cond.superclass "BalloonStall$Figure" "java/lang/Object") ∈ lw_all := lw_g (lw_at lw_m4 53 rfl) rfl
theorem q889 : (Jvm.Cond.instanceMethod ({ cls := "BalloonStall$Figure", name := "twists", desc := "()I" } : Jvm.MethodName)) ∈ lw_all := lw_g (lw_at lw_m4 67 rfl) rfl
theorem q890 : (Jvm.Cond.selects "BalloonStall$Figure" ({ cls := "BalloonStall$Figure", name := "twists", desc := "()I" } : Jvm.MethodName) ({ cls := "BalloonStall$Figure", name := "twists", desc := "()I" } : Jvm.MethodName)) ∈ lw_all := lw_g (lw_at lw_m4 68 rfl) rfl
theorem q891 : (Jvm.Cond.code ({ cls := "BalloonStall$Figure", name := "twists", desc := "()I" } : Jvm.MethodName) prog_6_method_4_code (3 : Nat) (Option.some Jvm.ClassFile.FieldType.int)) ∈ lw_all := lw_g (lw_at lw_m4 69 rfl) rfl
theorem q892 : (Jvm.Cond.methodLink "BalloonStall$Figure" (66 : Nat) ({ cls := "BalloonStall$Figure", name := "isTwist", desc := "(I)Z" } : Jvm.MethodName)) ∈ lw_all := lw_g (lw_at lw_m4 70 rfl) rfl
theorem q893 : (Jvm.Cond.instanceMethod ({ cls := "BalloonStall$Figure", name := "isTwist", desc := "(I)Z" } : Jvm.MethodName)) ∈ lw_all := lw_g (lw_at lw_m4 71 rfl) rfl
theorem q894 : (Jvm.Cond.selects "BalloonStall$Figure" ({ cls := "BalloonStall$Figure", name := "isTwist", desc := "(I)Z" } : Jvm.MethodName) ({ cls := "BalloonStall$Figure", name := "isTwist", desc := "(I)Z" } : Jvm.MethodName)) ∈ lw_all := lw_g (lw_at lw_m4 72 rfl) rfl
theorem q895 : (Jvm.Cond.code ({ cls := "BalloonStall$Figure", name := "isTwist", desc := "(I)Z" } : Jvm.MethodName) prog_6_method_2_code (2 : Nat) (Option.some Jvm.ClassFile.FieldType.boolean)) ∈ lw_all := lw_g (lw_at lw_m4 73 rfl) rfl
theorem q897 : (Jvm.Cond.instanceMethod ({ cls := "BalloonStall$Figure", name := "slack", desc := "()I" } : Jvm.MethodName)) ∈ lw_all := lw_g (lw_at lw_m4 75 rfl) rfl
theorem q898 : (Jvm.Cond.selects "BalloonStall$Figure" ({ cls := "BalloonStall$Figure", name := "slack", desc := "()I" } : Jvm.MethodName) ({ cls := "BalloonStall$Figure", name := "slack", desc := "()I" } : Jvm.MethodName)) ∈ lw_all := lw_g (lw_at lw_m4 76 rfl) rfl
theorem q899 : (Jvm.Cond.code ({ cls := "BalloonStall$Figure", name := "slack", desc := "()I" } : Jvm.MethodName) prog_6_method_5_code (3 : Nat) (Option.some Jvm.ClassFile.FieldType.int)) ∈ lw_all := lw_g (lw_at lw_m4 77 rfl) rfl
theorem q900 : (Jvm.Cond.methodLink "BalloonStall$Figure" (70 : Nat) ({ cls := "BalloonStall$Figure", name := "holds", desc := "(I)Z" } : Jvm.MethodName)) ∈ lw_all := lw_g (lw_at lw_m4 78 rfl) rfl
theorem q901 : (Jvm.Cond.instanceMethod ({ cls := "BalloonStall$Figure", name := "holds", desc := "(I)Z" } : Jvm.MethodName)) ∈ lw_all := lw_g (lw_at lw_m4 79 rfl) rfl
theorem q902 : (Jvm.Cond.selects "BalloonStall$Figure" ({ cls := "BalloonStall$Figure", name := "holds", desc := "(I)Z" } : Jvm.MethodName) ({ cls := "BalloonStall$Figure", name := "holds", desc := "(I)Z" } : Jvm.MethodName)) ∈ lw_all := lw_g (lw_at lw_m4 80 rfl) rfl
theorem q903 : (Jvm.Cond.code ({ cls := "BalloonStall$Figure", name := "holds", desc := "(I)Z" } : Jvm.MethodName) prog_6_method_3_code (2 : Nat) (Option.some Jvm.ClassFile.FieldType.boolean)) ∈ lw_all := lw_g (lw_at lw_m4 81 rfl) rfl
theorem q905 : (Jvm.Cond.instanceMethod ({ cls := "BalloonStall$Figure", name := "odd", desc := "()I" } : Jvm.MethodName)) ∈ lw_all := lw_g (lw_at lw_m4 83 rfl) rfl
theorem q906 : (Jvm.Cond.selects "BalloonStall$Figure" ({ cls := "BalloonStall$Figure", name := "odd", desc := "()I" } : Jvm.MethodName) ({ cls := "BalloonStall$Figure", name := "odd", desc := "()I" } : Jvm.MethodName)) ∈ lw_all := lw_g (lw_at lw_m4 84 rfl) rfl
theorem q907 : (Jvm.Cond.code ({ cls := "BalloonStall$Figure", name := "odd", desc := "()I" } : Jvm.MethodName) prog_6_method_6_code (3 : Nat) (Option.some Jvm.ClassFile.FieldType.int)) ∈ lw_all := lw_g (lw_at lw_m4 85 rfl) rfl
theorem q925 : (Jvm.Cond.instanceMethod ({ cls := "BalloonStall$Figure", name := "needs", desc := "(IILBalloonStall$Sort;)I" } : Jvm.MethodName)) ∈ lw_all := lw_g (lw_at lw_m4 103 rfl) rfl
theorem q926 : (Jvm.Cond.selects "BalloonStall$Figure" ({ cls := "BalloonStall$Figure", name := "needs", desc := "(IILBalloonStall$Sort;)I" } : Jvm.MethodName) ({ cls := "BalloonStall$Figure", name := "needs", desc := "(IILBalloonStall$Sort;)I" } : Jvm.MethodName)) ∈ lw_all := lw_g (lw_at lw_m4 104 rfl) rfl
theorem q927 : (Jvm.Cond.code ({ cls := "BalloonStall$Figure", name := "needs", desc := "(IILBalloonStall$Sort;)I" } : Jvm.MethodName) prog_6_method_7_code (7 : Nat) (Option.some Jvm.ClassFile.FieldType.int)) ∈ lw_all := lw_g (lw_at lw_m4 105 rfl) rfl
theorem q928 : (Jvm.Cond.methodLink "BalloonStall$Figure" (73 : Nat) ({ cls := "BalloonStall$Sort", name := "strains", desc := "(I)I" } : Jvm.MethodName)) ∈ lw_all := lw_g (lw_at lw_m4 106 rfl) rfl
theorem q964 : (Jvm.Cond.instanceMethod ({ cls := "BalloonStall$Figure", name := "lost", desc := "(I)I" } : Jvm.MethodName)) ∈ lw_all := lw_g (lw_at lw_m4 142 rfl) rfl
theorem q965 : (Jvm.Cond.selects "BalloonStall$Figure" ({ cls := "BalloonStall$Figure", name := "lost", desc := "(I)I" } : Jvm.MethodName) ({ cls := "BalloonStall$Figure", name := "lost", desc := "(I)I" } : Jvm.MethodName)) ∈ lw_all := lw_g (lw_at lw_m4 143 rfl) rfl
theorem q966 : (Jvm.Cond.code ({ cls := "BalloonStall$Figure", name := "lost", desc := "(I)I" } : Jvm.MethodName) prog_6_method_10_code (2 : Nat) (Option.some Jvm.ClassFile.FieldType.int)) ∈ lw_all := lw_g (lw_at lw_m4 144 rfl) rfl
theorem q967 : (Jvm.Cond.methodLink "BalloonStall$Figure" (78 : Nat) ({ cls := "BalloonStall$Figure", name := "lostWith", desc := "(I)I" } : Jvm.MethodName)) ∈ lw_all := lw_g (lw_at lw_m4 145 rfl) rfl
theorem q968 : (Jvm.Cond.instanceMethod ({ cls := "BalloonStall$Figure", name := "lostWith", desc := "(I)I" } : Jvm.MethodName)) ∈ lw_all := lw_g (lw_at lw_m4 146 rfl) rfl
theorem q969 : (Jvm.Cond.selects "BalloonStall$Figure" ({ cls := "BalloonStall$Figure", name := "lostWith", desc := "(I)I" } : Jvm.MethodName) ({ cls := "BalloonStall$Figure", name := "lostWith", desc := "(I)I" } : Jvm.MethodName)) ∈ lw_all := lw_g (lw_at lw_m4 147 rfl) rfl
theorem q970 : (Jvm.Cond.code ({ cls := "BalloonStall$Figure", name := "lostWith", desc := "(I)I" } : Jvm.MethodName) prog_6_method_11_code (5 : Nat) (Option.some Jvm.ClassFile.FieldType.int)) ∈ lw_all := lw_g (lw_at lw_m4 148 rfl) rfl
theorem q971 : (Jvm.Cond.methodLink "BalloonStall$Figure" (81 : Nat) ({ cls := "BalloonStall$Figure", name := "left", desc := "(II)I" } : Jvm.MethodName)) ∈ lw_all := lw_g (lw_at lw_m4 149 rfl) rfl
theorem q972 : (Jvm.Cond.privateMethod ({ cls := "BalloonStall$Figure", name := "left", desc := "(II)I" } : Jvm.MethodName)) ∈ lw_tbl := lw_at lw_m4 150 rfl
theorem q973 : (Jvm.Cond.instanceMethod ({ cls := "BalloonStall$Figure", name := "left", desc := "(II)I" } : Jvm.MethodName)) ∈ lw_all := lw_g (lw_at lw_m4 151 rfl) rfl
theorem q974 : (Jvm.Cond.code ({ cls := "BalloonStall$Figure", name := "left", desc := "(II)I" } : Jvm.MethodName) prog_6_method_9_code (5 : Nat) (Option.some Jvm.ClassFile.FieldType.int)) ∈ lw_all := lw_g (lw_at lw_m4 152 rfl) rfl
theorem q982 : (Jvm.Cond.instanceMethod ({ cls := "BalloonStall$Figure", name := "every", desc := "()I" } : Jvm.MethodName)) ∈ lw_all := lw_g (lw_at lw_m4 160 rfl) rfl
theorem q983 : (Jvm.Cond.selects "BalloonStall$Figure" ({ cls := "BalloonStall$Figure", name := "every", desc := "()I" } : Jvm.MethodName) ({ cls := "BalloonStall$Figure", name := "every", desc := "()I" } : Jvm.MethodName)) ∈ lw_all := lw_g (lw_at lw_m4 161 rfl) rfl
theorem q984 : (Jvm.Cond.code ({ cls := "BalloonStall$Figure", name := "every", desc := "()I" } : Jvm.MethodName) prog_6_method_15_code (1 : Nat) (Option.some Jvm.ClassFile.FieldType.int)) ∈ lw_all := lw_g (lw_at lw_m4 162 rfl) rfl
theorem q986 : (Jvm.Cond.instanceMethod ({ cls := "BalloonStall$Figure", name := "parts", desc := "(I)I" } : Jvm.MethodName)) ∈ lw_all := lw_g (lw_at lw_m4 164 rfl) rfl
theorem q987 : (Jvm.Cond.selects "BalloonStall$Figure" ({ cls := "BalloonStall$Figure", name := "parts", desc := "(I)I" } : Jvm.MethodName) ({ cls := "BalloonStall$Figure", name := "parts", desc := "(I)I" } : Jvm.MethodName)) ∈ lw_all := lw_g (lw_at lw_m4 165 rfl) rfl
theorem q988 : (Jvm.Cond.code ({ cls := "BalloonStall$Figure", name := "parts", desc := "(I)I" } : Jvm.MethodName) prog_6_method_14_code (4 : Nat) (Option.some Jvm.ClassFile.FieldType.int)) ∈ lw_all := lw_g (lw_at lw_m4 166 rfl) rfl
theorem q989 : (Jvm.Cond.methodLink "BalloonStall$Figure" (89 : Nat) ({ cls := "java/lang/Integer", name := "numberOfTrailingZeros", desc := "(I)I" } : Jvm.MethodName)) ∈ lw_all := lw_g (lw_at lw_m4 167 rfl) rfl
theorem q993 : (Jvm.Cond.methodLink "BalloonStall$Figure" (94 : Nat) ({ cls := "BalloonStall$Figure", name := "hang", desc := "(II)I" } : Jvm.MethodName)) ∈ lw_all := lw_g (lw_at lw_m4 171 rfl) rfl
theorem q994 : (Jvm.Cond.privateMethod ({ cls := "BalloonStall$Figure", name := "hang", desc := "(II)I" } : Jvm.MethodName)) ∈ lw_tbl := lw_at lw_m4 172 rfl
theorem q995 : (Jvm.Cond.instanceMethod ({ cls := "BalloonStall$Figure", name := "hang", desc := "(II)I" } : Jvm.MethodName)) ∈ lw_all := lw_g (lw_at lw_m4 173 rfl) rfl
theorem q996 : (Jvm.Cond.code ({ cls := "BalloonStall$Figure", name := "hang", desc := "(II)I" } : Jvm.MethodName) prog_6_method_12_code (7 : Nat) (Option.some Jvm.ClassFile.FieldType.int)) ∈ lw_all := lw_g (lw_at lw_m4 174 rfl) rfl
theorem q997 : (Jvm.Cond.methodLink "BalloonStall$Figure" (85 : Nat) ({ cls := "BalloonStall$Figure", name := "meets", desc := "(II)Z" } : Jvm.MethodName)) ∈ lw_all := lw_g (lw_at lw_m4 175 rfl) rfl
theorem q998 : (Jvm.Cond.privateMethod ({ cls := "BalloonStall$Figure", name := "meets", desc := "(II)Z" } : Jvm.MethodName)) ∈ lw_tbl := lw_at lw_m4 176 rfl
theorem q999 : (Jvm.Cond.instanceMethod ({ cls := "BalloonStall$Figure", name := "meets", desc := "(II)Z" } : Jvm.MethodName)) ∈ lw_all := lw_g (lw_at lw_m4 177 rfl) rfl
theorem q1000 : (Jvm.Cond.code ({ cls := "BalloonStall$Figure", name := "meets", desc := "(II)Z" } : Jvm.MethodName) prog_6_method_13_code (3 : Nat) (Option.some Jvm.ClassFile.FieldType.boolean)) ∈ lw_all := lw_g (lw_at lw_m4 178 rfl) rfl
theorem q1036 : (Jvm.Cond.instanceMethod ({ cls := "BalloonStall$Figure", name := "between", desc := "(III)I" } : Jvm.MethodName)) ∈ lw_all := lw_g (lw_at lw_m4 214 rfl) rfl
theorem q1037 : (Jvm.Cond.selects "BalloonStall$Figure" ({ cls := "BalloonStall$Figure", name := "between", desc := "(III)I" } : Jvm.MethodName) ({ cls := "BalloonStall$Figure", name := "between", desc := "(III)I" } : Jvm.MethodName)) ∈ lw_all := lw_g (lw_at lw_m4 215 rfl) rfl
theorem q1038 : (Jvm.Cond.code ({ cls := "BalloonStall$Figure", name := "between", desc := "(III)I" } : Jvm.MethodName) prog_6_method_20_code (6 : Nat) (Option.some Jvm.ClassFile.FieldType.int)) ∈ lw_all := lw_g (lw_at lw_m4 216 rfl) rfl
theorem q1062 : (Jvm.Cond.instanceMethod ({ cls := "BalloonStall$Figure", name := "strokes", desc := "()I" } : Jvm.MethodName)) ∈ lw_all := lw_g (lw_at lw_m5 0 rfl) rfl
theorem q1063 : (Jvm.Cond.selects "BalloonStall$Figure" ({ cls := "BalloonStall$Figure", name := "strokes", desc := "()I" } : Jvm.MethodName) ({ cls := "BalloonStall$Figure", name := "strokes", desc := "()I" } : Jvm.MethodName)) ∈ lw_all := lw_g (lw_at lw_m5 1 rfl) rfl
theorem q1064 : (Jvm.Cond.code ({ cls := "BalloonStall$Figure", name := "strokes", desc := "()I" } : Jvm.MethodName) prog_6_method_19_code (4 : Nat) (Option.some Jvm.ClassFile.FieldType.int)) ∈ lw_all := lw_g (lw_at lw_m5 2 rfl) rfl
theorem q1065 : (Jvm.Cond.methodLink "BalloonStall$Figure" (106 : Nat) ({ cls := "BalloonStall$Figure", name := "every", desc := "()I" } : Jvm.MethodName)) ∈ lw_all := lw_g (lw_at lw_m5 3 rfl) rfl
theorem q1066 : (Jvm.Cond.methodLink "BalloonStall$Figure" (100 : Nat) ({ cls := "BalloonStall$Figure", name := "oddOf", desc := "(I)I" } : Jvm.MethodName)) ∈ lw_all := lw_g (lw_at lw_m5 4 rfl) rfl
theorem q1067 : (Jvm.Cond.instanceMethod ({ cls := "BalloonStall$Figure", name := "oddOf", desc := "(I)I" } : Jvm.MethodName)) ∈ lw_all := lw_g (lw_at lw_m5 5 rfl) rfl
theorem q1068 : (Jvm.Cond.selects "BalloonStall$Figure" ({ cls := "BalloonStall$Figure", name := "oddOf", desc := "(I)I" } : Jvm.MethodName) ({ cls := "BalloonStall$Figure", name := "oddOf", desc := "(I)I" } : Jvm.MethodName)) ∈ lw_all := lw_g (lw_at lw_m5 6 rfl) rfl
theorem q1069 : (Jvm.Cond.code ({ cls := "BalloonStall$Figure", name := "oddOf", desc := "(I)I" } : Jvm.MethodName) prog_6_method_17_code (4 : Nat) (Option.some Jvm.ClassFile.FieldType.int)) ∈ lw_all := lw_g (lw_at lw_m5 7 rfl) rfl
theorem q1070 : (Jvm.Cond.methodLink "BalloonStall$Figure" (103 : Nat) ({ cls := "java/lang/Integer", name := "bitCount", desc := "(I)I" } : Jvm.MethodName)) ∈ lw_all := lw_g (lw_at lw_m5 8 rfl) rfl
theorem q1071 : (Jvm.Cond.methodLink "BalloonStall$Figure" (110 : Nat) ({ cls := "java/lang/Math", name := "max", desc := "(II)I" } : Jvm.MethodName)) ∈ lw_all := lw_g (lw_at lw_m5 9 rfl) rfl
theorem q1089 : (Jvm.Cond.instanceMethod ({ cls := "BalloonStall$Figure", name := "lengthOf", desc := "(I)I" } : Jvm.MethodName)) ∈ lw_all := lw_g (lw_at lw_m5 27 rfl) rfl
theorem q1090 : (Jvm.Cond.selects "BalloonStall$Figure" ({ cls := "BalloonStall$Figure", name := "lengthOf", desc := "(I)I" } : Jvm.MethodName) ({ cls := "BalloonStall$Figure", name := "lengthOf", desc := "(I)I" } : Jvm.MethodName)) ∈ lw_all := lw_g (lw_at lw_m5 28 rfl) rfl
theorem q1091 : (Jvm.Cond.code ({ cls := "BalloonStall$Figure", name := "lengthOf", desc := "(I)I" } : Jvm.MethodName) prog_6_method_18_code (4 : Nat) (Option.some Jvm.ClassFile.FieldType.int)) ∈ lw_all := lw_g (lw_at lw_m5 29 rfl) rfl
theorem q1094 : (Jvm.Cond.instanceMethod ({ cls := "BalloonStall$Figure", name := "isWay", desc := "(I)Z" } : Jvm.MethodName)) ∈ lw_all := lw_g (lw_at lw_m5 32 rfl) rfl
theorem q1095 : (Jvm.Cond.selects "BalloonStall$Figure" ({ cls := "BalloonStall$Figure", name := "isWay", desc := "(I)Z" } : Jvm.MethodName) ({ cls := "BalloonStall$Figure", name := "isWay", desc := "(I)Z" } : Jvm.MethodName)) ∈ lw_all := lw_g (lw_at lw_m5 33 rfl) rfl
theorem q1096 : (Jvm.Cond.code ({ cls := "BalloonStall$Figure", name := "isWay", desc := "(I)Z" } : Jvm.MethodName) prog_6_method_16_code (2 : Nat) (Option.some Jvm.ClassFile.FieldType.boolean)) ∈ lw_all := lw_g (lw_at lw_m5 34 rfl) rfl
theorem q1097 : (Jvm.Cond.methodLink "BalloonStall$Figure" (97 : Nat) ({ cls := "BalloonStall$Figure", name := "parts", desc := "(I)I" } : Jvm.MethodName)) ∈ lw_all := lw_g (lw_at lw_m5 35 rfl) rfl
theorem q1180 : (Jvm.Cond.instanceMethod ({ cls := "BalloonStall$Figure", name := "bubblesOf", desc := "(I)I" } : Jvm.MethodName)) ∈ lw_all := lw_g (lw_at lw_m5 118 rfl) rfl
theorem q1181 : (Jvm.Cond.selects "BalloonStall$Figure" ({ cls := "BalloonStall$Figure", name := "bubblesOf", desc := "(I)I" } : Jvm.MethodName) ({ cls := "BalloonStall$Figure", name := "bubblesOf", desc := "(I)I" } : Jvm.MethodName)) ∈ lw_all := lw_g (lw_at lw_m5 119 rfl) rfl
theorem q1182 : (Jvm.Cond.code ({ cls := "BalloonStall$Figure", name := "bubblesOf", desc := "(I)I" } : Jvm.MethodName) prog_6_method_8_code (4 : Nat) (Option.some Jvm.ClassFile.FieldType.int)) ∈ lw_all := lw_g (lw_at lw_m5 120 rfl) rfl
theorem q1910 : (Jvm.Cond.castable "BalloonStall$Figure" "java/lang/Object") ∈ lw_tbl := lw_at lw_m8 128 rfl
theorem in_X24 : ∀ w ∈ wsX240, w ∈ lw_all := lw_in wsX240 [855, 857, 859, 861, 863, 865, 867, 869, 871, 873] (by decide +kernel) (by decide +kernel)
/-! BalloonStall$Guest -/
set_option maxRecDepth 100000
def RX25 : String := "BalloonStall$Guest"
def TX25 : u_T := fun k => match k with
  | 0 => ("BalloonStall$Guest", "wants", "LBalloonStall$Figure;", true)
  | 1 => ("BalloonStall$Guest", "comes", "I", true)
  | 2 => ("BalloonStall$Guest", "patience", "I", true)
  | 3 => ("BalloonStall$Guest", "went", "I", false)
  | 4 => ("BalloonStall$Guest", "begins", "I", false)
  | 5 => ("BalloonStall$Guest", "ends", "I", false)
  | _ => ("BalloonStall$Guest", "taken", "I", false)
def tyX25 : Nat → FieldType := fun k => match k with
  | 0 => .object "BalloonStall$Figure"
  | 1 => .int
  | 2 => .int
  | 3 => .int
  | 4 => .int
  | 5 => .int
  | _ => .int
abbrev wsX250 : List Cond := u_ws RX25 TX25 7
theorem nmX25 : ∀ a, a < 7 → ∀ b, b < 7 → a ≠ b → (TX25 a).2.1 ≠ (TX25 b).2.1 := by decide +kernel
theorem tyX25_ok : ∀ k, k < 7 → parseFieldDescriptor (TX25 k).2.2.1 = some (tyX25 k) := by decide +kernel
abbrev cX25_init : ByteArray := prog_9_method_1_code
def yX25_init : MethodName := ⟨RX25, "<init>", "(LBalloonStall$Figure;II)V"⟩
def dkwX25_init_0 : List UInt8 := [42, 183, 0, 1, 42, 43, 181, 0, 7, 42, 28, 181, 0, 13, 42, 29, 181, 0, 17, 177]
abbrev dktX25_init_0 : List UInt8 := dkwX25_init_0 ++ []
theorem dksX25_init_0 : cX25_init.data.toList.drop 0 = dktX25_init_0 := by decide +kernel
theorem dX25_init_0 : decode cX25_init 0 = .ok (.aload_n 0, 1) := dk_42 (dk_at dksX25_init_0 0 rfl rfl)
theorem dX25_init_1 : decode cX25_init 1 = .ok (.invokespecial 1, 3) := dk_183 0 1 (dk_at dksX25_init_0 1 rfl rfl)
theorem dX25_init_4 : decode cX25_init 4 = .ok (.aload_n 0, 1) := dk_42 (dk_at dksX25_init_0 4 rfl rfl)
theorem dX25_init_5 : decode cX25_init 5 = .ok (.aload_n 1, 1) := dk_43 (dk_at dksX25_init_0 5 rfl rfl)
theorem dX25_init_6 : decode cX25_init 6 = .ok (.putfield 7, 3) := dk_181 0 7 (dk_at dksX25_init_0 6 rfl rfl)
theorem dX25_init_9 : decode cX25_init 9 = .ok (.aload_n 0, 1) := dk_42 (dk_at dksX25_init_0 9 rfl rfl)
theorem dX25_init_10 : decode cX25_init 10 = .ok (.iload_n 2, 1) := dk_28 (dk_at dksX25_init_0 10 rfl rfl)
theorem dX25_init_11 : decode cX25_init 11 = .ok (.putfield 13, 3) := dk_181 0 13 (dk_at dksX25_init_0 11 rfl rfl)
theorem dX25_init_14 : decode cX25_init 14 = .ok (.aload_n 0, 1) := dk_42 (dk_at dksX25_init_0 14 rfl rfl)
theorem dX25_init_15 : decode cX25_init 15 = .ok (.iload_n 3, 1) := dk_29 (dk_at dksX25_init_0 15 rfl rfl)
theorem dX25_init_16 : decode cX25_init 16 = .ok (.putfield 17, 3) := dk_181 0 17 (dk_at dksX25_init_0 16 rfl rfl)
theorem dX25_init_19 : decode cX25_init 19 = .ok (.return_, 1) := dk_177 (dk_at dksX25_init_0 19 rfl rfl)
theorem q134 : (Jvm.Cond.initialized "BalloonStall$Guest") ∈ lw_all := lw_g (lw_at lw_m1 32 rfl) rfl
theorem q1129 : (Jvm.Cond.instantiable "BalloonStall$Guest" (7 : Nat)) ∈ lw_all := lw_g (lw_at lw_m5 67 rfl) rfl
theorem q1131 : (Jvm.Cond.instanceMethod ({ cls := "BalloonStall$Guest", name := "<init>", desc := "(LBalloonStall$Figure;II)V" } : Jvm.MethodName)) ∈ lw_all := lw_g (lw_at lw_m5 69 rfl) rfl
theorem q1132 : (Jvm.Cond.code ({ cls := "BalloonStall$Guest", name := "<init>", desc := "(LBalloonStall$Figure;II)V" } : Jvm.MethodName) prog_9_method_1_code (4 : Nat) (Option.none : Option Jvm.ClassFile.FieldType)) ∈ lw_all := lw_g (lw_at lw_m5 70 rfl) rfl
theorem q1133 : (Jvm.Cond.methodLink "BalloonStall$Guest" (1 : Nat) ({ cls := "java/lang/Object", name := "<init>", desc := "()V" } : Jvm.MethodName)) ∈ lw_all := lw_g (lw_at lw_m5 71 rfl) rfl
theorem q1134 : (Jvm.Cond.fieldLink "BalloonStall$Guest" (7 : Nat) "BalloonStall$Guest" "wants" "LBalloonStall$Figure;") ∈ lw_all := lw_g (lw_at lw_m5 72 rfl) rfl
theorem q1136 : (Jvm.Cond.fieldLink "BalloonStall$Guest" (13 : Nat) "BalloonStall$Guest" "comes" "I") ∈ lw_all := lw_g (lw_at lw_m5 74 rfl) rfl
theorem q1138 : (Jvm.Cond.fieldLink "BalloonStall$Guest" (17 : Nat) "BalloonStall$Guest" "patience" "I") ∈ lw_all := lw_g (lw_at lw_m5 76 rfl) rfl
theorem q1144 : (Jvm.Cond.laysFinal "BalloonStall$Guest" "BalloonStall$Guest" "wants" "LBalloonStall$Figure;") ∈ lw_all := lw_g (lw_at lw_m5 82 rfl) rfl
theorem q1145 : (Jvm.Cond.soleField "BalloonStall$Guest" "wants") ∈ lw_all := lw_g (lw_at lw_m5 83 rfl) rfl
theorem q1146 : (Jvm.Cond.laysFinal "BalloonStall$Guest" "BalloonStall$Guest" "comes" "I") ∈ lw_all := lw_g (lw_at lw_m5 84 rfl) rfl
theorem q1147 : (Jvm.Cond.soleField "BalloonStall$Guest" "comes") ∈ lw_all := lw_g (lw_at lw_m5 85 rfl) rfl
theorem q1148 : (Jvm.Cond.laysFinal "BalloonStall$Guest" "BalloonStall$Guest" "patience" "I") ∈ lw_all := lw_g (lw_at lw_m5 86 rfl) rfl
theorem q1149 : (Jvm.Cond.soleField "BalloonStall$Guest" "patience") ∈ lw_all := lw_g (lw_at lw_m5 87 rfl) rfl
theorem q1150 : (Jvm.Cond.lays "BalloonStall$Guest" "BalloonStall$Guest" "went" "I") ∈ lw_all := lw_g (lw_at lw_m5 88 rfl) rfl
theorem q1151 : (Jvm.Cond.soleField "BalloonStall$Guest" "went") ∈ lw_all := lw_g (lw_at lw_m5 89 rfl) rfl
theorem q1152 : (Jvm.Cond.lays "BalloonStall$Guest" "BalloonStall$Guest" "begins" "I") ∈ lw_all := lw_g (lw_at lw_m5 90 rfl) rfl
theorem q1153 : (Jvm.Cond.soleField "BalloonStall$Guest" "begins") ∈ lw_all := lw_g (lw_at lw_m5 91 rfl) rfl
theorem q1154 : (Jvm.Cond.lays "BalloonStall$Guest" "BalloonStall$Guest" "ends" "I") ∈ lw_all := lw_g (lw_at lw_m5 92 rfl) rfl
theorem q1155 : (Jvm.Cond.soleField "BalloonStall$Guest" "ends") ∈ lw_all := lw_g (lw_at lw_m5 93 rfl) rfl
theorem q1156 : (Jvm.Cond.lays "BalloonStall$Guest" "BalloonStall$Guest" "taken" "I") ∈ lw_all := lw_g (lw_at lw_m5 94 rfl) rfl
theorem q1157 : (Jvm.Cond.soleField "BalloonStall$Guest" "taken") ∈ lw_all := lw_g (lw_at lw_m5 95 rfl) rfl
theorem q1158 : (Jvm.Cond.superclass "BalloonStall$Guest" "java/lang/Object") ∈ lw_all := lw_g (lw_at lw_m5 96 rfl) rfl
theorem q1912 : (Jvm.Cond.castable "BalloonStall$Guest" "java/lang/Object") ∈ lw_tbl := lw_at lw_m8 130 rfl
theorem in_X25 : ∀ w ∈ wsX250, w ∈ lw_all := lw_in wsX250 [1144, 1146, 1148, 1150, 1152, 1154, 1156] (by decide +kernel) (by decide +kernel)
theorem q131 : (Jvm.Cond.initialized "java/lang/System") ∈ lw_all := lw_g (lw_at lw_m1 29 rfl) rfl
set_option maxRecDepth 100000
theorem q826 : (Jvm.Cond.static ({ cls := "java/lang/System", name := "arraycopy", desc := "(Ljava/lang/Object;ILjava/lang/Object;II)V" } : Jvm.MethodName)) ∈ lw_all := lw_g (lw_at lw_m4 4 rfl) rfl
theorem q827 : (Jvm.Cond.native ({ cls := "java/lang/System", name := "arraycopy", desc := "(Ljava/lang/Object;ILjava/lang/Object;II)V" } : Jvm.MethodName)) ∈ lw_all := lw_g (lw_at lw_m4 5 rfl) rfl
theorem q144 : (Jvm.Cond.arrayOver (Jvm.ClassFile.FieldType.object "BalloonStall$Sort")) ∈ lw_tbl := lw_at lw_m1 42 rfl
set_option maxRecDepth 100000
theorem q146 : (Jvm.Cond.arrayOver (Jvm.ClassFile.FieldType.object "BalloonStall$Figure")) ∈ lw_tbl := lw_at lw_m1 44 rfl
theorem q148 : (Jvm.Cond.arrayOver (Jvm.ClassFile.FieldType.object "BalloonStall$Guest")) ∈ lw_tbl := lw_at lw_m1 46 rfl
theorem q150 : (Jvm.Cond.arrayOver (Jvm.ClassFile.FieldType.object "BalloonStall$Clause")) ∈ lw_tbl := lw_at lw_m1 48 rfl
theorem q163 : (Jvm.Cond.arrayClass Jvm.ClassFile.FieldType.byte) ∈ lw_all := lw_g (lw_at lw_m1 61 rfl) rfl
theorem q164 : (Jvm.Cond.arrayClass Jvm.ClassFile.FieldType.int) ∈ lw_all := lw_g (lw_at lw_m1 62 rfl) rfl
theorem q1469 : (Jvm.Cond.arrayClass Jvm.ClassFile.FieldType.long) ∈ lw_all := lw_g (lw_at lw_m6 167 rfl) rfl
theorem q1470 : (Jvm.Cond.arrayClass Jvm.ClassFile.FieldType.boolean) ∈ lw_all := lw_g (lw_at lw_m6 168 rfl) rfl
