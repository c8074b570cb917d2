/-! java/lang/Throwable -/
set_option maxRecDepth 100000
def RJ0 : String := "java/lang/Throwable"
def TJ0 : u_T := fun k => match k with
  | 0 => ("java/lang/Throwable", "cause", "Ljava/lang/Throwable;", false)
  | 1 => ("java/lang/Throwable", "stackTrace", "[Ljava/lang/StackTraceElement;", false)
  | 2 => ("java/lang/Throwable", "suppressedExceptions", "Ljava/util/List;", false)
  | 3 => ("java/lang/Throwable", "detailMessage", "Ljava/lang/String;", false)
  | _ => ("java/lang/Throwable", "backtrace", "Ljava/lang/Object;", false)
def tyJ0 : Nat → FieldType := fun k => match k with
  | 0 => .object "java/lang/Throwable"
  | 1 => .array (.object "java/lang/StackTraceElement")
  | 2 => .object "java/util/List"
  | 3 => .object "java/lang/String"
  | _ => .object "java/lang/Object"
abbrev wsJ00 : List Cond := u_ws RJ0 TJ0 5
theorem nmJ0 : ∀ a, a < 5 → ∀ b, b < 5 → a ≠ b → (TJ0 a).2.1 ≠ (TJ0 b).2.1 := by decide +kernel
theorem tyJ0_ok : ∀ k, k < 5 → parseFieldDescriptor (TJ0 k).2.2.1 = some (tyJ0 k) := by decide +kernel
abbrev cJ0_init : ByteArray := prog_28_method_1_code
def yJ0_init : MethodName := ⟨RJ0, "<init>", "()V"⟩
def dkwJ0_init_1 : List UInt8 := [182, 0, 27, 87, 177]
abbrev dktJ0_init_1 : List UInt8 := dkwJ0_init_1 ++ []
def dkwJ0_init_0 : List UInt8 := [42, 183, 0, 1, 42, 42, 181, 0, 7, 42, 178, 0, 13, 181, 0, 17, 42, 178, 0, 20, 181, 0, 24, 42]
abbrev dktJ0_init_0 : List UInt8 := dkwJ0_init_0 ++ dktJ0_init_1
theorem dksJ0_init_0 : cJ0_init.data.toList.drop 0 = dktJ0_init_0 := by decide +kernel
theorem dksJ0_init_1 : cJ0_init.data.toList.drop 24 = dktJ0_init_1 := dk_seg dksJ0_init_0 24 rfl rfl
theorem dJ0_init_0 : decode cJ0_init 0 = .ok (.aload_n 0, 1) := dk_42 (dk_at dksJ0_init_0 0 rfl rfl)
theorem dJ0_init_1 : decode cJ0_init 1 = .ok (.invokespecial 1, 3) := dk_183 0 1 (dk_at dksJ0_init_0 1 rfl rfl)
theorem dJ0_init_4 : decode cJ0_init 4 = .ok (.aload_n 0, 1) := dk_42 (dk_at dksJ0_init_0 4 rfl rfl)
theorem dJ0_init_5 : decode cJ0_init 5 = .ok (.aload_n 0, 1) := dk_42 (dk_at dksJ0_init_0 5 rfl rfl)
theorem dJ0_init_6 : decode cJ0_init 6 = .ok (.putfield 7, 3) := dk_181 0 7 (dk_at dksJ0_init_0 6 rfl rfl)
theorem dJ0_init_9 : decode cJ0_init 9 = .ok (.aload_n 0, 1) := dk_42 (dk_at dksJ0_init_0 9 rfl rfl)
theorem dJ0_init_10 : decode cJ0_init 10 = .ok (.getstatic 13, 3) := dk_178 0 13 (dk_at dksJ0_init_0 10 rfl rfl)
theorem dJ0_init_13 : decode cJ0_init 13 = .ok (.putfield 17, 3) := dk_181 0 17 (dk_at dksJ0_init_0 13 rfl rfl)
theorem dJ0_init_16 : decode cJ0_init 16 = .ok (.aload_n 0, 1) := dk_42 (dk_at dksJ0_init_0 16 rfl rfl)
theorem dJ0_init_17 : decode cJ0_init 17 = .ok (.getstatic 20, 3) := dk_178 0 20 (dk_at dksJ0_init_0 17 rfl rfl)
theorem dJ0_init_20 : decode cJ0_init 20 = .ok (.putfield 24, 3) := dk_181 0 24 (dk_at dksJ0_init_0 20 rfl rfl)
theorem dJ0_init_23 : decode cJ0_init 23 = .ok (.aload_n 0, 1) := dk_42 (dk_at dksJ0_init_0 23 rfl rfl)
theorem dJ0_init_24 : decode cJ0_init 24 = .ok (.invokevirtual 27, 3) := dk_182 0 27 (dk_at dksJ0_init_1 0 rfl rfl)
theorem dJ0_init_27 : decode cJ0_init 27 = .ok (.pop, 1) := dk_87 (dk_at dksJ0_init_1 3 rfl rfl)
theorem dJ0_init_28 : decode cJ0_init 28 = .ok (.return_, 1) := dk_177 (dk_at dksJ0_init_1 4 rfl rfl)
abbrev cJ0_init_2 : ByteArray := prog_28_method_5_code
def yJ0_init_2 : MethodName := ⟨RJ0, "<init>", "(Ljava/lang/String;Ljava/lang/Throwable;ZZ)V"⟩
def dkwJ0_init_2_2 : List UInt8 := [44, 181, 0, 7, 29, 154, 0, 8, 42, 1, 181, 0, 24, 177]
abbrev dktJ0_init_2_2 : List UInt8 := dkwJ0_init_2_2 ++ []
def dkwJ0_init_2_1 : List UInt8 := [21, 4, 153, 0, 11, 42, 182, 0, 27, 87, 167, 0, 8, 42, 1, 181, 0, 17, 42, 43, 181, 0, 31, 42]
abbrev dktJ0_init_2_1 : List UInt8 := dkwJ0_init_2_1 ++ dktJ0_init_2_2
def dkwJ0_init_2_0 : List UInt8 := [42, 183, 0, 1, 42, 42, 181, 0, 7, 42, 178, 0, 13, 181, 0, 17, 42, 178, 0, 20, 181, 0, 24]
abbrev dktJ0_init_2_0 : List UInt8 := dkwJ0_init_2_0 ++ dktJ0_init_2_1
theorem dksJ0_init_2_0 : cJ0_init_2.data.toList.drop 0 = dktJ0_init_2_0 := by decide +kernel
theorem dksJ0_init_2_1 : cJ0_init_2.data.toList.drop 23 = dktJ0_init_2_1 := dk_seg dksJ0_init_2_0 23 rfl rfl
theorem dksJ0_init_2_2 : cJ0_init_2.data.toList.drop 47 = dktJ0_init_2_2 := dk_seg dksJ0_init_2_1 24 rfl rfl
theorem dJ0_init_2_0 : decode cJ0_init_2 0 = .ok (.aload_n 0, 1) := dk_42 (dk_at dksJ0_init_2_0 0 rfl rfl)
theorem dJ0_init_2_1 : decode cJ0_init_2 1 = .ok (.invokespecial 1, 3) := dk_183 0 1 (dk_at dksJ0_init_2_0 1 rfl rfl)
theorem dJ0_init_2_4 : decode cJ0_init_2 4 = .ok (.aload_n 0, 1) := dk_42 (dk_at dksJ0_init_2_0 4 rfl rfl)
theorem dJ0_init_2_5 : decode cJ0_init_2 5 = .ok (.aload_n 0, 1) := dk_42 (dk_at dksJ0_init_2_0 5 rfl rfl)
theorem dJ0_init_2_6 : decode cJ0_init_2 6 = .ok (.putfield 7, 3) := dk_181 0 7 (dk_at dksJ0_init_2_0 6 rfl rfl)
theorem dJ0_init_2_9 : decode cJ0_init_2 9 = .ok (.aload_n 0, 1) := dk_42 (dk_at dksJ0_init_2_0 9 rfl rfl)
theorem dJ0_init_2_10 : decode cJ0_init_2 10 = .ok (.getstatic 13, 3) := dk_178 0 13 (dk_at dksJ0_init_2_0 10 rfl rfl)
theorem dJ0_init_2_13 : decode cJ0_init_2 13 = .ok (.putfield 17, 3) := dk_181 0 17 (dk_at dksJ0_init_2_0 13 rfl rfl)
theorem dJ0_init_2_16 : decode cJ0_init_2 16 = .ok (.aload_n 0, 1) := dk_42 (dk_at dksJ0_init_2_0 16 rfl rfl)
theorem dJ0_init_2_17 : decode cJ0_init_2 17 = .ok (.getstatic 20, 3) := dk_178 0 20 (dk_at dksJ0_init_2_0 17 rfl rfl)
theorem dJ0_init_2_20 : decode cJ0_init_2 20 = .ok (.putfield 24, 3) := dk_181 0 24 (dk_at dksJ0_init_2_0 20 rfl rfl)
theorem dJ0_init_2_23 : decode cJ0_init_2 23 = .ok (.iload 4, 2) := dk_21 4 (dk_at dksJ0_init_2_1 0 rfl rfl)
theorem dJ0_init_2_25 : decode cJ0_init_2 25 = .ok (.ifCond .eq 11, 3) := dk_153 0 11 (dk_at dksJ0_init_2_1 2 rfl rfl)
theorem dJ0_init_2_28 : decode cJ0_init_2 28 = .ok (.aload_n 0, 1) := dk_42 (dk_at dksJ0_init_2_1 5 rfl rfl)
theorem dJ0_init_2_29 : decode cJ0_init_2 29 = .ok (.invokevirtual 27, 3) := dk_182 0 27 (dk_at dksJ0_init_2_1 6 rfl rfl)
theorem dJ0_init_2_32 : decode cJ0_init_2 32 = .ok (.pop, 1) := dk_87 (dk_at dksJ0_init_2_1 9 rfl rfl)
theorem dJ0_init_2_33 : decode cJ0_init_2 33 = .ok (.goto 8, 3) := dk_167 0 8 (dk_at dksJ0_init_2_1 10 rfl rfl)
theorem dJ0_init_2_36 : decode cJ0_init_2 36 = .ok (.aload_n 0, 1) := dk_42 (dk_at dksJ0_init_2_1 13 rfl rfl)
theorem dJ0_init_2_37 : decode cJ0_init_2 37 = .ok (.aconst_null, 1) := dk_1 (dk_at dksJ0_init_2_1 14 rfl rfl)
theorem dJ0_init_2_38 : decode cJ0_init_2 38 = .ok (.putfield 17, 3) := dk_181 0 17 (dk_at dksJ0_init_2_1 15 rfl rfl)
theorem dJ0_init_2_41 : decode cJ0_init_2 41 = .ok (.aload_n 0, 1) := dk_42 (dk_at dksJ0_init_2_1 18 rfl rfl)
theorem dJ0_init_2_42 : decode cJ0_init_2 42 = .ok (.aload_n 1, 1) := dk_43 (dk_at dksJ0_init_2_1 19 rfl rfl)
theorem dJ0_init_2_43 : decode cJ0_init_2 43 = .ok (.putfield 31, 3) := dk_181 0 31 (dk_at dksJ0_init_2_1 20 rfl rfl)
theorem dJ0_init_2_46 : decode cJ0_init_2 46 = .ok (.aload_n 0, 1) := dk_42 (dk_at dksJ0_init_2_1 23 rfl rfl)
theorem dJ0_init_2_47 : decode cJ0_init_2 47 = .ok (.aload_n 2, 1) := dk_44 (dk_at dksJ0_init_2_2 0 rfl rfl)
theorem dJ0_init_2_48 : decode cJ0_init_2 48 = .ok (.putfield 7, 3) := dk_181 0 7 (dk_at dksJ0_init_2_2 1 rfl rfl)
theorem dJ0_init_2_51 : decode cJ0_init_2 51 = .ok (.iload_n 3, 1) := dk_29 (dk_at dksJ0_init_2_2 4 rfl rfl)
theorem dJ0_init_2_52 : decode cJ0_init_2 52 = .ok (.ifCond .ne 8, 3) := dk_154 0 8 (dk_at dksJ0_init_2_2 5 rfl rfl)
theorem dJ0_init_2_55 : decode cJ0_init_2 55 = .ok (.aload_n 0, 1) := dk_42 (dk_at dksJ0_init_2_2 8 rfl rfl)
theorem dJ0_init_2_56 : decode cJ0_init_2 56 = .ok (.aconst_null, 1) := dk_1 (dk_at dksJ0_init_2_2 9 rfl rfl)
theorem dJ0_init_2_57 : decode cJ0_init_2 57 = .ok (.putfield 24, 3) := dk_181 0 24 (dk_at dksJ0_init_2_2 10 rfl rfl)
theorem dJ0_init_2_60 : decode cJ0_init_2 60 = .ok (.return_, 1) := dk_177 (dk_at dksJ0_init_2_2 13 rfl rfl)
abbrev cJ0_init_3 : ByteArray := prog_28_method_2_code
def yJ0_init_3 : MethodName := ⟨RJ0, "<init>", "(Ljava/lang/String;)V"⟩
def dkwJ0_init_3_1 : List UInt8 := [182, 0, 27, 87, 42, 43, 181, 0, 31, 177]
abbrev dktJ0_init_3_1 : List UInt8 := dkwJ0_init_3_1 ++ []
def dkwJ0_init_3_0 : List UInt8 := [42, 183, 0, 1, 42, 42, 181, 0, 7, 42, 178, 0, 13, 181, 0, 17, 42, 178, 0, 20, 181, 0, 24, 42]
abbrev dktJ0_init_3_0 : List UInt8 := dkwJ0_init_3_0 ++ dktJ0_init_3_1
theorem dksJ0_init_3_0 : cJ0_init_3.data.toList.drop 0 = dktJ0_init_3_0 := by decide +kernel
theorem dksJ0_init_3_1 : cJ0_init_3.data.toList.drop 24 = dktJ0_init_3_1 := dk_seg dksJ0_init_3_0 24 rfl rfl
theorem dJ0_init_3_0 : decode cJ0_init_3 0 = .ok (.aload_n 0, 1) := dk_42 (dk_at dksJ0_init_3_0 0 rfl rfl)
theorem dJ0_init_3_1 : decode cJ0_init_3 1 = .ok (.invokespecial 1, 3) := dk_183 0 1 (dk_at dksJ0_init_3_0 1 rfl rfl)
theorem dJ0_init_3_4 : decode cJ0_init_3 4 = .ok (.aload_n 0, 1) := dk_42 (dk_at dksJ0_init_3_0 4 rfl rfl)
theorem dJ0_init_3_5 : decode cJ0_init_3 5 = .ok (.aload_n 0, 1) := dk_42 (dk_at dksJ0_init_3_0 5 rfl rfl)
theorem dJ0_init_3_6 : decode cJ0_init_3 6 = .ok (.putfield 7, 3) := dk_181 0 7 (dk_at dksJ0_init_3_0 6 rfl rfl)
theorem dJ0_init_3_9 : decode cJ0_init_3 9 = .ok (.aload_n 0, 1) := dk_42 (dk_at dksJ0_init_3_0 9 rfl rfl)
theorem dJ0_init_3_10 : decode cJ0_init_3 10 = .ok (.getstatic 13, 3) := dk_178 0 13 (dk_at dksJ0_init_3_0 10 rfl rfl)
theorem dJ0_init_3_13 : decode cJ0_init_3 13 = .ok (.putfield 17, 3) := dk_181 0 17 (dk_at dksJ0_init_3_0 13 rfl rfl)
theorem dJ0_init_3_16 : decode cJ0_init_3 16 = .ok (.aload_n 0, 1) := dk_42 (dk_at dksJ0_init_3_0 16 rfl rfl)
theorem dJ0_init_3_17 : decode cJ0_init_3 17 = .ok (.getstatic 20, 3) := dk_178 0 20 (dk_at dksJ0_init_3_0 17 rfl rfl)
theorem dJ0_init_3_20 : decode cJ0_init_3 20 = .ok (.putfield 24, 3) := dk_181 0 24 (dk_at dksJ0_init_3_0 20 rfl rfl)
theorem dJ0_init_3_23 : decode cJ0_init_3 23 = .ok (.aload_n 0, 1) := dk_42 (dk_at dksJ0_init_3_0 23 rfl rfl)
theorem dJ0_init_3_24 : decode cJ0_init_3 24 = .ok (.invokevirtual 27, 3) := dk_182 0 27 (dk_at dksJ0_init_3_1 0 rfl rfl)
theorem dJ0_init_3_27 : decode cJ0_init_3 27 = .ok (.pop, 1) := dk_87 (dk_at dksJ0_init_3_1 3 rfl rfl)
theorem dJ0_init_3_28 : decode cJ0_init_3 28 = .ok (.aload_n 0, 1) := dk_42 (dk_at dksJ0_init_3_1 4 rfl rfl)
theorem dJ0_init_3_29 : decode cJ0_init_3 29 = .ok (.aload_n 1, 1) := dk_43 (dk_at dksJ0_init_3_1 5 rfl rfl)
theorem dJ0_init_3_30 : decode cJ0_init_3 30 = .ok (.putfield 31, 3) := dk_181 0 31 (dk_at dksJ0_init_3_1 6 rfl rfl)
theorem dJ0_init_3_33 : decode cJ0_init_3 33 = .ok (.return_, 1) := dk_177 (dk_at dksJ0_init_3_1 9 rfl rfl)
theorem q148 : (Jvm.Cond.initialized "java/lang/Throwable") ∈ lw_all := lw_g (lw_at lw_m1 4 rfl) rfl
theorem q192 : (Jvm.Cond.declares ({ cls := "java/lang/Throwable", name := "<init>", desc := "()V" } : Jvm.MethodName)) ∈ lw_tbl := lw_at lw_m1 48 rfl
theorem q193 : (Jvm.Cond.declares ({ cls := "java/lang/Throwable", name := "<init>", desc := "(Ljava/lang/String;)V" } : Jvm.MethodName)) ∈ lw_tbl := lw_at lw_m1 49 rfl
theorem q197 : (Jvm.Cond.lays "java/lang/Throwable" "java/lang/Throwable" "cause" "Ljava/lang/Throwable;") ∈ lw_all := lw_g (lw_at lw_m1 53 rfl) rfl
theorem q199 : (Jvm.Cond.lays "java/lang/Throwable" "java/lang/Throwable" "stackTrace" "[Ljava/lang/StackTraceElement;") ∈ lw_all := lw_g (lw_at lw_m1 55 rfl) rfl
theorem q201 : (Jvm.Cond.lays "java/lang/Throwable" "java/lang/Throwable" "suppressedExceptions" "Ljava/util/List;") ∈ lw_all := lw_g (lw_at lw_m1 57 rfl) rfl
theorem q203 : (Jvm.Cond.lays "java/lang/Throwable" "java/lang/Throwable" "detailMessage" "Ljava/lang/String;") ∈ lw_all := lw_g (lw_at lw_m1 59 rfl) rfl
theorem q205 : (Jvm.Cond.lays "java/lang/Throwable" "java/lang/Throwable" "backtrace" "Ljava/lang/Object;") ∈ lw_all := lw_g (lw_at lw_m1 61 rfl) rfl
theorem q206 : (Jvm.Cond.fieldLink "java/lang/Throwable" (198 : Nat) "java/lang/Throwable" "backtrace" "Ljava/lang/Object;") ∈ lw_all := lw_g (lw_at lw_m1 62 rfl) rfl
theorem q207 : (Jvm.Cond.superclass "java/lang/Throwable" "java/lang/Object") ∈ lw_all := lw_g (lw_at lw_m1 63 rfl) rfl
theorem q208 : (Jvm.Cond.instanceMethod ({ cls := "java/lang/Throwable", name := "<init>", desc := "()V" } : Jvm.MethodName)) ∈ lw_all := lw_g (lw_at lw_m1 64 rfl) rfl
theorem q209 : (Jvm.Cond.code ({ cls := "java/lang/Throwable", name := "<init>", desc := "()V" } : Jvm.MethodName) prog_28_method_1_code (1 : Nat) (Option.none : Option Jvm.ClassFile.FieldType)) ∈ lw_all := lw_g (lw_at lw_m1 65 rfl) rfl
theorem q210 : (Jvm.Cond.methodLink "java/lang/Throwable" (1 : Nat) ({ cls := "java/lang/Object", name := "<init>", desc := "()V" } : Jvm.MethodName)) ∈ lw_all := lw_g (lw_at lw_m1 66 rfl) rfl
theorem q211 : (Jvm.Cond.fieldLink "java/lang/Throwable" (13 : Nat) "java/lang/Throwable" "UNASSIGNED_STACK" "[Ljava/lang/StackTraceElement;") ∈ lw_all := lw_g (lw_at lw_m1 67 rfl) rfl
theorem q212 : (Jvm.Cond.laysStatic "java/lang/Throwable" "UNASSIGNED_STACK" "[Ljava/lang/StackTraceElement;") ∈ lw_tbl := lw_at lw_m1 68 rfl
theorem q213 : (Jvm.Cond.fieldLink "java/lang/Throwable" (20 : Nat) "java/lang/Throwable" "SUPPRESSED_SENTINEL" "Ljava/util/List;") ∈ lw_all := lw_g (lw_at lw_m1 69 rfl) rfl
theorem q214 : (Jvm.Cond.laysStatic "java/lang/Throwable" "SUPPRESSED_SENTINEL" "Ljava/util/List;") ∈ lw_tbl := lw_at lw_m1 70 rfl
theorem q215 : (Jvm.Cond.methodLink "java/lang/Throwable" (27 : Nat) ({ cls := "java/lang/Throwable", name := "fillInStackTrace", desc := "()Ljava/lang/Throwable;" } : Jvm.MethodName)) ∈ lw_all := lw_g (lw_at lw_m1 71 rfl) rfl
theorem q216 : (Jvm.Cond.instanceMethod ({ cls := "java/lang/Throwable", name := "fillInStackTrace", desc := "()Ljava/lang/Throwable;" } : Jvm.MethodName)) ∈ lw_all := lw_g (lw_at lw_m1 72 rfl) rfl
theorem q217 : (Jvm.Cond.sameMethod "java/lang/Throwable" "java/lang/Throwable" "fillInStackTrace" "()Ljava/lang/Throwable;") ∈ lw_all := lw_g (lw_at lw_m1 73 rfl) rfl
theorem q230 : (Jvm.Cond.declares ({ cls := "java/lang/Throwable", name := "fillInStackTrace", desc := "()Ljava/lang/Throwable;" } : Jvm.MethodName)) ∈ lw_tbl := lw_at lw_m1 86 rfl
theorem q234 : (Jvm.Cond.codeSync ({ cls := "java/lang/Throwable", name := "fillInStackTrace", desc := "()Ljava/lang/Throwable;" } : Jvm.MethodName) prog_28_method_18_code (1 : Nat) (Option.some (Jvm.ClassFile.FieldType.object "java/lang/Throwable"))) ∈ lw_all := lw_g (lw_at lw_m1 90 rfl) rfl
theorem q235 : (Jvm.Cond.methodLink "java/lang/Throwable" (202 : Nat) ({ cls := "java/lang/Throwable", name := "fillInStackTrace", desc := "(I)Ljava/lang/Throwable;" } : Jvm.MethodName)) ∈ lw_all := lw_g (lw_at lw_m1 91 rfl) rfl
theorem q236 : (Jvm.Cond.privateMethod ({ cls := "java/lang/Throwable", name := "fillInStackTrace", desc := "(I)Ljava/lang/Throwable;" } : Jvm.MethodName)) ∈ lw_tbl := lw_at lw_m1 92 rfl
theorem q237 : (Jvm.Cond.instanceMethod ({ cls := "java/lang/Throwable", name := "fillInStackTrace", desc := "(I)Ljava/lang/Throwable;" } : Jvm.MethodName)) ∈ lw_all := lw_g (lw_at lw_m1 93 rfl) rfl
theorem q238 : (Jvm.Cond.instantiable "java/lang/Throwable" (6 : Nat)) ∈ lw_all := lw_g (lw_at lw_m1 94 rfl) rfl
theorem q239 : (Jvm.Cond.native ({ cls := "java/lang/Throwable", name := "fillInStackTrace", desc := "(I)Ljava/lang/Throwable;" } : Jvm.MethodName)) ∈ lw_all := lw_g (lw_at lw_m1 95 rfl) rfl
theorem q250 : (Jvm.Cond.instanceMethod ({ cls := "java/lang/Throwable", name := "<init>", desc := "(Ljava/lang/String;Ljava/lang/Throwable;ZZ)V" } : Jvm.MethodName)) ∈ lw_all := lw_g (lw_at lw_m1 106 rfl) rfl
theorem q251 : (Jvm.Cond.code ({ cls := "java/lang/Throwable", name := "<init>", desc := "(Ljava/lang/String;Ljava/lang/Throwable;ZZ)V" } : Jvm.MethodName) prog_28_method_5_code (5 : Nat) (Option.none : Option Jvm.ClassFile.FieldType)) ∈ lw_all := lw_g (lw_at lw_m1 107 rfl) rfl
theorem q256 : (Jvm.Cond.fieldLink "java/lang/Throwable" (198 : Nat) "java/lang/Throwable" "backtrace" "Ljava/lang/Object;") ∈ lw_all := lw_g (lw_at lw_m1 112 rfl) rfl
theorem q257 : (Jvm.Cond.fieldLink "java/lang/Throwable" (31 : Nat) "java/lang/Throwable" "detailMessage" "Ljava/lang/String;") ∈ lw_all := lw_g (lw_at lw_m1 113 rfl) rfl
theorem q258 : (Jvm.Cond.fieldLink "java/lang/Throwable" (7 : Nat) "java/lang/Throwable" "cause" "Ljava/lang/Throwable;") ∈ lw_all := lw_g (lw_at lw_m1 114 rfl) rfl
theorem q259 : (Jvm.Cond.fieldLink "java/lang/Throwable" (17 : Nat) "java/lang/Throwable" "stackTrace" "[Ljava/lang/StackTraceElement;") ∈ lw_all := lw_g (lw_at lw_m1 115 rfl) rfl
theorem q260 : (Jvm.Cond.fieldLink "java/lang/Throwable" (24 : Nat) "java/lang/Throwable" "suppressedExceptions" "Ljava/util/List;") ∈ lw_all := lw_g (lw_at lw_m1 116 rfl) rfl
theorem q265 : (Jvm.Cond.soleField "java/lang/Throwable" "backtrace") ∈ lw_all := lw_g (lw_at lw_m1 121 rfl) rfl
theorem q266 : (Jvm.Cond.soleField "java/lang/Throwable" "detailMessage") ∈ lw_all := lw_g (lw_at lw_m1 122 rfl) rfl
theorem q267 : (Jvm.Cond.soleField "java/lang/Throwable" "cause") ∈ lw_all := lw_g (lw_at lw_m1 123 rfl) rfl
theorem q268 : (Jvm.Cond.soleField "java/lang/Throwable" "stackTrace") ∈ lw_all := lw_g (lw_at lw_m1 124 rfl) rfl
theorem q270 : (Jvm.Cond.soleField "java/lang/Throwable" "depth") ∈ lw_all := lw_g (lw_at lw_m1 126 rfl) rfl
theorem q271 : (Jvm.Cond.soleField "java/lang/Throwable" "suppressedExceptions") ∈ lw_all := lw_g (lw_at lw_m1 127 rfl) rfl
theorem q524 : (Jvm.Cond.instanceMethod ({ cls := "java/lang/Throwable", name := "<init>", desc := "(Ljava/lang/String;)V" } : Jvm.MethodName)) ∈ lw_all := lw_g (lw_at lw_m2 140 rfl) rfl
theorem q525 : (Jvm.Cond.code ({ cls := "java/lang/Throwable", name := "<init>", desc := "(Ljava/lang/String;)V" } : Jvm.MethodName) prog_28_method_2_code (2 : Nat) (Option.none : Option Jvm.ClassFile.FieldType)) ∈ lw_all := lw_g (lw_at lw_m2 141 rfl) rfl
theorem q2208 : (Jvm.Cond.sameMethod "java/lang/Throwable" "java/lang/Throwable" "fillInStackTrace" "(I)Ljava/lang/Throwable;") ∈ lw_all := lw_g (lw_at lw_m9 144 rfl) rfl
theorem in_J0 : ∀ w ∈ wsJ00, w ∈ lw_all := lw_in wsJ00 [197, 199, 201, 203, 205] (by decide +kernel) (by decide +kernel)

/-! java/lang/Exception -/
set_option maxRecDepth 100000
def RJ1 : String := "java/lang/Exception"
abbrev cJ1_init : ByteArray := prog_17_method_5_code
def yJ1_init : MethodName := ⟨RJ1, "<init>", "(Ljava/lang/String;Ljava/lang/Throwable;ZZ)V"⟩
def dkwJ1_init_0 : List UInt8 := [42, 43, 44, 29, 21, 4, 183, 0, 16, 177]
abbrev dktJ1_init_0 : List UInt8 := dkwJ1_init_0 ++ []
theorem dksJ1_init_0 : cJ1_init.data.toList.drop 0 = dktJ1_init_0 := by decide +kernel
theorem dJ1_init_0 : decode cJ1_init 0 = .ok (.aload_n 0, 1) := dk_42 (dk_at dksJ1_init_0 0 rfl rfl)
theorem dJ1_init_1 : decode cJ1_init 1 = .ok (.aload_n 1, 1) := dk_43 (dk_at dksJ1_init_0 1 rfl rfl)
theorem dJ1_init_2 : decode cJ1_init 2 = .ok (.aload_n 2, 1) := dk_44 (dk_at dksJ1_init_0 2 rfl rfl)
theorem dJ1_init_3 : decode cJ1_init 3 = .ok (.iload_n 3, 1) := dk_29 (dk_at dksJ1_init_0 3 rfl rfl)
theorem dJ1_init_4 : decode cJ1_init 4 = .ok (.iload 4, 2) := dk_21 4 (dk_at dksJ1_init_0 4 rfl rfl)
theorem dJ1_init_6 : decode cJ1_init 6 = .ok (.invokespecial 16, 3) := dk_183 0 16 (dk_at dksJ1_init_0 6 rfl rfl)
theorem dJ1_init_9 : decode cJ1_init 9 = .ok (.return_, 1) := dk_177 (dk_at dksJ1_init_0 9 rfl rfl)
abbrev cJ1_init_2 : ByteArray := prog_17_method_2_code
def yJ1_init_2 : MethodName := ⟨RJ1, "<init>", "(Ljava/lang/String;)V"⟩
def dkwJ1_init_2_0 : List UInt8 := [42, 43, 183, 0, 7, 177]
abbrev dktJ1_init_2_0 : List UInt8 := dkwJ1_init_2_0 ++ []
theorem dksJ1_init_2_0 : cJ1_init_2.data.toList.drop 0 = dktJ1_init_2_0 := by decide +kernel
theorem dJ1_init_2_0 : decode cJ1_init_2 0 = .ok (.aload_n 0, 1) := dk_42 (dk_at dksJ1_init_2_0 0 rfl rfl)
theorem dJ1_init_2_1 : decode cJ1_init_2 1 = .ok (.aload_n 1, 1) := dk_43 (dk_at dksJ1_init_2_0 1 rfl rfl)
theorem dJ1_init_2_2 : decode cJ1_init_2 2 = .ok (.invokespecial 7, 3) := dk_183 0 7 (dk_at dksJ1_init_2_0 2 rfl rfl)
theorem dJ1_init_2_5 : decode cJ1_init_2 5 = .ok (.return_, 1) := dk_177 (dk_at dksJ1_init_2_0 5 rfl rfl)
abbrev cJ1_init_3 : ByteArray := prog_17_method_1_code
def yJ1_init_3 : MethodName := ⟨RJ1, "<init>", "()V"⟩
theorem dJ1_init_3_0 : decode cJ1_init_3 0 = .ok (.aload_n 0, 1) := by decide +kernel
theorem dJ1_init_3_1 : decode cJ1_init_3 1 = .ok (.invokespecial 1, 3) := by decide +kernel
theorem dJ1_init_3_4 : decode cJ1_init_3 4 = .ok (.return_, 1) := by decide +kernel
theorem q149 : (Jvm.Cond.initialized "java/lang/Exception") ∈ lw_all := lw_g (lw_at lw_m1 5 rfl) rfl
theorem q190 : (Jvm.Cond.declares ({ cls := "java/lang/Exception", name := "<init>", desc := "()V" } : Jvm.MethodName)) ∈ lw_tbl := lw_at lw_m1 46 rfl
theorem q191 : (Jvm.Cond.declares ({ cls := "java/lang/Exception", name := "<init>", desc := "(Ljava/lang/String;)V" } : Jvm.MethodName)) ∈ lw_tbl := lw_at lw_m1 47 rfl
theorem q233 : (Jvm.Cond.superclass "java/lang/Exception" "java/lang/Throwable") ∈ lw_all := lw_g (lw_at lw_m1 89 rfl) rfl
theorem q247 : (Jvm.Cond.instanceMethod ({ cls := "java/lang/Exception", name := "<init>", desc := "(Ljava/lang/String;Ljava/lang/Throwable;ZZ)V" } : Jvm.MethodName)) ∈ lw_all := lw_g (lw_at lw_m1 103 rfl) rfl
theorem q248 : (Jvm.Cond.code ({ cls := "java/lang/Exception", name := "<init>", desc := "(Ljava/lang/String;Ljava/lang/Throwable;ZZ)V" } : Jvm.MethodName) prog_17_method_5_code (5 : Nat) (Option.none : Option Jvm.ClassFile.FieldType)) ∈ lw_all := lw_g (lw_at lw_m1 104 rfl) rfl
theorem q249 : (Jvm.Cond.methodLink "java/lang/Exception" (16 : Nat) ({ cls := "java/lang/Throwable", name := "<init>", desc := "(Ljava/lang/String;Ljava/lang/Throwable;ZZ)V" } : Jvm.MethodName)) ∈ lw_all := lw_g (lw_at lw_m1 105 rfl) rfl
theorem q521 : (Jvm.Cond.instanceMethod ({ cls := "java/lang/Exception", name := "<init>", desc := "(Ljava/lang/String;)V" } : Jvm.MethodName)) ∈ lw_all := lw_g (lw_at lw_m2 137 rfl) rfl
theorem q522 : (Jvm.Cond.code ({ cls := "java/lang/Exception", name := "<init>", desc := "(Ljava/lang/String;)V" } : Jvm.MethodName) prog_17_method_2_code (2 : Nat) (Option.none : Option Jvm.ClassFile.FieldType)) ∈ lw_all := lw_g (lw_at lw_m2 138 rfl) rfl
theorem q523 : (Jvm.Cond.methodLink "java/lang/Exception" (7 : Nat) ({ cls := "java/lang/Throwable", name := "<init>", desc := "(Ljava/lang/String;)V" } : Jvm.MethodName)) ∈ lw_all := lw_g (lw_at lw_m2 139 rfl) rfl
theorem q563 : (Jvm.Cond.instanceMethod ({ cls := "java/lang/Exception", name := "<init>", desc := "()V" } : Jvm.MethodName)) ∈ lw_all := lw_g (lw_at lw_m2 179 rfl) rfl
theorem q564 : (Jvm.Cond.code ({ cls := "java/lang/Exception", name := "<init>", desc := "()V" } : Jvm.MethodName) prog_17_method_1_code (1 : Nat) (Option.none : Option Jvm.ClassFile.FieldType)) ∈ lw_all := lw_g (lw_at lw_m2 180 rfl) rfl
theorem q565 : (Jvm.Cond.methodLink "java/lang/Exception" (1 : Nat) ({ cls := "java/lang/Throwable", name := "<init>", desc := "()V" } : Jvm.MethodName)) ∈ lw_all := lw_g (lw_at lw_m2 181 rfl) rfl

/-! jdk/internal/util/Preconditions -/
set_option maxRecDepth 100000
def RJ10 : String := "jdk/internal/util/Preconditions"
abbrev cJ10_checkIndex : ByteArray := prog_29_method_11_code
def yJ10_checkIndex : MethodName := ⟨RJ10, "checkIndex", "(IILjava/util/function/BiFunction;)I"⟩
def dkwJ10_checkIndex_0 : List UInt8 := [26, 155, 0, 8, 26, 27, 161, 0, 10, 44, 26, 27, 184, 0, 95, 191, 26, 172]
abbrev dktJ10_checkIndex_0 : List UInt8 := dkwJ10_checkIndex_0 ++ []
theorem dksJ10_checkIndex_0 : cJ10_checkIndex.data.toList.drop 0 = dktJ10_checkIndex_0 := by decide +kernel
theorem dJ10_checkIndex_0 : decode cJ10_checkIndex 0 = .ok (.iload_n 0, 1) := dk_26 (dk_at dksJ10_checkIndex_0 0 rfl rfl)
theorem dJ10_checkIndex_1 : decode cJ10_checkIndex 1 = .ok (.ifCond .lt 8, 3) := dk_155 0 8 (dk_at dksJ10_checkIndex_0 1 rfl rfl)
theorem dJ10_checkIndex_4 : decode cJ10_checkIndex 4 = .ok (.iload_n 0, 1) := dk_26 (dk_at dksJ10_checkIndex_0 4 rfl rfl)
theorem dJ10_checkIndex_5 : decode cJ10_checkIndex 5 = .ok (.iload_n 1, 1) := dk_27 (dk_at dksJ10_checkIndex_0 5 rfl rfl)
theorem dJ10_checkIndex_6 : decode cJ10_checkIndex 6 = .ok (.if_icmp .lt 10, 3) := dk_161 0 10 (dk_at dksJ10_checkIndex_0 6 rfl rfl)
theorem dJ10_checkIndex_9 : decode cJ10_checkIndex 9 = .ok (.aload_n 2, 1) := dk_44 (dk_at dksJ10_checkIndex_0 9 rfl rfl)
theorem dJ10_checkIndex_10 : decode cJ10_checkIndex 10 = .ok (.iload_n 0, 1) := dk_26 (dk_at dksJ10_checkIndex_0 10 rfl rfl)
theorem dJ10_checkIndex_11 : decode cJ10_checkIndex 11 = .ok (.iload_n 1, 1) := dk_27 (dk_at dksJ10_checkIndex_0 11 rfl rfl)
theorem dJ10_checkIndex_12 : decode cJ10_checkIndex 12 = .ok (.invokestatic 95, 3) := dk_184 0 95 (dk_at dksJ10_checkIndex_0 12 rfl rfl)
theorem dJ10_checkIndex_15 : decode cJ10_checkIndex 15 = .ok (.athrow, 1) := dk_191 (dk_at dksJ10_checkIndex_0 15 rfl rfl)
theorem dJ10_checkIndex_16 : decode cJ10_checkIndex 16 = .ok (.iload_n 0, 1) := dk_26 (dk_at dksJ10_checkIndex_0 16 rfl rfl)
theorem dJ10_checkIndex_17 : decode cJ10_checkIndex 17 = .ok (.ireturn, 1) := dk_172 (dk_at dksJ10_checkIndex_0 17 rfl rfl)
theorem q163 : (Jvm.Cond.initialized "jdk/internal/util/Preconditions") ∈ lw_all := lw_g (lw_at lw_m1 19 rfl) rfl
theorem q705 : (Jvm.Cond.laysStatic "jdk/internal/util/Preconditions" "SIOOBE_FORMATTER" "Ljava/util/function/BiFunction;") ∈ lw_tbl := lw_at lw_m3 81 rfl
theorem q707 : (Jvm.Cond.static ({ cls := "jdk/internal/util/Preconditions", name := "checkIndex", desc := "(IILjava/util/function/BiFunction;)I" } : Jvm.MethodName)) ∈ lw_all := lw_g (lw_at lw_m3 83 rfl) rfl
theorem q708 : (Jvm.Cond.code ({ cls := "jdk/internal/util/Preconditions", name := "checkIndex", desc := "(IILjava/util/function/BiFunction;)I" } : Jvm.MethodName) prog_29_method_11_code (3 : Nat) (Option.some Jvm.ClassFile.FieldType.int)) ∈ lw_all := lw_g (lw_at lw_m3 84 rfl) rfl

/-! java/lang/StringUTF16 -/
set_option maxRecDepth 100000
def RJ11 : String := "java/lang/StringUTF16"
abbrev cJ11_charAt : ByteArray := prog_26_method_83_code
def yJ11_charAt : MethodName := ⟨RJ11, "charAt", "([BI)C"⟩
def dkwJ11_charAt_0 : List UInt8 := [27, 42, 184, 0, 67, 42, 27, 184, 0, 71, 172]
abbrev dktJ11_charAt_0 : List UInt8 := dkwJ11_charAt_0 ++ []
theorem dksJ11_charAt_0 : cJ11_charAt.data.toList.drop 0 = dktJ11_charAt_0 := by decide +kernel
theorem dJ11_charAt_0 : decode cJ11_charAt 0 = .ok (.iload_n 1, 1) := dk_27 (dk_at dksJ11_charAt_0 0 rfl rfl)
theorem dJ11_charAt_1 : decode cJ11_charAt 1 = .ok (.aload_n 0, 1) := dk_42 (dk_at dksJ11_charAt_0 1 rfl rfl)
theorem dJ11_charAt_2 : decode cJ11_charAt 2 = .ok (.invokestatic 67, 3) := dk_184 0 67 (dk_at dksJ11_charAt_0 2 rfl rfl)
theorem dJ11_charAt_5 : decode cJ11_charAt 5 = .ok (.aload_n 0, 1) := dk_42 (dk_at dksJ11_charAt_0 5 rfl rfl)
theorem dJ11_charAt_6 : decode cJ11_charAt 6 = .ok (.iload_n 1, 1) := dk_27 (dk_at dksJ11_charAt_0 6 rfl rfl)
theorem dJ11_charAt_7 : decode cJ11_charAt 7 = .ok (.invokestatic 71, 3) := dk_184 0 71 (dk_at dksJ11_charAt_0 7 rfl rfl)
theorem dJ11_charAt_10 : decode cJ11_charAt 10 = .ok (.ireturn, 1) := dk_172 (dk_at dksJ11_charAt_0 10 rfl rfl)
abbrev cJ11_checkIndex : ByteArray := prog_26_method_91_code
def yJ11_checkIndex : MethodName := ⟨RJ11, "checkIndex", "(I[B)V"⟩
def dkwJ11_checkIndex_0 : List UInt8 := [26, 43, 184, 0, 48, 184, 1, 158, 177]
abbrev dktJ11_checkIndex_0 : List UInt8 := dkwJ11_checkIndex_0 ++ []
theorem dksJ11_checkIndex_0 : cJ11_checkIndex.data.toList.drop 0 = dktJ11_checkIndex_0 := by decide +kernel
theorem dJ11_checkIndex_0 : decode cJ11_checkIndex 0 = .ok (.iload_n 0, 1) := dk_26 (dk_at dksJ11_checkIndex_0 0 rfl rfl)
theorem dJ11_checkIndex_1 : decode cJ11_checkIndex 1 = .ok (.aload_n 1, 1) := dk_43 (dk_at dksJ11_checkIndex_0 1 rfl rfl)
theorem dJ11_checkIndex_2 : decode cJ11_checkIndex 2 = .ok (.invokestatic 48, 3) := dk_184 0 48 (dk_at dksJ11_checkIndex_0 2 rfl rfl)
theorem dJ11_checkIndex_5 : decode cJ11_checkIndex 5 = .ok (.invokestatic 414, 3) := dk_184 1 158 (dk_at dksJ11_checkIndex_0 5 rfl rfl)
theorem dJ11_checkIndex_8 : decode cJ11_checkIndex 8 = .ok (.return_, 1) := dk_177 (dk_at dksJ11_checkIndex_0 8 rfl rfl)
abbrev cJ11_length : ByteArray := prog_26_method_6_code
def yJ11_length : MethodName := ⟨RJ11, "length", "([B)I"⟩
def dkwJ11_length_0 : List UInt8 := [42, 190, 4, 122, 172]
abbrev dktJ11_length_0 : List UInt8 := dkwJ11_length_0 ++ []
theorem dksJ11_length_0 : cJ11_length.data.toList.drop 0 = dktJ11_length_0 := by decide +kernel
theorem dJ11_length_0 : decode cJ11_length 0 = .ok (.aload_n 0, 1) := dk_42 (dk_at dksJ11_length_0 0 rfl rfl)
theorem dJ11_length_1 : decode cJ11_length 1 = .ok (.arraylength, 1) := dk_190 (dk_at dksJ11_length_0 1 rfl rfl)
theorem dJ11_length_2 : decode cJ11_length 2 = .ok (.iconst 1, 1) := dk_4 (dk_at dksJ11_length_0 2 rfl rfl)
theorem dJ11_length_3 : decode cJ11_length 3 = .ok (.ishr, 1) := dk_122 (dk_at dksJ11_length_0 3 rfl rfl)
theorem dJ11_length_4 : decode cJ11_length 4 = .ok (.ireturn, 1) := dk_172 (dk_at dksJ11_length_0 4 rfl rfl)
abbrev cJ11_getChar : ByteArray := prog_26_method_5_code
def yJ11_getChar : MethodName := ⟨RJ11, "getChar", "([BI)C"⟩
def dkwJ11_getChar_2 : List UInt8 := [51, 17, 0, 255, 126, 178, 0, 63, 120, 128, 146, 172]
abbrev dktJ11_getChar_2 : List UInt8 := dkwJ11_getChar_2 ++ []
def dkwJ11_getChar_1 : List UInt8 := [183, 0, 56, 191, 27, 4, 120, 60, 42, 27, 132, 1, 1, 51, 17, 0, 255, 126, 178, 0, 59, 120, 42, 27]
abbrev dktJ11_getChar_1 : List UInt8 := dkwJ11_getChar_1 ++ dktJ11_getChar_2
def dkwJ11_getChar_0 : List UInt8 := [178, 0, 44, 154, 0, 25, 27, 155, 0, 11, 27, 42, 184, 0, 48, 161, 0, 13, 187, 0, 52, 89, 18, 54]
abbrev dktJ11_getChar_0 : List UInt8 := dkwJ11_getChar_0 ++ dktJ11_getChar_1
theorem dksJ11_getChar_0 : cJ11_getChar.data.toList.drop 0 = dktJ11_getChar_0 := by decide +kernel
theorem dksJ11_getChar_1 : cJ11_getChar.data.toList.drop 24 = dktJ11_getChar_1 := dk_seg dksJ11_getChar_0 24 rfl rfl
theorem dksJ11_getChar_2 : cJ11_getChar.data.toList.drop 48 = dktJ11_getChar_2 := dk_seg dksJ11_getChar_1 24 rfl rfl
theorem dJ11_getChar_0 : decode cJ11_getChar 0 = .ok (.getstatic 44, 3) := dk_178 0 44 (dk_at dksJ11_getChar_0 0 rfl rfl)
theorem dJ11_getChar_3 : decode cJ11_getChar 3 = .ok (.ifCond .ne 25, 3) := dk_154 0 25 (dk_at dksJ11_getChar_0 3 rfl rfl)
theorem dJ11_getChar_6 : decode cJ11_getChar 6 = .ok (.iload_n 1, 1) := dk_27 (dk_at dksJ11_getChar_0 6 rfl rfl)
theorem dJ11_getChar_7 : decode cJ11_getChar 7 = .ok (.ifCond .lt 11, 3) := dk_155 0 11 (dk_at dksJ11_getChar_0 7 rfl rfl)
theorem dJ11_getChar_10 : decode cJ11_getChar 10 = .ok (.iload_n 1, 1) := dk_27 (dk_at dksJ11_getChar_0 10 rfl rfl)
theorem dJ11_getChar_11 : decode cJ11_getChar 11 = .ok (.aload_n 0, 1) := dk_42 (dk_at dksJ11_getChar_0 11 rfl rfl)
theorem dJ11_getChar_12 : decode cJ11_getChar 12 = .ok (.invokestatic 48, 3) := dk_184 0 48 (dk_at dksJ11_getChar_0 12 rfl rfl)
theorem dJ11_getChar_15 : decode cJ11_getChar 15 = .ok (.if_icmp .lt 13, 3) := dk_161 0 13 (dk_at dksJ11_getChar_0 15 rfl rfl)
theorem dJ11_getChar_18 : decode cJ11_getChar 18 = .ok (.new 52, 3) := dk_187 0 52 (dk_at dksJ11_getChar_0 18 rfl rfl)
theorem dJ11_getChar_21 : decode cJ11_getChar 21 = .ok (.dup, 1) := dk_89 (dk_at dksJ11_getChar_0 21 rfl rfl)
theorem dJ11_getChar_22 : decode cJ11_getChar 22 = .ok (.ldc 54, 2) := dk_18 54 (dk_at dksJ11_getChar_0 22 rfl rfl)
theorem dJ11_getChar_24 : decode cJ11_getChar 24 = .ok (.invokespecial 56, 3) := dk_183 0 56 (dk_at dksJ11_getChar_1 0 rfl rfl)
theorem dJ11_getChar_27 : decode cJ11_getChar 27 = .ok (.athrow, 1) := dk_191 (dk_at dksJ11_getChar_1 3 rfl rfl)
theorem dJ11_getChar_28 : decode cJ11_getChar 28 = .ok (.iload_n 1, 1) := dk_27 (dk_at dksJ11_getChar_1 4 rfl rfl)
theorem dJ11_getChar_29 : decode cJ11_getChar 29 = .ok (.iconst 1, 1) := dk_4 (dk_at dksJ11_getChar_1 5 rfl rfl)
theorem dJ11_getChar_30 : decode cJ11_getChar 30 = .ok (.ishl, 1) := dk_120 (dk_at dksJ11_getChar_1 6 rfl rfl)
theorem dJ11_getChar_31 : decode cJ11_getChar 31 = .ok (.istore_n 1, 1) := dk_60 (dk_at dksJ11_getChar_1 7 rfl rfl)
theorem dJ11_getChar_32 : decode cJ11_getChar 32 = .ok (.aload_n 0, 1) := dk_42 (dk_at dksJ11_getChar_1 8 rfl rfl)
theorem dJ11_getChar_33 : decode cJ11_getChar 33 = .ok (.iload_n 1, 1) := dk_27 (dk_at dksJ11_getChar_1 9 rfl rfl)
theorem dJ11_getChar_34 : decode cJ11_getChar 34 = .ok (.iinc 1 1, 3) := dk_132 1 1 (dk_at dksJ11_getChar_1 10 rfl rfl)
theorem dJ11_getChar_37 : decode cJ11_getChar 37 = .ok (.baload, 1) := dk_51 (dk_at dksJ11_getChar_1 13 rfl rfl)
theorem dJ11_getChar_38 : decode cJ11_getChar 38 = .ok (.sipush 255, 3) := dk_17 0 255 (dk_at dksJ11_getChar_1 14 rfl rfl)
theorem dJ11_getChar_41 : decode cJ11_getChar 41 = .ok (.iand, 1) := dk_126 (dk_at dksJ11_getChar_1 17 rfl rfl)
theorem dJ11_getChar_42 : decode cJ11_getChar 42 = .ok (.getstatic 59, 3) := dk_178 0 59 (dk_at dksJ11_getChar_1 18 rfl rfl)
theorem dJ11_getChar_45 : decode cJ11_getChar 45 = .ok (.ishl, 1) := dk_120 (dk_at dksJ11_getChar_1 21 rfl rfl)
theorem dJ11_getChar_46 : decode cJ11_getChar 46 = .ok (.aload_n 0, 1) := dk_42 (dk_at dksJ11_getChar_1 22 rfl rfl)
theorem dJ11_getChar_47 : decode cJ11_getChar 47 = .ok (.iload_n 1, 1) := dk_27 (dk_at dksJ11_getChar_1 23 rfl rfl)
theorem dJ11_getChar_48 : decode cJ11_getChar 48 = .ok (.baload, 1) := dk_51 (dk_at dksJ11_getChar_2 0 rfl rfl)
theorem dJ11_getChar_49 : decode cJ11_getChar 49 = .ok (.sipush 255, 3) := dk_17 0 255 (dk_at dksJ11_getChar_2 1 rfl rfl)
theorem dJ11_getChar_52 : decode cJ11_getChar 52 = .ok (.iand, 1) := dk_126 (dk_at dksJ11_getChar_2 4 rfl rfl)
theorem dJ11_getChar_53 : decode cJ11_getChar 53 = .ok (.getstatic 63, 3) := dk_178 0 63 (dk_at dksJ11_getChar_2 5 rfl rfl)
theorem dJ11_getChar_56 : decode cJ11_getChar 56 = .ok (.ishl, 1) := dk_120 (dk_at dksJ11_getChar_2 8 rfl rfl)
theorem dJ11_getChar_57 : decode cJ11_getChar 57 = .ok (.ior, 1) := dk_128 (dk_at dksJ11_getChar_2 9 rfl rfl)
theorem dJ11_getChar_58 : decode cJ11_getChar 58 = .ok (.i2c, 1) := dk_146 (dk_at dksJ11_getChar_2 10 rfl rfl)
theorem dJ11_getChar_59 : decode cJ11_getChar 59 = .ok (.ireturn, 1) := dk_172 (dk_at dksJ11_getChar_2 11 rfl rfl)
theorem q164 : (Jvm.Cond.initialized "java/lang/StringUTF16") ∈ lw_all := lw_g (lw_at lw_m1 20 rfl) rfl
theorem q710 : (Jvm.Cond.static ({ cls := "java/lang/StringUTF16", name := "charAt", desc := "([BI)C" } : Jvm.MethodName)) ∈ lw_all := lw_g (lw_at lw_m3 86 rfl) rfl
theorem q711 : (Jvm.Cond.code ({ cls := "java/lang/StringUTF16", name := "charAt", desc := "([BI)C" } : Jvm.MethodName) prog_26_method_83_code (2 : Nat) (Option.some Jvm.ClassFile.FieldType.char)) ∈ lw_all := lw_g (lw_at lw_m3 87 rfl) rfl
theorem q712 : (Jvm.Cond.methodLink "java/lang/StringUTF16" (67 : Nat) ({ cls := "java/lang/StringUTF16", name := "checkIndex", desc := "(I[B)V" } : Jvm.MethodName)) ∈ lw_all := lw_g (lw_at lw_m3 88 rfl) rfl
theorem q713 : (Jvm.Cond.static ({ cls := "java/lang/StringUTF16", name := "checkIndex", desc := "(I[B)V" } : Jvm.MethodName)) ∈ lw_all := lw_g (lw_at lw_m3 89 rfl) rfl
theorem q714 : (Jvm.Cond.code ({ cls := "java/lang/StringUTF16", name := "checkIndex", desc := "(I[B)V" } : Jvm.MethodName) prog_26_method_91_code (2 : Nat) (Option.none : Option Jvm.ClassFile.FieldType)) ∈ lw_all := lw_g (lw_at lw_m3 90 rfl) rfl
theorem q715 : (Jvm.Cond.methodLink "java/lang/StringUTF16" (48 : Nat) ({ cls := "java/lang/StringUTF16", name := "length", desc := "([B)I" } : Jvm.MethodName)) ∈ lw_all := lw_g (lw_at lw_m3 91 rfl) rfl
theorem q716 : (Jvm.Cond.static ({ cls := "java/lang/StringUTF16", name := "length", desc := "([B)I" } : Jvm.MethodName)) ∈ lw_all := lw_g (lw_at lw_m3 92 rfl) rfl
theorem q717 : (Jvm.Cond.code ({ cls := "java/lang/StringUTF16", name := "length", desc := "([B)I" } : Jvm.MethodName) prog_26_method_6_code (1 : Nat) (Option.some Jvm.ClassFile.FieldType.int)) ∈ lw_all := lw_g (lw_at lw_m3 93 rfl) rfl
theorem q718 : (Jvm.Cond.methodLink "java/lang/StringUTF16" (414 : Nat) ({ cls := "java/lang/String", name := "checkIndex", desc := "(II)V" } : Jvm.MethodName)) ∈ lw_all := lw_g (lw_at lw_m3 94 rfl) rfl
theorem q719 : (Jvm.Cond.methodLink "java/lang/StringUTF16" (71 : Nat) ({ cls := "java/lang/StringUTF16", name := "getChar", desc := "([BI)C" } : Jvm.MethodName)) ∈ lw_all := lw_g (lw_at lw_m3 95 rfl) rfl
theorem q720 : (Jvm.Cond.static ({ cls := "java/lang/StringUTF16", name := "getChar", desc := "([BI)C" } : Jvm.MethodName)) ∈ lw_all := lw_g (lw_at lw_m3 96 rfl) rfl
theorem q721 : (Jvm.Cond.code ({ cls := "java/lang/StringUTF16", name := "getChar", desc := "([BI)C" } : Jvm.MethodName) prog_26_method_5_code (2 : Nat) (Option.some Jvm.ClassFile.FieldType.char)) ∈ lw_all := lw_g (lw_at lw_m3 97 rfl) rfl
theorem q722 : (Jvm.Cond.fieldLink "java/lang/StringUTF16" (44 : Nat) "java/lang/StringUTF16" "$assertionsDisabled" "Z") ∈ lw_all := lw_g (lw_at lw_m3 98 rfl) rfl
theorem q723 : (Jvm.Cond.laysStatic "java/lang/StringUTF16" "$assertionsDisabled" "Z") ∈ lw_tbl := lw_at lw_m3 99 rfl
theorem q724 : (Jvm.Cond.fieldLink "java/lang/StringUTF16" (59 : Nat) "java/lang/StringUTF16" "HI_BYTE_SHIFT" "I") ∈ lw_all := lw_g (lw_at lw_m3 100 rfl) rfl
theorem q725 : (Jvm.Cond.laysStatic "java/lang/StringUTF16" "HI_BYTE_SHIFT" "I") ∈ lw_tbl := lw_at lw_m3 101 rfl
theorem q726 : (Jvm.Cond.fieldLink "java/lang/StringUTF16" (63 : Nat) "java/lang/StringUTF16" "LO_BYTE_SHIFT" "I") ∈ lw_all := lw_g (lw_at lw_m3 102 rfl) rfl
theorem q727 : (Jvm.Cond.laysStatic "java/lang/StringUTF16" "LO_BYTE_SHIFT" "I") ∈ lw_tbl := lw_at lw_m3 103 rfl

/-! java/lang/Integer -/
set_option maxRecDepth 100000
def RJ12 : String := "java/lang/Integer"
abbrev cJ12_bitCount : ByteArray := prog_19_method_49_code
def yJ12_bitCount : MethodName := ⟨RJ12, "bitCount", "(I)I"⟩
def dkwJ12_bitCount_2 : List UInt8 := [26, 16, 63, 126, 172]
abbrev dktJ12_bitCount_2 : List UInt8 := dkwJ12_bitCount_2 ++ []
def dkwJ12_bitCount_1 : List UInt8 := [26, 26, 7, 124, 96, 19, 1, 11, 126, 59, 26, 26, 16, 8, 124, 96, 59, 26, 26, 16, 16, 124, 96, 59]
abbrev dktJ12_bitCount_1 : List UInt8 := dkwJ12_bitCount_1 ++ dktJ12_bitCount_2
def dkwJ12_bitCount_0 : List UInt8 := [26, 26, 4, 124, 19, 1, 9, 126, 100, 59, 26, 19, 1, 10, 126, 26, 5, 124, 19, 1, 10, 126, 96, 59]
abbrev dktJ12_bitCount_0 : List UInt8 := dkwJ12_bitCount_0 ++ dktJ12_bitCount_1
theorem dksJ12_bitCount_0 : cJ12_bitCount.data.toList.drop 0 = dktJ12_bitCount_0 := by decide +kernel
theorem dksJ12_bitCount_1 : cJ12_bitCount.data.toList.drop 24 = dktJ12_bitCount_1 := dk_seg dksJ12_bitCount_0 24 rfl rfl
theorem dksJ12_bitCount_2 : cJ12_bitCount.data.toList.drop 48 = dktJ12_bitCount_2 := dk_seg dksJ12_bitCount_1 24 rfl rfl
theorem dJ12_bitCount_0 : decode cJ12_bitCount 0 = .ok (.iload_n 0, 1) := dk_26 (dk_at dksJ12_bitCount_0 0 rfl rfl)
theorem dJ12_bitCount_1 : decode cJ12_bitCount 1 = .ok (.iload_n 0, 1) := dk_26 (dk_at dksJ12_bitCount_0 1 rfl rfl)
theorem dJ12_bitCount_2 : decode cJ12_bitCount 2 = .ok (.iconst 1, 1) := dk_4 (dk_at dksJ12_bitCount_0 2 rfl rfl)
theorem dJ12_bitCount_3 : decode cJ12_bitCount 3 = .ok (.iushr, 1) := dk_124 (dk_at dksJ12_bitCount_0 3 rfl rfl)
theorem dJ12_bitCount_4 : decode cJ12_bitCount 4 = .ok (.ldc_w 265, 3) := dk_19 1 9 (dk_at dksJ12_bitCount_0 4 rfl rfl)
theorem dJ12_bitCount_7 : decode cJ12_bitCount 7 = .ok (.iand, 1) := dk_126 (dk_at dksJ12_bitCount_0 7 rfl rfl)
theorem dJ12_bitCount_8 : decode cJ12_bitCount 8 = .ok (.isub, 1) := dk_100 (dk_at dksJ12_bitCount_0 8 rfl rfl)
theorem dJ12_bitCount_9 : decode cJ12_bitCount 9 = .ok (.istore_n 0, 1) := dk_59 (dk_at dksJ12_bitCount_0 9 rfl rfl)
theorem dJ12_bitCount_10 : decode cJ12_bitCount 10 = .ok (.iload_n 0, 1) := dk_26 (dk_at dksJ12_bitCount_0 10 rfl rfl)
theorem dJ12_bitCount_11 : decode cJ12_bitCount 11 = .ok (.ldc_w 266, 3) := dk_19 1 10 (dk_at dksJ12_bitCount_0 11 rfl rfl)
theorem dJ12_bitCount_14 : decode cJ12_bitCount 14 = .ok (.iand, 1) := dk_126 (dk_at dksJ12_bitCount_0 14 rfl rfl)
theorem dJ12_bitCount_15 : decode cJ12_bitCount 15 = .ok (.iload_n 0, 1) := dk_26 (dk_at dksJ12_bitCount_0 15 rfl rfl)
theorem dJ12_bitCount_16 : decode cJ12_bitCount 16 = .ok (.iconst 2, 1) := dk_5 (dk_at dksJ12_bitCount_0 16 rfl rfl)
theorem dJ12_bitCount_17 : decode cJ12_bitCount 17 = .ok (.iushr, 1) := dk_124 (dk_at dksJ12_bitCount_0 17 rfl rfl)
theorem dJ12_bitCount_18 : decode cJ12_bitCount 18 = .ok (.ldc_w 266, 3) := dk_19 1 10 (dk_at dksJ12_bitCount_0 18 rfl rfl)
theorem dJ12_bitCount_21 : decode cJ12_bitCount 21 = .ok (.iand, 1) := dk_126 (dk_at dksJ12_bitCount_0 21 rfl rfl)
theorem dJ12_bitCount_22 : decode cJ12_bitCount 22 = .ok (.iadd, 1) := dk_96 (dk_at dksJ12_bitCount_0 22 rfl rfl)
theorem dJ12_bitCount_23 : decode cJ12_bitCount 23 = .ok (.istore_n 0, 1) := dk_59 (dk_at dksJ12_bitCount_0 23 rfl rfl)
theorem dJ12_bitCount_24 : decode cJ12_bitCount 24 = .ok (.iload_n 0, 1) := dk_26 (dk_at dksJ12_bitCount_1 0 rfl rfl)
theorem dJ12_bitCount_25 : decode cJ12_bitCount 25 = .ok (.iload_n 0, 1) := dk_26 (dk_at dksJ12_bitCount_1 1 rfl rfl)
theorem dJ12_bitCount_26 : decode cJ12_bitCount 26 = .ok (.iconst 4, 1) := dk_7 (dk_at dksJ12_bitCount_1 2 rfl rfl)
theorem dJ12_bitCount_27 : decode cJ12_bitCount 27 = .ok (.iushr, 1) := dk_124 (dk_at dksJ12_bitCount_1 3 rfl rfl)
theorem dJ12_bitCount_28 : decode cJ12_bitCount 28 = .ok (.iadd, 1) := dk_96 (dk_at dksJ12_bitCount_1 4 rfl rfl)
theorem dJ12_bitCount_29 : decode cJ12_bitCount 29 = .ok (.ldc_w 267, 3) := dk_19 1 11 (dk_at dksJ12_bitCount_1 5 rfl rfl)
theorem dJ12_bitCount_32 : decode cJ12_bitCount 32 = .ok (.iand, 1) := dk_126 (dk_at dksJ12_bitCount_1 8 rfl rfl)
theorem dJ12_bitCount_33 : decode cJ12_bitCount 33 = .ok (.istore_n 0, 1) := dk_59 (dk_at dksJ12_bitCount_1 9 rfl rfl)
theorem dJ12_bitCount_34 : decode cJ12_bitCount 34 = .ok (.iload_n 0, 1) := dk_26 (dk_at dksJ12_bitCount_1 10 rfl rfl)
theorem dJ12_bitCount_35 : decode cJ12_bitCount 35 = .ok (.iload_n 0, 1) := dk_26 (dk_at dksJ12_bitCount_1 11 rfl rfl)
theorem dJ12_bitCount_36 : decode cJ12_bitCount 36 = .ok (.bipush 8, 2) := dk_16 8 (dk_at dksJ12_bitCount_1 12 rfl rfl)
theorem dJ12_bitCount_38 : decode cJ12_bitCount 38 = .ok (.iushr, 1) := dk_124 (dk_at dksJ12_bitCount_1 14 rfl rfl)
theorem dJ12_bitCount_39 : decode cJ12_bitCount 39 = .ok (.iadd, 1) := dk_96 (dk_at dksJ12_bitCount_1 15 rfl rfl)
theorem dJ12_bitCount_40 : decode cJ12_bitCount 40 = .ok (.istore_n 0, 1) := dk_59 (dk_at dksJ12_bitCount_1 16 rfl rfl)
theorem dJ12_bitCount_41 : decode cJ12_bitCount 41 = .ok (.iload_n 0, 1) := dk_26 (dk_at dksJ12_bitCount_1 17 rfl rfl)
theorem dJ12_bitCount_42 : decode cJ12_bitCount 42 = .ok (.iload_n 0, 1) := dk_26 (dk_at dksJ12_bitCount_1 18 rfl rfl)
theorem dJ12_bitCount_43 : decode cJ12_bitCount 43 = .ok (.bipush 16, 2) := dk_16 16 (dk_at dksJ12_bitCount_1 19 rfl rfl)
theorem dJ12_bitCount_45 : decode cJ12_bitCount 45 = .ok (.iushr, 1) := dk_124 (dk_at dksJ12_bitCount_1 21 rfl rfl)
theorem dJ12_bitCount_46 : decode cJ12_bitCount 46 = .ok (.iadd, 1) := dk_96 (dk_at dksJ12_bitCount_1 22 rfl rfl)
theorem dJ12_bitCount_47 : decode cJ12_bitCount 47 = .ok (.istore_n 0, 1) := dk_59 (dk_at dksJ12_bitCount_1 23 rfl rfl)
theorem dJ12_bitCount_48 : decode cJ12_bitCount 48 = .ok (.iload_n 0, 1) := dk_26 (dk_at dksJ12_bitCount_2 0 rfl rfl)
theorem dJ12_bitCount_49 : decode cJ12_bitCount 49 = .ok (.bipush 63, 2) := dk_16 63 (dk_at dksJ12_bitCount_2 1 rfl rfl)
theorem dJ12_bitCount_51 : decode cJ12_bitCount 51 = .ok (.iand, 1) := dk_126 (dk_at dksJ12_bitCount_2 3 rfl rfl)
theorem dJ12_bitCount_52 : decode cJ12_bitCount 52 = .ok (.ireturn, 1) := dk_172 (dk_at dksJ12_bitCount_2 4 rfl rfl)
abbrev cJ12_numberOfTrailingZeros : ByteArray := prog_19_method_48_code
def yJ12_numberOfTrailingZeros : MethodName := ⟨RJ12, "numberOfTrailingZeros", "(I)I"⟩
def dkwJ12_numberOfTrailingZeros_3 : List UInt8 := [5, 124, 59, 27, 26, 4, 124, 96, 172]
abbrev dktJ12_numberOfTrailingZeros_3 : List UInt8 := dkwJ12_numberOfTrailingZeros_3 ++ []
def dkwJ12_numberOfTrailingZeros_2 : List UInt8 := [124, 59, 26, 16, 16, 164, 0, 10, 132, 1, 4, 26, 7, 124, 59, 26, 7, 164, 0, 10, 132, 1, 2, 26]
abbrev dktJ12_numberOfTrailingZeros_2 : List UInt8 := dkwJ12_numberOfTrailingZeros_2 ++ dktJ12_numberOfTrailingZeros_3
def dkwJ12_numberOfTrailingZeros_1 : List UInt8 := [164, 0, 11, 132, 1, 16, 26, 16, 16, 124, 59, 26, 17, 1, 0, 164, 0, 11, 132, 1, 8, 26, 16, 8]
abbrev dktJ12_numberOfTrailingZeros_1 : List UInt8 := dkwJ12_numberOfTrailingZeros_1 ++ dktJ12_numberOfTrailingZeros_2
def dkwJ12_numberOfTrailingZeros_0 : List UInt8 := [26, 2, 130, 26, 4, 100, 126, 59, 26, 157, 0, 8, 26, 16, 32, 126, 172, 4, 60, 26, 19, 1, 8]
abbrev dktJ12_numberOfTrailingZeros_0 : List UInt8 := dkwJ12_numberOfTrailingZeros_0 ++ dktJ12_numberOfTrailingZeros_1
theorem dksJ12_numberOfTrailingZeros_0 : cJ12_numberOfTrailingZeros.data.toList.drop 0 = dktJ12_numberOfTrailingZeros_0 := by decide +kernel
theorem dksJ12_numberOfTrailingZeros_1 : cJ12_numberOfTrailingZeros.data.toList.drop 23 = dktJ12_numberOfTrailingZeros_1 := dk_seg dksJ12_numberOfTrailingZeros_0 23 rfl rfl
theorem dksJ12_numberOfTrailingZeros_2 : cJ12_numberOfTrailingZeros.data.toList.drop 47 = dktJ12_numberOfTrailingZeros_2 := dk_seg dksJ12_numberOfTrailingZeros_1 24 rfl rfl
theorem dksJ12_numberOfTrailingZeros_3 : cJ12_numberOfTrailingZeros.data.toList.drop 71 = dktJ12_numberOfTrailingZeros_3 := dk_seg dksJ12_numberOfTrailingZeros_2 24 rfl rfl
theorem dJ12_numberOfTrailingZeros_0 : decode cJ12_numberOfTrailingZeros 0 = .ok (.iload_n 0, 1) := dk_26 (dk_at dksJ12_numberOfTrailingZeros_0 0 rfl rfl)
theorem dJ12_numberOfTrailingZeros_1 : decode cJ12_numberOfTrailingZeros 1 = .ok (.iconst (-1), 1) := dk_2 (dk_at dksJ12_numberOfTrailingZeros_0 1 rfl rfl)
theorem dJ12_numberOfTrailingZeros_2 : decode cJ12_numberOfTrailingZeros 2 = .ok (.ixor, 1) := dk_130 (dk_at dksJ12_numberOfTrailingZeros_0 2 rfl rfl)
theorem dJ12_numberOfTrailingZeros_3 : decode cJ12_numberOfTrailingZeros 3 = .ok (.iload_n 0, 1) := dk_26 (dk_at dksJ12_numberOfTrailingZeros_0 3 rfl rfl)
theorem dJ12_numberOfTrailingZeros_4 : decode cJ12_numberOfTrailingZeros 4 = .ok (.iconst 1, 1) := dk_4 (dk_at dksJ12_numberOfTrailingZeros_0 4 rfl rfl)
theorem dJ12_numberOfTrailingZeros_5 : decode cJ12_numberOfTrailingZeros 5 = .ok (.isub, 1) := dk_100 (dk_at dksJ12_numberOfTrailingZeros_0 5 rfl rfl)
theorem dJ12_numberOfTrailingZeros_6 : decode cJ12_numberOfTrailingZeros 6 = .ok (.iand, 1) := dk_126 (dk_at dksJ12_numberOfTrailingZeros_0 6 rfl rfl)
theorem dJ12_numberOfTrailingZeros_7 : decode cJ12_numberOfTrailingZeros 7 = .ok (.istore_n 0, 1) := dk_59 (dk_at dksJ12_numberOfTrailingZeros_0 7 rfl rfl)
theorem dJ12_numberOfTrailingZeros_8 : decode cJ12_numberOfTrailingZeros 8 = .ok (.iload_n 0, 1) := dk_26 (dk_at dksJ12_numberOfTrailingZeros_0 8 rfl rfl)
theorem dJ12_numberOfTrailingZeros_9 : decode cJ12_numberOfTrailingZeros 9 = .ok (.ifCond .gt 8, 3) := dk_157 0 8 (dk_at dksJ12_numberOfTrailingZeros_0 9 rfl rfl)
theorem dJ12_numberOfTrailingZeros_12 : decode cJ12_numberOfTrailingZeros 12 = .ok (.iload_n 0, 1) := dk_26 (dk_at dksJ12_numberOfTrailingZeros_0 12 rfl rfl)
theorem dJ12_numberOfTrailingZeros_13 : decode cJ12_numberOfTrailingZeros 13 = .ok (.bipush 32, 2) := dk_16 32 (dk_at dksJ12_numberOfTrailingZeros_0 13 rfl rfl)
theorem dJ12_numberOfTrailingZeros_15 : decode cJ12_numberOfTrailingZeros 15 = .ok (.iand, 1) := dk_126 (dk_at dksJ12_numberOfTrailingZeros_0 15 rfl rfl)
theorem dJ12_numberOfTrailingZeros_16 : decode cJ12_numberOfTrailingZeros 16 = .ok (.ireturn, 1) := dk_172 (dk_at dksJ12_numberOfTrailingZeros_0 16 rfl rfl)
theorem dJ12_numberOfTrailingZeros_17 : decode cJ12_numberOfTrailingZeros 17 = .ok (.iconst 1, 1) := dk_4 (dk_at dksJ12_numberOfTrailingZeros_0 17 rfl rfl)
theorem dJ12_numberOfTrailingZeros_18 : decode cJ12_numberOfTrailingZeros 18 = .ok (.istore_n 1, 1) := dk_60 (dk_at dksJ12_numberOfTrailingZeros_0 18 rfl rfl)
theorem dJ12_numberOfTrailingZeros_19 : decode cJ12_numberOfTrailingZeros 19 = .ok (.iload_n 0, 1) := dk_26 (dk_at dksJ12_numberOfTrailingZeros_0 19 rfl rfl)
theorem dJ12_numberOfTrailingZeros_20 : decode cJ12_numberOfTrailingZeros 20 = .ok (.ldc_w 264, 3) := dk_19 1 8 (dk_at dksJ12_numberOfTrailingZeros_0 20 rfl rfl)
theorem dJ12_numberOfTrailingZeros_23 : decode cJ12_numberOfTrailingZeros 23 = .ok (.if_icmp .le 11, 3) := dk_164 0 11 (dk_at dksJ12_numberOfTrailingZeros_1 0 rfl rfl)
theorem dJ12_numberOfTrailingZeros_26 : decode cJ12_numberOfTrailingZeros 26 = .ok (.iinc 1 16, 3) := dk_132 1 16 (dk_at dksJ12_numberOfTrailingZeros_1 3 rfl rfl)
theorem dJ12_numberOfTrailingZeros_29 : decode cJ12_numberOfTrailingZeros 29 = .ok (.iload_n 0, 1) := dk_26 (dk_at dksJ12_numberOfTrailingZeros_1 6 rfl rfl)
theorem dJ12_numberOfTrailingZeros_30 : decode cJ12_numberOfTrailingZeros 30 = .ok (.bipush 16, 2) := dk_16 16 (dk_at dksJ12_numberOfTrailingZeros_1 7 rfl rfl)
theorem dJ12_numberOfTrailingZeros_32 : decode cJ12_numberOfTrailingZeros 32 = .ok (.iushr, 1) := dk_124 (dk_at dksJ12_numberOfTrailingZeros_1 9 rfl rfl)
theorem dJ12_numberOfTrailingZeros_33 : decode cJ12_numberOfTrailingZeros 33 = .ok (.istore_n 0, 1) := dk_59 (dk_at dksJ12_numberOfTrailingZeros_1 10 rfl rfl)
theorem dJ12_numberOfTrailingZeros_34 : decode cJ12_numberOfTrailingZeros 34 = .ok (.iload_n 0, 1) := dk_26 (dk_at dksJ12_numberOfTrailingZeros_1 11 rfl rfl)
theorem dJ12_numberOfTrailingZeros_35 : decode cJ12_numberOfTrailingZeros 35 = .ok (.sipush 256, 3) := dk_17 1 0 (dk_at dksJ12_numberOfTrailingZeros_1 12 rfl rfl)
theorem dJ12_numberOfTrailingZeros_38 : decode cJ12_numberOfTrailingZeros 38 = .ok (.if_icmp .le 11, 3) := dk_164 0 11 (dk_at dksJ12_numberOfTrailingZeros_1 15 rfl rfl)
theorem dJ12_numberOfTrailingZeros_41 : decode cJ12_numberOfTrailingZeros 41 = .ok (.iinc 1 8, 3) := dk_132 1 8 (dk_at dksJ12_numberOfTrailingZeros_1 18 rfl rfl)
theorem dJ12_numberOfTrailingZeros_44 : decode cJ12_numberOfTrailingZeros 44 = .ok (.iload_n 0, 1) := dk_26 (dk_at dksJ12_numberOfTrailingZeros_1 21 rfl rfl)
theorem dJ12_numberOfTrailingZeros_45 : decode cJ12_numberOfTrailingZeros 45 = .ok (.bipush 8, 2) := dk_16 8 (dk_at dksJ12_numberOfTrailingZeros_1 22 rfl rfl)
theorem dJ12_numberOfTrailingZeros_47 : decode cJ12_numberOfTrailingZeros 47 = .ok (.iushr, 1) := dk_124 (dk_at dksJ12_numberOfTrailingZeros_2 0 rfl rfl)
theorem dJ12_numberOfTrailingZeros_48 : decode cJ12_numberOfTrailingZeros 48 = .ok (.istore_n 0, 1) := dk_59 (dk_at dksJ12_numberOfTrailingZeros_2 1 rfl rfl)
theorem dJ12_numberOfTrailingZeros_49 : decode cJ12_numberOfTrailingZeros 49 = .ok (.iload_n 0, 1) := dk_26 (dk_at dksJ12_numberOfTrailingZeros_2 2 rfl rfl)
theorem dJ12_numberOfTrailingZeros_50 : decode cJ12_numberOfTrailingZeros 50 = .ok (.bipush 16, 2) := dk_16 16 (dk_at dksJ12_numberOfTrailingZeros_2 3 rfl rfl)
theorem dJ12_numberOfTrailingZeros_52 : decode cJ12_numberOfTrailingZeros 52 = .ok (.if_icmp .le 10, 3) := dk_164 0 10 (dk_at dksJ12_numberOfTrailingZeros_2 5 rfl rfl)
theorem dJ12_numberOfTrailingZeros_55 : decode cJ12_numberOfTrailingZeros 55 = .ok (.iinc 1 4, 3) := dk_132 1 4 (dk_at dksJ12_numberOfTrailingZeros_2 8 rfl rfl)
theorem dJ12_numberOfTrailingZeros_58 : decode cJ12_numberOfTrailingZeros 58 = .ok (.iload_n 0, 1) := dk_26 (dk_at dksJ12_numberOfTrailingZeros_2 11 rfl rfl)
theorem dJ12_numberOfTrailingZeros_59 : decode cJ12_numberOfTrailingZeros 59 = .ok (.iconst 4, 1) := dk_7 (dk_at dksJ12_numberOfTrailingZeros_2 12 rfl rfl)
theorem dJ12_numberOfTrailingZeros_60 : decode cJ12_numberOfTrailingZeros 60 = .ok (.iushr, 1) := dk_124 (dk_at dksJ12_numberOfTrailingZeros_2 13 rfl rfl)
theorem dJ12_numberOfTrailingZeros_61 : decode cJ12_numberOfTrailingZeros 61 = .ok (.istore_n 0, 1) := dk_59 (dk_at dksJ12_numberOfTrailingZeros_2 14 rfl rfl)
theorem dJ12_numberOfTrailingZeros_62 : decode cJ12_numberOfTrailingZeros 62 = .ok (.iload_n 0, 1) := dk_26 (dk_at dksJ12_numberOfTrailingZeros_2 15 rfl rfl)
theorem dJ12_numberOfTrailingZeros_63 : decode cJ12_numberOfTrailingZeros 63 = .ok (.iconst 4, 1) := dk_7 (dk_at dksJ12_numberOfTrailingZeros_2 16 rfl rfl)
theorem dJ12_numberOfTrailingZeros_64 : decode cJ12_numberOfTrailingZeros 64 = .ok (.if_icmp .le 10, 3) := dk_164 0 10 (dk_at dksJ12_numberOfTrailingZeros_2 17 rfl rfl)
theorem dJ12_numberOfTrailingZeros_67 : decode cJ12_numberOfTrailingZeros 67 = .ok (.iinc 1 2, 3) := dk_132 1 2 (dk_at dksJ12_numberOfTrailingZeros_2 20 rfl rfl)
theorem dJ12_numberOfTrailingZeros_70 : decode cJ12_numberOfTrailingZeros 70 = .ok (.iload_n 0, 1) := dk_26 (dk_at dksJ12_numberOfTrailingZeros_2 23 rfl rfl)
theorem dJ12_numberOfTrailingZeros_71 : decode cJ12_numberOfTrailingZeros 71 = .ok (.iconst 2, 1) := dk_5 (dk_at dksJ12_numberOfTrailingZeros_3 0 rfl rfl)
theorem dJ12_numberOfTrailingZeros_72 : decode cJ12_numberOfTrailingZeros 72 = .ok (.iushr, 1) := dk_124 (dk_at dksJ12_numberOfTrailingZeros_3 1 rfl rfl)
theorem dJ12_numberOfTrailingZeros_73 : decode cJ12_numberOfTrailingZeros 73 = .ok (.istore_n 0, 1) := dk_59 (dk_at dksJ12_numberOfTrailingZeros_3 2 rfl rfl)
theorem dJ12_numberOfTrailingZeros_74 : decode cJ12_numberOfTrailingZeros 74 = .ok (.iload_n 1, 1) := dk_27 (dk_at dksJ12_numberOfTrailingZeros_3 3 rfl rfl)
theorem dJ12_numberOfTrailingZeros_75 : decode cJ12_numberOfTrailingZeros 75 = .ok (.iload_n 0, 1) := dk_26 (dk_at dksJ12_numberOfTrailingZeros_3 4 rfl rfl)
theorem dJ12_numberOfTrailingZeros_76 : decode cJ12_numberOfTrailingZeros 76 = .ok (.iconst 1, 1) := dk_4 (dk_at dksJ12_numberOfTrailingZeros_3 5 rfl rfl)
theorem dJ12_numberOfTrailingZeros_77 : decode cJ12_numberOfTrailingZeros 77 = .ok (.iushr, 1) := dk_124 (dk_at dksJ12_numberOfTrailingZeros_3 6 rfl rfl)
theorem dJ12_numberOfTrailingZeros_78 : decode cJ12_numberOfTrailingZeros 78 = .ok (.iadd, 1) := dk_96 (dk_at dksJ12_numberOfTrailingZeros_3 7 rfl rfl)
theorem dJ12_numberOfTrailingZeros_79 : decode cJ12_numberOfTrailingZeros 79 = .ok (.ireturn, 1) := dk_172 (dk_at dksJ12_numberOfTrailingZeros_3 8 rfl rfl)
abbrev cJ12_numberOfLeadingZeros : ByteArray := prog_19_method_47_code
def yJ12_numberOfLeadingZeros : MethodName := ⟨RJ12, "numberOfLeadingZeros", "(I)I"⟩
def dkwJ12_numberOfLeadingZeros_3 : List UInt8 := [5, 124, 59, 27, 26, 4, 124, 100, 172]
abbrev dktJ12_numberOfLeadingZeros_3 : List UInt8 := dkwJ12_numberOfLeadingZeros_3 ++ []
def dkwJ12_numberOfLeadingZeros_2 : List UInt8 := [124, 59, 26, 16, 16, 161, 0, 10, 132, 1, 252, 26, 7, 124, 59, 26, 7, 161, 0, 10, 132, 1, 254, 26]
abbrev dktJ12_numberOfLeadingZeros_2 : List UInt8 := dkwJ12_numberOfLeadingZeros_2 ++ dktJ12_numberOfLeadingZeros_3
def dkwJ12_numberOfLeadingZeros_1 : List UInt8 := [161, 0, 11, 132, 1, 240, 26, 16, 16, 124, 59, 26, 17, 1, 0, 161, 0, 11, 132, 1, 248, 26, 16, 8]
abbrev dktJ12_numberOfLeadingZeros_1 : List UInt8 := dkwJ12_numberOfLeadingZeros_1 ++ dktJ12_numberOfLeadingZeros_2
def dkwJ12_numberOfLeadingZeros_0 : List UInt8 := [26, 157, 0, 14, 26, 154, 0, 8, 16, 32, 167, 0, 4, 3, 172, 16, 31, 60, 26, 19, 1, 8]
abbrev dktJ12_numberOfLeadingZeros_0 : List UInt8 := dkwJ12_numberOfLeadingZeros_0 ++ dktJ12_numberOfLeadingZeros_1
theorem dksJ12_numberOfLeadingZeros_0 : cJ12_numberOfLeadingZeros.data.toList.drop 0 = dktJ12_numberOfLeadingZeros_0 := by decide +kernel
theorem dksJ12_numberOfLeadingZeros_1 : cJ12_numberOfLeadingZeros.data.toList.drop 22 = dktJ12_numberOfLeadingZeros_1 := dk_seg dksJ12_numberOfLeadingZeros_0 22 rfl rfl
theorem dksJ12_numberOfLeadingZeros_2 : cJ12_numberOfLeadingZeros.data.toList.drop 46 = dktJ12_numberOfLeadingZeros_2 := dk_seg dksJ12_numberOfLeadingZeros_1 24 rfl rfl
theorem dksJ12_numberOfLeadingZeros_3 : cJ12_numberOfLeadingZeros.data.toList.drop 70 = dktJ12_numberOfLeadingZeros_3 := dk_seg dksJ12_numberOfLeadingZeros_2 24 rfl rfl
theorem dJ12_numberOfLeadingZeros_0 : decode cJ12_numberOfLeadingZeros 0 = .ok (.iload_n 0, 1) := dk_26 (dk_at dksJ12_numberOfLeadingZeros_0 0 rfl rfl)
theorem dJ12_numberOfLeadingZeros_1 : decode cJ12_numberOfLeadingZeros 1 = .ok (.ifCond .gt 14, 3) := dk_157 0 14 (dk_at dksJ12_numberOfLeadingZeros_0 1 rfl rfl)
theorem dJ12_numberOfLeadingZeros_4 : decode cJ12_numberOfLeadingZeros 4 = .ok (.iload_n 0, 1) := dk_26 (dk_at dksJ12_numberOfLeadingZeros_0 4 rfl rfl)
theorem dJ12_numberOfLeadingZeros_5 : decode cJ12_numberOfLeadingZeros 5 = .ok (.ifCond .ne 8, 3) := dk_154 0 8 (dk_at dksJ12_numberOfLeadingZeros_0 5 rfl rfl)
theorem dJ12_numberOfLeadingZeros_8 : decode cJ12_numberOfLeadingZeros 8 = .ok (.bipush 32, 2) := dk_16 32 (dk_at dksJ12_numberOfLeadingZeros_0 8 rfl rfl)
theorem dJ12_numberOfLeadingZeros_10 : decode cJ12_numberOfLeadingZeros 10 = .ok (.goto 4, 3) := dk_167 0 4 (dk_at dksJ12_numberOfLeadingZeros_0 10 rfl rfl)
theorem dJ12_numberOfLeadingZeros_13 : decode cJ12_numberOfLeadingZeros 13 = .ok (.iconst 0, 1) := dk_3 (dk_at dksJ12_numberOfLeadingZeros_0 13 rfl rfl)
theorem dJ12_numberOfLeadingZeros_14 : decode cJ12_numberOfLeadingZeros 14 = .ok (.ireturn, 1) := dk_172 (dk_at dksJ12_numberOfLeadingZeros_0 14 rfl rfl)
theorem dJ12_numberOfLeadingZeros_15 : decode cJ12_numberOfLeadingZeros 15 = .ok (.bipush 31, 2) := dk_16 31 (dk_at dksJ12_numberOfLeadingZeros_0 15 rfl rfl)
theorem dJ12_numberOfLeadingZeros_17 : decode cJ12_numberOfLeadingZeros 17 = .ok (.istore_n 1, 1) := dk_60 (dk_at dksJ12_numberOfLeadingZeros_0 17 rfl rfl)
theorem dJ12_numberOfLeadingZeros_18 : decode cJ12_numberOfLeadingZeros 18 = .ok (.iload_n 0, 1) := dk_26 (dk_at dksJ12_numberOfLeadingZeros_0 18 rfl rfl)
theorem dJ12_numberOfLeadingZeros_19 : decode cJ12_numberOfLeadingZeros 19 = .ok (.ldc_w 264, 3) := dk_19 1 8 (dk_at dksJ12_numberOfLeadingZeros_0 19 rfl rfl)
theorem dJ12_numberOfLeadingZeros_22 : decode cJ12_numberOfLeadingZeros 22 = .ok (.if_icmp .lt 11, 3) := dk_161 0 11 (dk_at dksJ12_numberOfLeadingZeros_1 0 rfl rfl)
theorem dJ12_numberOfLeadingZeros_25 : decode cJ12_numberOfLeadingZeros 25 = .ok (.iinc 1 (-16), 3) := dk_132 1 240 (dk_at dksJ12_numberOfLeadingZeros_1 3 rfl rfl)
theorem dJ12_numberOfLeadingZeros_28 : decode cJ12_numberOfLeadingZeros 28 = .ok (.iload_n 0, 1) := dk_26 (dk_at dksJ12_numberOfLeadingZeros_1 6 rfl rfl)
theorem dJ12_numberOfLeadingZeros_29 : decode cJ12_numberOfLeadingZeros 29 = .ok (.bipush 16, 2) := dk_16 16 (dk_at dksJ12_numberOfLeadingZeros_1 7 rfl rfl)
theorem dJ12_numberOfLeadingZeros_31 : decode cJ12_numberOfLeadingZeros 31 = .ok (.iushr, 1) := dk_124 (dk_at dksJ12_numberOfLeadingZeros_1 9 rfl rfl)
theorem dJ12_numberOfLeadingZeros_32 : decode cJ12_numberOfLeadingZeros 32 = .ok (.istore_n 0, 1) := dk_59 (dk_at dksJ12_numberOfLeadingZeros_1 10 rfl rfl)
theorem dJ12_numberOfLeadingZeros_33 : decode cJ12_numberOfLeadingZeros 33 = .ok (.iload_n 0, 1) := dk_26 (dk_at dksJ12_numberOfLeadingZeros_1 11 rfl rfl)
theorem dJ12_numberOfLeadingZeros_34 : decode cJ12_numberOfLeadingZeros 34 = .ok (.sipush 256, 3) := dk_17 1 0 (dk_at dksJ12_numberOfLeadingZeros_1 12 rfl rfl)
theorem dJ12_numberOfLeadingZeros_37 : decode cJ12_numberOfLeadingZeros 37 = .ok (.if_icmp .lt 11, 3) := dk_161 0 11 (dk_at dksJ12_numberOfLeadingZeros_1 15 rfl rfl)
theorem dJ12_numberOfLeadingZeros_40 : decode cJ12_numberOfLeadingZeros 40 = .ok (.iinc 1 (-8), 3) := dk_132 1 248 (dk_at dksJ12_numberOfLeadingZeros_1 18 rfl rfl)
theorem dJ12_numberOfLeadingZeros_43 : decode cJ12_numberOfLeadingZeros 43 = .ok (.iload_n 0, 1) := dk_26 (dk_at dksJ12_numberOfLeadingZeros_1 21 rfl rfl)
theorem dJ12_numberOfLeadingZeros_44 : decode cJ12_numberOfLeadingZeros 44 = .ok (.bipush 8, 2) := dk_16 8 (dk_at dksJ12_numberOfLeadingZeros_1 22 rfl rfl)
theorem dJ12_numberOfLeadingZeros_46 : decode cJ12_numberOfLeadingZeros 46 = .ok (.iushr, 1) := dk_124 (dk_at dksJ12_numberOfLeadingZeros_2 0 rfl rfl)
theorem dJ12_numberOfLeadingZeros_47 : decode cJ12_numberOfLeadingZeros 47 = .ok (.istore_n 0, 1) := dk_59 (dk_at dksJ12_numberOfLeadingZeros_2 1 rfl rfl)
theorem dJ12_numberOfLeadingZeros_48 : decode cJ12_numberOfLeadingZeros 48 = .ok (.iload_n 0, 1) := dk_26 (dk_at dksJ12_numberOfLeadingZeros_2 2 rfl rfl)
theorem dJ12_numberOfLeadingZeros_49 : decode cJ12_numberOfLeadingZeros 49 = .ok (.bipush 16, 2) := dk_16 16 (dk_at dksJ12_numberOfLeadingZeros_2 3 rfl rfl)
theorem dJ12_numberOfLeadingZeros_51 : decode cJ12_numberOfLeadingZeros 51 = .ok (.if_icmp .lt 10, 3) := dk_161 0 10 (dk_at dksJ12_numberOfLeadingZeros_2 5 rfl rfl)
theorem dJ12_numberOfLeadingZeros_54 : decode cJ12_numberOfLeadingZeros 54 = .ok (.iinc 1 (-4), 3) := dk_132 1 252 (dk_at dksJ12_numberOfLeadingZeros_2 8 rfl rfl)
theorem dJ12_numberOfLeadingZeros_57 : decode cJ12_numberOfLeadingZeros 57 = .ok (.iload_n 0, 1) := dk_26 (dk_at dksJ12_numberOfLeadingZeros_2 11 rfl rfl)
theorem dJ12_numberOfLeadingZeros_58 : decode cJ12_numberOfLeadingZeros 58 = .ok (.iconst 4, 1) := dk_7 (dk_at dksJ12_numberOfLeadingZeros_2 12 rfl rfl)
theorem dJ12_numberOfLeadingZeros_59 : decode cJ12_numberOfLeadingZeros 59 = .ok (.iushr, 1) := dk_124 (dk_at dksJ12_numberOfLeadingZeros_2 13 rfl rfl)
theorem dJ12_numberOfLeadingZeros_60 : decode cJ12_numberOfLeadingZeros 60 = .ok (.istore_n 0, 1) := dk_59 (dk_at dksJ12_numberOfLeadingZeros_2 14 rfl rfl)
theorem dJ12_numberOfLeadingZeros_61 : decode cJ12_numberOfLeadingZeros 61 = .ok (.iload_n 0, 1) := dk_26 (dk_at dksJ12_numberOfLeadingZeros_2 15 rfl rfl)
theorem dJ12_numberOfLeadingZeros_62 : decode cJ12_numberOfLeadingZeros 62 = .ok (.iconst 4, 1) := dk_7 (dk_at dksJ12_numberOfLeadingZeros_2 16 rfl rfl)
theorem dJ12_numberOfLeadingZeros_63 : decode cJ12_numberOfLeadingZeros 63 = .ok (.if_icmp .lt 10, 3) := dk_161 0 10 (dk_at dksJ12_numberOfLeadingZeros_2 17 rfl rfl)
theorem dJ12_numberOfLeadingZeros_66 : decode cJ12_numberOfLeadingZeros 66 = .ok (.iinc 1 (-2), 3) := dk_132 1 254 (dk_at dksJ12_numberOfLeadingZeros_2 20 rfl rfl)
theorem dJ12_numberOfLeadingZeros_69 : decode cJ12_numberOfLeadingZeros 69 = .ok (.iload_n 0, 1) := dk_26 (dk_at dksJ12_numberOfLeadingZeros_2 23 rfl rfl)
theorem dJ12_numberOfLeadingZeros_70 : decode cJ12_numberOfLeadingZeros 70 = .ok (.iconst 2, 1) := dk_5 (dk_at dksJ12_numberOfLeadingZeros_3 0 rfl rfl)
theorem dJ12_numberOfLeadingZeros_71 : decode cJ12_numberOfLeadingZeros 71 = .ok (.iushr, 1) := dk_124 (dk_at dksJ12_numberOfLeadingZeros_3 1 rfl rfl)
theorem dJ12_numberOfLeadingZeros_72 : decode cJ12_numberOfLeadingZeros 72 = .ok (.istore_n 0, 1) := dk_59 (dk_at dksJ12_numberOfLeadingZeros_3 2 rfl rfl)
theorem dJ12_numberOfLeadingZeros_73 : decode cJ12_numberOfLeadingZeros 73 = .ok (.iload_n 1, 1) := dk_27 (dk_at dksJ12_numberOfLeadingZeros_3 3 rfl rfl)
theorem dJ12_numberOfLeadingZeros_74 : decode cJ12_numberOfLeadingZeros 74 = .ok (.iload_n 0, 1) := dk_26 (dk_at dksJ12_numberOfLeadingZeros_3 4 rfl rfl)
theorem dJ12_numberOfLeadingZeros_75 : decode cJ12_numberOfLeadingZeros 75 = .ok (.iconst 1, 1) := dk_4 (dk_at dksJ12_numberOfLeadingZeros_3 5 rfl rfl)
theorem dJ12_numberOfLeadingZeros_76 : decode cJ12_numberOfLeadingZeros 76 = .ok (.iushr, 1) := dk_124 (dk_at dksJ12_numberOfLeadingZeros_3 6 rfl rfl)
theorem dJ12_numberOfLeadingZeros_77 : decode cJ12_numberOfLeadingZeros 77 = .ok (.isub, 1) := dk_100 (dk_at dksJ12_numberOfLeadingZeros_3 7 rfl rfl)
theorem dJ12_numberOfLeadingZeros_78 : decode cJ12_numberOfLeadingZeros 78 = .ok (.ireturn, 1) := dk_172 (dk_at dksJ12_numberOfLeadingZeros_3 8 rfl rfl)
theorem q171 : (Jvm.Cond.initialized "java/lang/Integer") ∈ lw_all := lw_g (lw_at lw_m1 27 rfl) rfl
theorem q1090 : (Jvm.Cond.static ({ cls := "java/lang/Integer", name := "bitCount", desc := "(I)I" } : Jvm.MethodName)) ∈ lw_all := lw_g (lw_at lw_m4 226 rfl) rfl
theorem q1091 : (Jvm.Cond.code ({ cls := "java/lang/Integer", name := "bitCount", desc := "(I)I" } : Jvm.MethodName) prog_19_method_49_code (1 : Nat) (Option.some Jvm.ClassFile.FieldType.int)) ∈ lw_all := lw_g (lw_at lw_m4 227 rfl) rfl
theorem q1092 : (Jvm.Cond.constant "java/lang/Integer" (265 : Nat) (1431655765 : Int32)) ∈ lw_all := lw_g (lw_at lw_m4 228 rfl) rfl
theorem q1093 : (Jvm.Cond.constant "java/lang/Integer" (266 : Nat) (858993459 : Int32)) ∈ lw_all := lw_g (lw_at lw_m4 229 rfl) rfl
theorem q1094 : (Jvm.Cond.constant "java/lang/Integer" (267 : Nat) (252645135 : Int32)) ∈ lw_all := lw_g (lw_at lw_m4 230 rfl) rfl
theorem q1196 : (Jvm.Cond.static ({ cls := "java/lang/Integer", name := "numberOfTrailingZeros", desc := "(I)I" } : Jvm.MethodName)) ∈ lw_all := lw_g (lw_at lw_m5 92 rfl) rfl
theorem q1197 : (Jvm.Cond.code ({ cls := "java/lang/Integer", name := "numberOfTrailingZeros", desc := "(I)I" } : Jvm.MethodName) prog_19_method_48_code (2 : Nat) (Option.some Jvm.ClassFile.FieldType.int)) ∈ lw_all := lw_g (lw_at lw_m5 93 rfl) rfl
theorem q1198 : (Jvm.Cond.constant "java/lang/Integer" (264 : Nat) (65536 : Int32)) ∈ lw_all := lw_g (lw_at lw_m5 94 rfl) rfl
theorem q1200 : (Jvm.Cond.static ({ cls := "java/lang/Integer", name := "numberOfLeadingZeros", desc := "(I)I" } : Jvm.MethodName)) ∈ lw_all := lw_g (lw_at lw_m5 96 rfl) rfl
theorem q1201 : (Jvm.Cond.code ({ cls := "java/lang/Integer", name := "numberOfLeadingZeros", desc := "(I)I" } : Jvm.MethodName) prog_19_method_47_code (2 : Nat) (Option.some Jvm.ClassFile.FieldType.int)) ∈ lw_all := lw_g (lw_at lw_m5 97 rfl) rfl

/-! java/lang/Object -/
set_option maxRecDepth 100000
def RJ13 : String := "java/lang/Object"
abbrev cJ13_init : ByteArray := object_method_1_code
def yJ13_init : MethodName := ⟨RJ13, "<init>", "()V"⟩
theorem dJ13_init_0 : decode cJ13_init 0 = .ok (.return_, 1) := by decide +kernel
theorem q179 : (Jvm.Cond.instanceMethod ({ cls := "java/lang/Object", name := "<init>", desc := "()V" } : Jvm.MethodName)) ∈ lw_all := lw_g (lw_at lw_m1 35 rfl) rfl
theorem q180 : (Jvm.Cond.code ({ cls := "java/lang/Object", name := "<init>", desc := "()V" } : Jvm.MethodName) object_method_1_code (1 : Nat) (Option.none : Option Jvm.ClassFile.FieldType)) ∈ lw_all := lw_g (lw_at lw_m1 36 rfl) rfl

/-! java/lang/RuntimeException -/
set_option maxRecDepth 100000
def RJ2 : String := "java/lang/RuntimeException"
abbrev cJ2_init : ByteArray := prog_23_method_5_code
def yJ2_init : MethodName := ⟨RJ2, "<init>", "(Ljava/lang/String;Ljava/lang/Throwable;ZZ)V"⟩
def dkwJ2_init_0 : List UInt8 := [42, 43, 44, 29, 21, 4, 183, 0, 16, 177]
abbrev dktJ2_init_0 : List UInt8 := dkwJ2_init_0 ++ []
theorem dksJ2_init_0 : cJ2_init.data.toList.drop 0 = dktJ2_init_0 := by decide +kernel
theorem dJ2_init_0 : decode cJ2_init 0 = .ok (.aload_n 0, 1) := dk_42 (dk_at dksJ2_init_0 0 rfl rfl)
theorem dJ2_init_1 : decode cJ2_init 1 = .ok (.aload_n 1, 1) := dk_43 (dk_at dksJ2_init_0 1 rfl rfl)
theorem dJ2_init_2 : decode cJ2_init 2 = .ok (.aload_n 2, 1) := dk_44 (dk_at dksJ2_init_0 2 rfl rfl)
theorem dJ2_init_3 : decode cJ2_init 3 = .ok (.iload_n 3, 1) := dk_29 (dk_at dksJ2_init_0 3 rfl rfl)
theorem dJ2_init_4 : decode cJ2_init 4 = .ok (.iload 4, 2) := dk_21 4 (dk_at dksJ2_init_0 4 rfl rfl)
theorem dJ2_init_6 : decode cJ2_init 6 = .ok (.invokespecial 16, 3) := dk_183 0 16 (dk_at dksJ2_init_0 6 rfl rfl)
theorem dJ2_init_9 : decode cJ2_init 9 = .ok (.return_, 1) := dk_177 (dk_at dksJ2_init_0 9 rfl rfl)
abbrev cJ2_init_2 : ByteArray := prog_23_method_2_code
def yJ2_init_2 : MethodName := ⟨RJ2, "<init>", "(Ljava/lang/String;)V"⟩
def dkwJ2_init_2_0 : List UInt8 := [42, 43, 183, 0, 7, 177]
abbrev dktJ2_init_2_0 : List UInt8 := dkwJ2_init_2_0 ++ []
theorem dksJ2_init_2_0 : cJ2_init_2.data.toList.drop 0 = dktJ2_init_2_0 := by decide +kernel
theorem dJ2_init_2_0 : decode cJ2_init_2 0 = .ok (.aload_n 0, 1) := dk_42 (dk_at dksJ2_init_2_0 0 rfl rfl)
theorem dJ2_init_2_1 : decode cJ2_init_2 1 = .ok (.aload_n 1, 1) := dk_43 (dk_at dksJ2_init_2_0 1 rfl rfl)
theorem dJ2_init_2_2 : decode cJ2_init_2 2 = .ok (.invokespecial 7, 3) := dk_183 0 7 (dk_at dksJ2_init_2_0 2 rfl rfl)
theorem dJ2_init_2_5 : decode cJ2_init_2 5 = .ok (.return_, 1) := dk_177 (dk_at dksJ2_init_2_0 5 rfl rfl)
abbrev cJ2_init_3 : ByteArray := prog_23_method_1_code
def yJ2_init_3 : MethodName := ⟨RJ2, "<init>", "()V"⟩
theorem dJ2_init_3_0 : decode cJ2_init_3 0 = .ok (.aload_n 0, 1) := by decide +kernel
theorem dJ2_init_3_1 : decode cJ2_init_3 1 = .ok (.invokespecial 1, 3) := by decide +kernel
theorem dJ2_init_3_4 : decode cJ2_init_3 4 = .ok (.return_, 1) := by decide +kernel
theorem q150 : (Jvm.Cond.initialized "java/lang/RuntimeException") ∈ lw_all := lw_g (lw_at lw_m1 6 rfl) rfl
theorem q188 : (Jvm.Cond.declares ({ cls := "java/lang/RuntimeException", name := "<init>", desc := "()V" } : Jvm.MethodName)) ∈ lw_tbl := lw_at lw_m1 44 rfl
theorem q189 : (Jvm.Cond.declares ({ cls := "java/lang/RuntimeException", name := "<init>", desc := "(Ljava/lang/String;)V" } : Jvm.MethodName)) ∈ lw_tbl := lw_at lw_m1 45 rfl
theorem q229 : (Jvm.Cond.sameMethod "java/lang/RuntimeException" "java/lang/Throwable" "fillInStackTrace" "()Ljava/lang/Throwable;") ∈ lw_all := lw_g (lw_at lw_m1 85 rfl) rfl
theorem q232 : (Jvm.Cond.superclass "java/lang/RuntimeException" "java/lang/Exception") ∈ lw_all := lw_g (lw_at lw_m1 88 rfl) rfl
theorem q244 : (Jvm.Cond.instanceMethod ({ cls := "java/lang/RuntimeException", name := "<init>", desc := "(Ljava/lang/String;Ljava/lang/Throwable;ZZ)V" } : Jvm.MethodName)) ∈ lw_all := lw_g (lw_at lw_m1 100 rfl) rfl
theorem q245 : (Jvm.Cond.code ({ cls := "java/lang/RuntimeException", name := "<init>", desc := "(Ljava/lang/String;Ljava/lang/Throwable;ZZ)V" } : Jvm.MethodName) prog_23_method_5_code (5 : Nat) (Option.none : Option Jvm.ClassFile.FieldType)) ∈ lw_all := lw_g (lw_at lw_m1 101 rfl) rfl
theorem q246 : (Jvm.Cond.methodLink "java/lang/RuntimeException" (16 : Nat) ({ cls := "java/lang/Exception", name := "<init>", desc := "(Ljava/lang/String;Ljava/lang/Throwable;ZZ)V" } : Jvm.MethodName)) ∈ lw_all := lw_g (lw_at lw_m1 102 rfl) rfl
theorem q518 : (Jvm.Cond.instanceMethod ({ cls := "java/lang/RuntimeException", name := "<init>", desc := "(Ljava/lang/String;)V" } : Jvm.MethodName)) ∈ lw_all := lw_g (lw_at lw_m2 134 rfl) rfl
theorem q519 : (Jvm.Cond.code ({ cls := "java/lang/RuntimeException", name := "<init>", desc := "(Ljava/lang/String;)V" } : Jvm.MethodName) prog_23_method_2_code (2 : Nat) (Option.none : Option Jvm.ClassFile.FieldType)) ∈ lw_all := lw_g (lw_at lw_m2 135 rfl) rfl
theorem q520 : (Jvm.Cond.methodLink "java/lang/RuntimeException" (7 : Nat) ({ cls := "java/lang/Exception", name := "<init>", desc := "(Ljava/lang/String;)V" } : Jvm.MethodName)) ∈ lw_all := lw_g (lw_at lw_m2 136 rfl) rfl
theorem q560 : (Jvm.Cond.instanceMethod ({ cls := "java/lang/RuntimeException", name := "<init>", desc := "()V" } : Jvm.MethodName)) ∈ lw_all := lw_g (lw_at lw_m2 176 rfl) rfl
theorem q561 : (Jvm.Cond.code ({ cls := "java/lang/RuntimeException", name := "<init>", desc := "()V" } : Jvm.MethodName) prog_23_method_1_code (1 : Nat) (Option.none : Option Jvm.ClassFile.FieldType)) ∈ lw_all := lw_g (lw_at lw_m2 177 rfl) rfl
theorem q562 : (Jvm.Cond.methodLink "java/lang/RuntimeException" (1 : Nat) ({ cls := "java/lang/Exception", name := "<init>", desc := "()V" } : Jvm.MethodName)) ∈ lw_all := lw_g (lw_at lw_m2 178 rfl) rfl
theorem q580 : (Jvm.Cond.castable "java/lang/RuntimeException" "java/lang/Throwable") ∈ lw_tbl := lw_at lw_m2 196 rfl

/-! java/lang/NegativeArraySizeException -/
set_option maxRecDepth 100000
def RJ3 : String := "java/lang/NegativeArraySizeException"
def TJ3 : u_T := fun k => match k with
  | 0 => ("java/lang/Throwable", "backtrace", "Ljava/lang/Object;", false)
  | 1 => ("java/lang/Throwable", "detailMessage", "Ljava/lang/String;", false)
  | 2 => ("java/lang/Throwable", "cause", "Ljava/lang/Throwable;", false)
  | 3 => ("java/lang/Throwable", "stackTrace", "[Ljava/lang/StackTraceElement;", false)
  | 4 => ("java/lang/Throwable", "depth", "I", false)
  | _ => ("java/lang/Throwable", "suppressedExceptions", "Ljava/util/List;", false)
def tyJ3 : Nat → FieldType := fun k => match k with
  | 0 => .object "java/lang/Object"
  | 1 => .object "java/lang/String"
  | 2 => .object "java/lang/Throwable"
  | 3 => .array (.object "java/lang/StackTraceElement")
  | 4 => .int
  | _ => .object "java/util/List"
abbrev wsJ30 : List Cond := u_ws RJ3 TJ3 6
theorem nmJ3 : ∀ a, a < 6 → ∀ b, b < 6 → a ≠ b → (TJ3 a).2.1 ≠ (TJ3 b).2.1 := by decide +kernel
theorem tyJ3_ok : ∀ k, k < 6 → parseFieldDescriptor (TJ3 k).2.2.1 = some (tyJ3 k) := by decide +kernel
abbrev cJ3_init : ByteArray := prog_21_method_2_code
def yJ3_init : MethodName := ⟨RJ3, "<init>", "(Ljava/lang/String;)V"⟩
def dkwJ3_init_0 : List UInt8 := [42, 43, 183, 0, 7, 177]
abbrev dktJ3_init_0 : List UInt8 := dkwJ3_init_0 ++ []
theorem dksJ3_init_0 : cJ3_init.data.toList.drop 0 = dktJ3_init_0 := by decide +kernel
theorem dJ3_init_0 : decode cJ3_init 0 = .ok (.aload_n 0, 1) := dk_42 (dk_at dksJ3_init_0 0 rfl rfl)
theorem dJ3_init_1 : decode cJ3_init 1 = .ok (.aload_n 1, 1) := dk_43 (dk_at dksJ3_init_0 1 rfl rfl)
theorem dJ3_init_2 : decode cJ3_init 2 = .ok (.invokespecial 7, 3) := dk_183 0 7 (dk_at dksJ3_init_0 2 rfl rfl)
theorem dJ3_init_5 : decode cJ3_init 5 = .ok (.return_, 1) := dk_177 (dk_at dksJ3_init_0 5 rfl rfl)
theorem q155 : (Jvm.Cond.initialized "java/lang/NegativeArraySizeException") ∈ lw_all := lw_g (lw_at lw_m1 11 rfl) rfl
theorem q219 : (Jvm.Cond.selects "java/lang/NegativeArraySizeException" ({ cls := "java/lang/Throwable", name := "fillInStackTrace", desc := "()Ljava/lang/Throwable;" } : Jvm.MethodName) ({ cls := "java/lang/Throwable", name := "fillInStackTrace", desc := "()Ljava/lang/Throwable;" } : Jvm.MethodName)) ∈ lw_all := lw_g (lw_at lw_m1 75 rfl) rfl
theorem q514 : (Jvm.Cond.instantiable "java/lang/NegativeArraySizeException" (6 : Nat)) ∈ lw_all := lw_g (lw_at lw_m2 130 rfl) rfl
theorem q515 : (Jvm.Cond.instanceMethod ({ cls := "java/lang/NegativeArraySizeException", name := "<init>", desc := "(Ljava/lang/String;)V" } : Jvm.MethodName)) ∈ lw_all := lw_g (lw_at lw_m2 131 rfl) rfl
theorem q516 : (Jvm.Cond.code ({ cls := "java/lang/NegativeArraySizeException", name := "<init>", desc := "(Ljava/lang/String;)V" } : Jvm.MethodName) prog_21_method_2_code (2 : Nat) (Option.none : Option Jvm.ClassFile.FieldType)) ∈ lw_all := lw_g (lw_at lw_m2 132 rfl) rfl
theorem q517 : (Jvm.Cond.methodLink "java/lang/NegativeArraySizeException" (7 : Nat) ({ cls := "java/lang/RuntimeException", name := "<init>", desc := "(Ljava/lang/String;)V" } : Jvm.MethodName)) ∈ lw_all := lw_g (lw_at lw_m2 133 rfl) rfl
theorem q526 : (Jvm.Cond.lays "java/lang/NegativeArraySizeException" "java/lang/Throwable" "backtrace" "Ljava/lang/Object;") ∈ lw_all := lw_g (lw_at lw_m2 142 rfl) rfl
theorem q527 : (Jvm.Cond.lays "java/lang/NegativeArraySizeException" "java/lang/Throwable" "detailMessage" "Ljava/lang/String;") ∈ lw_all := lw_g (lw_at lw_m2 143 rfl) rfl
theorem q528 : (Jvm.Cond.lays "java/lang/NegativeArraySizeException" "java/lang/Throwable" "cause" "Ljava/lang/Throwable;") ∈ lw_all := lw_g (lw_at lw_m2 144 rfl) rfl
theorem q529 : (Jvm.Cond.lays "java/lang/NegativeArraySizeException" "java/lang/Throwable" "stackTrace" "[Ljava/lang/StackTraceElement;") ∈ lw_all := lw_g (lw_at lw_m2 145 rfl) rfl
theorem q530 : (Jvm.Cond.lays "java/lang/NegativeArraySizeException" "java/lang/Throwable" "depth" "I") ∈ lw_all := lw_g (lw_at lw_m2 146 rfl) rfl
theorem q531 : (Jvm.Cond.lays "java/lang/NegativeArraySizeException" "java/lang/Throwable" "suppressedExceptions" "Ljava/util/List;") ∈ lw_all := lw_g (lw_at lw_m2 147 rfl) rfl
theorem q532 : (Jvm.Cond.superclass "java/lang/NegativeArraySizeException" "java/lang/RuntimeException") ∈ lw_all := lw_g (lw_at lw_m2 148 rfl) rfl
theorem q533 : (Jvm.Cond.castable "java/lang/NegativeArraySizeException" "java/lang/NegativeArraySizeException") ∈ lw_tbl := lw_at lw_m2 149 rfl
theorem q534 : (Jvm.Cond.selects "java/lang/NegativeArraySizeException" ({ cls := "java/lang/Throwable", name := "fillInStackTrace", desc := "(I)Ljava/lang/Throwable;" } : Jvm.MethodName) ({ cls := "java/lang/Throwable", name := "fillInStackTrace", desc := "(I)Ljava/lang/Throwable;" } : Jvm.MethodName)) ∈ lw_all := lw_g (lw_at lw_m2 150 rfl) rfl
theorem in_J3 : ∀ w ∈ wsJ30, w ∈ lw_all := lw_in wsJ30 [526, 527, 528, 529, 530, 531] (by decide +kernel) (by decide +kernel)

/-! java/lang/String -/
set_option maxRecDepth 100000
def RJ4 : String := "java/lang/String"
def TJ4 : u_T := fun k => match k with
  | 0 => ("java/lang/String", "value", "[B", true)
  | _ => ("java/lang/String", "coder", "B", true)
def tyJ4 : Nat → FieldType := fun k => match k with
  | 0 => .array .byte
  | _ => .byte
abbrev wsJ40 : List Cond := u_ws RJ4 TJ4 2
theorem nmJ4 : ∀ a, a < 2 → ∀ b, b < 2 → a ≠ b → (TJ4 a).2.1 ≠ (TJ4 b).2.1 := by decide +kernel
theorem tyJ4_ok : ∀ k, k < 2 → parseFieldDescriptor (TJ4 k).2.2.1 = some (tyJ4 k) := by decide +kernel
abbrev cJ4_length : ByteArray := prog_24_method_54_code
def yJ4_length : MethodName := ⟨RJ4, "length", "()I"⟩
def dkwJ4_length_0 : List UInt8 := [42, 180, 0, 9, 190, 42, 182, 1, 79, 122, 172]
abbrev dktJ4_length_0 : List UInt8 := dkwJ4_length_0 ++ []
theorem dksJ4_length_0 : cJ4_length.data.toList.drop 0 = dktJ4_length_0 := by decide +kernel
theorem dJ4_length_0 : decode cJ4_length 0 = .ok (.aload_n 0, 1) := dk_42 (dk_at dksJ4_length_0 0 rfl rfl)
theorem dJ4_length_1 : decode cJ4_length 1 = .ok (.getfield 9, 3) := dk_180 0 9 (dk_at dksJ4_length_0 1 rfl rfl)
theorem dJ4_length_4 : decode cJ4_length 4 = .ok (.arraylength, 1) := dk_190 (dk_at dksJ4_length_0 4 rfl rfl)
theorem dJ4_length_5 : decode cJ4_length 5 = .ok (.aload_n 0, 1) := dk_42 (dk_at dksJ4_length_0 5 rfl rfl)
theorem dJ4_length_6 : decode cJ4_length 6 = .ok (.invokevirtual 335, 3) := dk_182 1 79 (dk_at dksJ4_length_0 6 rfl rfl)
theorem dJ4_length_9 : decode cJ4_length 9 = .ok (.ishr, 1) := dk_122 (dk_at dksJ4_length_0 9 rfl rfl)
theorem dJ4_length_10 : decode cJ4_length 10 = .ok (.ireturn, 1) := dk_172 (dk_at dksJ4_length_0 10 rfl rfl)
abbrev cJ4_coder : ByteArray := prog_24_method_152_code
def yJ4_coder : MethodName := ⟨RJ4, "coder", "()B"⟩
def dkwJ4_coder_0 : List UInt8 := [178, 0, 38, 153, 0, 10, 42, 180, 0, 15, 167, 0, 4, 4, 172]
abbrev dktJ4_coder_0 : List UInt8 := dkwJ4_coder_0 ++ []
theorem dksJ4_coder_0 : cJ4_coder.data.toList.drop 0 = dktJ4_coder_0 := by decide +kernel
theorem dJ4_coder_0 : decode cJ4_coder 0 = .ok (.getstatic 38, 3) := dk_178 0 38 (dk_at dksJ4_coder_0 0 rfl rfl)
theorem dJ4_coder_3 : decode cJ4_coder 3 = .ok (.ifCond .eq 10, 3) := dk_153 0 10 (dk_at dksJ4_coder_0 3 rfl rfl)
theorem dJ4_coder_6 : decode cJ4_coder 6 = .ok (.aload_n 0, 1) := dk_42 (dk_at dksJ4_coder_0 6 rfl rfl)
theorem dJ4_coder_7 : decode cJ4_coder 7 = .ok (.getfield 15, 3) := dk_180 0 15 (dk_at dksJ4_coder_0 7 rfl rfl)
theorem dJ4_coder_10 : decode cJ4_coder 10 = .ok (.goto 4, 3) := dk_167 0 4 (dk_at dksJ4_coder_0 10 rfl rfl)
theorem dJ4_coder_13 : decode cJ4_coder 13 = .ok (.iconst 1, 1) := dk_4 (dk_at dksJ4_coder_0 13 rfl rfl)
theorem dJ4_coder_14 : decode cJ4_coder 14 = .ok (.ireturn, 1) := dk_172 (dk_at dksJ4_coder_0 14 rfl rfl)
abbrev cJ4_charAt : ByteArray := prog_24_method_56_code
def yJ4_charAt : MethodName := ⟨RJ4, "charAt", "(I)C"⟩
def dkwJ4_charAt_1 : List UInt8 := [172]
abbrev dktJ4_charAt_1 : List UInt8 := dkwJ4_charAt_1 ++ []
def dkwJ4_charAt_0 : List UInt8 := [42, 182, 1, 236, 153, 0, 12, 42, 180, 0, 9, 27, 184, 1, 239, 172, 42, 180, 0, 9, 27, 184, 1, 242]
abbrev dktJ4_charAt_0 : List UInt8 := dkwJ4_charAt_0 ++ dktJ4_charAt_1
theorem dksJ4_charAt_0 : cJ4_charAt.data.toList.drop 0 = dktJ4_charAt_0 := by decide +kernel
theorem dksJ4_charAt_1 : cJ4_charAt.data.toList.drop 24 = dktJ4_charAt_1 := dk_seg dksJ4_charAt_0 24 rfl rfl
theorem dJ4_charAt_0 : decode cJ4_charAt 0 = .ok (.aload_n 0, 1) := dk_42 (dk_at dksJ4_charAt_0 0 rfl rfl)
theorem dJ4_charAt_1 : decode cJ4_charAt 1 = .ok (.invokevirtual 492, 3) := dk_182 1 236 (dk_at dksJ4_charAt_0 1 rfl rfl)
theorem dJ4_charAt_4 : decode cJ4_charAt 4 = .ok (.ifCond .eq 12, 3) := dk_153 0 12 (dk_at dksJ4_charAt_0 4 rfl rfl)
theorem dJ4_charAt_7 : decode cJ4_charAt 7 = .ok (.aload_n 0, 1) := dk_42 (dk_at dksJ4_charAt_0 7 rfl rfl)
theorem dJ4_charAt_8 : decode cJ4_charAt 8 = .ok (.getfield 9, 3) := dk_180 0 9 (dk_at dksJ4_charAt_0 8 rfl rfl)
theorem dJ4_charAt_11 : decode cJ4_charAt 11 = .ok (.iload_n 1, 1) := dk_27 (dk_at dksJ4_charAt_0 11 rfl rfl)
theorem dJ4_charAt_12 : decode cJ4_charAt 12 = .ok (.invokestatic 495, 3) := dk_184 1 239 (dk_at dksJ4_charAt_0 12 rfl rfl)
theorem dJ4_charAt_15 : decode cJ4_charAt 15 = .ok (.ireturn, 1) := dk_172 (dk_at dksJ4_charAt_0 15 rfl rfl)
theorem dJ4_charAt_16 : decode cJ4_charAt 16 = .ok (.aload_n 0, 1) := dk_42 (dk_at dksJ4_charAt_0 16 rfl rfl)
theorem dJ4_charAt_17 : decode cJ4_charAt 17 = .ok (.getfield 9, 3) := dk_180 0 9 (dk_at dksJ4_charAt_0 17 rfl rfl)
theorem dJ4_charAt_20 : decode cJ4_charAt 20 = .ok (.iload_n 1, 1) := dk_27 (dk_at dksJ4_charAt_0 20 rfl rfl)
theorem dJ4_charAt_21 : decode cJ4_charAt 21 = .ok (.invokestatic 498, 3) := dk_184 1 242 (dk_at dksJ4_charAt_0 21 rfl rfl)
theorem dJ4_charAt_24 : decode cJ4_charAt 24 = .ok (.ireturn, 1) := dk_172 (dk_at dksJ4_charAt_1 0 rfl rfl)
abbrev cJ4_isLatin1 : ByteArray := prog_24_method_154_code
def yJ4_isLatin1 : MethodName := ⟨RJ4, "isLatin1", "()Z"⟩
def dkwJ4_isLatin1_0 : List UInt8 := [178, 0, 38, 153, 0, 14, 42, 180, 0, 15, 154, 0, 7, 4, 167, 0, 4, 3, 172]
abbrev dktJ4_isLatin1_0 : List UInt8 := dkwJ4_isLatin1_0 ++ []
theorem dksJ4_isLatin1_0 : cJ4_isLatin1.data.toList.drop 0 = dktJ4_isLatin1_0 := by decide +kernel
theorem dJ4_isLatin1_0 : decode cJ4_isLatin1 0 = .ok (.getstatic 38, 3) := dk_178 0 38 (dk_at dksJ4_isLatin1_0 0 rfl rfl)
theorem dJ4_isLatin1_3 : decode cJ4_isLatin1 3 = .ok (.ifCond .eq 14, 3) := dk_153 0 14 (dk_at dksJ4_isLatin1_0 3 rfl rfl)
theorem dJ4_isLatin1_6 : decode cJ4_isLatin1 6 = .ok (.aload_n 0, 1) := dk_42 (dk_at dksJ4_isLatin1_0 6 rfl rfl)
theorem dJ4_isLatin1_7 : decode cJ4_isLatin1 7 = .ok (.getfield 15, 3) := dk_180 0 15 (dk_at dksJ4_isLatin1_0 7 rfl rfl)
theorem dJ4_isLatin1_10 : decode cJ4_isLatin1 10 = .ok (.ifCond .ne 7, 3) := dk_154 0 7 (dk_at dksJ4_isLatin1_0 10 rfl rfl)
theorem dJ4_isLatin1_13 : decode cJ4_isLatin1 13 = .ok (.iconst 1, 1) := dk_4 (dk_at dksJ4_isLatin1_0 13 rfl rfl)
theorem dJ4_isLatin1_14 : decode cJ4_isLatin1 14 = .ok (.goto 4, 3) := dk_167 0 4 (dk_at dksJ4_isLatin1_0 14 rfl rfl)
theorem dJ4_isLatin1_17 : decode cJ4_isLatin1 17 = .ok (.iconst 0, 1) := dk_3 (dk_at dksJ4_isLatin1_0 17 rfl rfl)
theorem dJ4_isLatin1_18 : decode cJ4_isLatin1 18 = .ok (.ireturn, 1) := dk_172 (dk_at dksJ4_isLatin1_0 18 rfl rfl)
abbrev cJ4_checkIndex : ByteArray := prog_24_method_155_code
def yJ4_checkIndex : MethodName := ⟨RJ4, "checkIndex", "(II)V"⟩
def dkwJ4_checkIndex_0 : List UInt8 := [26, 27, 178, 4, 29, 184, 4, 35, 87, 177]
abbrev dktJ4_checkIndex_0 : List UInt8 := dkwJ4_checkIndex_0 ++ []
theorem dksJ4_checkIndex_0 : cJ4_checkIndex.data.toList.drop 0 = dktJ4_checkIndex_0 := by decide +kernel
theorem dJ4_checkIndex_0 : decode cJ4_checkIndex 0 = .ok (.iload_n 0, 1) := dk_26 (dk_at dksJ4_checkIndex_0 0 rfl rfl)
theorem dJ4_checkIndex_1 : decode cJ4_checkIndex 1 = .ok (.iload_n 1, 1) := dk_27 (dk_at dksJ4_checkIndex_0 1 rfl rfl)
theorem dJ4_checkIndex_2 : decode cJ4_checkIndex 2 = .ok (.getstatic 1053, 3) := dk_178 4 29 (dk_at dksJ4_checkIndex_0 2 rfl rfl)
theorem dJ4_checkIndex_5 : decode cJ4_checkIndex 5 = .ok (.invokestatic 1059, 3) := dk_184 4 35 (dk_at dksJ4_checkIndex_0 5 rfl rfl)
theorem dJ4_checkIndex_8 : decode cJ4_checkIndex 8 = .ok (.pop, 1) := dk_87 (dk_at dksJ4_checkIndex_0 8 rfl rfl)
theorem dJ4_checkIndex_9 : decode cJ4_checkIndex 9 = .ok (.return_, 1) := dk_177 (dk_at dksJ4_checkIndex_0 9 rfl rfl)
theorem q156 : (Jvm.Cond.initialized "java/lang/String") ∈ lw_all := lw_g (lw_at lw_m1 12 rfl) rfl
theorem q535 : (Jvm.Cond.instantiable "java/lang/String" (4 : Nat)) ∈ lw_all := lw_g (lw_at lw_m2 151 rfl) rfl
theorem q536 : (Jvm.Cond.laysFinal "java/lang/String" "java/lang/String" "value" "[B") ∈ lw_all := lw_g (lw_at lw_m2 152 rfl) rfl
theorem q537 : (Jvm.Cond.soleField "java/lang/String" "value") ∈ lw_all := lw_g (lw_at lw_m2 153 rfl) rfl
theorem q538 : (Jvm.Cond.laysFinal "java/lang/String" "java/lang/String" "coder" "B") ∈ lw_all := lw_g (lw_at lw_m2 154 rfl) rfl
theorem q539 : (Jvm.Cond.soleField "java/lang/String" "coder") ∈ lw_all := lw_g (lw_at lw_m2 155 rfl) rfl
theorem q681 : (Jvm.Cond.instanceMethod ({ cls := "java/lang/String", name := "length", desc := "()I" } : Jvm.MethodName)) ∈ lw_all := lw_g (lw_at lw_m3 57 rfl) rfl
theorem q682 : (Jvm.Cond.selects "java/lang/String" ({ cls := "java/lang/String", name := "length", desc := "()I" } : Jvm.MethodName) ({ cls := "java/lang/String", name := "length", desc := "()I" } : Jvm.MethodName)) ∈ lw_all := lw_g (lw_at lw_m3 58 rfl) rfl
theorem q683 : (Jvm.Cond.code ({ cls := "java/lang/String", name := "length", desc := "()I" } : Jvm.MethodName) prog_24_method_54_code (1 : Nat) (Option.some Jvm.ClassFile.FieldType.int)) ∈ lw_all := lw_g (lw_at lw_m3 59 rfl) rfl
theorem q684 : (Jvm.Cond.methodLink "java/lang/String" (335 : Nat) ({ cls := "java/lang/String", name := "coder", desc := "()B" } : Jvm.MethodName)) ∈ lw_all := lw_g (lw_at lw_m3 60 rfl) rfl
theorem q685 : (Jvm.Cond.instanceMethod ({ cls := "java/lang/String", name := "coder", desc := "()B" } : Jvm.MethodName)) ∈ lw_all := lw_g (lw_at lw_m3 61 rfl) rfl
theorem q686 : (Jvm.Cond.selects "java/lang/String" ({ cls := "java/lang/String", name := "coder", desc := "()B" } : Jvm.MethodName) ({ cls := "java/lang/String", name := "coder", desc := "()B" } : Jvm.MethodName)) ∈ lw_all := lw_g (lw_at lw_m3 62 rfl) rfl
theorem q687 : (Jvm.Cond.code ({ cls := "java/lang/String", name := "coder", desc := "()B" } : Jvm.MethodName) prog_24_method_152_code (1 : Nat) (Option.some Jvm.ClassFile.FieldType.byte)) ∈ lw_all := lw_g (lw_at lw_m3 63 rfl) rfl
theorem q688 : (Jvm.Cond.fieldLink "java/lang/String" (38 : Nat) "java/lang/String" "COMPACT_STRINGS" "Z") ∈ lw_all := lw_g (lw_at lw_m3 64 rfl) rfl
theorem q689 : (Jvm.Cond.laysStatic "java/lang/String" "COMPACT_STRINGS" "Z") ∈ lw_tbl := lw_at lw_m3 65 rfl
theorem q691 : (Jvm.Cond.instanceMethod ({ cls := "java/lang/String", name := "charAt", desc := "(I)C" } : Jvm.MethodName)) ∈ lw_all := lw_g (lw_at lw_m3 67 rfl) rfl
theorem q692 : (Jvm.Cond.selects "java/lang/String" ({ cls := "java/lang/String", name := "charAt", desc := "(I)C" } : Jvm.MethodName) ({ cls := "java/lang/String", name := "charAt", desc := "(I)C" } : Jvm.MethodName)) ∈ lw_all := lw_g (lw_at lw_m3 68 rfl) rfl
theorem q693 : (Jvm.Cond.code ({ cls := "java/lang/String", name := "charAt", desc := "(I)C" } : Jvm.MethodName) prog_24_method_56_code (2 : Nat) (Option.some Jvm.ClassFile.FieldType.char)) ∈ lw_all := lw_g (lw_at lw_m3 69 rfl) rfl
theorem q694 : (Jvm.Cond.methodLink "java/lang/String" (492 : Nat) ({ cls := "java/lang/String", name := "isLatin1", desc := "()Z" } : Jvm.MethodName)) ∈ lw_all := lw_g (lw_at lw_m3 70 rfl) rfl
theorem q695 : (Jvm.Cond.instanceMethod ({ cls := "java/lang/String", name := "isLatin1", desc := "()Z" } : Jvm.MethodName)) ∈ lw_all := lw_g (lw_at lw_m3 71 rfl) rfl
theorem q696 : (Jvm.Cond.selects "java/lang/String" ({ cls := "java/lang/String", name := "isLatin1", desc := "()Z" } : Jvm.MethodName) ({ cls := "java/lang/String", name := "isLatin1", desc := "()Z" } : Jvm.MethodName)) ∈ lw_all := lw_g (lw_at lw_m3 72 rfl) rfl
theorem q697 : (Jvm.Cond.code ({ cls := "java/lang/String", name := "isLatin1", desc := "()Z" } : Jvm.MethodName) prog_24_method_154_code (1 : Nat) (Option.some Jvm.ClassFile.FieldType.boolean)) ∈ lw_all := lw_g (lw_at lw_m3 73 rfl) rfl
theorem q698 : (Jvm.Cond.methodLink "java/lang/String" (495 : Nat) ({ cls := "java/lang/StringLatin1", name := "charAt", desc := "([BI)C" } : Jvm.MethodName)) ∈ lw_all := lw_g (lw_at lw_m3 74 rfl) rfl
theorem q702 : (Jvm.Cond.static ({ cls := "java/lang/String", name := "checkIndex", desc := "(II)V" } : Jvm.MethodName)) ∈ lw_all := lw_g (lw_at lw_m3 78 rfl) rfl
theorem q703 : (Jvm.Cond.code ({ cls := "java/lang/String", name := "checkIndex", desc := "(II)V" } : Jvm.MethodName) prog_24_method_155_code (2 : Nat) (Option.none : Option Jvm.ClassFile.FieldType)) ∈ lw_all := lw_g (lw_at lw_m3 79 rfl) rfl
theorem q704 : (Jvm.Cond.fieldLink "java/lang/String" (1053 : Nat) "jdk/internal/util/Preconditions" "SIOOBE_FORMATTER" "Ljava/util/function/BiFunction;") ∈ lw_all := lw_g (lw_at lw_m3 80 rfl) rfl
theorem q706 : (Jvm.Cond.methodLink "java/lang/String" (1059 : Nat) ({ cls := "jdk/internal/util/Preconditions", name := "checkIndex", desc := "(IILjava/util/function/BiFunction;)I" } : Jvm.MethodName)) ∈ lw_all := lw_g (lw_at lw_m3 82 rfl) rfl
theorem q709 : (Jvm.Cond.methodLink "java/lang/String" (498 : Nat) ({ cls := "java/lang/StringUTF16", name := "charAt", desc := "([BI)C" } : Jvm.MethodName)) ∈ lw_all := lw_g (lw_at lw_m3 85 rfl) rfl
theorem q2219 : (Jvm.Cond.fieldLink "java/lang/String" (9 : Nat) "java/lang/String" "value" "[B") ∈ lw_all := lw_g (lw_at lw_m9 155 rfl) rfl
theorem q2220 : (Jvm.Cond.fieldLink "java/lang/String" (15 : Nat) "java/lang/String" "coder" "B") ∈ lw_all := lw_g (lw_at lw_m9 156 rfl) rfl
theorem in_J4 : ∀ w ∈ wsJ40, w ∈ lw_all := lw_in wsJ40 [536, 538] (by decide +kernel) (by decide +kernel)

/-! java/lang/NullPointerException -/
set_option maxRecDepth 100000
def RJ5 : String := "java/lang/NullPointerException"
def TJ5 : u_T := fun k => match k with
  | 0 => ("java/lang/Throwable", "backtrace", "Ljava/lang/Object;", false)
  | 1 => ("java/lang/Throwable", "detailMessage", "Ljava/lang/String;", false)
  | 2 => ("java/lang/Throwable", "cause", "Ljava/lang/Throwable;", false)
  | 3 => ("java/lang/Throwable", "stackTrace", "[Ljava/lang/StackTraceElement;", false)
  | 4 => ("java/lang/Throwable", "depth", "I", false)
  | 5 => ("java/lang/Throwable", "suppressedExceptions", "Ljava/util/List;", false)
  | 6 => ("java/lang/NullPointerException", "extendedMessageState", "I", false)
  | _ => ("java/lang/NullPointerException", "extendedMessage", "Ljava/lang/String;", false)
def tyJ5 : Nat → FieldType := fun k => match k with
  | 0 => .object "java/lang/Object"
  | 1 => .object "java/lang/String"
  | 2 => .object "java/lang/Throwable"
  | 3 => .array (.object "java/lang/StackTraceElement")
  | 4 => .int
  | 5 => .object "java/util/List"
  | 6 => .int
  | _ => .object "java/lang/String"
abbrev wsJ50 : List Cond := u_ws RJ5 TJ5 8
theorem nmJ5 : ∀ a, a < 8 → ∀ b, b < 8 → a ≠ b → (TJ5 a).2.1 ≠ (TJ5 b).2.1 := by decide +kernel
theorem tyJ5_ok : ∀ k, k < 8 → parseFieldDescriptor (TJ5 k).2.2.1 = some (tyJ5 k) := by decide +kernel
abbrev cJ5_init : ByteArray := prog_22_method_1_code
def yJ5_init : MethodName := ⟨RJ5, "<init>", "()V"⟩
theorem dJ5_init_0 : decode cJ5_init 0 = .ok (.aload_n 0, 1) := by decide +kernel
theorem dJ5_init_1 : decode cJ5_init 1 = .ok (.invokespecial 1, 3) := by decide +kernel
theorem dJ5_init_4 : decode cJ5_init 4 = .ok (.return_, 1) := by decide +kernel
theorem q157 : (Jvm.Cond.initialized "java/lang/NullPointerException") ∈ lw_all := lw_g (lw_at lw_m1 13 rfl) rfl
theorem q220 : (Jvm.Cond.selects "java/lang/NullPointerException" ({ cls := "java/lang/Throwable", name := "fillInStackTrace", desc := "()Ljava/lang/Throwable;" } : Jvm.MethodName) ({ cls := "java/lang/NullPointerException", name := "fillInStackTrace", desc := "()Ljava/lang/Throwable;" } : Jvm.MethodName)) ∈ lw_all := lw_g (lw_at lw_m1 76 rfl) rfl
theorem q221 : (Jvm.Cond.instanceMethod ({ cls := "java/lang/NullPointerException", name := "fillInStackTrace", desc := "()Ljava/lang/Throwable;" } : Jvm.MethodName)) ∈ lw_all := lw_g (lw_at lw_m1 77 rfl) rfl
theorem q222 : (Jvm.Cond.codeSync ({ cls := "java/lang/NullPointerException", name := "fillInStackTrace", desc := "()Ljava/lang/Throwable;" } : Jvm.MethodName) prog_22_method_3_code (1 : Nat) (Option.some (Jvm.ClassFile.FieldType.object "java/lang/Throwable"))) ∈ lw_all := lw_g (lw_at lw_m1 78 rfl) rfl
theorem q223 : (Jvm.Cond.methodLink "java/lang/NullPointerException" (16 : Nat) ({ cls := "java/lang/NullPointerException", name := "getExtendedNPEMessage", desc := "()Ljava/lang/String;" } : Jvm.MethodName)) ∈ lw_all := lw_g (lw_at lw_m1 79 rfl) rfl
theorem q224 : (Jvm.Cond.privateMethod ({ cls := "java/lang/NullPointerException", name := "getExtendedNPEMessage", desc := "()Ljava/lang/String;" } : Jvm.MethodName)) ∈ lw_tbl := lw_at lw_m1 80 rfl
theorem q225 : (Jvm.Cond.instanceMethod ({ cls := "java/lang/NullPointerException", name := "getExtendedNPEMessage", desc := "()Ljava/lang/String;" } : Jvm.MethodName)) ∈ lw_all := lw_g (lw_at lw_m1 81 rfl) rfl
theorem q226 : (Jvm.Cond.instantiable "java/lang/NullPointerException" (8 : Nat)) ∈ lw_all := lw_g (lw_at lw_m1 82 rfl) rfl
theorem q227 : (Jvm.Cond.native ({ cls := "java/lang/NullPointerException", name := "getExtendedNPEMessage", desc := "()Ljava/lang/String;" } : Jvm.MethodName)) ∈ lw_all := lw_g (lw_at lw_m1 83 rfl) rfl
theorem q228 : (Jvm.Cond.methodLink "java/lang/NullPointerException" (24 : Nat) ({ cls := "java/lang/RuntimeException", name := "fillInStackTrace", desc := "()Ljava/lang/Throwable;" } : Jvm.MethodName)) ∈ lw_all := lw_g (lw_at lw_m1 84 rfl) rfl
theorem q231 : (Jvm.Cond.superclass "java/lang/NullPointerException" "java/lang/RuntimeException") ∈ lw_all := lw_g (lw_at lw_m1 87 rfl) rfl
theorem q557 : (Jvm.Cond.instanceMethod ({ cls := "java/lang/NullPointerException", name := "<init>", desc := "()V" } : Jvm.MethodName)) ∈ lw_all := lw_g (lw_at lw_m2 173 rfl) rfl
theorem q558 : (Jvm.Cond.code ({ cls := "java/lang/NullPointerException", name := "<init>", desc := "()V" } : Jvm.MethodName) prog_22_method_1_code (1 : Nat) (Option.none : Option Jvm.ClassFile.FieldType)) ∈ lw_all := lw_g (lw_at lw_m2 174 rfl) rfl
theorem q559 : (Jvm.Cond.methodLink "java/lang/NullPointerException" (1 : Nat) ({ cls := "java/lang/RuntimeException", name := "<init>", desc := "()V" } : Jvm.MethodName)) ∈ lw_all := lw_g (lw_at lw_m2 175 rfl) rfl
theorem q566 : (Jvm.Cond.fieldLink "java/lang/NullPointerException" (10 : Nat) "java/lang/NullPointerException" "extendedMessageState" "I") ∈ lw_all := lw_g (lw_at lw_m2 182 rfl) rfl
theorem q567 : (Jvm.Cond.fieldLink "java/lang/NullPointerException" (20 : Nat) "java/lang/NullPointerException" "extendedMessage" "Ljava/lang/String;") ∈ lw_all := lw_g (lw_at lw_m2 183 rfl) rfl
theorem q568 : (Jvm.Cond.lays "java/lang/NullPointerException" "java/lang/NullPointerException" "extendedMessageState" "I") ∈ lw_all := lw_g (lw_at lw_m2 184 rfl) rfl
theorem q569 : (Jvm.Cond.soleField "java/lang/NullPointerException" "extendedMessageState") ∈ lw_all := lw_g (lw_at lw_m2 185 rfl) rfl
theorem q570 : (Jvm.Cond.lays "java/lang/NullPointerException" "java/lang/NullPointerException" "extendedMessage" "Ljava/lang/String;") ∈ lw_all := lw_g (lw_at lw_m2 186 rfl) rfl
theorem q571 : (Jvm.Cond.soleField "java/lang/NullPointerException" "extendedMessage") ∈ lw_all := lw_g (lw_at lw_m2 187 rfl) rfl
theorem q572 : (Jvm.Cond.lays "java/lang/NullPointerException" "java/lang/Throwable" "backtrace" "Ljava/lang/Object;") ∈ lw_all := lw_g (lw_at lw_m2 188 rfl) rfl
theorem q573 : (Jvm.Cond.lays "java/lang/NullPointerException" "java/lang/Throwable" "detailMessage" "Ljava/lang/String;") ∈ lw_all := lw_g (lw_at lw_m2 189 rfl) rfl
theorem q574 : (Jvm.Cond.lays "java/lang/NullPointerException" "java/lang/Throwable" "cause" "Ljava/lang/Throwable;") ∈ lw_all := lw_g (lw_at lw_m2 190 rfl) rfl
theorem q575 : (Jvm.Cond.lays "java/lang/NullPointerException" "java/lang/Throwable" "stackTrace" "[Ljava/lang/StackTraceElement;") ∈ lw_all := lw_g (lw_at lw_m2 191 rfl) rfl
theorem q576 : (Jvm.Cond.lays "java/lang/NullPointerException" "java/lang/Throwable" "depth" "I") ∈ lw_all := lw_g (lw_at lw_m2 192 rfl) rfl
theorem q577 : (Jvm.Cond.lays "java/lang/NullPointerException" "java/lang/Throwable" "suppressedExceptions" "Ljava/util/List;") ∈ lw_all := lw_g (lw_at lw_m2 193 rfl) rfl
theorem q578 : (Jvm.Cond.castable "java/lang/NullPointerException" "java/lang/NullPointerException") ∈ lw_tbl := lw_at lw_m2 194 rfl
theorem q579 : (Jvm.Cond.selects "java/lang/NullPointerException" ({ cls := "java/lang/Throwable", name := "fillInStackTrace", desc := "(I)Ljava/lang/Throwable;" } : Jvm.MethodName) ({ cls := "java/lang/Throwable", name := "fillInStackTrace", desc := "(I)Ljava/lang/Throwable;" } : Jvm.MethodName)) ∈ lw_all := lw_g (lw_at lw_m2 195 rfl) rfl
theorem in_J5 : ∀ w ∈ wsJ50, w ∈ lw_all := lw_in wsJ50 [572, 573, 574, 575, 576, 577, 568, 570] (by decide +kernel) (by decide +kernel)

/-! java/lang/IndexOutOfBoundsException -/
set_option maxRecDepth 100000
def RJ6 : String := "java/lang/IndexOutOfBoundsException"
abbrev cJ6_init : ByteArray := prog_18_method_2_code
def yJ6_init : MethodName := ⟨RJ6, "<init>", "(Ljava/lang/String;)V"⟩
def dkwJ6_init_0 : List UInt8 := [42, 43, 183, 0, 7, 177]
abbrev dktJ6_init_0 : List UInt8 := dkwJ6_init_0 ++ []
theorem dksJ6_init_0 : cJ6_init.data.toList.drop 0 = dktJ6_init_0 := by decide +kernel
theorem dJ6_init_0 : decode cJ6_init 0 = .ok (.aload_n 0, 1) := dk_42 (dk_at dksJ6_init_0 0 rfl rfl)
theorem dJ6_init_1 : decode cJ6_init 1 = .ok (.aload_n 1, 1) := dk_43 (dk_at dksJ6_init_0 1 rfl rfl)
theorem dJ6_init_2 : decode cJ6_init 2 = .ok (.invokespecial 7, 3) := dk_183 0 7 (dk_at dksJ6_init_0 2 rfl rfl)
theorem dJ6_init_5 : decode cJ6_init 5 = .ok (.return_, 1) := dk_177 (dk_at dksJ6_init_0 5 rfl rfl)
theorem q158 : (Jvm.Cond.initialized "java/lang/IndexOutOfBoundsException") ∈ lw_all := lw_g (lw_at lw_m1 14 rfl) rfl
theorem q586 : (Jvm.Cond.instanceMethod ({ cls := "java/lang/IndexOutOfBoundsException", name := "<init>", desc := "(Ljava/lang/String;)V" } : Jvm.MethodName)) ∈ lw_all := lw_g (lw_at lw_m2 202 rfl) rfl
theorem q587 : (Jvm.Cond.code ({ cls := "java/lang/IndexOutOfBoundsException", name := "<init>", desc := "(Ljava/lang/String;)V" } : Jvm.MethodName) prog_18_method_2_code (2 : Nat) (Option.none : Option Jvm.ClassFile.FieldType)) ∈ lw_all := lw_g (lw_at lw_m2 203 rfl) rfl
theorem q588 : (Jvm.Cond.methodLink "java/lang/IndexOutOfBoundsException" (7 : Nat) ({ cls := "java/lang/RuntimeException", name := "<init>", desc := "(Ljava/lang/String;)V" } : Jvm.MethodName)) ∈ lw_all := lw_g (lw_at lw_m2 204 rfl) rfl
theorem q597 : (Jvm.Cond.declares ({ cls := "java/lang/IndexOutOfBoundsException", name := "<init>", desc := "()V" } : Jvm.MethodName)) ∈ lw_tbl := lw_at lw_m2 213 rfl
theorem q598 : (Jvm.Cond.declares ({ cls := "java/lang/IndexOutOfBoundsException", name := "<init>", desc := "(Ljava/lang/String;)V" } : Jvm.MethodName)) ∈ lw_tbl := lw_at lw_m2 214 rfl

/-! java/lang/ArrayIndexOutOfBoundsException -/
set_option maxRecDepth 100000
def RJ7 : String := "java/lang/ArrayIndexOutOfBoundsException"
def TJ7 : u_T := fun k => match k with
  | 0 => ("java/lang/Throwable", "backtrace", "Ljava/lang/Object;", false)
  | 1 => ("java/lang/Throwable", "detailMessage", "Ljava/lang/String;", false)
  | 2 => ("java/lang/Throwable", "cause", "Ljava/lang/Throwable;", false)
  | 3 => ("java/lang/Throwable", "stackTrace", "[Ljava/lang/StackTraceElement;", false)
  | 4 => ("java/lang/Throwable", "depth", "I", false)
  | _ => ("java/lang/Throwable", "suppressedExceptions", "Ljava/util/List;", false)
def tyJ7 : Nat → FieldType := fun k => match k with
  | 0 => .object "java/lang/Object"
  | 1 => .object "java/lang/String"
  | 2 => .object "java/lang/Throwable"
  | 3 => .array (.object "java/lang/StackTraceElement")
  | 4 => .int
  | _ => .object "java/util/List"
abbrev wsJ70 : List Cond := u_ws RJ7 TJ7 6
theorem nmJ7 : ∀ a, a < 6 → ∀ b, b < 6 → a ≠ b → (TJ7 a).2.1 ≠ (TJ7 b).2.1 := by decide +kernel
theorem tyJ7_ok : ∀ k, k < 6 → parseFieldDescriptor (TJ7 k).2.2.1 = some (tyJ7 k) := by decide +kernel
abbrev cJ7_init : ByteArray := prog_16_method_2_code
def yJ7_init : MethodName := ⟨RJ7, "<init>", "(Ljava/lang/String;)V"⟩
def dkwJ7_init_0 : List UInt8 := [42, 43, 183, 0, 7, 177]
abbrev dktJ7_init_0 : List UInt8 := dkwJ7_init_0 ++ []
theorem dksJ7_init_0 : cJ7_init.data.toList.drop 0 = dktJ7_init_0 := by decide +kernel
theorem dJ7_init_0 : decode cJ7_init 0 = .ok (.aload_n 0, 1) := dk_42 (dk_at dksJ7_init_0 0 rfl rfl)
theorem dJ7_init_1 : decode cJ7_init 1 = .ok (.aload_n 1, 1) := dk_43 (dk_at dksJ7_init_0 1 rfl rfl)
theorem dJ7_init_2 : decode cJ7_init 2 = .ok (.invokespecial 7, 3) := dk_183 0 7 (dk_at dksJ7_init_0 2 rfl rfl)
theorem dJ7_init_5 : decode cJ7_init 5 = .ok (.return_, 1) := dk_177 (dk_at dksJ7_init_0 5 rfl rfl)
theorem q159 : (Jvm.Cond.initialized "java/lang/ArrayIndexOutOfBoundsException") ∈ lw_all := lw_g (lw_at lw_m1 15 rfl) rfl
theorem q218 : (Jvm.Cond.selects "java/lang/ArrayIndexOutOfBoundsException" ({ cls := "java/lang/Throwable", name := "fillInStackTrace", desc := "()Ljava/lang/Throwable;" } : Jvm.MethodName) ({ cls := "java/lang/Throwable", name := "fillInStackTrace", desc := "()Ljava/lang/Throwable;" } : Jvm.MethodName)) ∈ lw_all := lw_g (lw_at lw_m1 74 rfl) rfl
theorem q582 : (Jvm.Cond.instantiable "java/lang/ArrayIndexOutOfBoundsException" (6 : Nat)) ∈ lw_all := lw_g (lw_at lw_m2 198 rfl) rfl
theorem q583 : (Jvm.Cond.instanceMethod ({ cls := "java/lang/ArrayIndexOutOfBoundsException", name := "<init>", desc := "(Ljava/lang/String;)V" } : Jvm.MethodName)) ∈ lw_all := lw_g (lw_at lw_m2 199 rfl) rfl
theorem q584 : (Jvm.Cond.code ({ cls := "java/lang/ArrayIndexOutOfBoundsException", name := "<init>", desc := "(Ljava/lang/String;)V" } : Jvm.MethodName) prog_16_method_2_code (2 : Nat) (Option.none : Option Jvm.ClassFile.FieldType)) ∈ lw_all := lw_g (lw_at lw_m2 200 rfl) rfl
theorem q585 : (Jvm.Cond.methodLink "java/lang/ArrayIndexOutOfBoundsException" (7 : Nat) ({ cls := "java/lang/IndexOutOfBoundsException", name := "<init>", desc := "(Ljava/lang/String;)V" } : Jvm.MethodName)) ∈ lw_all := lw_g (lw_at lw_m2 201 rfl) rfl
theorem q589 : (Jvm.Cond.lays "java/lang/ArrayIndexOutOfBoundsException" "java/lang/Throwable" "backtrace" "Ljava/lang/Object;") ∈ lw_all := lw_g (lw_at lw_m2 205 rfl) rfl
theorem q590 : (Jvm.Cond.lays "java/lang/ArrayIndexOutOfBoundsException" "java/lang/Throwable" "detailMessage" "Ljava/lang/String;") ∈ lw_all := lw_g (lw_at lw_m2 206 rfl) rfl
theorem q591 : (Jvm.Cond.lays "java/lang/ArrayIndexOutOfBoundsException" "java/lang/Throwable" "cause" "Ljava/lang/Throwable;") ∈ lw_all := lw_g (lw_at lw_m2 207 rfl) rfl
theorem q592 : (Jvm.Cond.lays "java/lang/ArrayIndexOutOfBoundsException" "java/lang/Throwable" "stackTrace" "[Ljava/lang/StackTraceElement;") ∈ lw_all := lw_g (lw_at lw_m2 208 rfl) rfl
theorem q593 : (Jvm.Cond.lays "java/lang/ArrayIndexOutOfBoundsException" "java/lang/Throwable" "depth" "I") ∈ lw_all := lw_g (lw_at lw_m2 209 rfl) rfl
theorem q594 : (Jvm.Cond.lays "java/lang/ArrayIndexOutOfBoundsException" "java/lang/Throwable" "suppressedExceptions" "Ljava/util/List;") ∈ lw_all := lw_g (lw_at lw_m2 210 rfl) rfl
theorem q595 : (Jvm.Cond.superclass "java/lang/ArrayIndexOutOfBoundsException" "java/lang/IndexOutOfBoundsException") ∈ lw_all := lw_g (lw_at lw_m2 211 rfl) rfl
theorem q596 : (Jvm.Cond.castable "java/lang/ArrayIndexOutOfBoundsException" "java/lang/ArrayIndexOutOfBoundsException") ∈ lw_tbl := lw_at lw_m2 212 rfl
theorem q599 : (Jvm.Cond.selects "java/lang/ArrayIndexOutOfBoundsException" ({ cls := "java/lang/Throwable", name := "fillInStackTrace", desc := "(I)Ljava/lang/Throwable;" } : Jvm.MethodName) ({ cls := "java/lang/Throwable", name := "fillInStackTrace", desc := "(I)Ljava/lang/Throwable;" } : Jvm.MethodName)) ∈ lw_all := lw_g (lw_at lw_m2 215 rfl) rfl
theorem q2214 : (Jvm.Cond.castable "java/lang/ArrayIndexOutOfBoundsException" "java/lang/IndexOutOfBoundsException") ∈ lw_tbl := lw_at lw_m9 150 rfl
theorem in_J7 : ∀ w ∈ wsJ70, w ∈ lw_all := lw_in wsJ70 [589, 590, 591, 592, 593, 594] (by decide +kernel) (by decide +kernel)

/-! java/lang/Math -/
set_option maxRecDepth 100000
def RJ8 : String := "java/lang/Math"
abbrev cJ8_min : ByteArray := prog_20_method_69_code
def yJ8_min : MethodName := ⟨RJ8, "min", "(II)I"⟩
def dkwJ8_min_0 : List UInt8 := [26, 27, 163, 0, 7, 26, 167, 0, 4, 27, 172]
abbrev dktJ8_min_0 : List UInt8 := dkwJ8_min_0 ++ []
theorem dksJ8_min_0 : cJ8_min.data.toList.drop 0 = dktJ8_min_0 := by decide +kernel
theorem dJ8_min_0 : decode cJ8_min 0 = .ok (.iload_n 0, 1) := dk_26 (dk_at dksJ8_min_0 0 rfl rfl)
theorem dJ8_min_1 : decode cJ8_min 1 = .ok (.iload_n 1, 1) := dk_27 (dk_at dksJ8_min_0 1 rfl rfl)
theorem dJ8_min_2 : decode cJ8_min 2 = .ok (.if_icmp .gt 7, 3) := dk_163 0 7 (dk_at dksJ8_min_0 2 rfl rfl)
theorem dJ8_min_5 : decode cJ8_min 5 = .ok (.iload_n 0, 1) := dk_26 (dk_at dksJ8_min_0 5 rfl rfl)
theorem dJ8_min_6 : decode cJ8_min 6 = .ok (.goto 4, 3) := dk_167 0 4 (dk_at dksJ8_min_0 6 rfl rfl)
theorem dJ8_min_9 : decode cJ8_min 9 = .ok (.iload_n 1, 1) := dk_27 (dk_at dksJ8_min_0 9 rfl rfl)
theorem dJ8_min_10 : decode cJ8_min 10 = .ok (.ireturn, 1) := dk_172 (dk_at dksJ8_min_0 10 rfl rfl)
abbrev cJ8_max : ByteArray := prog_20_method_65_code
def yJ8_max : MethodName := ⟨RJ8, "max", "(II)I"⟩
def dkwJ8_max_0 : List UInt8 := [26, 27, 161, 0, 7, 26, 167, 0, 4, 27, 172]
abbrev dktJ8_max_0 : List UInt8 := dkwJ8_max_0 ++ []
theorem dksJ8_max_0 : cJ8_max.data.toList.drop 0 = dktJ8_max_0 := by decide +kernel
theorem dJ8_max_0 : decode cJ8_max 0 = .ok (.iload_n 0, 1) := dk_26 (dk_at dksJ8_max_0 0 rfl rfl)
theorem dJ8_max_1 : decode cJ8_max 1 = .ok (.iload_n 1, 1) := dk_27 (dk_at dksJ8_max_0 1 rfl rfl)
theorem dJ8_max_2 : decode cJ8_max 2 = .ok (.if_icmp .lt 7, 3) := dk_161 0 7 (dk_at dksJ8_max_0 2 rfl rfl)
theorem dJ8_max_5 : decode cJ8_max 5 = .ok (.iload_n 0, 1) := dk_26 (dk_at dksJ8_max_0 5 rfl rfl)
theorem dJ8_max_6 : decode cJ8_max 6 = .ok (.goto 4, 3) := dk_167 0 4 (dk_at dksJ8_max_0 6 rfl rfl)
theorem dJ8_max_9 : decode cJ8_max 9 = .ok (.iload_n 1, 1) := dk_27 (dk_at dksJ8_max_0 9 rfl rfl)
theorem dJ8_max_10 : decode cJ8_max 10 = .ok (.ireturn, 1) := dk_172 (dk_at dksJ8_max_0 10 rfl rfl)
abbrev cJ8_abs : ByteArray := prog_20_method_61_code
def yJ8_abs : MethodName := ⟨RJ8, "abs", "(J)J"⟩
def dkwJ8_abs_0 : List UInt8 := [30, 9, 148, 156, 0, 8, 30, 117, 167, 0, 4, 30, 173]
abbrev dktJ8_abs_0 : List UInt8 := dkwJ8_abs_0 ++ []
theorem dksJ8_abs_0 : cJ8_abs.data.toList.drop 0 = dktJ8_abs_0 := by decide +kernel
theorem dJ8_abs_0 : decode cJ8_abs 0 = .ok (.lload_n 0, 1) := dk_30 (dk_at dksJ8_abs_0 0 rfl rfl)
theorem dJ8_abs_1 : decode cJ8_abs 1 = .ok (.lconst 0, 1) := dk_9 (dk_at dksJ8_abs_0 1 rfl rfl)
theorem dJ8_abs_2 : decode cJ8_abs 2 = .ok (.lcmp, 1) := dk_148 (dk_at dksJ8_abs_0 2 rfl rfl)
theorem dJ8_abs_3 : decode cJ8_abs 3 = .ok (.ifCond .ge 8, 3) := dk_156 0 8 (dk_at dksJ8_abs_0 3 rfl rfl)
theorem dJ8_abs_6 : decode cJ8_abs 6 = .ok (.lload_n 0, 1) := dk_30 (dk_at dksJ8_abs_0 6 rfl rfl)
theorem dJ8_abs_7 : decode cJ8_abs 7 = .ok (.lneg, 1) := dk_117 (dk_at dksJ8_abs_0 7 rfl rfl)
theorem dJ8_abs_8 : decode cJ8_abs 8 = .ok (.goto 4, 3) := dk_167 0 4 (dk_at dksJ8_abs_0 8 rfl rfl)
theorem dJ8_abs_11 : decode cJ8_abs 11 = .ok (.lload_n 0, 1) := dk_30 (dk_at dksJ8_abs_0 11 rfl rfl)
theorem dJ8_abs_12 : decode cJ8_abs 12 = .ok (.lreturn, 1) := dk_173 (dk_at dksJ8_abs_0 12 rfl rfl)
theorem q161 : (Jvm.Cond.initialized "java/lang/Math") ∈ lw_all := lw_g (lw_at lw_m1 17 rfl) rfl
theorem q674 : (Jvm.Cond.static ({ cls := "java/lang/Math", name := "min", desc := "(II)I" } : Jvm.MethodName)) ∈ lw_all := lw_g (lw_at lw_m3 50 rfl) rfl
theorem q675 : (Jvm.Cond.code ({ cls := "java/lang/Math", name := "min", desc := "(II)I" } : Jvm.MethodName) prog_20_method_69_code (2 : Nat) (Option.some Jvm.ClassFile.FieldType.int)) ∈ lw_all := lw_g (lw_at lw_m3 51 rfl) rfl
theorem q975 : (Jvm.Cond.static ({ cls := "java/lang/Math", name := "max", desc := "(II)I" } : Jvm.MethodName)) ∈ lw_all := lw_g (lw_at lw_m4 111 rfl) rfl
theorem q976 : (Jvm.Cond.code ({ cls := "java/lang/Math", name := "max", desc := "(II)I" } : Jvm.MethodName) prog_20_method_65_code (2 : Nat) (Option.some Jvm.ClassFile.FieldType.int)) ∈ lw_all := lw_g (lw_at lw_m4 112 rfl) rfl
theorem q2034 : (Jvm.Cond.static ({ cls := "java/lang/Math", name := "abs", desc := "(J)J" } : Jvm.MethodName)) ∈ lw_all := lw_g (lw_at lw_m8 210 rfl) rfl
theorem q2035 : (Jvm.Cond.code ({ cls := "java/lang/Math", name := "abs", desc := "(J)J" } : Jvm.MethodName) prog_20_method_61_code (2 : Nat) (Option.some Jvm.ClassFile.FieldType.long)) ∈ lw_all := lw_g (lw_at lw_m8 211 rfl) rfl

/-! java/lang/StringLatin1 -/
set_option maxRecDepth 100000
def RJ9 : String := "java/lang/StringLatin1"
abbrev cJ9_charAt : ByteArray := prog_25_method_2_code
def yJ9_charAt : MethodName := ⟨RJ9, "charAt", "([BI)C"⟩
def dkwJ9_charAt_0 : List UInt8 := [27, 42, 190, 184, 0, 9, 42, 27, 51, 17, 0, 255, 126, 146, 172]
abbrev dktJ9_charAt_0 : List UInt8 := dkwJ9_charAt_0 ++ []
theorem dksJ9_charAt_0 : cJ9_charAt.data.toList.drop 0 = dktJ9_charAt_0 := by decide +kernel
theorem dJ9_charAt_0 : decode cJ9_charAt 0 = .ok (.iload_n 1, 1) := dk_27 (dk_at dksJ9_charAt_0 0 rfl rfl)
theorem dJ9_charAt_1 : decode cJ9_charAt 1 = .ok (.aload_n 0, 1) := dk_42 (dk_at dksJ9_charAt_0 1 rfl rfl)
theorem dJ9_charAt_2 : decode cJ9_charAt 2 = .ok (.arraylength, 1) := dk_190 (dk_at dksJ9_charAt_0 2 rfl rfl)
theorem dJ9_charAt_3 : decode cJ9_charAt 3 = .ok (.invokestatic 9, 3) := dk_184 0 9 (dk_at dksJ9_charAt_0 3 rfl rfl)
theorem dJ9_charAt_6 : decode cJ9_charAt 6 = .ok (.aload_n 0, 1) := dk_42 (dk_at dksJ9_charAt_0 6 rfl rfl)
theorem dJ9_charAt_7 : decode cJ9_charAt 7 = .ok (.iload_n 1, 1) := dk_27 (dk_at dksJ9_charAt_0 7 rfl rfl)
theorem dJ9_charAt_8 : decode cJ9_charAt 8 = .ok (.baload, 1) := dk_51 (dk_at dksJ9_charAt_0 8 rfl rfl)
theorem dJ9_charAt_9 : decode cJ9_charAt 9 = .ok (.sipush 255, 3) := dk_17 0 255 (dk_at dksJ9_charAt_0 9 rfl rfl)
theorem dJ9_charAt_12 : decode cJ9_charAt 12 = .ok (.iand, 1) := dk_126 (dk_at dksJ9_charAt_0 12 rfl rfl)
theorem dJ9_charAt_13 : decode cJ9_charAt 13 = .ok (.i2c, 1) := dk_146 (dk_at dksJ9_charAt_0 13 rfl rfl)
theorem dJ9_charAt_14 : decode cJ9_charAt 14 = .ok (.ireturn, 1) := dk_172 (dk_at dksJ9_charAt_0 14 rfl rfl)
theorem q162 : (Jvm.Cond.initialized "java/lang/StringLatin1") ∈ lw_all := lw_g (lw_at lw_m1 18 rfl) rfl
theorem q699 : (Jvm.Cond.static ({ cls := "java/lang/StringLatin1", name := "charAt", desc := "([BI)C" } : Jvm.MethodName)) ∈ lw_all := lw_g (lw_at lw_m3 75 rfl) rfl
theorem q700 : (Jvm.Cond.code ({ cls := "java/lang/StringLatin1", name := "charAt", desc := "([BI)C" } : Jvm.MethodName) prog_25_method_2_code (2 : Nat) (Option.some Jvm.ClassFile.FieldType.char)) ∈ lw_all := lw_g (lw_at lw_m3 76 rfl) rfl
theorem q701 : (Jvm.Cond.methodLink "java/lang/StringLatin1" (9 : Nat) ({ cls := "java/lang/String", name := "checkIndex", desc := "(II)V" } : Jvm.MethodName)) ∈ lw_all := lw_g (lw_at lw_m3 77 rfl) rfl

/-! SwapBook$Scan -/
set_option maxRecDepth 100000
def RX1 : String := "SwapBook$Scan"
abbrev cX1_init : ByteArray := prog_8_method_1_code
def yX1_init : MethodName := ⟨RX1, "<init>", "([BLjava/lang/String;Ljava/lang/String;LSwapBook$Wrong;)V"⟩
def dkwX1_init_1 : List UInt8 := [181, 0, 22, 177]
abbrev dktX1_init_1 : List UInt8 := dkwX1_init_1 ++ []
def dkwX1_init_0 : List UInt8 := [42, 183, 0, 3, 42, 43, 181, 0, 9, 42, 44, 181, 0, 15, 42, 45, 181, 0, 19, 42, 25, 4]
abbrev dktX1_init_0 : List UInt8 := dkwX1_init_0 ++ dktX1_init_1
theorem dksX1_init_0 : cX1_init.data.toList.drop 0 = dktX1_init_0 := by decide +kernel
theorem dksX1_init_1 : cX1_init.data.toList.drop 22 = dktX1_init_1 := dk_seg dksX1_init_0 22 rfl rfl
theorem dX1_init_0 : decode cX1_init 0 = .ok (.aload_n 0, 1) := dk_42 (dk_at dksX1_init_0 0 rfl rfl)
theorem dX1_init_1 : decode cX1_init 1 = .ok (.invokespecial 3, 3) := dk_183 0 3 (dk_at dksX1_init_0 1 rfl rfl)
theorem dX1_init_4 : decode cX1_init 4 = .ok (.aload_n 0, 1) := dk_42 (dk_at dksX1_init_0 4 rfl rfl)
theorem dX1_init_5 : decode cX1_init 5 = .ok (.aload_n 1, 1) := dk_43 (dk_at dksX1_init_0 5 rfl rfl)
theorem dX1_init_6 : decode cX1_init 6 = .ok (.putfield 9, 3) := dk_181 0 9 (dk_at dksX1_init_0 6 rfl rfl)
theorem dX1_init_9 : decode cX1_init 9 = .ok (.aload_n 0, 1) := dk_42 (dk_at dksX1_init_0 9 rfl rfl)
theorem dX1_init_10 : decode cX1_init 10 = .ok (.aload_n 2, 1) := dk_44 (dk_at dksX1_init_0 10 rfl rfl)
theorem dX1_init_11 : decode cX1_init 11 = .ok (.putfield 15, 3) := dk_181 0 15 (dk_at dksX1_init_0 11 rfl rfl)
theorem dX1_init_14 : decode cX1_init 14 = .ok (.aload_n 0, 1) := dk_42 (dk_at dksX1_init_0 14 rfl rfl)
theorem dX1_init_15 : decode cX1_init 15 = .ok (.aload_n 3, 1) := dk_45 (dk_at dksX1_init_0 15 rfl rfl)
theorem dX1_init_16 : decode cX1_init 16 = .ok (.putfield 19, 3) := dk_181 0 19 (dk_at dksX1_init_0 16 rfl rfl)
theorem dX1_init_19 : decode cX1_init 19 = .ok (.aload_n 0, 1) := dk_42 (dk_at dksX1_init_0 19 rfl rfl)
theorem dX1_init_20 : decode cX1_init 20 = .ok (.aload 4, 2) := dk_25 4 (dk_at dksX1_init_0 20 rfl rfl)
theorem dX1_init_22 : decode cX1_init 22 = .ok (.putfield 22, 3) := dk_181 0 22 (dk_at dksX1_init_1 0 rfl rfl)
theorem dX1_init_25 : decode cX1_init 25 = .ok (.return_, 1) := dk_177 (dk_at dksX1_init_1 3 rfl rfl)
abbrev cX1_begin : ByteArray := prog_8_method_2_code
def yX1_begin : MethodName := ⟨RX1, "begin", "(I)V"⟩
def dkwX1_begin_0 : List UInt8 := [42, 27, 181, 0, 26, 42, 3, 181, 0, 30, 42, 182, 0, 33, 177]
abbrev dktX1_begin_0 : List UInt8 := dkwX1_begin_0 ++ []
theorem dksX1_begin_0 : cX1_begin.data.toList.drop 0 = dktX1_begin_0 := by decide +kernel
theorem dX1_begin_0 : decode cX1_begin 0 = .ok (.aload_n 0, 1) := dk_42 (dk_at dksX1_begin_0 0 rfl rfl)
theorem dX1_begin_1 : decode cX1_begin 1 = .ok (.iload_n 1, 1) := dk_27 (dk_at dksX1_begin_0 1 rfl rfl)
theorem dX1_begin_2 : decode cX1_begin 2 = .ok (.putfield 26, 3) := dk_181 0 26 (dk_at dksX1_begin_0 2 rfl rfl)
theorem dX1_begin_5 : decode cX1_begin 5 = .ok (.aload_n 0, 1) := dk_42 (dk_at dksX1_begin_0 5 rfl rfl)
theorem dX1_begin_6 : decode cX1_begin 6 = .ok (.iconst 0, 1) := dk_3 (dk_at dksX1_begin_0 6 rfl rfl)
theorem dX1_begin_7 : decode cX1_begin 7 = .ok (.putfield 30, 3) := dk_181 0 30 (dk_at dksX1_begin_0 7 rfl rfl)
theorem dX1_begin_10 : decode cX1_begin 10 = .ok (.aload_n 0, 1) := dk_42 (dk_at dksX1_begin_0 10 rfl rfl)
theorem dX1_begin_11 : decode cX1_begin 11 = .ok (.invokevirtual 33, 3) := dk_182 0 33 (dk_at dksX1_begin_0 11 rfl rfl)
theorem dX1_begin_14 : decode cX1_begin 14 = .ok (.return_, 1) := dk_177 (dk_at dksX1_begin_0 14 rfl rfl)
abbrev cX1_next : ByteArray := prog_8_method_7_code
def yX1_next : MethodName := ⟨RX1, "next", "()V"⟩
def dkwX1_next_10 : List UInt8 := [181, 0, 56, 177]
abbrev dktX1_next_10 : List UInt8 := dkwX1_next_10 ++ []
def dkwX1_next_9 : List UInt8 := [89, 180, 0, 30, 4, 96, 181, 0, 30, 42, 42, 27, 182, 0, 73, 153, 0, 7, 7, 167, 0, 4, 4]
abbrev dktX1_next_9 : List UInt8 := dkwX1_next_9 ++ dktX1_next_10
def dkwX1_next_8 : List UInt8 := [180, 0, 30, 42, 180, 0, 50, 100, 7, 164, 0, 7, 4, 167, 0, 4, 6, 181, 0, 56, 167, 0, 30, 42]
abbrev dktX1_next_8 : List UInt8 := dkwX1_next_8 ++ dktX1_next_9
def dkwX1_next_7 : List UInt8 := [100, 184, 0, 67, 181, 0, 53, 42, 89, 180, 0, 30, 4, 96, 181, 0, 30, 167, 255, 204, 42, 42]
abbrev dktX1_next_7 : List UInt8 := dkwX1_next_7 ++ dktX1_next_8
def dkwX1_next_6 : List UInt8 := [153, 0, 44, 42, 18, 66, 16, 10, 42, 180, 0, 53, 104, 42, 42, 180, 0, 30, 182, 0, 46, 96, 16, 48]
abbrev dktX1_next_6 : List UInt8 := dkwX1_next_6 ++ dktX1_next_7
def dkwX1_next_5 : List UInt8 := [184, 0, 63, 153, 0, 88, 42, 3, 181, 0, 53, 42, 42, 180, 0, 30, 182, 0, 46, 184, 0, 63]
abbrev dktX1_next_5 : List UInt8 := dkwX1_next_5 ++ dktX1_next_6
def dkwX1_next_4 : List UInt8 := [42, 89, 180, 0, 30, 4, 96, 181, 0, 30, 167, 255, 232, 42, 5, 181, 0, 56, 167, 0, 122, 27]
abbrev dktX1_next_4 : List UInt8 := dkwX1_next_4 ++ dktX1_next_5
def dkwX1_next_3 : List UInt8 := [167, 0, 164, 27, 184, 0, 59, 153, 0, 38, 42, 42, 180, 0, 30, 182, 0, 46, 184, 0, 59, 153, 0, 16]
abbrev dktX1_next_3 : List UInt8 := dkwX1_next_3 ++ dktX1_next_4
def dkwX1_next_2 : List UInt8 := [42, 42, 180, 0, 30, 182, 0, 46, 60, 42, 27, 181, 0, 53, 27, 2, 160, 0, 11, 42, 3, 181, 0, 56]
abbrev dktX1_next_2 : List UInt8 := dkwX1_next_2 ++ dktX1_next_3
def dkwX1_next_1 : List UInt8 := [160, 0, 16, 42, 89, 180, 0, 30, 4, 96, 181, 0, 30, 167, 255, 220, 42, 42, 180, 0, 30, 181, 0, 50]
abbrev dktX1_next_1 : List UInt8 := dkwX1_next_1 ++ dktX1_next_2
def dkwX1_next_0 : List UInt8 := [42, 42, 180, 0, 30, 182, 0, 46, 16, 32, 159, 0, 16, 42, 42, 180, 0, 30, 182, 0, 46, 16, 10]
abbrev dktX1_next_0 : List UInt8 := dkwX1_next_0 ++ dktX1_next_1
theorem dksX1_next_0 : cX1_next.data.toList.drop 0 = dktX1_next_0 := by decide +kernel
theorem dksX1_next_1 : cX1_next.data.toList.drop 23 = dktX1_next_1 := dk_seg dksX1_next_0 23 rfl rfl
theorem dksX1_next_2 : cX1_next.data.toList.drop 47 = dktX1_next_2 := dk_seg dksX1_next_1 24 rfl rfl
theorem dksX1_next_3 : cX1_next.data.toList.drop 71 = dktX1_next_3 := dk_seg dksX1_next_2 24 rfl rfl
theorem dksX1_next_4 : cX1_next.data.toList.drop 95 = dktX1_next_4 := dk_seg dksX1_next_3 24 rfl rfl
theorem dksX1_next_5 : cX1_next.data.toList.drop 117 = dktX1_next_5 := dk_seg dksX1_next_4 22 rfl rfl
theorem dksX1_next_6 : cX1_next.data.toList.drop 139 = dktX1_next_6 := dk_seg dksX1_next_5 22 rfl rfl
theorem dksX1_next_7 : cX1_next.data.toList.drop 163 = dktX1_next_7 := dk_seg dksX1_next_6 24 rfl rfl
theorem dksX1_next_8 : cX1_next.data.toList.drop 185 = dktX1_next_8 := dk_seg dksX1_next_7 22 rfl rfl
theorem dksX1_next_9 : cX1_next.data.toList.drop 209 = dktX1_next_9 := dk_seg dksX1_next_8 24 rfl rfl
theorem dksX1_next_10 : cX1_next.data.toList.drop 232 = dktX1_next_10 := dk_seg dksX1_next_9 23 rfl rfl
theorem dX1_next_0 : decode cX1_next 0 = .ok (.aload_n 0, 1) := dk_42 (dk_at dksX1_next_0 0 rfl rfl)
theorem dX1_next_1 : decode cX1_next 1 = .ok (.aload_n 0, 1) := dk_42 (dk_at dksX1_next_0 1 rfl rfl)
theorem dX1_next_2 : decode cX1_next 2 = .ok (.getfield 30, 3) := dk_180 0 30 (dk_at dksX1_next_0 2 rfl rfl)
theorem dX1_next_5 : decode cX1_next 5 = .ok (.invokevirtual 46, 3) := dk_182 0 46 (dk_at dksX1_next_0 5 rfl rfl)
theorem dX1_next_8 : decode cX1_next 8 = .ok (.bipush 32, 2) := dk_16 32 (dk_at dksX1_next_0 8 rfl rfl)
theorem dX1_next_10 : decode cX1_next 10 = .ok (.if_icmp .eq 16, 3) := dk_159 0 16 (dk_at dksX1_next_0 10 rfl rfl)
theorem dX1_next_13 : decode cX1_next 13 = .ok (.aload_n 0, 1) := dk_42 (dk_at dksX1_next_0 13 rfl rfl)
theorem dX1_next_14 : decode cX1_next 14 = .ok (.aload_n 0, 1) := dk_42 (dk_at dksX1_next_0 14 rfl rfl)
theorem dX1_next_15 : decode cX1_next 15 = .ok (.getfield 30, 3) := dk_180 0 30 (dk_at dksX1_next_0 15 rfl rfl)
theorem dX1_next_18 : decode cX1_next 18 = .ok (.invokevirtual 46, 3) := dk_182 0 46 (dk_at dksX1_next_0 18 rfl rfl)
theorem dX1_next_21 : decode cX1_next 21 = .ok (.bipush 10, 2) := dk_16 10 (dk_at dksX1_next_0 21 rfl rfl)
theorem dX1_next_23 : decode cX1_next 23 = .ok (.if_icmp .ne 16, 3) := dk_160 0 16 (dk_at dksX1_next_1 0 rfl rfl)
theorem dX1_next_26 : decode cX1_next 26 = .ok (.aload_n 0, 1) := dk_42 (dk_at dksX1_next_1 3 rfl rfl)
theorem dX1_next_27 : decode cX1_next 27 = .ok (.dup, 1) := dk_89 (dk_at dksX1_next_1 4 rfl rfl)
theorem dX1_next_28 : decode cX1_next 28 = .ok (.getfield 30, 3) := dk_180 0 30 (dk_at dksX1_next_1 5 rfl rfl)
theorem dX1_next_31 : decode cX1_next 31 = .ok (.iconst 1, 1) := dk_4 (dk_at dksX1_next_1 8 rfl rfl)
theorem dX1_next_32 : decode cX1_next 32 = .ok (.iadd, 1) := dk_96 (dk_at dksX1_next_1 9 rfl rfl)
theorem dX1_next_33 : decode cX1_next 33 = .ok (.putfield 30, 3) := dk_181 0 30 (dk_at dksX1_next_1 10 rfl rfl)
theorem dX1_next_36 : decode cX1_next 36 = .ok (.goto (-36), 3) := dk_167 255 220 (dk_at dksX1_next_1 13 rfl rfl)
theorem dX1_next_39 : decode cX1_next 39 = .ok (.aload_n 0, 1) := dk_42 (dk_at dksX1_next_1 16 rfl rfl)
theorem dX1_next_40 : decode cX1_next 40 = .ok (.aload_n 0, 1) := dk_42 (dk_at dksX1_next_1 17 rfl rfl)
theorem dX1_next_41 : decode cX1_next 41 = .ok (.getfield 30, 3) := dk_180 0 30 (dk_at dksX1_next_1 18 rfl rfl)
theorem dX1_next_44 : decode cX1_next 44 = .ok (.putfield 50, 3) := dk_181 0 50 (dk_at dksX1_next_1 21 rfl rfl)
theorem dX1_next_47 : decode cX1_next 47 = .ok (.aload_n 0, 1) := dk_42 (dk_at dksX1_next_2 0 rfl rfl)
theorem dX1_next_48 : decode cX1_next 48 = .ok (.aload_n 0, 1) := dk_42 (dk_at dksX1_next_2 1 rfl rfl)
theorem dX1_next_49 : decode cX1_next 49 = .ok (.getfield 30, 3) := dk_180 0 30 (dk_at dksX1_next_2 2 rfl rfl)
theorem dX1_next_52 : decode cX1_next 52 = .ok (.invokevirtual 46, 3) := dk_182 0 46 (dk_at dksX1_next_2 5 rfl rfl)
theorem dX1_next_55 : decode cX1_next 55 = .ok (.istore_n 1, 1) := dk_60 (dk_at dksX1_next_2 8 rfl rfl)
theorem dX1_next_56 : decode cX1_next 56 = .ok (.aload_n 0, 1) := dk_42 (dk_at dksX1_next_2 9 rfl rfl)
theorem dX1_next_57 : decode cX1_next 57 = .ok (.iload_n 1, 1) := dk_27 (dk_at dksX1_next_2 10 rfl rfl)
theorem dX1_next_58 : decode cX1_next 58 = .ok (.putfield 53, 3) := dk_181 0 53 (dk_at dksX1_next_2 11 rfl rfl)
theorem dX1_next_61 : decode cX1_next 61 = .ok (.iload_n 1, 1) := dk_27 (dk_at dksX1_next_2 14 rfl rfl)
theorem dX1_next_62 : decode cX1_next 62 = .ok (.iconst (-1), 1) := dk_2 (dk_at dksX1_next_2 15 rfl rfl)
theorem dX1_next_63 : decode cX1_next 63 = .ok (.if_icmp .ne 11, 3) := dk_160 0 11 (dk_at dksX1_next_2 16 rfl rfl)
theorem dX1_next_66 : decode cX1_next 66 = .ok (.aload_n 0, 1) := dk_42 (dk_at dksX1_next_2 19 rfl rfl)
theorem dX1_next_67 : decode cX1_next 67 = .ok (.iconst 0, 1) := dk_3 (dk_at dksX1_next_2 20 rfl rfl)
theorem dX1_next_68 : decode cX1_next 68 = .ok (.putfield 56, 3) := dk_181 0 56 (dk_at dksX1_next_2 21 rfl rfl)
theorem dX1_next_71 : decode cX1_next 71 = .ok (.goto 164, 3) := dk_167 0 164 (dk_at dksX1_next_3 0 rfl rfl)
theorem dX1_next_74 : decode cX1_next 74 = .ok (.iload_n 1, 1) := dk_27 (dk_at dksX1_next_3 3 rfl rfl)
theorem dX1_next_75 : decode cX1_next 75 = .ok (.invokestatic 59, 3) := dk_184 0 59 (dk_at dksX1_next_3 4 rfl rfl)
theorem dX1_next_78 : decode cX1_next 78 = .ok (.ifCond .eq 38, 3) := dk_153 0 38 (dk_at dksX1_next_3 7 rfl rfl)
theorem dX1_next_81 : decode cX1_next 81 = .ok (.aload_n 0, 1) := dk_42 (dk_at dksX1_next_3 10 rfl rfl)
theorem dX1_next_82 : decode cX1_next 82 = .ok (.aload_n 0, 1) := dk_42 (dk_at dksX1_next_3 11 rfl rfl)
theorem dX1_next_83 : decode cX1_next 83 = .ok (.getfield 30, 3) := dk_180 0 30 (dk_at dksX1_next_3 12 rfl rfl)
theorem dX1_next_86 : decode cX1_next 86 = .ok (.invokevirtual 46, 3) := dk_182 0 46 (dk_at dksX1_next_3 15 rfl rfl)
theorem dX1_next_89 : decode cX1_next 89 = .ok (.invokestatic 59, 3) := dk_184 0 59 (dk_at dksX1_next_3 18 rfl rfl)
theorem dX1_next_92 : decode cX1_next 92 = .ok (.ifCond .eq 16, 3) := dk_153 0 16 (dk_at dksX1_next_3 21 rfl rfl)
theorem dX1_next_95 : decode cX1_next 95 = .ok (.aload_n 0, 1) := dk_42 (dk_at dksX1_next_4 0 rfl rfl)
theorem dX1_next_96 : decode cX1_next 96 = .ok (.dup, 1) := dk_89 (dk_at dksX1_next_4 1 rfl rfl)
theorem dX1_next_97 : decode cX1_next 97 = .ok (.getfield 30, 3) := dk_180 0 30 (dk_at dksX1_next_4 2 rfl rfl)
theorem dX1_next_100 : decode cX1_next 100 = .ok (.iconst 1, 1) := dk_4 (dk_at dksX1_next_4 5 rfl rfl)
theorem dX1_next_101 : decode cX1_next 101 = .ok (.iadd, 1) := dk_96 (dk_at dksX1_next_4 6 rfl rfl)
theorem dX1_next_102 : decode cX1_next 102 = .ok (.putfield 30, 3) := dk_181 0 30 (dk_at dksX1_next_4 7 rfl rfl)
theorem dX1_next_105 : decode cX1_next 105 = .ok (.goto (-24), 3) := dk_167 255 232 (dk_at dksX1_next_4 10 rfl rfl)
theorem dX1_next_108 : decode cX1_next 108 = .ok (.aload_n 0, 1) := dk_42 (dk_at dksX1_next_4 13 rfl rfl)
theorem dX1_next_109 : decode cX1_next 109 = .ok (.iconst 2, 1) := dk_5 (dk_at dksX1_next_4 14 rfl rfl)
theorem dX1_next_110 : decode cX1_next 110 = .ok (.putfield 56, 3) := dk_181 0 56 (dk_at dksX1_next_4 15 rfl rfl)
theorem dX1_next_113 : decode cX1_next 113 = .ok (.goto 122, 3) := dk_167 0 122 (dk_at dksX1_next_4 18 rfl rfl)
theorem dX1_next_116 : decode cX1_next 116 = .ok (.iload_n 1, 1) := dk_27 (dk_at dksX1_next_4 21 rfl rfl)
theorem dX1_next_117 : decode cX1_next 117 = .ok (.invokestatic 63, 3) := dk_184 0 63 (dk_at dksX1_next_5 0 rfl rfl)
theorem dX1_next_120 : decode cX1_next 120 = .ok (.ifCond .eq 88, 3) := dk_153 0 88 (dk_at dksX1_next_5 3 rfl rfl)
theorem dX1_next_123 : decode cX1_next 123 = .ok (.aload_n 0, 1) := dk_42 (dk_at dksX1_next_5 6 rfl rfl)
theorem dX1_next_124 : decode cX1_next 124 = .ok (.iconst 0, 1) := dk_3 (dk_at dksX1_next_5 7 rfl rfl)
theorem dX1_next_125 : decode cX1_next 125 = .ok (.putfield 53, 3) := dk_181 0 53 (dk_at dksX1_next_5 8 rfl rfl)
theorem dX1_next_128 : decode cX1_next 128 = .ok (.aload_n 0, 1) := dk_42 (dk_at dksX1_next_5 11 rfl rfl)
theorem dX1_next_129 : decode cX1_next 129 = .ok (.aload_n 0, 1) := dk_42 (dk_at dksX1_next_5 12 rfl rfl)
theorem dX1_next_130 : decode cX1_next 130 = .ok (.getfield 30, 3) := dk_180 0 30 (dk_at dksX1_next_5 13 rfl rfl)
theorem dX1_next_133 : decode cX1_next 133 = .ok (.invokevirtual 46, 3) := dk_182 0 46 (dk_at dksX1_next_5 16 rfl rfl)
theorem dX1_next_136 : decode cX1_next 136 = .ok (.invokestatic 63, 3) := dk_184 0 63 (dk_at dksX1_next_5 19 rfl rfl)
theorem dX1_next_139 : decode cX1_next 139 = .ok (.ifCond .eq 44, 3) := dk_153 0 44 (dk_at dksX1_next_6 0 rfl rfl)
theorem dX1_next_142 : decode cX1_next 142 = .ok (.aload_n 0, 1) := dk_42 (dk_at dksX1_next_6 3 rfl rfl)
theorem dX1_next_143 : decode cX1_next 143 = .ok (.ldc 66, 2) := dk_18 66 (dk_at dksX1_next_6 4 rfl rfl)
theorem dX1_next_145 : decode cX1_next 145 = .ok (.bipush 10, 2) := dk_16 10 (dk_at dksX1_next_6 6 rfl rfl)
theorem dX1_next_147 : decode cX1_next 147 = .ok (.aload_n 0, 1) := dk_42 (dk_at dksX1_next_6 8 rfl rfl)
theorem dX1_next_148 : decode cX1_next 148 = .ok (.getfield 53, 3) := dk_180 0 53 (dk_at dksX1_next_6 9 rfl rfl)
theorem dX1_next_151 : decode cX1_next 151 = .ok (.imul, 1) := dk_104 (dk_at dksX1_next_6 12 rfl rfl)
theorem dX1_next_152 : decode cX1_next 152 = .ok (.aload_n 0, 1) := dk_42 (dk_at dksX1_next_6 13 rfl rfl)
theorem dX1_next_153 : decode cX1_next 153 = .ok (.aload_n 0, 1) := dk_42 (dk_at dksX1_next_6 14 rfl rfl)
theorem dX1_next_154 : decode cX1_next 154 = .ok (.getfield 30, 3) := dk_180 0 30 (dk_at dksX1_next_6 15 rfl rfl)
theorem dX1_next_157 : decode cX1_next 157 = .ok (.invokevirtual 46, 3) := dk_182 0 46 (dk_at dksX1_next_6 18 rfl rfl)
theorem dX1_next_160 : decode cX1_next 160 = .ok (.iadd, 1) := dk_96 (dk_at dksX1_next_6 21 rfl rfl)
theorem dX1_next_161 : decode cX1_next 161 = .ok (.bipush 48, 2) := dk_16 48 (dk_at dksX1_next_6 22 rfl rfl)
theorem dX1_next_163 : decode cX1_next 163 = .ok (.isub, 1) := dk_100 (dk_at dksX1_next_7 0 rfl rfl)
theorem dX1_next_164 : decode cX1_next 164 = .ok (.invokestatic 67, 3) := dk_184 0 67 (dk_at dksX1_next_7 1 rfl rfl)
theorem dX1_next_167 : decode cX1_next 167 = .ok (.putfield 53, 3) := dk_181 0 53 (dk_at dksX1_next_7 4 rfl rfl)
theorem dX1_next_170 : decode cX1_next 170 = .ok (.aload_n 0, 1) := dk_42 (dk_at dksX1_next_7 7 rfl rfl)
theorem dX1_next_171 : decode cX1_next 171 = .ok (.dup, 1) := dk_89 (dk_at dksX1_next_7 8 rfl rfl)
theorem dX1_next_172 : decode cX1_next 172 = .ok (.getfield 30, 3) := dk_180 0 30 (dk_at dksX1_next_7 9 rfl rfl)
theorem dX1_next_175 : decode cX1_next 175 = .ok (.iconst 1, 1) := dk_4 (dk_at dksX1_next_7 12 rfl rfl)
theorem dX1_next_176 : decode cX1_next 176 = .ok (.iadd, 1) := dk_96 (dk_at dksX1_next_7 13 rfl rfl)
theorem dX1_next_177 : decode cX1_next 177 = .ok (.putfield 30, 3) := dk_181 0 30 (dk_at dksX1_next_7 14 rfl rfl)
theorem dX1_next_180 : decode cX1_next 180 = .ok (.goto (-52), 3) := dk_167 255 204 (dk_at dksX1_next_7 17 rfl rfl)
theorem dX1_next_183 : decode cX1_next 183 = .ok (.aload_n 0, 1) := dk_42 (dk_at dksX1_next_7 20 rfl rfl)
theorem dX1_next_184 : decode cX1_next 184 = .ok (.aload_n 0, 1) := dk_42 (dk_at dksX1_next_7 21 rfl rfl)
theorem dX1_next_185 : decode cX1_next 185 = .ok (.getfield 30, 3) := dk_180 0 30 (dk_at dksX1_next_8 0 rfl rfl)
theorem dX1_next_188 : decode cX1_next 188 = .ok (.aload_n 0, 1) := dk_42 (dk_at dksX1_next_8 3 rfl rfl)
theorem dX1_next_189 : decode cX1_next 189 = .ok (.getfield 50, 3) := dk_180 0 50 (dk_at dksX1_next_8 4 rfl rfl)
theorem dX1_next_192 : decode cX1_next 192 = .ok (.isub, 1) := dk_100 (dk_at dksX1_next_8 7 rfl rfl)
theorem dX1_next_193 : decode cX1_next 193 = .ok (.iconst 4, 1) := dk_7 (dk_at dksX1_next_8 8 rfl rfl)
theorem dX1_next_194 : decode cX1_next 194 = .ok (.if_icmp .le 7, 3) := dk_164 0 7 (dk_at dksX1_next_8 9 rfl rfl)
theorem dX1_next_197 : decode cX1_next 197 = .ok (.iconst 1, 1) := dk_4 (dk_at dksX1_next_8 12 rfl rfl)
theorem dX1_next_198 : decode cX1_next 198 = .ok (.goto 4, 3) := dk_167 0 4 (dk_at dksX1_next_8 13 rfl rfl)
theorem dX1_next_201 : decode cX1_next 201 = .ok (.iconst 3, 1) := dk_6 (dk_at dksX1_next_8 16 rfl rfl)
theorem dX1_next_202 : decode cX1_next 202 = .ok (.putfield 56, 3) := dk_181 0 56 (dk_at dksX1_next_8 17 rfl rfl)
theorem dX1_next_205 : decode cX1_next 205 = .ok (.goto 30, 3) := dk_167 0 30 (dk_at dksX1_next_8 20 rfl rfl)
theorem dX1_next_208 : decode cX1_next 208 = .ok (.aload_n 0, 1) := dk_42 (dk_at dksX1_next_8 23 rfl rfl)
theorem dX1_next_209 : decode cX1_next 209 = .ok (.dup, 1) := dk_89 (dk_at dksX1_next_9 0 rfl rfl)
theorem dX1_next_210 : decode cX1_next 210 = .ok (.getfield 30, 3) := dk_180 0 30 (dk_at dksX1_next_9 1 rfl rfl)
theorem dX1_next_213 : decode cX1_next 213 = .ok (.iconst 1, 1) := dk_4 (dk_at dksX1_next_9 4 rfl rfl)
theorem dX1_next_214 : decode cX1_next 214 = .ok (.iadd, 1) := dk_96 (dk_at dksX1_next_9 5 rfl rfl)
theorem dX1_next_215 : decode cX1_next 215 = .ok (.putfield 30, 3) := dk_181 0 30 (dk_at dksX1_next_9 6 rfl rfl)
theorem dX1_next_218 : decode cX1_next 218 = .ok (.aload_n 0, 1) := dk_42 (dk_at dksX1_next_9 9 rfl rfl)
theorem dX1_next_219 : decode cX1_next 219 = .ok (.aload_n 0, 1) := dk_42 (dk_at dksX1_next_9 10 rfl rfl)
theorem dX1_next_220 : decode cX1_next 220 = .ok (.iload_n 1, 1) := dk_27 (dk_at dksX1_next_9 11 rfl rfl)
theorem dX1_next_221 : decode cX1_next 221 = .ok (.invokevirtual 73, 3) := dk_182 0 73 (dk_at dksX1_next_9 12 rfl rfl)
theorem dX1_next_224 : decode cX1_next 224 = .ok (.ifCond .eq 7, 3) := dk_153 0 7 (dk_at dksX1_next_9 15 rfl rfl)
theorem dX1_next_227 : decode cX1_next 227 = .ok (.iconst 4, 1) := dk_7 (dk_at dksX1_next_9 18 rfl rfl)
theorem dX1_next_228 : decode cX1_next 228 = .ok (.goto 4, 3) := dk_167 0 4 (dk_at dksX1_next_9 19 rfl rfl)
theorem dX1_next_231 : decode cX1_next 231 = .ok (.iconst 1, 1) := dk_4 (dk_at dksX1_next_9 22 rfl rfl)
theorem dX1_next_232 : decode cX1_next 232 = .ok (.putfield 56, 3) := dk_181 0 56 (dk_at dksX1_next_10 0 rfl rfl)
theorem dX1_next_235 : decode cX1_next 235 = .ok (.return_, 1) := dk_177 (dk_at dksX1_next_10 3 rfl rfl)
abbrev cX1_at : ByteArray := prog_8_method_3_code
def yX1_at : MethodName := ⟨RX1, "at", "(I)I"⟩
def dkwX1_at_0 : List UInt8 := [27, 42, 180, 0, 26, 162, 0, 16, 42, 180, 0, 9, 27, 51, 17, 0, 255, 126, 167, 0, 4, 2, 172]
abbrev dktX1_at_0 : List UInt8 := dkwX1_at_0 ++ []
theorem dksX1_at_0 : cX1_at.data.toList.drop 0 = dktX1_at_0 := by decide +kernel
theorem dX1_at_0 : decode cX1_at 0 = .ok (.iload_n 1, 1) := dk_27 (dk_at dksX1_at_0 0 rfl rfl)
theorem dX1_at_1 : decode cX1_at 1 = .ok (.aload_n 0, 1) := dk_42 (dk_at dksX1_at_0 1 rfl rfl)
theorem dX1_at_2 : decode cX1_at 2 = .ok (.getfield 26, 3) := dk_180 0 26 (dk_at dksX1_at_0 2 rfl rfl)
theorem dX1_at_5 : decode cX1_at 5 = .ok (.if_icmp .ge 16, 3) := dk_162 0 16 (dk_at dksX1_at_0 5 rfl rfl)
theorem dX1_at_8 : decode cX1_at 8 = .ok (.aload_n 0, 1) := dk_42 (dk_at dksX1_at_0 8 rfl rfl)
theorem dX1_at_9 : decode cX1_at 9 = .ok (.getfield 9, 3) := dk_180 0 9 (dk_at dksX1_at_0 9 rfl rfl)
theorem dX1_at_12 : decode cX1_at 12 = .ok (.iload_n 1, 1) := dk_27 (dk_at dksX1_at_0 12 rfl rfl)
theorem dX1_at_13 : decode cX1_at 13 = .ok (.baload, 1) := dk_51 (dk_at dksX1_at_0 13 rfl rfl)
theorem dX1_at_14 : decode cX1_at 14 = .ok (.sipush 255, 3) := dk_17 0 255 (dk_at dksX1_at_0 14 rfl rfl)
theorem dX1_at_17 : decode cX1_at 17 = .ok (.iand, 1) := dk_126 (dk_at dksX1_at_0 17 rfl rfl)
theorem dX1_at_18 : decode cX1_at 18 = .ok (.goto 4, 3) := dk_167 0 4 (dk_at dksX1_at_0 18 rfl rfl)
theorem dX1_at_21 : decode cX1_at 21 = .ok (.iconst (-1), 1) := dk_2 (dk_at dksX1_at_0 21 rfl rfl)
theorem dX1_at_22 : decode cX1_at 22 = .ok (.ireturn, 1) := dk_172 (dk_at dksX1_at_0 22 rfl rfl)
abbrev cX1_isSmall : ByteArray := prog_8_method_5_code
def yX1_isSmall : MethodName := ⟨RX1, "isSmall", "(I)Z"⟩
def dkwX1_isSmall_0 : List UInt8 := [26, 16, 97, 161, 0, 13, 26, 16, 122, 163, 0, 7, 4, 167, 0, 4, 3, 172]
abbrev dktX1_isSmall_0 : List UInt8 := dkwX1_isSmall_0 ++ []
theorem dksX1_isSmall_0 : cX1_isSmall.data.toList.drop 0 = dktX1_isSmall_0 := by decide +kernel
theorem dX1_isSmall_0 : decode cX1_isSmall 0 = .ok (.iload_n 0, 1) := dk_26 (dk_at dksX1_isSmall_0 0 rfl rfl)
theorem dX1_isSmall_1 : decode cX1_isSmall 1 = .ok (.bipush 97, 2) := dk_16 97 (dk_at dksX1_isSmall_0 1 rfl rfl)
theorem dX1_isSmall_3 : decode cX1_isSmall 3 = .ok (.if_icmp .lt 13, 3) := dk_161 0 13 (dk_at dksX1_isSmall_0 3 rfl rfl)
theorem dX1_isSmall_6 : decode cX1_isSmall 6 = .ok (.iload_n 0, 1) := dk_26 (dk_at dksX1_isSmall_0 6 rfl rfl)
theorem dX1_isSmall_7 : decode cX1_isSmall 7 = .ok (.bipush 122, 2) := dk_16 122 (dk_at dksX1_isSmall_0 7 rfl rfl)
theorem dX1_isSmall_9 : decode cX1_isSmall 9 = .ok (.if_icmp .gt 7, 3) := dk_163 0 7 (dk_at dksX1_isSmall_0 9 rfl rfl)
theorem dX1_isSmall_12 : decode cX1_isSmall 12 = .ok (.iconst 1, 1) := dk_4 (dk_at dksX1_isSmall_0 12 rfl rfl)
theorem dX1_isSmall_13 : decode cX1_isSmall 13 = .ok (.goto 4, 3) := dk_167 0 4 (dk_at dksX1_isSmall_0 13 rfl rfl)
theorem dX1_isSmall_16 : decode cX1_isSmall 16 = .ok (.iconst 0, 1) := dk_3 (dk_at dksX1_isSmall_0 16 rfl rfl)
theorem dX1_isSmall_17 : decode cX1_isSmall 17 = .ok (.ireturn, 1) := dk_172 (dk_at dksX1_isSmall_0 17 rfl rfl)
abbrev cX1_isDigit : ByteArray := prog_8_method_4_code
def yX1_isDigit : MethodName := ⟨RX1, "isDigit", "(I)Z"⟩
def dkwX1_isDigit_0 : List UInt8 := [26, 16, 48, 161, 0, 13, 26, 16, 57, 163, 0, 7, 4, 167, 0, 4, 3, 172]
abbrev dktX1_isDigit_0 : List UInt8 := dkwX1_isDigit_0 ++ []
theorem dksX1_isDigit_0 : cX1_isDigit.data.toList.drop 0 = dktX1_isDigit_0 := by decide +kernel
theorem dX1_isDigit_0 : decode cX1_isDigit 0 = .ok (.iload_n 0, 1) := dk_26 (dk_at dksX1_isDigit_0 0 rfl rfl)
theorem dX1_isDigit_1 : decode cX1_isDigit 1 = .ok (.bipush 48, 2) := dk_16 48 (dk_at dksX1_isDigit_0 1 rfl rfl)
theorem dX1_isDigit_3 : decode cX1_isDigit 3 = .ok (.if_icmp .lt 13, 3) := dk_161 0 13 (dk_at dksX1_isDigit_0 3 rfl rfl)
theorem dX1_isDigit_6 : decode cX1_isDigit 6 = .ok (.iload_n 0, 1) := dk_26 (dk_at dksX1_isDigit_0 6 rfl rfl)
theorem dX1_isDigit_7 : decode cX1_isDigit 7 = .ok (.bipush 57, 2) := dk_16 57 (dk_at dksX1_isDigit_0 7 rfl rfl)
theorem dX1_isDigit_9 : decode cX1_isDigit 9 = .ok (.if_icmp .gt 7, 3) := dk_163 0 7 (dk_at dksX1_isDigit_0 9 rfl rfl)
theorem dX1_isDigit_12 : decode cX1_isDigit 12 = .ok (.iconst 1, 1) := dk_4 (dk_at dksX1_isDigit_0 12 rfl rfl)
theorem dX1_isDigit_13 : decode cX1_isDigit 13 = .ok (.goto 4, 3) := dk_167 0 4 (dk_at dksX1_isDigit_0 13 rfl rfl)
theorem dX1_isDigit_16 : decode cX1_isDigit 16 = .ok (.iconst 0, 1) := dk_3 (dk_at dksX1_isDigit_0 16 rfl rfl)
theorem dX1_isDigit_17 : decode cX1_isDigit 17 = .ok (.ireturn, 1) := dk_172 (dk_at dksX1_isDigit_0 17 rfl rfl)
abbrev cX1_isSign : ByteArray := prog_8_method_6_code
def yX1_isSign : MethodName := ⟨RX1, "isSign", "(I)Z"⟩
def dkwX1_isSign_1 : List UInt8 := [160, 0, 5, 4, 172, 132, 2, 1, 167, 255, 228, 3, 172]
abbrev dktX1_isSign_1 : List UInt8 := dkwX1_isSign_1 ++ []
def dkwX1_isSign_0 : List UInt8 := [3, 61, 28, 42, 180, 0, 19, 182, 0, 36, 162, 0, 23, 42, 180, 0, 19, 28, 182, 0, 42, 27]
abbrev dktX1_isSign_0 : List UInt8 := dkwX1_isSign_0 ++ dktX1_isSign_1
theorem dksX1_isSign_0 : cX1_isSign.data.toList.drop 0 = dktX1_isSign_0 := by decide +kernel
theorem dksX1_isSign_1 : cX1_isSign.data.toList.drop 22 = dktX1_isSign_1 := dk_seg dksX1_isSign_0 22 rfl rfl
theorem dX1_isSign_0 : decode cX1_isSign 0 = .ok (.iconst 0, 1) := dk_3 (dk_at dksX1_isSign_0 0 rfl rfl)
theorem dX1_isSign_1 : decode cX1_isSign 1 = .ok (.istore_n 2, 1) := dk_61 (dk_at dksX1_isSign_0 1 rfl rfl)
theorem dX1_isSign_2 : decode cX1_isSign 2 = .ok (.iload_n 2, 1) := dk_28 (dk_at dksX1_isSign_0 2 rfl rfl)
theorem dX1_isSign_3 : decode cX1_isSign 3 = .ok (.aload_n 0, 1) := dk_42 (dk_at dksX1_isSign_0 3 rfl rfl)
theorem dX1_isSign_4 : decode cX1_isSign 4 = .ok (.getfield 19, 3) := dk_180 0 19 (dk_at dksX1_isSign_0 4 rfl rfl)
theorem dX1_isSign_7 : decode cX1_isSign 7 = .ok (.invokevirtual 36, 3) := dk_182 0 36 (dk_at dksX1_isSign_0 7 rfl rfl)
theorem dX1_isSign_10 : decode cX1_isSign 10 = .ok (.if_icmp .ge 23, 3) := dk_162 0 23 (dk_at dksX1_isSign_0 10 rfl rfl)
theorem dX1_isSign_13 : decode cX1_isSign 13 = .ok (.aload_n 0, 1) := dk_42 (dk_at dksX1_isSign_0 13 rfl rfl)
theorem dX1_isSign_14 : decode cX1_isSign 14 = .ok (.getfield 19, 3) := dk_180 0 19 (dk_at dksX1_isSign_0 14 rfl rfl)
theorem dX1_isSign_17 : decode cX1_isSign 17 = .ok (.iload_n 2, 1) := dk_28 (dk_at dksX1_isSign_0 17 rfl rfl)
theorem dX1_isSign_18 : decode cX1_isSign 18 = .ok (.invokevirtual 42, 3) := dk_182 0 42 (dk_at dksX1_isSign_0 18 rfl rfl)
theorem dX1_isSign_21 : decode cX1_isSign 21 = .ok (.iload_n 1, 1) := dk_27 (dk_at dksX1_isSign_0 21 rfl rfl)
theorem dX1_isSign_22 : decode cX1_isSign 22 = .ok (.if_icmp .ne 5, 3) := dk_160 0 5 (dk_at dksX1_isSign_1 0 rfl rfl)
theorem dX1_isSign_25 : decode cX1_isSign 25 = .ok (.iconst 1, 1) := dk_4 (dk_at dksX1_isSign_1 3 rfl rfl)
theorem dX1_isSign_26 : decode cX1_isSign 26 = .ok (.ireturn, 1) := dk_172 (dk_at dksX1_isSign_1 4 rfl rfl)
theorem dX1_isSign_27 : decode cX1_isSign 27 = .ok (.iinc 2 1, 3) := dk_132 2 1 (dk_at dksX1_isSign_1 5 rfl rfl)
theorem dX1_isSign_30 : decode cX1_isSign 30 = .ok (.goto (-28), 3) := dk_167 255 228 (dk_at dksX1_isSign_1 8 rfl rfl)
theorem dX1_isSign_33 : decode cX1_isSign 33 = .ok (.iconst 0, 1) := dk_3 (dk_at dksX1_isSign_1 11 rfl rfl)
theorem dX1_isSign_34 : decode cX1_isSign 34 = .ok (.ireturn, 1) := dk_172 (dk_at dksX1_isSign_1 12 rfl rfl)
abbrev cX1_key : ByteArray := prog_8_method_10_code
def yX1_key : MethodName := ⟨RX1, "key", "()I"⟩
def dkwX1_key_0 : List UInt8 := [42, 42, 180, 0, 15, 182, 0, 86, 172]
abbrev dktX1_key_0 : List UInt8 := dkwX1_key_0 ++ []
theorem dksX1_key_0 : cX1_key.data.toList.drop 0 = dktX1_key_0 := by decide +kernel
theorem dX1_key_0 : decode cX1_key 0 = .ok (.aload_n 0, 1) := dk_42 (dk_at dksX1_key_0 0 rfl rfl)
theorem dX1_key_1 : decode cX1_key 1 = .ok (.aload_n 0, 1) := dk_42 (dk_at dksX1_key_0 1 rfl rfl)
theorem dX1_key_2 : decode cX1_key 2 = .ok (.getfield 15, 3) := dk_180 0 15 (dk_at dksX1_key_0 2 rfl rfl)
theorem dX1_key_5 : decode cX1_key 5 = .ok (.invokevirtual 86, 3) := dk_182 0 86 (dk_at dksX1_key_0 5 rfl rfl)
theorem dX1_key_8 : decode cX1_key 8 = .ok (.ireturn, 1) := dk_172 (dk_at dksX1_key_0 8 rfl rfl)
abbrev cX1_in : ByteArray := prog_8_method_11_code
def yX1_in : MethodName := ⟨RX1, "in", "(Ljava/lang/String;)I"⟩
def dkwX1_in_2 : List UInt8 := [182, 0, 90, 153, 0, 5, 28, 172, 132, 2, 1, 21, 4, 4, 96, 62, 167, 255, 207, 2, 172]
abbrev dktX1_in_2 : List UInt8 := dkwX1_in_2 ++ []
def dkwX1_in_1 : List UInt8 := [54, 4, 43, 21, 4, 182, 0, 42, 16, 32, 159, 0, 9, 132, 4, 1, 167, 255, 242, 42, 43, 29, 21, 4]
abbrev dktX1_in_1 : List UInt8 := dkwX1_in_1 ++ dktX1_in_2
def dkwX1_in_0 : List UInt8 := [42, 180, 0, 56, 5, 159, 0, 5, 2, 172, 3, 61, 4, 62, 29, 43, 182, 0, 36, 162, 0, 47, 29]
abbrev dktX1_in_0 : List UInt8 := dkwX1_in_0 ++ dktX1_in_1
theorem dksX1_in_0 : cX1_in.data.toList.drop 0 = dktX1_in_0 := by decide +kernel
theorem dksX1_in_1 : cX1_in.data.toList.drop 23 = dktX1_in_1 := dk_seg dksX1_in_0 23 rfl rfl
theorem dksX1_in_2 : cX1_in.data.toList.drop 47 = dktX1_in_2 := dk_seg dksX1_in_1 24 rfl rfl
theorem dX1_in_0 : decode cX1_in 0 = .ok (.aload_n 0, 1) := dk_42 (dk_at dksX1_in_0 0 rfl rfl)
theorem dX1_in_1 : decode cX1_in 1 = .ok (.getfield 56, 3) := dk_180 0 56 (dk_at dksX1_in_0 1 rfl rfl)
theorem dX1_in_4 : decode cX1_in 4 = .ok (.iconst 2, 1) := dk_5 (dk_at dksX1_in_0 4 rfl rfl)
theorem dX1_in_5 : decode cX1_in 5 = .ok (.if_icmp .eq 5, 3) := dk_159 0 5 (dk_at dksX1_in_0 5 rfl rfl)
theorem dX1_in_8 : decode cX1_in 8 = .ok (.iconst (-1), 1) := dk_2 (dk_at dksX1_in_0 8 rfl rfl)
theorem dX1_in_9 : decode cX1_in 9 = .ok (.ireturn, 1) := dk_172 (dk_at dksX1_in_0 9 rfl rfl)
theorem dX1_in_10 : decode cX1_in 10 = .ok (.iconst 0, 1) := dk_3 (dk_at dksX1_in_0 10 rfl rfl)
theorem dX1_in_11 : decode cX1_in 11 = .ok (.istore_n 2, 1) := dk_61 (dk_at dksX1_in_0 11 rfl rfl)
theorem dX1_in_12 : decode cX1_in 12 = .ok (.iconst 1, 1) := dk_4 (dk_at dksX1_in_0 12 rfl rfl)
theorem dX1_in_13 : decode cX1_in 13 = .ok (.istore_n 3, 1) := dk_62 (dk_at dksX1_in_0 13 rfl rfl)
theorem dX1_in_14 : decode cX1_in 14 = .ok (.iload_n 3, 1) := dk_29 (dk_at dksX1_in_0 14 rfl rfl)
theorem dX1_in_15 : decode cX1_in 15 = .ok (.aload_n 1, 1) := dk_43 (dk_at dksX1_in_0 15 rfl rfl)
theorem dX1_in_16 : decode cX1_in 16 = .ok (.invokevirtual 36, 3) := dk_182 0 36 (dk_at dksX1_in_0 16 rfl rfl)
theorem dX1_in_19 : decode cX1_in 19 = .ok (.if_icmp .ge 47, 3) := dk_162 0 47 (dk_at dksX1_in_0 19 rfl rfl)
theorem dX1_in_22 : decode cX1_in 22 = .ok (.iload_n 3, 1) := dk_29 (dk_at dksX1_in_0 22 rfl rfl)
theorem dX1_in_23 : decode cX1_in 23 = .ok (.istore 4, 2) := dk_54 4 (dk_at dksX1_in_1 0 rfl rfl)
theorem dX1_in_25 : decode cX1_in 25 = .ok (.aload_n 1, 1) := dk_43 (dk_at dksX1_in_1 2 rfl rfl)
theorem dX1_in_26 : decode cX1_in 26 = .ok (.iload 4, 2) := dk_21 4 (dk_at dksX1_in_1 3 rfl rfl)
theorem dX1_in_28 : decode cX1_in 28 = .ok (.invokevirtual 42, 3) := dk_182 0 42 (dk_at dksX1_in_1 5 rfl rfl)
theorem dX1_in_31 : decode cX1_in 31 = .ok (.bipush 32, 2) := dk_16 32 (dk_at dksX1_in_1 8 rfl rfl)
theorem dX1_in_33 : decode cX1_in 33 = .ok (.if_icmp .eq 9, 3) := dk_159 0 9 (dk_at dksX1_in_1 10 rfl rfl)
theorem dX1_in_36 : decode cX1_in 36 = .ok (.iinc 4 1, 3) := dk_132 4 1 (dk_at dksX1_in_1 13 rfl rfl)
theorem dX1_in_39 : decode cX1_in 39 = .ok (.goto (-14), 3) := dk_167 255 242 (dk_at dksX1_in_1 16 rfl rfl)
theorem dX1_in_42 : decode cX1_in 42 = .ok (.aload_n 0, 1) := dk_42 (dk_at dksX1_in_1 19 rfl rfl)
theorem dX1_in_43 : decode cX1_in 43 = .ok (.aload_n 1, 1) := dk_43 (dk_at dksX1_in_1 20 rfl rfl)
theorem dX1_in_44 : decode cX1_in 44 = .ok (.iload_n 3, 1) := dk_29 (dk_at dksX1_in_1 21 rfl rfl)
theorem dX1_in_45 : decode cX1_in 45 = .ok (.iload 4, 2) := dk_21 4 (dk_at dksX1_in_1 22 rfl rfl)
theorem dX1_in_47 : decode cX1_in 47 = .ok (.invokevirtual 90, 3) := dk_182 0 90 (dk_at dksX1_in_2 0 rfl rfl)
theorem dX1_in_50 : decode cX1_in 50 = .ok (.ifCond .eq 5, 3) := dk_153 0 5 (dk_at dksX1_in_2 3 rfl rfl)
theorem dX1_in_53 : decode cX1_in 53 = .ok (.iload_n 2, 1) := dk_28 (dk_at dksX1_in_2 6 rfl rfl)
theorem dX1_in_54 : decode cX1_in 54 = .ok (.ireturn, 1) := dk_172 (dk_at dksX1_in_2 7 rfl rfl)
theorem dX1_in_55 : decode cX1_in 55 = .ok (.iinc 2 1, 3) := dk_132 2 1 (dk_at dksX1_in_2 8 rfl rfl)
theorem dX1_in_58 : decode cX1_in 58 = .ok (.iload 4, 2) := dk_21 4 (dk_at dksX1_in_2 11 rfl rfl)
theorem dX1_in_60 : decode cX1_in 60 = .ok (.iconst 1, 1) := dk_4 (dk_at dksX1_in_2 13 rfl rfl)
theorem dX1_in_61 : decode cX1_in 61 = .ok (.iadd, 1) := dk_96 (dk_at dksX1_in_2 14 rfl rfl)
theorem dX1_in_62 : decode cX1_in 62 = .ok (.istore_n 3, 1) := dk_62 (dk_at dksX1_in_2 15 rfl rfl)
theorem dX1_in_63 : decode cX1_in 63 = .ok (.goto (-49), 3) := dk_167 255 207 (dk_at dksX1_in_2 16 rfl rfl)
theorem dX1_in_66 : decode cX1_in 66 = .ok (.iconst (-1), 1) := dk_2 (dk_at dksX1_in_2 19 rfl rfl)
theorem dX1_in_67 : decode cX1_in 67 = .ok (.ireturn, 1) := dk_172 (dk_at dksX1_in_2 20 rfl rfl)
abbrev cX1_isWord : ByteArray := prog_8_method_12_code
def yX1_isWord : MethodName := ⟨RX1, "isWord", "(Ljava/lang/String;II)Z"⟩
def dkwX1_isWord_2 : List UInt8 := [159, 0, 5, 3, 172, 132, 4, 1, 167, 255, 223, 4, 172]
abbrev dktX1_isWord_2 : List UInt8 := dkwX1_isWord_2 ++ []
def dkwX1_isWord_1 : List UInt8 := [162, 0, 33, 43, 21, 4, 182, 0, 42, 42, 42, 180, 0, 50, 21, 4, 96, 28, 100, 182, 0, 46]
abbrev dktX1_isWord_1 : List UInt8 := dkwX1_isWord_1 ++ dktX1_isWord_2
def dkwX1_isWord_0 : List UInt8 := [29, 28, 100, 42, 180, 0, 30, 42, 180, 0, 50, 100, 159, 0, 5, 3, 172, 28, 54, 4, 21, 4, 29]
abbrev dktX1_isWord_0 : List UInt8 := dkwX1_isWord_0 ++ dktX1_isWord_1
theorem dksX1_isWord_0 : cX1_isWord.data.toList.drop 0 = dktX1_isWord_0 := by decide +kernel
theorem dksX1_isWord_1 : cX1_isWord.data.toList.drop 23 = dktX1_isWord_1 := dk_seg dksX1_isWord_0 23 rfl rfl
theorem dksX1_isWord_2 : cX1_isWord.data.toList.drop 45 = dktX1_isWord_2 := dk_seg dksX1_isWord_1 22 rfl rfl
theorem dX1_isWord_0 : decode cX1_isWord 0 = .ok (.iload_n 3, 1) := dk_29 (dk_at dksX1_isWord_0 0 rfl rfl)
theorem dX1_isWord_1 : decode cX1_isWord 1 = .ok (.iload_n 2, 1) := dk_28 (dk_at dksX1_isWord_0 1 rfl rfl)
theorem dX1_isWord_2 : decode cX1_isWord 2 = .ok (.isub, 1) := dk_100 (dk_at dksX1_isWord_0 2 rfl rfl)
theorem dX1_isWord_3 : decode cX1_isWord 3 = .ok (.aload_n 0, 1) := dk_42 (dk_at dksX1_isWord_0 3 rfl rfl)
theorem dX1_isWord_4 : decode cX1_isWord 4 = .ok (.getfield 30, 3) := dk_180 0 30 (dk_at dksX1_isWord_0 4 rfl rfl)
theorem dX1_isWord_7 : decode cX1_isWord 7 = .ok (.aload_n 0, 1) := dk_42 (dk_at dksX1_isWord_0 7 rfl rfl)
theorem dX1_isWord_8 : decode cX1_isWord 8 = .ok (.getfield 50, 3) := dk_180 0 50 (dk_at dksX1_isWord_0 8 rfl rfl)
theorem dX1_isWord_11 : decode cX1_isWord 11 = .ok (.isub, 1) := dk_100 (dk_at dksX1_isWord_0 11 rfl rfl)
theorem dX1_isWord_12 : decode cX1_isWord 12 = .ok (.if_icmp .eq 5, 3) := dk_159 0 5 (dk_at dksX1_isWord_0 12 rfl rfl)
theorem dX1_isWord_15 : decode cX1_isWord 15 = .ok (.iconst 0, 1) := dk_3 (dk_at dksX1_isWord_0 15 rfl rfl)
theorem dX1_isWord_16 : decode cX1_isWord 16 = .ok (.ireturn, 1) := dk_172 (dk_at dksX1_isWord_0 16 rfl rfl)
theorem dX1_isWord_17 : decode cX1_isWord 17 = .ok (.iload_n 2, 1) := dk_28 (dk_at dksX1_isWord_0 17 rfl rfl)
theorem dX1_isWord_18 : decode cX1_isWord 18 = .ok (.istore 4, 2) := dk_54 4 (dk_at dksX1_isWord_0 18 rfl rfl)
theorem dX1_isWord_20 : decode cX1_isWord 20 = .ok (.iload 4, 2) := dk_21 4 (dk_at dksX1_isWord_0 20 rfl rfl)
theorem dX1_isWord_22 : decode cX1_isWord 22 = .ok (.iload_n 3, 1) := dk_29 (dk_at dksX1_isWord_0 22 rfl rfl)
theorem dX1_isWord_23 : decode cX1_isWord 23 = .ok (.if_icmp .ge 33, 3) := dk_162 0 33 (dk_at dksX1_isWord_1 0 rfl rfl)
theorem dX1_isWord_26 : decode cX1_isWord 26 = .ok (.aload_n 1, 1) := dk_43 (dk_at dksX1_isWord_1 3 rfl rfl)
theorem dX1_isWord_27 : decode cX1_isWord 27 = .ok (.iload 4, 2) := dk_21 4 (dk_at dksX1_isWord_1 4 rfl rfl)
theorem dX1_isWord_29 : decode cX1_isWord 29 = .ok (.invokevirtual 42, 3) := dk_182 0 42 (dk_at dksX1_isWord_1 6 rfl rfl)
theorem dX1_isWord_32 : decode cX1_isWord 32 = .ok (.aload_n 0, 1) := dk_42 (dk_at dksX1_isWord_1 9 rfl rfl)
theorem dX1_isWord_33 : decode cX1_isWord 33 = .ok (.aload_n 0, 1) := dk_42 (dk_at dksX1_isWord_1 10 rfl rfl)
theorem dX1_isWord_34 : decode cX1_isWord 34 = .ok (.getfield 50, 3) := dk_180 0 50 (dk_at dksX1_isWord_1 11 rfl rfl)
theorem dX1_isWord_37 : decode cX1_isWord 37 = .ok (.iload 4, 2) := dk_21 4 (dk_at dksX1_isWord_1 14 rfl rfl)
theorem dX1_isWord_39 : decode cX1_isWord 39 = .ok (.iadd, 1) := dk_96 (dk_at dksX1_isWord_1 16 rfl rfl)
theorem dX1_isWord_40 : decode cX1_isWord 40 = .ok (.iload_n 2, 1) := dk_28 (dk_at dksX1_isWord_1 17 rfl rfl)
theorem dX1_isWord_41 : decode cX1_isWord 41 = .ok (.isub, 1) := dk_100 (dk_at dksX1_isWord_1 18 rfl rfl)
theorem dX1_isWord_42 : decode cX1_isWord 42 = .ok (.invokevirtual 46, 3) := dk_182 0 46 (dk_at dksX1_isWord_1 19 rfl rfl)
theorem dX1_isWord_45 : decode cX1_isWord 45 = .ok (.if_icmp .eq 5, 3) := dk_159 0 5 (dk_at dksX1_isWord_2 0 rfl rfl)
theorem dX1_isWord_48 : decode cX1_isWord 48 = .ok (.iconst 0, 1) := dk_3 (dk_at dksX1_isWord_2 3 rfl rfl)
theorem dX1_isWord_49 : decode cX1_isWord 49 = .ok (.ireturn, 1) := dk_172 (dk_at dksX1_isWord_2 4 rfl rfl)
theorem dX1_isWord_50 : decode cX1_isWord 50 = .ok (.iinc 4 1, 3) := dk_132 4 1 (dk_at dksX1_isWord_2 5 rfl rfl)
theorem dX1_isWord_53 : decode cX1_isWord 53 = .ok (.goto (-33), 3) := dk_167 255 223 (dk_at dksX1_isWord_2 8 rfl rfl)
theorem dX1_isWord_56 : decode cX1_isWord 56 = .ok (.iconst 1, 1) := dk_4 (dk_at dksX1_isWord_2 11 rfl rfl)
theorem dX1_isWord_57 : decode cX1_isWord 57 = .ok (.ireturn, 1) := dk_172 (dk_at dksX1_isWord_2 12 rfl rfl)
abbrev cX1_need : ByteArray := prog_8_method_9_code
def yX1_need : MethodName := ⟨RX1, "need", "(Z)V"⟩
def dkwX1_need_0 : List UInt8 := [27, 154, 0, 9, 42, 5, 182, 0, 82, 191, 177]
abbrev dktX1_need_0 : List UInt8 := dkwX1_need_0 ++ []
theorem dksX1_need_0 : cX1_need.data.toList.drop 0 = dktX1_need_0 := by decide +kernel
theorem dX1_need_0 : decode cX1_need 0 = .ok (.iload_n 1, 1) := dk_27 (dk_at dksX1_need_0 0 rfl rfl)
theorem dX1_need_1 : decode cX1_need 1 = .ok (.ifCond .ne 9, 3) := dk_154 0 9 (dk_at dksX1_need_0 1 rfl rfl)
theorem dX1_need_4 : decode cX1_need 4 = .ok (.aload_n 0, 1) := dk_42 (dk_at dksX1_need_0 4 rfl rfl)
theorem dX1_need_5 : decode cX1_need 5 = .ok (.iconst 2, 1) := dk_5 (dk_at dksX1_need_0 5 rfl rfl)
theorem dX1_need_6 : decode cX1_need 6 = .ok (.invokevirtual 82, 3) := dk_182 0 82 (dk_at dksX1_need_0 6 rfl rfl)
theorem dX1_need_9 : decode cX1_need 9 = .ok (.athrow, 1) := dk_191 (dk_at dksX1_need_0 9 rfl rfl)
theorem dX1_need_10 : decode cX1_need 10 = .ok (.return_, 1) := dk_177 (dk_at dksX1_need_0 10 rfl rfl)
abbrev cX1_fail : ByteArray := prog_8_method_8_code
def yX1_fail : MethodName := ⟨RX1, "fail", "(I)LSwapBook$Wrong;"⟩
def dkwX1_fail_1 : List UInt8 := [176]
abbrev dktX1_fail_1 : List UInt8 := dkwX1_fail_1 ++ []
def dkwX1_fail_0 : List UInt8 := [42, 180, 0, 22, 42, 180, 0, 56, 4, 160, 0, 7, 4, 167, 0, 4, 27, 42, 180, 0, 50, 182, 0, 76]
abbrev dktX1_fail_0 : List UInt8 := dkwX1_fail_0 ++ dktX1_fail_1
theorem dksX1_fail_0 : cX1_fail.data.toList.drop 0 = dktX1_fail_0 := by decide +kernel
theorem dksX1_fail_1 : cX1_fail.data.toList.drop 24 = dktX1_fail_1 := dk_seg dksX1_fail_0 24 rfl rfl
theorem dX1_fail_0 : decode cX1_fail 0 = .ok (.aload_n 0, 1) := dk_42 (dk_at dksX1_fail_0 0 rfl rfl)
theorem dX1_fail_1 : decode cX1_fail 1 = .ok (.getfield 22, 3) := dk_180 0 22 (dk_at dksX1_fail_0 1 rfl rfl)
theorem dX1_fail_4 : decode cX1_fail 4 = .ok (.aload_n 0, 1) := dk_42 (dk_at dksX1_fail_0 4 rfl rfl)
theorem dX1_fail_5 : decode cX1_fail 5 = .ok (.getfield 56, 3) := dk_180 0 56 (dk_at dksX1_fail_0 5 rfl rfl)
theorem dX1_fail_8 : decode cX1_fail 8 = .ok (.iconst 1, 1) := dk_4 (dk_at dksX1_fail_0 8 rfl rfl)
theorem dX1_fail_9 : decode cX1_fail 9 = .ok (.if_icmp .ne 7, 3) := dk_160 0 7 (dk_at dksX1_fail_0 9 rfl rfl)
theorem dX1_fail_12 : decode cX1_fail 12 = .ok (.iconst 1, 1) := dk_4 (dk_at dksX1_fail_0 12 rfl rfl)
theorem dX1_fail_13 : decode cX1_fail 13 = .ok (.goto 4, 3) := dk_167 0 4 (dk_at dksX1_fail_0 13 rfl rfl)
theorem dX1_fail_16 : decode cX1_fail 16 = .ok (.iload_n 1, 1) := dk_27 (dk_at dksX1_fail_0 16 rfl rfl)
theorem dX1_fail_17 : decode cX1_fail 17 = .ok (.aload_n 0, 1) := dk_42 (dk_at dksX1_fail_0 17 rfl rfl)
theorem dX1_fail_18 : decode cX1_fail 18 = .ok (.getfield 50, 3) := dk_180 0 50 (dk_at dksX1_fail_0 18 rfl rfl)
theorem dX1_fail_21 : decode cX1_fail 21 = .ok (.invokevirtual 76, 3) := dk_182 0 76 (dk_at dksX1_fail_0 21 rfl rfl)
theorem dX1_fail_24 : decode cX1_fail 24 = .ok (.areturn, 1) := dk_176 (dk_at dksX1_fail_1 0 rfl rfl)
abbrev cX1_name : ByteArray := prog_8_method_14_code
def yX1_name : MethodName := ⟨RX1, "name", "()J"⟩
def dkwX1_name_3 : List UInt8 := [167, 255, 233, 31, 173]
abbrev dktX1_name_3 : List UInt8 := dkwX1_name_3 ++ []
def dkwX1_name_2 : List UInt8 := [29, 42, 180, 0, 30, 162, 0, 21, 31, 16, 8, 121, 42, 29, 182, 0, 46, 133, 129, 64, 132, 3, 1]
abbrev dktX1_name_2 : List UInt8 := dkwX1_name_2 ++ dktX1_name_3
def dkwX1_name_1 : List UInt8 := [18, 94, 182, 0, 86, 2, 160, 0, 7, 4, 167, 0, 4, 3, 182, 0, 96, 9, 64, 42, 180, 0, 50, 62]
abbrev dktX1_name_1 : List UInt8 := dkwX1_name_1 ++ dktX1_name_2
def dkwX1_name_0 : List UInt8 := [42, 42, 180, 0, 56, 5, 160, 0, 31, 42, 180, 0, 30, 42, 180, 0, 50, 100, 16, 8, 163, 0, 17, 42]
abbrev dktX1_name_0 : List UInt8 := dkwX1_name_0 ++ dktX1_name_1
theorem dksX1_name_0 : cX1_name.data.toList.drop 0 = dktX1_name_0 := by decide +kernel
theorem dksX1_name_1 : cX1_name.data.toList.drop 24 = dktX1_name_1 := dk_seg dksX1_name_0 24 rfl rfl
theorem dksX1_name_2 : cX1_name.data.toList.drop 48 = dktX1_name_2 := dk_seg dksX1_name_1 24 rfl rfl
theorem dksX1_name_3 : cX1_name.data.toList.drop 71 = dktX1_name_3 := dk_seg dksX1_name_2 23 rfl rfl
theorem dX1_name_0 : decode cX1_name 0 = .ok (.aload_n 0, 1) := dk_42 (dk_at dksX1_name_0 0 rfl rfl)
theorem dX1_name_1 : decode cX1_name 1 = .ok (.aload_n 0, 1) := dk_42 (dk_at dksX1_name_0 1 rfl rfl)
theorem dX1_name_2 : decode cX1_name 2 = .ok (.getfield 56, 3) := dk_180 0 56 (dk_at dksX1_name_0 2 rfl rfl)
theorem dX1_name_5 : decode cX1_name 5 = .ok (.iconst 2, 1) := dk_5 (dk_at dksX1_name_0 5 rfl rfl)
theorem dX1_name_6 : decode cX1_name 6 = .ok (.if_icmp .ne 31, 3) := dk_160 0 31 (dk_at dksX1_name_0 6 rfl rfl)
theorem dX1_name_9 : decode cX1_name 9 = .ok (.aload_n 0, 1) := dk_42 (dk_at dksX1_name_0 9 rfl rfl)
theorem dX1_name_10 : decode cX1_name 10 = .ok (.getfield 30, 3) := dk_180 0 30 (dk_at dksX1_name_0 10 rfl rfl)
theorem dX1_name_13 : decode cX1_name 13 = .ok (.aload_n 0, 1) := dk_42 (dk_at dksX1_name_0 13 rfl rfl)
theorem dX1_name_14 : decode cX1_name 14 = .ok (.getfield 50, 3) := dk_180 0 50 (dk_at dksX1_name_0 14 rfl rfl)
theorem dX1_name_17 : decode cX1_name 17 = .ok (.isub, 1) := dk_100 (dk_at dksX1_name_0 17 rfl rfl)
theorem dX1_name_18 : decode cX1_name 18 = .ok (.bipush 8, 2) := dk_16 8 (dk_at dksX1_name_0 18 rfl rfl)
theorem dX1_name_20 : decode cX1_name 20 = .ok (.if_icmp .gt 17, 3) := dk_163 0 17 (dk_at dksX1_name_0 20 rfl rfl)
theorem dX1_name_23 : decode cX1_name 23 = .ok (.aload_n 0, 1) := dk_42 (dk_at dksX1_name_0 23 rfl rfl)
theorem dX1_name_24 : decode cX1_name 24 = .ok (.ldc 94, 2) := dk_18 94 (dk_at dksX1_name_1 0 rfl rfl)
theorem dX1_name_26 : decode cX1_name 26 = .ok (.invokevirtual 86, 3) := dk_182 0 86 (dk_at dksX1_name_1 2 rfl rfl)
theorem dX1_name_29 : decode cX1_name 29 = .ok (.iconst (-1), 1) := dk_2 (dk_at dksX1_name_1 5 rfl rfl)
theorem dX1_name_30 : decode cX1_name 30 = .ok (.if_icmp .ne 7, 3) := dk_160 0 7 (dk_at dksX1_name_1 6 rfl rfl)
theorem dX1_name_33 : decode cX1_name 33 = .ok (.iconst 1, 1) := dk_4 (dk_at dksX1_name_1 9 rfl rfl)
theorem dX1_name_34 : decode cX1_name 34 = .ok (.goto 4, 3) := dk_167 0 4 (dk_at dksX1_name_1 10 rfl rfl)
theorem dX1_name_37 : decode cX1_name 37 = .ok (.iconst 0, 1) := dk_3 (dk_at dksX1_name_1 13 rfl rfl)
theorem dX1_name_38 : decode cX1_name 38 = .ok (.invokevirtual 96, 3) := dk_182 0 96 (dk_at dksX1_name_1 14 rfl rfl)
theorem dX1_name_41 : decode cX1_name 41 = .ok (.lconst 0, 1) := dk_9 (dk_at dksX1_name_1 17 rfl rfl)
theorem dX1_name_42 : decode cX1_name 42 = .ok (.lstore_n 1, 1) := dk_64 (dk_at dksX1_name_1 18 rfl rfl)
theorem dX1_name_43 : decode cX1_name 43 = .ok (.aload_n 0, 1) := dk_42 (dk_at dksX1_name_1 19 rfl rfl)
theorem dX1_name_44 : decode cX1_name 44 = .ok (.getfield 50, 3) := dk_180 0 50 (dk_at dksX1_name_1 20 rfl rfl)
theorem dX1_name_47 : decode cX1_name 47 = .ok (.istore_n 3, 1) := dk_62 (dk_at dksX1_name_1 23 rfl rfl)
theorem dX1_name_48 : decode cX1_name 48 = .ok (.iload_n 3, 1) := dk_29 (dk_at dksX1_name_2 0 rfl rfl)
theorem dX1_name_49 : decode cX1_name 49 = .ok (.aload_n 0, 1) := dk_42 (dk_at dksX1_name_2 1 rfl rfl)
theorem dX1_name_50 : decode cX1_name 50 = .ok (.getfield 30, 3) := dk_180 0 30 (dk_at dksX1_name_2 2 rfl rfl)
theorem dX1_name_53 : decode cX1_name 53 = .ok (.if_icmp .ge 21, 3) := dk_162 0 21 (dk_at dksX1_name_2 5 rfl rfl)
theorem dX1_name_56 : decode cX1_name 56 = .ok (.lload_n 1, 1) := dk_31 (dk_at dksX1_name_2 8 rfl rfl)
theorem dX1_name_57 : decode cX1_name 57 = .ok (.bipush 8, 2) := dk_16 8 (dk_at dksX1_name_2 9 rfl rfl)
theorem dX1_name_59 : decode cX1_name 59 = .ok (.lshl, 1) := dk_121 (dk_at dksX1_name_2 11 rfl rfl)
theorem dX1_name_60 : decode cX1_name 60 = .ok (.aload_n 0, 1) := dk_42 (dk_at dksX1_name_2 12 rfl rfl)
theorem dX1_name_61 : decode cX1_name 61 = .ok (.iload_n 3, 1) := dk_29 (dk_at dksX1_name_2 13 rfl rfl)
theorem dX1_name_62 : decode cX1_name 62 = .ok (.invokevirtual 46, 3) := dk_182 0 46 (dk_at dksX1_name_2 14 rfl rfl)
theorem dX1_name_65 : decode cX1_name 65 = .ok (.i2l, 1) := dk_133 (dk_at dksX1_name_2 17 rfl rfl)
theorem dX1_name_66 : decode cX1_name 66 = .ok (.lor, 1) := dk_129 (dk_at dksX1_name_2 18 rfl rfl)
theorem dX1_name_67 : decode cX1_name 67 = .ok (.lstore_n 1, 1) := dk_64 (dk_at dksX1_name_2 19 rfl rfl)
theorem dX1_name_68 : decode cX1_name 68 = .ok (.iinc 3 1, 3) := dk_132 3 1 (dk_at dksX1_name_2 20 rfl rfl)
theorem dX1_name_71 : decode cX1_name 71 = .ok (.goto (-23), 3) := dk_167 255 233 (dk_at dksX1_name_3 0 rfl rfl)
theorem dX1_name_74 : decode cX1_name 74 = .ok (.lload_n 1, 1) := dk_31 (dk_at dksX1_name_3 3 rfl rfl)
theorem dX1_name_75 : decode cX1_name 75 = .ok (.lreturn, 1) := dk_173 (dk_at dksX1_name_3 4 rfl rfl)
abbrev cX1_passed : ByteArray := prog_8_method_16_code
def yX1_passed : MethodName := ⟨RX1, "passed", "(II)I"⟩
def dkwX1_passed_0 : List UInt8 := [42, 27, 28, 182, 0, 100, 62, 42, 182, 0, 33, 29, 172]
abbrev dktX1_passed_0 : List UInt8 := dkwX1_passed_0 ++ []
theorem dksX1_passed_0 : cX1_passed.data.toList.drop 0 = dktX1_passed_0 := by decide +kernel
theorem dX1_passed_0 : decode cX1_passed 0 = .ok (.aload_n 0, 1) := dk_42 (dk_at dksX1_passed_0 0 rfl rfl)
theorem dX1_passed_1 : decode cX1_passed 1 = .ok (.iload_n 1, 1) := dk_27 (dk_at dksX1_passed_0 1 rfl rfl)
theorem dX1_passed_2 : decode cX1_passed 2 = .ok (.iload_n 2, 1) := dk_28 (dk_at dksX1_passed_0 2 rfl rfl)
theorem dX1_passed_3 : decode cX1_passed 3 = .ok (.invokevirtual 100, 3) := dk_182 0 100 (dk_at dksX1_passed_0 3 rfl rfl)
theorem dX1_passed_6 : decode cX1_passed 6 = .ok (.istore_n 3, 1) := dk_62 (dk_at dksX1_passed_0 6 rfl rfl)
theorem dX1_passed_7 : decode cX1_passed 7 = .ok (.aload_n 0, 1) := dk_42 (dk_at dksX1_passed_0 7 rfl rfl)
theorem dX1_passed_8 : decode cX1_passed 8 = .ok (.invokevirtual 33, 3) := dk_182 0 33 (dk_at dksX1_passed_0 8 rfl rfl)
theorem dX1_passed_11 : decode cX1_passed 11 = .ok (.iload_n 3, 1) := dk_29 (dk_at dksX1_passed_0 11 rfl rfl)
theorem dX1_passed_12 : decode cX1_passed 12 = .ok (.ireturn, 1) := dk_172 (dk_at dksX1_passed_0 12 rfl rfl)
abbrev cX1_number : ByteArray := prog_8_method_15_code
def yX1_number : MethodName := ⟨RX1, "number", "(II)I"⟩
def dkwX1_number_1 : List UInt8 := [161, 0, 11, 42, 180, 0, 53, 28, 164, 0, 9, 42, 7, 182, 0, 82, 191, 42, 180, 0, 53, 172]
abbrev dktX1_number_1 : List UInt8 := dkwX1_number_1 ++ []
def dkwX1_number_0 : List UInt8 := [42, 42, 180, 0, 56, 6, 160, 0, 7, 4, 167, 0, 4, 3, 182, 0, 96, 42, 180, 0, 53, 27]
abbrev dktX1_number_0 : List UInt8 := dkwX1_number_0 ++ dktX1_number_1
theorem dksX1_number_0 : cX1_number.data.toList.drop 0 = dktX1_number_0 := by decide +kernel
theorem dksX1_number_1 : cX1_number.data.toList.drop 22 = dktX1_number_1 := dk_seg dksX1_number_0 22 rfl rfl
theorem dX1_number_0 : decode cX1_number 0 = .ok (.aload_n 0, 1) := dk_42 (dk_at dksX1_number_0 0 rfl rfl)
theorem dX1_number_1 : decode cX1_number 1 = .ok (.aload_n 0, 1) := dk_42 (dk_at dksX1_number_0 1 rfl rfl)
theorem dX1_number_2 : decode cX1_number 2 = .ok (.getfield 56, 3) := dk_180 0 56 (dk_at dksX1_number_0 2 rfl rfl)
theorem dX1_number_5 : decode cX1_number 5 = .ok (.iconst 3, 1) := dk_6 (dk_at dksX1_number_0 5 rfl rfl)
theorem dX1_number_6 : decode cX1_number 6 = .ok (.if_icmp .ne 7, 3) := dk_160 0 7 (dk_at dksX1_number_0 6 rfl rfl)
theorem dX1_number_9 : decode cX1_number 9 = .ok (.iconst 1, 1) := dk_4 (dk_at dksX1_number_0 9 rfl rfl)
theorem dX1_number_10 : decode cX1_number 10 = .ok (.goto 4, 3) := dk_167 0 4 (dk_at dksX1_number_0 10 rfl rfl)
theorem dX1_number_13 : decode cX1_number 13 = .ok (.iconst 0, 1) := dk_3 (dk_at dksX1_number_0 13 rfl rfl)
theorem dX1_number_14 : decode cX1_number 14 = .ok (.invokevirtual 96, 3) := dk_182 0 96 (dk_at dksX1_number_0 14 rfl rfl)
theorem dX1_number_17 : decode cX1_number 17 = .ok (.aload_n 0, 1) := dk_42 (dk_at dksX1_number_0 17 rfl rfl)
theorem dX1_number_18 : decode cX1_number 18 = .ok (.getfield 53, 3) := dk_180 0 53 (dk_at dksX1_number_0 18 rfl rfl)
theorem dX1_number_21 : decode cX1_number 21 = .ok (.iload_n 1, 1) := dk_27 (dk_at dksX1_number_0 21 rfl rfl)
theorem dX1_number_22 : decode cX1_number 22 = .ok (.if_icmp .lt 11, 3) := dk_161 0 11 (dk_at dksX1_number_1 0 rfl rfl)
theorem dX1_number_25 : decode cX1_number 25 = .ok (.aload_n 0, 1) := dk_42 (dk_at dksX1_number_1 3 rfl rfl)
theorem dX1_number_26 : decode cX1_number 26 = .ok (.getfield 53, 3) := dk_180 0 53 (dk_at dksX1_number_1 4 rfl rfl)
theorem dX1_number_29 : decode cX1_number 29 = .ok (.iload_n 2, 1) := dk_28 (dk_at dksX1_number_1 7 rfl rfl)
theorem dX1_number_30 : decode cX1_number 30 = .ok (.if_icmp .le 9, 3) := dk_164 0 9 (dk_at dksX1_number_1 8 rfl rfl)
theorem dX1_number_33 : decode cX1_number 33 = .ok (.aload_n 0, 1) := dk_42 (dk_at dksX1_number_1 11 rfl rfl)
theorem dX1_number_34 : decode cX1_number 34 = .ok (.iconst 4, 1) := dk_7 (dk_at dksX1_number_1 12 rfl rfl)
theorem dX1_number_35 : decode cX1_number 35 = .ok (.invokevirtual 82, 3) := dk_182 0 82 (dk_at dksX1_number_1 13 rfl rfl)
theorem dX1_number_38 : decode cX1_number 38 = .ok (.athrow, 1) := dk_191 (dk_at dksX1_number_1 16 rfl rfl)
theorem dX1_number_39 : decode cX1_number 39 = .ok (.aload_n 0, 1) := dk_42 (dk_at dksX1_number_1 17 rfl rfl)
theorem dX1_number_40 : decode cX1_number 40 = .ok (.getfield 53, 3) := dk_180 0 53 (dk_at dksX1_number_1 18 rfl rfl)
theorem dX1_number_43 : decode cX1_number 43 = .ok (.ireturn, 1) := dk_172 (dk_at dksX1_number_1 21 rfl rfl)
abbrev cX1_closes : ByteArray := prog_8_method_17_code
def yX1_closes : MethodName := ⟨RX1, "closes", "()V"⟩
def dkwX1_closes_0 : List UInt8 := [42, 42, 16, 59, 182, 0, 103, 182, 0, 96, 42, 182, 0, 33, 177]
abbrev dktX1_closes_0 : List UInt8 := dkwX1_closes_0 ++ []
theorem dksX1_closes_0 : cX1_closes.data.toList.drop 0 = dktX1_closes_0 := by decide +kernel
theorem dX1_closes_0 : decode cX1_closes 0 = .ok (.aload_n 0, 1) := dk_42 (dk_at dksX1_closes_0 0 rfl rfl)
theorem dX1_closes_1 : decode cX1_closes 1 = .ok (.aload_n 0, 1) := dk_42 (dk_at dksX1_closes_0 1 rfl rfl)
theorem dX1_closes_2 : decode cX1_closes 2 = .ok (.bipush 59, 2) := dk_16 59 (dk_at dksX1_closes_0 2 rfl rfl)
theorem dX1_closes_4 : decode cX1_closes 4 = .ok (.invokevirtual 103, 3) := dk_182 0 103 (dk_at dksX1_closes_0 4 rfl rfl)
theorem dX1_closes_7 : decode cX1_closes 7 = .ok (.invokevirtual 96, 3) := dk_182 0 96 (dk_at dksX1_closes_0 7 rfl rfl)
theorem dX1_closes_10 : decode cX1_closes 10 = .ok (.aload_n 0, 1) := dk_42 (dk_at dksX1_closes_0 10 rfl rfl)
theorem dX1_closes_11 : decode cX1_closes 11 = .ok (.invokevirtual 33, 3) := dk_182 0 33 (dk_at dksX1_closes_0 11 rfl rfl)
theorem dX1_closes_14 : decode cX1_closes 14 = .ok (.return_, 1) := dk_177 (dk_at dksX1_closes_0 14 rfl rfl)
abbrev cX1_is : ByteArray := prog_8_method_13_code
def yX1_is : MethodName := ⟨RX1, "is", "(I)Z"⟩
def dkwX1_is_0 : List UInt8 := [42, 180, 0, 56, 7, 160, 0, 15, 42, 180, 0, 53, 27, 160, 0, 7, 4, 167, 0, 4, 3, 172]
abbrev dktX1_is_0 : List UInt8 := dkwX1_is_0 ++ []
theorem dksX1_is_0 : cX1_is.data.toList.drop 0 = dktX1_is_0 := by decide +kernel
theorem dX1_is_0 : decode cX1_is 0 = .ok (.aload_n 0, 1) := dk_42 (dk_at dksX1_is_0 0 rfl rfl)
theorem dX1_is_1 : decode cX1_is 1 = .ok (.getfield 56, 3) := dk_180 0 56 (dk_at dksX1_is_0 1 rfl rfl)
theorem dX1_is_4 : decode cX1_is 4 = .ok (.iconst 4, 1) := dk_7 (dk_at dksX1_is_0 4 rfl rfl)
theorem dX1_is_5 : decode cX1_is 5 = .ok (.if_icmp .ne 15, 3) := dk_160 0 15 (dk_at dksX1_is_0 5 rfl rfl)
theorem dX1_is_8 : decode cX1_is 8 = .ok (.aload_n 0, 1) := dk_42 (dk_at dksX1_is_0 8 rfl rfl)
theorem dX1_is_9 : decode cX1_is 9 = .ok (.getfield 53, 3) := dk_180 0 53 (dk_at dksX1_is_0 9 rfl rfl)
theorem dX1_is_12 : decode cX1_is 12 = .ok (.iload_n 1, 1) := dk_27 (dk_at dksX1_is_0 12 rfl rfl)
theorem dX1_is_13 : decode cX1_is 13 = .ok (.if_icmp .ne 7, 3) := dk_160 0 7 (dk_at dksX1_is_0 13 rfl rfl)
theorem dX1_is_16 : decode cX1_is 16 = .ok (.iconst 1, 1) := dk_4 (dk_at dksX1_is_0 16 rfl rfl)
theorem dX1_is_17 : decode cX1_is 17 = .ok (.goto 4, 3) := dk_167 0 4 (dk_at dksX1_is_0 17 rfl rfl)
theorem dX1_is_20 : decode cX1_is 20 = .ok (.iconst 0, 1) := dk_3 (dk_at dksX1_is_0 20 rfl rfl)
theorem dX1_is_21 : decode cX1_is 21 = .ok (.ireturn, 1) := dk_172 (dk_at dksX1_is_0 21 rfl rfl)
theorem q146 : (Jvm.Cond.initialized "SwapBook$Scan") ∈ lw_all := lw_g (lw_at lw_m1 2 rfl) rfl
theorem q279 : (Jvm.Cond.instanceMethod ({ cls := "SwapBook$Scan", name := "<init>", desc := "([BLjava/lang/String;Ljava/lang/String;LSwapBook$Wrong;)V" } : Jvm.MethodName)) ∈ lw_all := lw_g (lw_at lw_m1 135 rfl) rfl
theorem q280 : (Jvm.Cond.code ({ cls := "SwapBook$Scan", name := "<init>", desc := "([BLjava/lang/String;Ljava/lang/String;LSwapBook$Wrong;)V" } : Jvm.MethodName) prog_8_method_1_code (5 : Nat) (Option.none : Option Jvm.ClassFile.FieldType)) ∈ lw_all := lw_g (lw_at lw_m1 136 rfl) rfl
theorem q281 : (Jvm.Cond.methodLink "SwapBook$Scan" (3 : Nat) ({ cls := "java/lang/Object", name := "<init>", desc := "()V" } : Jvm.MethodName)) ∈ lw_all := lw_g (lw_at lw_m1 137 rfl) rfl
theorem q291 : (Jvm.Cond.fieldLink "SwapBook$Scan" (9 : Nat) "SwapBook$Scan" "tape" "[B") ∈ lw_all := lw_g (lw_at lw_m1 147 rfl) rfl
theorem q294 : (Jvm.Cond.fieldLink "SwapBook$Scan" (26 : Nat) "SwapBook$Scan" "size" "I") ∈ lw_all := lw_g (lw_at lw_m1 150 rfl) rfl
theorem q297 : (Jvm.Cond.fieldLink "SwapBook$Scan" (56 : Nat) "SwapBook$Scan" "sort" "I") ∈ lw_all := lw_g (lw_at lw_m1 153 rfl) rfl
theorem q298 : (Jvm.Cond.fieldLink "SwapBook$Scan" (50 : Nat) "SwapBook$Scan" "from" "I") ∈ lw_all := lw_g (lw_at lw_m1 154 rfl) rfl
theorem q299 : (Jvm.Cond.fieldLink "SwapBook$Scan" (30 : Nat) "SwapBook$Scan" "end" "I") ∈ lw_all := lw_g (lw_at lw_m1 155 rfl) rfl
theorem q300 : (Jvm.Cond.fieldLink "SwapBook$Scan" (53 : Nat) "SwapBook$Scan" "value" "I") ∈ lw_all := lw_g (lw_at lw_m1 156 rfl) rfl
theorem q301 : (Jvm.Cond.fieldLink "SwapBook$Scan" (15 : Nat) "SwapBook$Scan" "keys" "Ljava/lang/String;") ∈ lw_all := lw_g (lw_at lw_m1 157 rfl) rfl
theorem q302 : (Jvm.Cond.fieldLink "SwapBook$Scan" (19 : Nat) "SwapBook$Scan" "signs" "Ljava/lang/String;") ∈ lw_all := lw_g (lw_at lw_m1 158 rfl) rfl
theorem q303 : (Jvm.Cond.fieldLink "SwapBook$Scan" (22 : Nat) "SwapBook$Scan" "wrong" "LSwapBook$Wrong;") ∈ lw_all := lw_g (lw_at lw_m1 159 rfl) rfl
theorem q319 : (Jvm.Cond.soleField "SwapBook$Scan" "tape") ∈ lw_all := lw_g (lw_at lw_m1 175 rfl) rfl
theorem q321 : (Jvm.Cond.soleField "SwapBook$Scan" "size") ∈ lw_all := lw_g (lw_at lw_m1 177 rfl) rfl
theorem q323 : (Jvm.Cond.soleField "SwapBook$Scan" "sort") ∈ lw_all := lw_g (lw_at lw_m1 179 rfl) rfl
theorem q325 : (Jvm.Cond.soleField "SwapBook$Scan" "from") ∈ lw_all := lw_g (lw_at lw_m1 181 rfl) rfl
theorem q327 : (Jvm.Cond.soleField "SwapBook$Scan" "end") ∈ lw_all := lw_g (lw_at lw_m1 183 rfl) rfl
theorem q329 : (Jvm.Cond.soleField "SwapBook$Scan" "value") ∈ lw_all := lw_g (lw_at lw_m1 185 rfl) rfl
theorem q331 : (Jvm.Cond.soleField "SwapBook$Scan" "keys") ∈ lw_all := lw_g (lw_at lw_m1 187 rfl) rfl
theorem q333 : (Jvm.Cond.soleField "SwapBook$Scan" "signs") ∈ lw_all := lw_g (lw_at lw_m1 189 rfl) rfl
theorem q335 : (Jvm.Cond.soleField "SwapBook$Scan" "wrong") ∈ lw_all := lw_g (lw_at lw_m1 191 rfl) rfl
theorem q653 : (Jvm.Cond.declares ({ cls := "SwapBook$Scan", name := "begin", desc := "(I)V" } : Jvm.MethodName)) ∈ lw_tbl := lw_at lw_m3 29 rfl
theorem q655 : (Jvm.Cond.instanceMethod ({ cls := "SwapBook$Scan", name := "begin", desc := "(I)V" } : Jvm.MethodName)) ∈ lw_all := lw_g (lw_at lw_m3 31 rfl) rfl
theorem q656 : (Jvm.Cond.code ({ cls := "SwapBook$Scan", name := "begin", desc := "(I)V" } : Jvm.MethodName) prog_8_method_2_code (2 : Nat) (Option.none : Option Jvm.ClassFile.FieldType)) ∈ lw_all := lw_g (lw_at lw_m3 32 rfl) rfl
theorem q657 : (Jvm.Cond.methodLink "SwapBook$Scan" (33 : Nat) ({ cls := "SwapBook$Scan", name := "next", desc := "()V" } : Jvm.MethodName)) ∈ lw_all := lw_g (lw_at lw_m3 33 rfl) rfl
theorem q658 : (Jvm.Cond.instanceMethod ({ cls := "SwapBook$Scan", name := "next", desc := "()V" } : Jvm.MethodName)) ∈ lw_all := lw_g (lw_at lw_m3 34 rfl) rfl
theorem q659 : (Jvm.Cond.sameMethod "SwapBook$Scan" "SwapBook$Scan" "next" "()V") ∈ lw_all := lw_g (lw_at lw_m3 35 rfl) rfl
theorem q661 : (Jvm.Cond.code ({ cls := "SwapBook$Scan", name := "next", desc := "()V" } : Jvm.MethodName) prog_8_method_7_code (2 : Nat) (Option.none : Option Jvm.ClassFile.FieldType)) ∈ lw_all := lw_g (lw_at lw_m3 37 rfl) rfl
theorem q662 : (Jvm.Cond.methodLink "SwapBook$Scan" (46 : Nat) ({ cls := "SwapBook$Scan", name := "at", desc := "(I)I" } : Jvm.MethodName)) ∈ lw_all := lw_g (lw_at lw_m3 38 rfl) rfl
theorem q663 : (Jvm.Cond.privateMethod ({ cls := "SwapBook$Scan", name := "at", desc := "(I)I" } : Jvm.MethodName)) ∈ lw_tbl := lw_at lw_m3 39 rfl
theorem q664 : (Jvm.Cond.instanceMethod ({ cls := "SwapBook$Scan", name := "at", desc := "(I)I" } : Jvm.MethodName)) ∈ lw_all := lw_g (lw_at lw_m3 40 rfl) rfl
theorem q665 : (Jvm.Cond.code ({ cls := "SwapBook$Scan", name := "at", desc := "(I)I" } : Jvm.MethodName) prog_8_method_3_code (2 : Nat) (Option.some Jvm.ClassFile.FieldType.int)) ∈ lw_all := lw_g (lw_at lw_m3 41 rfl) rfl
theorem q666 : (Jvm.Cond.methodLink "SwapBook$Scan" (59 : Nat) ({ cls := "SwapBook$Scan", name := "isSmall", desc := "(I)Z" } : Jvm.MethodName)) ∈ lw_all := lw_g (lw_at lw_m3 42 rfl) rfl
theorem q667 : (Jvm.Cond.static ({ cls := "SwapBook$Scan", name := "isSmall", desc := "(I)Z" } : Jvm.MethodName)) ∈ lw_all := lw_g (lw_at lw_m3 43 rfl) rfl
theorem q668 : (Jvm.Cond.code ({ cls := "SwapBook$Scan", name := "isSmall", desc := "(I)Z" } : Jvm.MethodName) prog_8_method_5_code (1 : Nat) (Option.some Jvm.ClassFile.FieldType.boolean)) ∈ lw_all := lw_g (lw_at lw_m3 44 rfl) rfl
theorem q669 : (Jvm.Cond.methodLink "SwapBook$Scan" (63 : Nat) ({ cls := "SwapBook$Scan", name := "isDigit", desc := "(I)Z" } : Jvm.MethodName)) ∈ lw_all := lw_g (lw_at lw_m3 45 rfl) rfl
theorem q670 : (Jvm.Cond.static ({ cls := "SwapBook$Scan", name := "isDigit", desc := "(I)Z" } : Jvm.MethodName)) ∈ lw_all := lw_g (lw_at lw_m3 46 rfl) rfl
theorem q671 : (Jvm.Cond.code ({ cls := "SwapBook$Scan", name := "isDigit", desc := "(I)Z" } : Jvm.MethodName) prog_8_method_4_code (1 : Nat) (Option.some Jvm.ClassFile.FieldType.boolean)) ∈ lw_all := lw_g (lw_at lw_m3 47 rfl) rfl
theorem q672 : (Jvm.Cond.constant "SwapBook$Scan" (66 : Nat) (100000 : Int32)) ∈ lw_all := lw_g (lw_at lw_m3 48 rfl) rfl
theorem q673 : (Jvm.Cond.methodLink "SwapBook$Scan" (67 : Nat) ({ cls := "java/lang/Math", name := "min", desc := "(II)I" } : Jvm.MethodName)) ∈ lw_all := lw_g (lw_at lw_m3 49 rfl) rfl
theorem q676 : (Jvm.Cond.methodLink "SwapBook$Scan" (73 : Nat) ({ cls := "SwapBook$Scan", name := "isSign", desc := "(I)Z" } : Jvm.MethodName)) ∈ lw_all := lw_g (lw_at lw_m3 52 rfl) rfl
theorem q677 : (Jvm.Cond.privateMethod ({ cls := "SwapBook$Scan", name := "isSign", desc := "(I)Z" } : Jvm.MethodName)) ∈ lw_tbl := lw_at lw_m3 53 rfl
theorem q678 : (Jvm.Cond.instanceMethod ({ cls := "SwapBook$Scan", name := "isSign", desc := "(I)Z" } : Jvm.MethodName)) ∈ lw_all := lw_g (lw_at lw_m3 54 rfl) rfl
theorem q679 : (Jvm.Cond.code ({ cls := "SwapBook$Scan", name := "isSign", desc := "(I)Z" } : Jvm.MethodName) prog_8_method_6_code (3 : Nat) (Option.some Jvm.ClassFile.FieldType.boolean)) ∈ lw_all := lw_g (lw_at lw_m3 55 rfl) rfl
theorem q680 : (Jvm.Cond.methodLink "SwapBook$Scan" (36 : Nat) ({ cls := "java/lang/String", name := "length", desc := "()I" } : Jvm.MethodName)) ∈ lw_all := lw_g (lw_at lw_m3 56 rfl) rfl
theorem q690 : (Jvm.Cond.methodLink "SwapBook$Scan" (42 : Nat) ({ cls := "java/lang/String", name := "charAt", desc := "(I)C" } : Jvm.MethodName)) ∈ lw_all := lw_g (lw_at lw_m3 66 rfl) rfl
theorem q734 : (Jvm.Cond.declares ({ cls := "SwapBook$Scan", name := "key", desc := "()I" } : Jvm.MethodName)) ∈ lw_tbl := lw_at lw_m3 110 rfl
theorem q736 : (Jvm.Cond.instanceMethod ({ cls := "SwapBook$Scan", name := "key", desc := "()I" } : Jvm.MethodName)) ∈ lw_all := lw_g (lw_at lw_m3 112 rfl) rfl
theorem q737 : (Jvm.Cond.code ({ cls := "SwapBook$Scan", name := "key", desc := "()I" } : Jvm.MethodName) prog_8_method_10_code (1 : Nat) (Option.some Jvm.ClassFile.FieldType.int)) ∈ lw_all := lw_g (lw_at lw_m3 113 rfl) rfl
theorem q738 : (Jvm.Cond.methodLink "SwapBook$Scan" (86 : Nat) ({ cls := "SwapBook$Scan", name := "in", desc := "(Ljava/lang/String;)I" } : Jvm.MethodName)) ∈ lw_all := lw_g (lw_at lw_m3 114 rfl) rfl
theorem q739 : (Jvm.Cond.instanceMethod ({ cls := "SwapBook$Scan", name := "in", desc := "(Ljava/lang/String;)I" } : Jvm.MethodName)) ∈ lw_all := lw_g (lw_at lw_m3 115 rfl) rfl
theorem q740 : (Jvm.Cond.sameMethod "SwapBook$Scan" "SwapBook$Scan" "in" "(Ljava/lang/String;)I") ∈ lw_all := lw_g (lw_at lw_m3 116 rfl) rfl
theorem q742 : (Jvm.Cond.code ({ cls := "SwapBook$Scan", name := "in", desc := "(Ljava/lang/String;)I" } : Jvm.MethodName) prog_8_method_11_code (5 : Nat) (Option.some Jvm.ClassFile.FieldType.int)) ∈ lw_all := lw_g (lw_at lw_m3 118 rfl) rfl
theorem q743 : (Jvm.Cond.methodLink "SwapBook$Scan" (90 : Nat) ({ cls := "SwapBook$Scan", name := "isWord", desc := "(Ljava/lang/String;II)Z" } : Jvm.MethodName)) ∈ lw_all := lw_g (lw_at lw_m3 119 rfl) rfl
theorem q744 : (Jvm.Cond.privateMethod ({ cls := "SwapBook$Scan", name := "isWord", desc := "(Ljava/lang/String;II)Z" } : Jvm.MethodName)) ∈ lw_tbl := lw_at lw_m3 120 rfl
theorem q745 : (Jvm.Cond.instanceMethod ({ cls := "SwapBook$Scan", name := "isWord", desc := "(Ljava/lang/String;II)Z" } : Jvm.MethodName)) ∈ lw_all := lw_g (lw_at lw_m3 121 rfl) rfl
theorem q746 : (Jvm.Cond.code ({ cls := "SwapBook$Scan", name := "isWord", desc := "(Ljava/lang/String;II)Z" } : Jvm.MethodName) prog_8_method_12_code (5 : Nat) (Option.some Jvm.ClassFile.FieldType.boolean)) ∈ lw_all := lw_g (lw_at lw_m3 122 rfl) rfl
theorem q749 : (Jvm.Cond.declares ({ cls := "SwapBook$Scan", name := "need", desc := "(Z)V" } : Jvm.MethodName)) ∈ lw_tbl := lw_at lw_m3 125 rfl
theorem q751 : (Jvm.Cond.instanceMethod ({ cls := "SwapBook$Scan", name := "need", desc := "(Z)V" } : Jvm.MethodName)) ∈ lw_all := lw_g (lw_at lw_m3 127 rfl) rfl
theorem q752 : (Jvm.Cond.code ({ cls := "SwapBook$Scan", name := "need", desc := "(Z)V" } : Jvm.MethodName) prog_8_method_9_code (2 : Nat) (Option.none : Option Jvm.ClassFile.FieldType)) ∈ lw_all := lw_g (lw_at lw_m3 128 rfl) rfl
theorem q753 : (Jvm.Cond.methodLink "SwapBook$Scan" (82 : Nat) ({ cls := "SwapBook$Scan", name := "fail", desc := "(I)LSwapBook$Wrong;" } : Jvm.MethodName)) ∈ lw_all := lw_g (lw_at lw_m3 129 rfl) rfl
theorem q754 : (Jvm.Cond.instanceMethod ({ cls := "SwapBook$Scan", name := "fail", desc := "(I)LSwapBook$Wrong;" } : Jvm.MethodName)) ∈ lw_all := lw_g (lw_at lw_m3 130 rfl) rfl
theorem q755 : (Jvm.Cond.sameMethod "SwapBook$Scan" "SwapBook$Scan" "fail" "(I)LSwapBook$Wrong;") ∈ lw_all := lw_g (lw_at lw_m3 131 rfl) rfl
theorem q757 : (Jvm.Cond.code ({ cls := "SwapBook$Scan", name := "fail", desc := "(I)LSwapBook$Wrong;" } : Jvm.MethodName) prog_8_method_8_code (2 : Nat) (Option.some (Jvm.ClassFile.FieldType.object "SwapBook$Wrong"))) ∈ lw_all := lw_g (lw_at lw_m3 133 rfl) rfl
theorem q758 : (Jvm.Cond.methodLink "SwapBook$Scan" (76 : Nat) ({ cls := "SwapBook$Wrong", name := "of", desc := "(II)LSwapBook$Wrong;" } : Jvm.MethodName)) ∈ lw_all := lw_g (lw_at lw_m3 134 rfl) rfl
theorem q764 : (Jvm.Cond.declares ({ cls := "SwapBook$Scan", name := "fail", desc := "(I)LSwapBook$Wrong;" } : Jvm.MethodName)) ∈ lw_tbl := lw_at lw_m3 140 rfl
theorem q768 : (Jvm.Cond.declares ({ cls := "SwapBook$Scan", name := "next", desc := "()V" } : Jvm.MethodName)) ∈ lw_tbl := lw_at lw_m3 144 rfl
theorem q776 : (Jvm.Cond.declares ({ cls := "SwapBook$Scan", name := "name", desc := "()J" } : Jvm.MethodName)) ∈ lw_tbl := lw_at lw_m3 152 rfl
theorem q778 : (Jvm.Cond.instanceMethod ({ cls := "SwapBook$Scan", name := "name", desc := "()J" } : Jvm.MethodName)) ∈ lw_all := lw_g (lw_at lw_m3 154 rfl) rfl
theorem q779 : (Jvm.Cond.code ({ cls := "SwapBook$Scan", name := "name", desc := "()J" } : Jvm.MethodName) prog_8_method_14_code (4 : Nat) (Option.some Jvm.ClassFile.FieldType.long)) ∈ lw_all := lw_g (lw_at lw_m3 155 rfl) rfl
theorem q780 : (Jvm.Cond.stringRef "SwapBook$Scan" (94 : Nat) " put take name move settle island key says of not after make ship out pick wait draw when loop stop end at to late twice has quiet day ") ∈ lw_tbl := lw_at lw_m3 156 rfl
theorem q781 : (Jvm.Cond.methodLink "SwapBook$Scan" (96 : Nat) ({ cls := "SwapBook$Scan", name := "need", desc := "(Z)V" } : Jvm.MethodName)) ∈ lw_all := lw_g (lw_at lw_m3 157 rfl) rfl
theorem q866 : (Jvm.Cond.declares ({ cls := "SwapBook$Scan", name := "passed", desc := "(II)I" } : Jvm.MethodName)) ∈ lw_tbl := lw_at lw_m4 2 rfl
theorem q868 : (Jvm.Cond.instanceMethod ({ cls := "SwapBook$Scan", name := "passed", desc := "(II)I" } : Jvm.MethodName)) ∈ lw_all := lw_g (lw_at lw_m4 4 rfl) rfl
theorem q869 : (Jvm.Cond.code ({ cls := "SwapBook$Scan", name := "passed", desc := "(II)I" } : Jvm.MethodName) prog_8_method_16_code (4 : Nat) (Option.some Jvm.ClassFile.FieldType.int)) ∈ lw_all := lw_g (lw_at lw_m4 5 rfl) rfl
theorem q870 : (Jvm.Cond.methodLink "SwapBook$Scan" (100 : Nat) ({ cls := "SwapBook$Scan", name := "number", desc := "(II)I" } : Jvm.MethodName)) ∈ lw_all := lw_g (lw_at lw_m4 6 rfl) rfl
theorem q871 : (Jvm.Cond.instanceMethod ({ cls := "SwapBook$Scan", name := "number", desc := "(II)I" } : Jvm.MethodName)) ∈ lw_all := lw_g (lw_at lw_m4 7 rfl) rfl
theorem q872 : (Jvm.Cond.sameMethod "SwapBook$Scan" "SwapBook$Scan" "number" "(II)I") ∈ lw_all := lw_g (lw_at lw_m4 8 rfl) rfl
theorem q874 : (Jvm.Cond.code ({ cls := "SwapBook$Scan", name := "number", desc := "(II)I" } : Jvm.MethodName) prog_8_method_15_code (3 : Nat) (Option.some Jvm.ClassFile.FieldType.int)) ∈ lw_all := lw_g (lw_at lw_m4 10 rfl) rfl
theorem q992 : (Jvm.Cond.declares ({ cls := "SwapBook$Scan", name := "closes", desc := "()V" } : Jvm.MethodName)) ∈ lw_tbl := lw_at lw_m4 128 rfl
theorem q994 : (Jvm.Cond.instanceMethod ({ cls := "SwapBook$Scan", name := "closes", desc := "()V" } : Jvm.MethodName)) ∈ lw_all := lw_g (lw_at lw_m4 130 rfl) rfl
theorem q995 : (Jvm.Cond.code ({ cls := "SwapBook$Scan", name := "closes", desc := "()V" } : Jvm.MethodName) prog_8_method_17_code (1 : Nat) (Option.none : Option Jvm.ClassFile.FieldType)) ∈ lw_all := lw_g (lw_at lw_m4 131 rfl) rfl
theorem q996 : (Jvm.Cond.methodLink "SwapBook$Scan" (103 : Nat) ({ cls := "SwapBook$Scan", name := "is", desc := "(I)Z" } : Jvm.MethodName)) ∈ lw_all := lw_g (lw_at lw_m4 132 rfl) rfl
theorem q997 : (Jvm.Cond.instanceMethod ({ cls := "SwapBook$Scan", name := "is", desc := "(I)Z" } : Jvm.MethodName)) ∈ lw_all := lw_g (lw_at lw_m4 133 rfl) rfl
theorem q998 : (Jvm.Cond.sameMethod "SwapBook$Scan" "SwapBook$Scan" "is" "(I)Z") ∈ lw_all := lw_g (lw_at lw_m4 134 rfl) rfl
theorem q1000 : (Jvm.Cond.code ({ cls := "SwapBook$Scan", name := "is", desc := "(I)Z" } : Jvm.MethodName) prog_8_method_13_code (2 : Nat) (Option.some Jvm.ClassFile.FieldType.boolean)) ∈ lw_all := lw_g (lw_at lw_m4 136 rfl) rfl
theorem q2209 : (Jvm.Cond.sameMethod "SwapBook$Scan" "SwapBook$Scan" "at" "(I)I") ∈ lw_all := lw_g (lw_at lw_m9 145 rfl) rfl
theorem q2210 : (Jvm.Cond.sameMethod "SwapBook$Scan" "SwapBook$Scan" "isSign" "(I)Z") ∈ lw_all := lw_g (lw_at lw_m9 146 rfl) rfl
theorem q2211 : (Jvm.Cond.sameMethod "SwapBook$Scan" "SwapBook$Scan" "isWord" "(Ljava/lang/String;II)Z") ∈ lw_all := lw_g (lw_at lw_m9 147 rfl) rfl
theorem q2212 : (Jvm.Cond.sameMethod "SwapBook$Scan" "SwapBook$Scan" "need" "(Z)V") ∈ lw_all := lw_g (lw_at lw_m9 148 rfl) rfl

/-! SwapBook$Other -/
set_option maxRecDepth 100000
def RX10 : String := "SwapBook$Other"
def TX10 : u_T := fun k => match k with
  | 0 => ("SwapBook$Change", "name", "J", true)
  | 1 => ("SwapBook$Change", "number", "I", true)
  | 2 => ("SwapBook$Change", "thing", "I", false)
  | 3 => ("SwapBook$Change", "of", "I", false)
  | 4 => ("SwapBook$Change", "needs", "I", false)
  | 5 => ("SwapBook$Change", "hangs", "I", false)
  | 6 => ("SwapBook$Change", "level", "I", false)
  | 7 => ("SwapBook$Change", "quarrels", "I", false)
  | 8 => ("SwapBook$Other", "kind", "I", true)
  | _ => ("SwapBook$Other", "tells", "I", false)
def tyX10 : Nat → FieldType := fun k => match k with
  | 0 => .long
  | 1 => .int
  | 2 => .int
  | 3 => .int
  | 4 => .int
  | 5 => .int
  | 6 => .int
  | 7 => .int
  | 8 => .int
  | _ => .int
abbrev wsX100 : List Cond := u_ws RX10 TX10 10
theorem nmX10 : ∀ a, a < 10 → ∀ b, b < 10 → a ≠ b → (TX10 a).2.1 ≠ (TX10 b).2.1 := by decide +kernel
theorem tyX10_ok : ∀ k, k < 10 → parseFieldDescriptor (TX10 k).2.2.1 = some (tyX10 k) := by decide +kernel
abbrev cX10_kind : ByteArray := prog_5_method_2_code
def yX10_kind : MethodName := ⟨RX10, "kind", "()I"⟩
theorem dX10_kind_0 : decode cX10_kind 0 = .ok (.aload_n 0, 1) := by decide +kernel
theorem dX10_kind_1 : decode cX10_kind 1 = .ok (.getfield 9, 3) := by decide +kernel
theorem dX10_kind_4 : decode cX10_kind 4 = .ok (.ireturn, 1) := by decide +kernel
abbrev cX10_init : ByteArray := prog_5_method_1_code
def yX10_init : MethodName := ⟨RX10, "<init>", "(JII)V"⟩
def dkwX10_init_0 : List UInt8 := [42, 31, 29, 183, 0, 3, 42, 21, 4, 181, 0, 9, 177]
abbrev dktX10_init_0 : List UInt8 := dkwX10_init_0 ++ []
theorem dksX10_init_0 : cX10_init.data.toList.drop 0 = dktX10_init_0 := by decide +kernel
theorem dX10_init_0 : decode cX10_init 0 = .ok (.aload_n 0, 1) := dk_42 (dk_at dksX10_init_0 0 rfl rfl)
theorem dX10_init_1 : decode cX10_init 1 = .ok (.lload_n 1, 1) := dk_31 (dk_at dksX10_init_0 1 rfl rfl)
theorem dX10_init_2 : decode cX10_init 2 = .ok (.iload_n 3, 1) := dk_29 (dk_at dksX10_init_0 2 rfl rfl)
theorem dX10_init_3 : decode cX10_init 3 = .ok (.invokespecial 3, 3) := dk_183 0 3 (dk_at dksX10_init_0 3 rfl rfl)
theorem dX10_init_6 : decode cX10_init 6 = .ok (.aload_n 0, 1) := dk_42 (dk_at dksX10_init_0 6 rfl rfl)
theorem dX10_init_7 : decode cX10_init 7 = .ok (.iload 4, 2) := dk_21 4 (dk_at dksX10_init_0 7 rfl rfl)
theorem dX10_init_9 : decode cX10_init 9 = .ok (.putfield 9, 3) := dk_181 0 9 (dk_at dksX10_init_0 9 rfl rfl)
theorem dX10_init_12 : decode cX10_init 12 = .ok (.return_, 1) := dk_177 (dk_at dksX10_init_0 12 rfl rfl)
abbrev cX10_minds : ByteArray := prog_5_method_4_code
def yX10_minds : MethodName := ⟨RX10, "minds", "(I)Z"⟩
def dkwX10_minds_0 : List UInt8 := [27, 42, 180, 0, 9, 159, 0, 8, 27, 4, 160, 0, 7, 4, 167, 0, 4, 3, 172]
abbrev dktX10_minds_0 : List UInt8 := dkwX10_minds_0 ++ []
theorem dksX10_minds_0 : cX10_minds.data.toList.drop 0 = dktX10_minds_0 := by decide +kernel
theorem dX10_minds_0 : decode cX10_minds 0 = .ok (.iload_n 1, 1) := dk_27 (dk_at dksX10_minds_0 0 rfl rfl)
theorem dX10_minds_1 : decode cX10_minds 1 = .ok (.aload_n 0, 1) := dk_42 (dk_at dksX10_minds_0 1 rfl rfl)
theorem dX10_minds_2 : decode cX10_minds 2 = .ok (.getfield 9, 3) := dk_180 0 9 (dk_at dksX10_minds_0 2 rfl rfl)
theorem dX10_minds_5 : decode cX10_minds 5 = .ok (.if_icmp .eq 8, 3) := dk_159 0 8 (dk_at dksX10_minds_0 5 rfl rfl)
theorem dX10_minds_8 : decode cX10_minds 8 = .ok (.iload_n 1, 1) := dk_27 (dk_at dksX10_minds_0 8 rfl rfl)
theorem dX10_minds_9 : decode cX10_minds 9 = .ok (.iconst 1, 1) := dk_4 (dk_at dksX10_minds_0 9 rfl rfl)
theorem dX10_minds_10 : decode cX10_minds 10 = .ok (.if_icmp .ne 7, 3) := dk_160 0 7 (dk_at dksX10_minds_0 10 rfl rfl)
theorem dX10_minds_13 : decode cX10_minds 13 = .ok (.iconst 1, 1) := dk_4 (dk_at dksX10_minds_0 13 rfl rfl)
theorem dX10_minds_14 : decode cX10_minds 14 = .ok (.goto 4, 3) := dk_167 0 4 (dk_at dksX10_minds_0 14 rfl rfl)
theorem dX10_minds_17 : decode cX10_minds 17 = .ok (.iconst 0, 1) := dk_3 (dk_at dksX10_minds_0 17 rfl rfl)
theorem dX10_minds_18 : decode cX10_minds 18 = .ok (.ireturn, 1) := dk_172 (dk_at dksX10_minds_0 18 rfl rfl)
abbrev cX10_tells : ByteArray := prog_5_method_3_code
def yX10_tells : MethodName := ⟨RX10, "tells", "()I"⟩
theorem dX10_tells_0 : decode cX10_tells 0 = .ok (.aload_n 0, 1) := by decide +kernel
theorem dX10_tells_1 : decode cX10_tells 1 = .ok (.getfield 15, 3) := by decide +kernel
theorem dX10_tells_4 : decode cX10_tells 4 = .ok (.ireturn, 1) := by decide +kernel
theorem q168 : (Jvm.Cond.initialized "SwapBook$Other") ∈ lw_all := lw_g (lw_at lw_m1 24 rfl) rfl
theorem q909 : (Jvm.Cond.selects "SwapBook$Other" ({ cls := "SwapBook$Change", name := "kind", desc := "()I" } : Jvm.MethodName) ({ cls := "SwapBook$Other", name := "kind", desc := "()I" } : Jvm.MethodName)) ∈ lw_all := lw_g (lw_at lw_m4 45 rfl) rfl
theorem q910 : (Jvm.Cond.instanceMethod ({ cls := "SwapBook$Other", name := "kind", desc := "()I" } : Jvm.MethodName)) ∈ lw_all := lw_g (lw_at lw_m4 46 rfl) rfl
theorem q911 : (Jvm.Cond.code ({ cls := "SwapBook$Other", name := "kind", desc := "()I" } : Jvm.MethodName) prog_5_method_2_code (1 : Nat) (Option.some Jvm.ClassFile.FieldType.int)) ∈ lw_all := lw_g (lw_at lw_m4 47 rfl) rfl
theorem q926 : (Jvm.Cond.instantiable "SwapBook$Other" (10 : Nat)) ∈ lw_all := lw_g (lw_at lw_m4 62 rfl) rfl
theorem q928 : (Jvm.Cond.instanceMethod ({ cls := "SwapBook$Other", name := "<init>", desc := "(JII)V" } : Jvm.MethodName)) ∈ lw_all := lw_g (lw_at lw_m4 64 rfl) rfl
theorem q929 : (Jvm.Cond.code ({ cls := "SwapBook$Other", name := "<init>", desc := "(JII)V" } : Jvm.MethodName) prog_5_method_1_code (5 : Nat) (Option.none : Option Jvm.ClassFile.FieldType)) ∈ lw_all := lw_g (lw_at lw_m4 65 rfl) rfl
theorem q930 : (Jvm.Cond.methodLink "SwapBook$Other" (3 : Nat) ({ cls := "SwapBook$Change", name := "<init>", desc := "(JI)V" } : Jvm.MethodName)) ∈ lw_all := lw_g (lw_at lw_m4 66 rfl) rfl
theorem q931 : (Jvm.Cond.fieldLink "SwapBook$Other" (9 : Nat) "SwapBook$Other" "kind" "I") ∈ lw_all := lw_g (lw_at lw_m4 67 rfl) rfl
theorem q932 : (Jvm.Cond.fieldLink "SwapBook$Other" (15 : Nat) "SwapBook$Other" "tells" "I") ∈ lw_all := lw_g (lw_at lw_m4 68 rfl) rfl
theorem q934 : (Jvm.Cond.laysFinal "SwapBook$Other" "SwapBook$Other" "kind" "I") ∈ lw_all := lw_g (lw_at lw_m4 70 rfl) rfl
theorem q935 : (Jvm.Cond.soleField "SwapBook$Other" "kind") ∈ lw_all := lw_g (lw_at lw_m4 71 rfl) rfl
theorem q936 : (Jvm.Cond.lays "SwapBook$Other" "SwapBook$Other" "tells" "I") ∈ lw_all := lw_g (lw_at lw_m4 72 rfl) rfl
theorem q937 : (Jvm.Cond.soleField "SwapBook$Other" "tells") ∈ lw_all := lw_g (lw_at lw_m4 73 rfl) rfl
theorem q938 : (Jvm.Cond.laysFinal "SwapBook$Other" "SwapBook$Change" "name" "J") ∈ lw_all := lw_g (lw_at lw_m4 74 rfl) rfl
theorem q939 : (Jvm.Cond.laysFinal "SwapBook$Other" "SwapBook$Change" "number" "I") ∈ lw_all := lw_g (lw_at lw_m4 75 rfl) rfl
theorem q940 : (Jvm.Cond.lays "SwapBook$Other" "SwapBook$Change" "thing" "I") ∈ lw_all := lw_g (lw_at lw_m4 76 rfl) rfl
theorem q941 : (Jvm.Cond.lays "SwapBook$Other" "SwapBook$Change" "of" "I") ∈ lw_all := lw_g (lw_at lw_m4 77 rfl) rfl
theorem q942 : (Jvm.Cond.lays "SwapBook$Other" "SwapBook$Change" "needs" "I") ∈ lw_all := lw_g (lw_at lw_m4 78 rfl) rfl
theorem q943 : (Jvm.Cond.lays "SwapBook$Other" "SwapBook$Change" "hangs" "I") ∈ lw_all := lw_g (lw_at lw_m4 79 rfl) rfl
theorem q944 : (Jvm.Cond.lays "SwapBook$Other" "SwapBook$Change" "level" "I") ∈ lw_all := lw_g (lw_at lw_m4 80 rfl) rfl
theorem q945 : (Jvm.Cond.lays "SwapBook$Other" "SwapBook$Change" "quarrels" "I") ∈ lw_all := lw_g (lw_at lw_m4 81 rfl) rfl
theorem q946 : (Jvm.Cond.superclass "SwapBook$Other" "SwapBook$Change") ∈ lw_all := lw_g (lw_at lw_m4 82 rfl) rfl
theorem q981 : (Jvm.Cond.selects "SwapBook$Other" ({ cls := "SwapBook$Change", name := "minds", desc := "(I)Z" } : Jvm.MethodName) ({ cls := "SwapBook$Other", name := "minds", desc := "(I)Z" } : Jvm.MethodName)) ∈ lw_all := lw_g (lw_at lw_m4 117 rfl) rfl
theorem q982 : (Jvm.Cond.instanceMethod ({ cls := "SwapBook$Other", name := "minds", desc := "(I)Z" } : Jvm.MethodName)) ∈ lw_all := lw_g (lw_at lw_m4 118 rfl) rfl
theorem q983 : (Jvm.Cond.code ({ cls := "SwapBook$Other", name := "minds", desc := "(I)Z" } : Jvm.MethodName) prog_5_method_4_code (2 : Nat) (Option.some Jvm.ClassFile.FieldType.boolean)) ∈ lw_all := lw_g (lw_at lw_m4 119 rfl) rfl
theorem q1106 : (Jvm.Cond.selects "SwapBook$Other" ({ cls := "SwapBook$Change", name := "tells", desc := "()I" } : Jvm.MethodName) ({ cls := "SwapBook$Other", name := "tells", desc := "()I" } : Jvm.MethodName)) ∈ lw_all := lw_g (lw_at lw_m5 2 rfl) rfl
theorem q1107 : (Jvm.Cond.instanceMethod ({ cls := "SwapBook$Other", name := "tells", desc := "()I" } : Jvm.MethodName)) ∈ lw_all := lw_g (lw_at lw_m5 3 rfl) rfl
theorem q1108 : (Jvm.Cond.code ({ cls := "SwapBook$Other", name := "tells", desc := "()I" } : Jvm.MethodName) prog_5_method_3_code (1 : Nat) (Option.some Jvm.ClassFile.FieldType.int)) ∈ lw_all := lw_g (lw_at lw_m5 4 rfl) rfl
theorem q2217 : (Jvm.Cond.castable "SwapBook$Other" "SwapBook$Change") ∈ lw_tbl := lw_at lw_m9 153 rfl
theorem in_X10 : ∀ w ∈ wsX100, w ∈ lw_all := lw_in wsX100 [938, 939, 940, 941, 942, 943, 944, 945, 934, 936] (by decide +kernel) (by decide +kernel)

/-! SwapBook$Take -/
set_option maxRecDepth 100000
def RX11 : String := "SwapBook$Take"
def TX11 : u_T := fun k => match k with
  | 0 => ("SwapBook$Change", "name", "J", true)
  | 1 => ("SwapBook$Change", "number", "I", true)
  | 2 => ("SwapBook$Change", "thing", "I", false)
  | 3 => ("SwapBook$Change", "of", "I", false)
  | 4 => ("SwapBook$Change", "needs", "I", false)
  | 5 => ("SwapBook$Change", "hangs", "I", false)
  | 6 => ("SwapBook$Change", "level", "I", false)
  | _ => ("SwapBook$Change", "quarrels", "I", false)
def tyX11 : Nat → FieldType := fun k => match k with
  | 0 => .long
  | 1 => .int
  | 2 => .int
  | 3 => .int
  | 4 => .int
  | 5 => .int
  | 6 => .int
  | _ => .int
abbrev wsX110 : List Cond := u_ws RX11 TX11 8
theorem nmX11 : ∀ a, a < 8 → ∀ b, b < 8 → a ≠ b → (TX11 a).2.1 ≠ (TX11 b).2.1 := by decide +kernel
theorem tyX11_ok : ∀ k, k < 8 → parseFieldDescriptor (TX11 k).2.2.1 = some (tyX11 k) := by decide +kernel
abbrev cX11_kind : ByteArray := prog_11_method_2_code
def yX11_kind : MethodName := ⟨RX11, "kind", "()I"⟩
theorem dX11_kind_0 : decode cX11_kind 0 = .ok (.iconst 1, 1) := by decide +kernel
theorem dX11_kind_1 : decode cX11_kind 1 = .ok (.ireturn, 1) := by decide +kernel
abbrev cX11_init : ByteArray := prog_11_method_1_code
def yX11_init : MethodName := ⟨RX11, "<init>", "(JI)V"⟩
def dkwX11_init_0 : List UInt8 := [42, 31, 29, 183, 0, 3, 177]
abbrev dktX11_init_0 : List UInt8 := dkwX11_init_0 ++ []
theorem dksX11_init_0 : cX11_init.data.toList.drop 0 = dktX11_init_0 := by decide +kernel
theorem dX11_init_0 : decode cX11_init 0 = .ok (.aload_n 0, 1) := dk_42 (dk_at dksX11_init_0 0 rfl rfl)
theorem dX11_init_1 : decode cX11_init 1 = .ok (.lload_n 1, 1) := dk_31 (dk_at dksX11_init_0 1 rfl rfl)
theorem dX11_init_2 : decode cX11_init 2 = .ok (.iload_n 3, 1) := dk_29 (dk_at dksX11_init_0 2 rfl rfl)
theorem dX11_init_3 : decode cX11_init 3 = .ok (.invokespecial 3, 3) := dk_183 0 3 (dk_at dksX11_init_0 3 rfl rfl)
theorem dX11_init_6 : decode cX11_init 6 = .ok (.return_, 1) := dk_177 (dk_at dksX11_init_0 6 rfl rfl)
abbrev cX11_minds : ByteArray := prog_11_method_3_code
def yX11_minds : MethodName := ⟨RX11, "minds", "(I)Z"⟩
def dkwX11_minds_0 : List UInt8 := [27, 5, 159, 0, 8, 27, 6, 160, 0, 7, 4, 167, 0, 4, 3, 172]
abbrev dktX11_minds_0 : List UInt8 := dkwX11_minds_0 ++ []
theorem dksX11_minds_0 : cX11_minds.data.toList.drop 0 = dktX11_minds_0 := by decide +kernel
theorem dX11_minds_0 : decode cX11_minds 0 = .ok (.iload_n 1, 1) := dk_27 (dk_at dksX11_minds_0 0 rfl rfl)
theorem dX11_minds_1 : decode cX11_minds 1 = .ok (.iconst 2, 1) := dk_5 (dk_at dksX11_minds_0 1 rfl rfl)
theorem dX11_minds_2 : decode cX11_minds 2 = .ok (.if_icmp .eq 8, 3) := dk_159 0 8 (dk_at dksX11_minds_0 2 rfl rfl)
theorem dX11_minds_5 : decode cX11_minds 5 = .ok (.iload_n 1, 1) := dk_27 (dk_at dksX11_minds_0 5 rfl rfl)
theorem dX11_minds_6 : decode cX11_minds 6 = .ok (.iconst 3, 1) := dk_6 (dk_at dksX11_minds_0 6 rfl rfl)
theorem dX11_minds_7 : decode cX11_minds 7 = .ok (.if_icmp .ne 7, 3) := dk_160 0 7 (dk_at dksX11_minds_0 7 rfl rfl)
theorem dX11_minds_10 : decode cX11_minds 10 = .ok (.iconst 1, 1) := dk_4 (dk_at dksX11_minds_0 10 rfl rfl)
theorem dX11_minds_11 : decode cX11_minds 11 = .ok (.goto 4, 3) := dk_167 0 4 (dk_at dksX11_minds_0 11 rfl rfl)
theorem dX11_minds_14 : decode cX11_minds 14 = .ok (.iconst 0, 1) := dk_3 (dk_at dksX11_minds_0 14 rfl rfl)
theorem dX11_minds_15 : decode cX11_minds 15 = .ok (.ireturn, 1) := dk_172 (dk_at dksX11_minds_0 15 rfl rfl)
theorem q169 : (Jvm.Cond.initialized "SwapBook$Take") ∈ lw_all := lw_g (lw_at lw_m1 25 rfl) rfl
theorem q918 : (Jvm.Cond.selects "SwapBook$Take" ({ cls := "SwapBook$Change", name := "kind", desc := "()I" } : Jvm.MethodName) ({ cls := "SwapBook$Take", name := "kind", desc := "()I" } : Jvm.MethodName)) ∈ lw_all := lw_g (lw_at lw_m4 54 rfl) rfl
theorem q919 : (Jvm.Cond.instanceMethod ({ cls := "SwapBook$Take", name := "kind", desc := "()I" } : Jvm.MethodName)) ∈ lw_all := lw_g (lw_at lw_m4 55 rfl) rfl
theorem q920 : (Jvm.Cond.code ({ cls := "SwapBook$Take", name := "kind", desc := "()I" } : Jvm.MethodName) prog_11_method_2_code (1 : Nat) (Option.some Jvm.ClassFile.FieldType.int)) ∈ lw_all := lw_g (lw_at lw_m4 56 rfl) rfl
theorem q948 : (Jvm.Cond.instantiable "SwapBook$Take" (8 : Nat)) ∈ lw_all := lw_g (lw_at lw_m4 84 rfl) rfl
theorem q950 : (Jvm.Cond.instanceMethod ({ cls := "SwapBook$Take", name := "<init>", desc := "(JI)V" } : Jvm.MethodName)) ∈ lw_all := lw_g (lw_at lw_m4 86 rfl) rfl
theorem q951 : (Jvm.Cond.code ({ cls := "SwapBook$Take", name := "<init>", desc := "(JI)V" } : Jvm.MethodName) prog_11_method_1_code (4 : Nat) (Option.none : Option Jvm.ClassFile.FieldType)) ∈ lw_all := lw_g (lw_at lw_m4 87 rfl) rfl
theorem q952 : (Jvm.Cond.methodLink "SwapBook$Take" (3 : Nat) ({ cls := "SwapBook$Change", name := "<init>", desc := "(JI)V" } : Jvm.MethodName)) ∈ lw_all := lw_g (lw_at lw_m4 88 rfl) rfl
theorem q953 : (Jvm.Cond.laysFinal "SwapBook$Take" "SwapBook$Change" "name" "J") ∈ lw_all := lw_g (lw_at lw_m4 89 rfl) rfl
theorem q954 : (Jvm.Cond.laysFinal "SwapBook$Take" "SwapBook$Change" "number" "I") ∈ lw_all := lw_g (lw_at lw_m4 90 rfl) rfl
theorem q955 : (Jvm.Cond.lays "SwapBook$Take" "SwapBook$Change" "thing" "I") ∈ lw_all := lw_g (lw_at lw_m4 91 rfl) rfl
theorem q956 : (Jvm.Cond.lays "SwapBook$Take" "SwapBook$Change" "of" "I") ∈ lw_all := lw_g (lw_at lw_m4 92 rfl) rfl
theorem q957 : (Jvm.Cond.lays "SwapBook$Take" "SwapBook$Change" "needs" "I") ∈ lw_all := lw_g (lw_at lw_m4 93 rfl) rfl
theorem q958 : (Jvm.Cond.lays "SwapBook$Take" "SwapBook$Change" "hangs" "I") ∈ lw_all := lw_g (lw_at lw_m4 94 rfl) rfl
theorem q959 : (Jvm.Cond.lays "SwapBook$Take" "SwapBook$Change" "level" "I") ∈ lw_all := lw_g (lw_at lw_m4 95 rfl) rfl
theorem q960 : (Jvm.Cond.lays "SwapBook$Take" "SwapBook$Change" "quarrels" "I") ∈ lw_all := lw_g (lw_at lw_m4 96 rfl) rfl
theorem q961 : (Jvm.Cond.superclass "SwapBook$Take" "SwapBook$Change") ∈ lw_all := lw_g (lw_at lw_m4 97 rfl) rfl
theorem q986 : (Jvm.Cond.selects "SwapBook$Take" ({ cls := "SwapBook$Change", name := "minds", desc := "(I)Z" } : Jvm.MethodName) ({ cls := "SwapBook$Take", name := "minds", desc := "(I)Z" } : Jvm.MethodName)) ∈ lw_all := lw_g (lw_at lw_m4 122 rfl) rfl
theorem q987 : (Jvm.Cond.instanceMethod ({ cls := "SwapBook$Take", name := "minds", desc := "(I)Z" } : Jvm.MethodName)) ∈ lw_all := lw_g (lw_at lw_m4 123 rfl) rfl
theorem q988 : (Jvm.Cond.code ({ cls := "SwapBook$Take", name := "minds", desc := "(I)Z" } : Jvm.MethodName) prog_11_method_3_code (2 : Nat) (Option.some Jvm.ClassFile.FieldType.boolean)) ∈ lw_all := lw_g (lw_at lw_m4 124 rfl) rfl
theorem q1113 : (Jvm.Cond.selects "SwapBook$Take" ({ cls := "SwapBook$Change", name := "tells", desc := "()I" } : Jvm.MethodName) ({ cls := "SwapBook$Change", name := "tells", desc := "()I" } : Jvm.MethodName)) ∈ lw_all := lw_g (lw_at lw_m5 9 rfl) rfl
theorem q2218 : (Jvm.Cond.castable "SwapBook$Take" "SwapBook$Change") ∈ lw_tbl := lw_at lw_m9 154 rfl
theorem in_X11 : ∀ w ∈ wsX110, w ∈ lw_all := lw_in wsX110 [953, 954, 955, 956, 957, 958, 959, 960] (by decide +kernel) (by decide +kernel)

/-! SwapBook$Step -/
set_option maxRecDepth 100000
def RX12 : String := "SwapBook$Step"
def TX12 : u_T := fun k => match k with
  | 0 => ("SwapBook$Step", "kind", "I", true)
  | 1 => ("SwapBook$Step", "one", "I", false)
  | 2 => ("SwapBook$Step", "two", "I", false)
  | 3 => ("SwapBook$Step", "late", "I", false)
  | 4 => ("SwapBook$Step", "number", "I", false)
  | 5 => ("SwapBook$Step", "test", "I", false)
  | 6 => ("SwapBook$Step", "to", "I", false)
  | 7 => ("SwapBook$Step", "rounds", "I", false)
  | _ => ("SwapBook$Step", "twice", "Z", false)
def tyX12 : Nat → FieldType := fun k => match k with
  | 0 => .int
  | 1 => .int
  | 2 => .int
  | 3 => .int
  | 4 => .int
  | 5 => .int
  | 6 => .int
  | 7 => .int
  | _ => .boolean
abbrev wsX120 : List Cond := u_ws RX12 TX12 9
theorem nmX12 : ∀ a, a < 9 → ∀ b, b < 9 → a ≠ b → (TX12 a).2.1 ≠ (TX12 b).2.1 := by decide +kernel
theorem tyX12_ok : ∀ k, k < 9 → parseFieldDescriptor (TX12 k).2.2.1 = some (tyX12 k) := by decide +kernel
abbrev cX12_init : ByteArray := prog_10_method_1_code
def yX12_init : MethodName := ⟨RX12, "<init>", "(I)V"⟩
def dkwX12_init_0 : List UInt8 := [42, 183, 0, 1, 42, 27, 181, 0, 7, 177]
abbrev dktX12_init_0 : List UInt8 := dkwX12_init_0 ++ []
theorem dksX12_init_0 : cX12_init.data.toList.drop 0 = dktX12_init_0 := by decide +kernel
theorem dX12_init_0 : decode cX12_init 0 = .ok (.aload_n 0, 1) := dk_42 (dk_at dksX12_init_0 0 rfl rfl)
theorem dX12_init_1 : decode cX12_init 1 = .ok (.invokespecial 1, 3) := dk_183 0 1 (dk_at dksX12_init_0 1 rfl rfl)
theorem dX12_init_4 : decode cX12_init 4 = .ok (.aload_n 0, 1) := dk_42 (dk_at dksX12_init_0 4 rfl rfl)
theorem dX12_init_5 : decode cX12_init 5 = .ok (.iload_n 1, 1) := dk_27 (dk_at dksX12_init_0 5 rfl rfl)
theorem dX12_init_6 : decode cX12_init 6 = .ok (.putfield 7, 3) := dk_181 0 7 (dk_at dksX12_init_0 6 rfl rfl)
theorem dX12_init_9 : decode cX12_init 9 = .ok (.return_, 1) := dk_177 (dk_at dksX12_init_0 9 rfl rfl)
theorem q170 : (Jvm.Cond.initialized "SwapBook$Step") ∈ lw_all := lw_g (lw_at lw_m1 26 rfl) rfl
theorem q1023 : (Jvm.Cond.instantiable "SwapBook$Step" (9 : Nat)) ∈ lw_all := lw_g (lw_at lw_m4 159 rfl) rfl
theorem q1025 : (Jvm.Cond.instanceMethod ({ cls := "SwapBook$Step", name := "<init>", desc := "(I)V" } : Jvm.MethodName)) ∈ lw_all := lw_g (lw_at lw_m4 161 rfl) rfl
theorem q1026 : (Jvm.Cond.code ({ cls := "SwapBook$Step", name := "<init>", desc := "(I)V" } : Jvm.MethodName) prog_10_method_1_code (2 : Nat) (Option.none : Option Jvm.ClassFile.FieldType)) ∈ lw_all := lw_g (lw_at lw_m4 162 rfl) rfl
theorem q1027 : (Jvm.Cond.methodLink "SwapBook$Step" (1 : Nat) ({ cls := "java/lang/Object", name := "<init>", desc := "()V" } : Jvm.MethodName)) ∈ lw_all := lw_g (lw_at lw_m4 163 rfl) rfl
theorem q1028 : (Jvm.Cond.fieldLink "SwapBook$Step" (7 : Nat) "SwapBook$Step" "kind" "I") ∈ lw_all := lw_g (lw_at lw_m4 164 rfl) rfl
theorem q1045 : (Jvm.Cond.laysFinal "SwapBook$Step" "SwapBook$Step" "kind" "I") ∈ lw_all := lw_g (lw_at lw_m4 181 rfl) rfl
theorem q1046 : (Jvm.Cond.soleField "SwapBook$Step" "kind") ∈ lw_all := lw_g (lw_at lw_m4 182 rfl) rfl
theorem q1047 : (Jvm.Cond.lays "SwapBook$Step" "SwapBook$Step" "one" "I") ∈ lw_all := lw_g (lw_at lw_m4 183 rfl) rfl
theorem q1048 : (Jvm.Cond.soleField "SwapBook$Step" "one") ∈ lw_all := lw_g (lw_at lw_m4 184 rfl) rfl
theorem q1049 : (Jvm.Cond.lays "SwapBook$Step" "SwapBook$Step" "two" "I") ∈ lw_all := lw_g (lw_at lw_m4 185 rfl) rfl
theorem q1050 : (Jvm.Cond.soleField "SwapBook$Step" "two") ∈ lw_all := lw_g (lw_at lw_m4 186 rfl) rfl
theorem q1051 : (Jvm.Cond.lays "SwapBook$Step" "SwapBook$Step" "late" "I") ∈ lw_all := lw_g (lw_at lw_m4 187 rfl) rfl
theorem q1052 : (Jvm.Cond.soleField "SwapBook$Step" "late") ∈ lw_all := lw_g (lw_at lw_m4 188 rfl) rfl
theorem q1053 : (Jvm.Cond.lays "SwapBook$Step" "SwapBook$Step" "number" "I") ∈ lw_all := lw_g (lw_at lw_m4 189 rfl) rfl
theorem q1054 : (Jvm.Cond.soleField "SwapBook$Step" "number") ∈ lw_all := lw_g (lw_at lw_m4 190 rfl) rfl
theorem q1055 : (Jvm.Cond.lays "SwapBook$Step" "SwapBook$Step" "test" "I") ∈ lw_all := lw_g (lw_at lw_m4 191 rfl) rfl
theorem q1056 : (Jvm.Cond.soleField "SwapBook$Step" "test") ∈ lw_all := lw_g (lw_at lw_m4 192 rfl) rfl
theorem q1057 : (Jvm.Cond.lays "SwapBook$Step" "SwapBook$Step" "to" "I") ∈ lw_all := lw_g (lw_at lw_m4 193 rfl) rfl
theorem q1058 : (Jvm.Cond.soleField "SwapBook$Step" "to") ∈ lw_all := lw_g (lw_at lw_m4 194 rfl) rfl
theorem q1059 : (Jvm.Cond.lays "SwapBook$Step" "SwapBook$Step" "rounds" "I") ∈ lw_all := lw_g (lw_at lw_m4 195 rfl) rfl
theorem q1060 : (Jvm.Cond.soleField "SwapBook$Step" "rounds") ∈ lw_all := lw_g (lw_at lw_m4 196 rfl) rfl
theorem q1061 : (Jvm.Cond.lays "SwapBook$Step" "SwapBook$Step" "twice" "Z") ∈ lw_all := lw_g (lw_at lw_m4 197 rfl) rfl
theorem q1062 : (Jvm.Cond.soleField "SwapBook$Step" "twice") ∈ lw_all := lw_g (lw_at lw_m4 198 rfl) rfl
theorem q1063 : (Jvm.Cond.superclass "SwapBook$Step" "java/lang/Object") ∈ lw_all := lw_g (lw_at lw_m4 199 rfl) rfl
theorem in_X12 : ∀ w ∈ wsX120, w ∈ lw_all := lw_in wsX120 [1045, 1047, 1049, 1051, 1053, 1055, 1057, 1059, 1061] (by decide +kernel) (by decide +kernel)

/-! SwapBook$Kept -/
set_option maxRecDepth 100000
def RX13 : String := "SwapBook$Kept"
def TX13 : u_T := fun k => match k with
  | 0 => ("SwapBook$Kept", "had", "[I", true)
  | 1 => ("SwapBook$Kept", "order", "[I", true)
  | 2 => ("SwapBook$Kept", "book", "LSwapBook$Book;", false)
  | 3 => ("SwapBook$Kept", "steps", "[LSwapBook$Step;", false)
  | 4 => ("SwapBook$Kept", "stepMany", "I", false)
  | _ => ("SwapBook$Kept", "orderMany", "I", false)
def tyX13 : Nat → FieldType := fun k => match k with
  | 0 => .array .int
  | 1 => .array .int
  | 2 => .object "SwapBook$Book"
  | 3 => .array (.object "SwapBook$Step")
  | 4 => .int
  | _ => .int
abbrev wsX130 : List Cond := u_ws RX13 TX13 6
theorem nmX13 : ∀ a, a < 6 → ∀ b, b < 6 → a ≠ b → (TX13 a).2.1 ≠ (TX13 b).2.1 := by decide +kernel
theorem tyX13_ok : ∀ k, k < 6 → parseFieldDescriptor (TX13 k).2.2.1 = some (tyX13 k) := by decide +kernel
abbrev cX13_init : ByteArray := prog_4_method_1_code
def yX13_init : MethodName := ⟨RX13, "<init>", "()V"⟩
def dkwX13_init_0 : List UInt8 := [42, 183, 0, 3, 42, 7, 188, 10, 181, 0, 9, 42, 16, 16, 188, 10, 181, 0, 15, 177]
abbrev dktX13_init_0 : List UInt8 := dkwX13_init_0 ++ []
theorem dksX13_init_0 : cX13_init.data.toList.drop 0 = dktX13_init_0 := by decide +kernel
theorem dX13_init_0 : decode cX13_init 0 = .ok (.aload_n 0, 1) := dk_42 (dk_at dksX13_init_0 0 rfl rfl)
theorem dX13_init_1 : decode cX13_init 1 = .ok (.invokespecial 3, 3) := dk_183 0 3 (dk_at dksX13_init_0 1 rfl rfl)
theorem dX13_init_4 : decode cX13_init 4 = .ok (.aload_n 0, 1) := dk_42 (dk_at dksX13_init_0 4 rfl rfl)
theorem dX13_init_5 : decode cX13_init 5 = .ok (.iconst 4, 1) := dk_7 (dk_at dksX13_init_0 5 rfl rfl)
theorem dX13_init_6 : decode cX13_init 6 = .ok (.newarray .int, 2) := dk_188_10 (dk_at dksX13_init_0 6 rfl rfl)
theorem dX13_init_8 : decode cX13_init 8 = .ok (.putfield 9, 3) := dk_181 0 9 (dk_at dksX13_init_0 8 rfl rfl)
theorem dX13_init_11 : decode cX13_init 11 = .ok (.aload_n 0, 1) := dk_42 (dk_at dksX13_init_0 11 rfl rfl)
theorem dX13_init_12 : decode cX13_init 12 = .ok (.bipush 16, 2) := dk_16 16 (dk_at dksX13_init_0 12 rfl rfl)
theorem dX13_init_14 : decode cX13_init 14 = .ok (.newarray .int, 2) := dk_188_10 (dk_at dksX13_init_0 14 rfl rfl)
theorem dX13_init_16 : decode cX13_init 16 = .ok (.putfield 15, 3) := dk_181 0 15 (dk_at dksX13_init_0 16 rfl rfl)
theorem dX13_init_19 : decode cX13_init 19 = .ok (.return_, 1) := dk_177 (dk_at dksX13_init_0 19 rfl rfl)
theorem q172 : (Jvm.Cond.initialized "SwapBook$Kept") ∈ lw_all := lw_g (lw_at lw_m1 28 rfl) rfl
theorem q1420 : (Jvm.Cond.instantiable "SwapBook$Kept" (6 : Nat)) ∈ lw_all := lw_g (lw_at lw_m6 76 rfl) rfl
theorem q1422 : (Jvm.Cond.instanceMethod ({ cls := "SwapBook$Kept", name := "<init>", desc := "()V" } : Jvm.MethodName)) ∈ lw_all := lw_g (lw_at lw_m6 78 rfl) rfl
theorem q1423 : (Jvm.Cond.code ({ cls := "SwapBook$Kept", name := "<init>", desc := "()V" } : Jvm.MethodName) prog_4_method_1_code (1 : Nat) (Option.none : Option Jvm.ClassFile.FieldType)) ∈ lw_all := lw_g (lw_at lw_m6 79 rfl) rfl
theorem q1424 : (Jvm.Cond.methodLink "SwapBook$Kept" (3 : Nat) ({ cls := "java/lang/Object", name := "<init>", desc := "()V" } : Jvm.MethodName)) ∈ lw_all := lw_g (lw_at lw_m6 80 rfl) rfl
theorem q1425 : (Jvm.Cond.fieldLink "SwapBook$Kept" (9 : Nat) "SwapBook$Kept" "had" "[I") ∈ lw_all := lw_g (lw_at lw_m6 81 rfl) rfl
theorem q1427 : (Jvm.Cond.fieldLink "SwapBook$Kept" (15 : Nat) "SwapBook$Kept" "order" "[I") ∈ lw_all := lw_g (lw_at lw_m6 83 rfl) rfl
theorem q1433 : (Jvm.Cond.laysFinal "SwapBook$Kept" "SwapBook$Kept" "had" "[I") ∈ lw_all := lw_g (lw_at lw_m6 89 rfl) rfl
theorem q1434 : (Jvm.Cond.soleField "SwapBook$Kept" "had") ∈ lw_all := lw_g (lw_at lw_m6 90 rfl) rfl
theorem q1435 : (Jvm.Cond.laysFinal "SwapBook$Kept" "SwapBook$Kept" "order" "[I") ∈ lw_all := lw_g (lw_at lw_m6 91 rfl) rfl
theorem q1436 : (Jvm.Cond.soleField "SwapBook$Kept" "order") ∈ lw_all := lw_g (lw_at lw_m6 92 rfl) rfl
theorem q1437 : (Jvm.Cond.lays "SwapBook$Kept" "SwapBook$Kept" "book" "LSwapBook$Book;") ∈ lw_all := lw_g (lw_at lw_m6 93 rfl) rfl
theorem q1438 : (Jvm.Cond.soleField "SwapBook$Kept" "book") ∈ lw_all := lw_g (lw_at lw_m6 94 rfl) rfl
theorem q1439 : (Jvm.Cond.lays "SwapBook$Kept" "SwapBook$Kept" "steps" "[LSwapBook$Step;") ∈ lw_all := lw_g (lw_at lw_m6 95 rfl) rfl
theorem q1440 : (Jvm.Cond.soleField "SwapBook$Kept" "steps") ∈ lw_all := lw_g (lw_at lw_m6 96 rfl) rfl
theorem q1441 : (Jvm.Cond.lays "SwapBook$Kept" "SwapBook$Kept" "stepMany" "I") ∈ lw_all := lw_g (lw_at lw_m6 97 rfl) rfl
theorem q1442 : (Jvm.Cond.soleField "SwapBook$Kept" "stepMany") ∈ lw_all := lw_g (lw_at lw_m6 98 rfl) rfl
theorem q1443 : (Jvm.Cond.lays "SwapBook$Kept" "SwapBook$Kept" "orderMany" "I") ∈ lw_all := lw_g (lw_at lw_m6 99 rfl) rfl
theorem q1444 : (Jvm.Cond.soleField "SwapBook$Kept" "orderMany") ∈ lw_all := lw_g (lw_at lw_m6 100 rfl) rfl
theorem q1445 : (Jvm.Cond.superclass "SwapBook$Kept" "java/lang/Object") ∈ lw_all := lw_g (lw_at lw_m6 101 rfl) rfl
theorem in_X13 : ∀ w ∈ wsX130, w ∈ lw_all := lw_in wsX130 [1433, 1435, 1437, 1439, 1441, 1443] (by decide +kernel) (by decide +kernel)

/-! SwapBook$Reader -/
set_option maxRecDepth 100000
def RX2 : String := "SwapBook$Reader"
def TX2 : u_T := fun k => match k with
  | 0 => ("SwapBook$Scan", "tape", "[B", true)
  | 1 => ("SwapBook$Scan", "size", "I", false)
  | 2 => ("SwapBook$Scan", "sort", "I", false)
  | 3 => ("SwapBook$Scan", "from", "I", false)
  | 4 => ("SwapBook$Scan", "end", "I", false)
  | 5 => ("SwapBook$Scan", "value", "I", false)
  | 6 => ("SwapBook$Scan", "keys", "Ljava/lang/String;", true)
  | 7 => ("SwapBook$Scan", "signs", "Ljava/lang/String;", true)
  | 8 => ("SwapBook$Scan", "wrong", "LSwapBook$Wrong;", true)
  | 9 => ("SwapBook$Reader", "taped", "I", false)
  | 10 => ("SwapBook$Reader", "stepMany", "I", false)
  | 11 => ("SwapBook$Reader", "counted", "I", false)
  | 12 => ("SwapBook$Reader", "open", "I", false)
  | 13 => ("SwapBook$Reader", "book", "LSwapBook$Book;", false)
  | 14 => ("SwapBook$Reader", "steps", "[LSwapBook$Step;", false)
  | _ => ("SwapBook$Reader", "opened", "[I", true)
def tyX2 : Nat → FieldType := fun k => match k with
  | 0 => .array .byte
  | 1 => .int
  | 2 => .int
  | 3 => .int
  | 4 => .int
  | 5 => .int
  | 6 => .object "java/lang/String"
  | 7 => .object "java/lang/String"
  | 8 => .object "SwapBook$Wrong"
  | 9 => .int
  | 10 => .int
  | 11 => .int
  | 12 => .int
  | 13 => .object "SwapBook$Book"
  | 14 => .array (.object "SwapBook$Step")
  | _ => .array .int
abbrev wsX20 : List Cond := u_ws RX2 TX2 16
set_option maxRecDepth 100000 in
theorem nmX2 : ∀ a, a < 16 → ∀ b, b < 16 → a ≠ b → (TX2 a).2.1 ≠ (TX2 b).2.1 := by decide +kernel
set_option maxRecDepth 100000 in
theorem tyX2_ok : ∀ k, k < 16 → parseFieldDescriptor (TX2 k).2.2.1 = some (tyX2 k) := by decide +kernel
abbrev cX2_init : ByteArray := prog_7_method_1_code
def yX2_init : MethodName := ⟨RX2, "<init>", "(LSwapBook$Wrong;)V"⟩
def dkwX2_init_0 : List UInt8 := [42, 17, 3, 132, 188, 8, 18, 3, 18, 5, 43, 183, 0, 7, 42, 6, 188, 10, 181, 0, 13, 177]
abbrev dktX2_init_0 : List UInt8 := dkwX2_init_0 ++ []
theorem dksX2_init_0 : cX2_init.data.toList.drop 0 = dktX2_init_0 := by decide +kernel
theorem dX2_init_0 : decode cX2_init 0 = .ok (.aload_n 0, 1) := dk_42 (dk_at dksX2_init_0 0 rfl rfl)
theorem dX2_init_1 : decode cX2_init 1 = .ok (.sipush 900, 3) := dk_17 3 132 (dk_at dksX2_init_0 1 rfl rfl)
theorem dX2_init_4 : decode cX2_init 4 = .ok (.newarray .byte, 2) := dk_188_8 (dk_at dksX2_init_0 4 rfl rfl)
theorem dX2_init_6 : decode cX2_init 6 = .ok (.ldc 3, 2) := dk_18 3 (dk_at dksX2_init_0 6 rfl rfl)
theorem dX2_init_8 : decode cX2_init 8 = .ok (.ldc 5, 2) := dk_18 5 (dk_at dksX2_init_0 8 rfl rfl)
theorem dX2_init_10 : decode cX2_init 10 = .ok (.aload_n 1, 1) := dk_43 (dk_at dksX2_init_0 10 rfl rfl)
theorem dX2_init_11 : decode cX2_init 11 = .ok (.invokespecial 7, 3) := dk_183 0 7 (dk_at dksX2_init_0 11 rfl rfl)
theorem dX2_init_14 : decode cX2_init 14 = .ok (.aload_n 0, 1) := dk_42 (dk_at dksX2_init_0 14 rfl rfl)
theorem dX2_init_15 : decode cX2_init 15 = .ok (.iconst 3, 1) := dk_6 (dk_at dksX2_init_0 15 rfl rfl)
theorem dX2_init_16 : decode cX2_init 16 = .ok (.newarray .int, 2) := dk_188_10 (dk_at dksX2_init_0 16 rfl rfl)
theorem dX2_init_18 : decode cX2_init 18 = .ok (.putfield 13, 3) := dk_181 0 13 (dk_at dksX2_init_0 18 rfl rfl)
theorem dX2_init_21 : decode cX2_init 21 = .ok (.return_, 1) := dk_177 (dk_at dksX2_init_0 21 rfl rfl)
abbrev cX2_book : ByteArray := prog_7_method_4_code
def yX2_book : MethodName := ⟨RX2, "book", "(I)LSwapBook$Book;"⟩
def dkwX2_book_1 : List UInt8 := [182, 0, 47, 42, 182, 0, 50, 167, 255, 241, 42, 180, 0, 39, 176]
abbrev dktX2_book_1 : List UInt8 := dkwX2_book_1 ++ []
def dkwX2_book_0 : List UInt8 := [42, 187, 0, 35, 89, 183, 0, 37, 181, 0, 39, 42, 27, 182, 0, 43, 42, 180, 0, 31, 153, 0, 14, 42]
abbrev dktX2_book_0 : List UInt8 := dkwX2_book_0 ++ dktX2_book_1
theorem dksX2_book_0 : cX2_book.data.toList.drop 0 = dktX2_book_0 := by decide +kernel
theorem dksX2_book_1 : cX2_book.data.toList.drop 24 = dktX2_book_1 := dk_seg dksX2_book_0 24 rfl rfl
theorem dX2_book_0 : decode cX2_book 0 = .ok (.aload_n 0, 1) := dk_42 (dk_at dksX2_book_0 0 rfl rfl)
theorem dX2_book_1 : decode cX2_book 1 = .ok (.new 35, 3) := dk_187 0 35 (dk_at dksX2_book_0 1 rfl rfl)
theorem dX2_book_4 : decode cX2_book 4 = .ok (.dup, 1) := dk_89 (dk_at dksX2_book_0 4 rfl rfl)
theorem dX2_book_5 : decode cX2_book 5 = .ok (.invokespecial 37, 3) := dk_183 0 37 (dk_at dksX2_book_0 5 rfl rfl)
theorem dX2_book_8 : decode cX2_book 8 = .ok (.putfield 39, 3) := dk_181 0 39 (dk_at dksX2_book_0 8 rfl rfl)
theorem dX2_book_11 : decode cX2_book 11 = .ok (.aload_n 0, 1) := dk_42 (dk_at dksX2_book_0 11 rfl rfl)
theorem dX2_book_12 : decode cX2_book 12 = .ok (.iload_n 1, 1) := dk_27 (dk_at dksX2_book_0 12 rfl rfl)
theorem dX2_book_13 : decode cX2_book 13 = .ok (.invokevirtual 43, 3) := dk_182 0 43 (dk_at dksX2_book_0 13 rfl rfl)
theorem dX2_book_16 : decode cX2_book 16 = .ok (.aload_n 0, 1) := dk_42 (dk_at dksX2_book_0 16 rfl rfl)
theorem dX2_book_17 : decode cX2_book 17 = .ok (.getfield 31, 3) := dk_180 0 31 (dk_at dksX2_book_0 17 rfl rfl)
theorem dX2_book_20 : decode cX2_book 20 = .ok (.ifCond .eq 14, 3) := dk_153 0 14 (dk_at dksX2_book_0 20 rfl rfl)
theorem dX2_book_23 : decode cX2_book 23 = .ok (.aload_n 0, 1) := dk_42 (dk_at dksX2_book_0 23 rfl rfl)
theorem dX2_book_24 : decode cX2_book 24 = .ok (.invokevirtual 47, 3) := dk_182 0 47 (dk_at dksX2_book_1 0 rfl rfl)
theorem dX2_book_27 : decode cX2_book 27 = .ok (.aload_n 0, 1) := dk_42 (dk_at dksX2_book_1 3 rfl rfl)
theorem dX2_book_28 : decode cX2_book 28 = .ok (.invokevirtual 50, 3) := dk_182 0 50 (dk_at dksX2_book_1 4 rfl rfl)
theorem dX2_book_31 : decode cX2_book 31 = .ok (.goto (-15), 3) := dk_167 255 241 (dk_at dksX2_book_1 7 rfl rfl)
theorem dX2_book_34 : decode cX2_book 34 = .ok (.aload_n 0, 1) := dk_42 (dk_at dksX2_book_1 10 rfl rfl)
theorem dX2_book_35 : decode cX2_book 35 = .ok (.getfield 39, 3) := dk_180 0 39 (dk_at dksX2_book_1 11 rfl rfl)
theorem dX2_book_38 : decode cX2_book 38 = .ok (.areturn, 1) := dk_176 (dk_at dksX2_book_1 14 rfl rfl)
abbrev cX2_part : ByteArray := prog_7_method_8_code
def yX2_part : MethodName := ⟨RX2, "part", "()V"⟩
def dkwX2_part_7 : List UInt8 := [177]
abbrev dktX2_part_7 : List UInt8 := dkwX2_part_7 ++ []
def dkwX2_part_6 : List UInt8 := [42, 182, 0, 19, 16, 10, 160, 0, 9, 42, 25, 4, 182, 0, 96, 42, 180, 0, 39, 25, 4, 182, 0, 100]
abbrev dktX2_part_6 : List UInt8 := dkwX2_part_6 ++ dktX2_part_7
def dkwX2_part_5 : List UInt8 := [167, 0, 22, 27, 7, 160, 0, 11, 42, 32, 182, 0, 89, 167, 0, 9, 42, 32, 27, 182, 0, 92, 58, 4]
abbrev dktX2_part_5 : List UInt8 := dkwX2_part_5 ++ dktX2_part_6
def dkwX2_part_4 : List UInt8 := [180, 0, 39, 89, 180, 0, 72, 4, 96, 181, 0, 72, 177, 27, 154, 0, 11, 42, 32, 182, 0, 85]
abbrev dktX2_part_4 : List UInt8 := dkwX2_part_4 ++ dktX2_part_5
def dkwX2_part_3 : List UInt8 := [27, 8, 160, 0, 33, 42, 180, 0, 39, 180, 0, 81, 42, 180, 0, 39, 180, 0, 72, 32, 80, 42]
abbrev dktX2_part_3 : List UInt8 := dkwX2_part_3 ++ dktX2_part_4
def dkwX2_part_2 : List UInt8 := [180, 0, 75, 16, 16, 160, 0, 10, 42, 16, 6, 182, 0, 64, 191, 42, 182, 0, 27, 42, 182, 0, 78, 65]
abbrev dktX2_part_2 : List UInt8 := dkwX2_part_2 ++ dktX2_part_3
def dkwX2_part_1 : List UInt8 := [8, 160, 0, 14, 42, 180, 0, 39, 180, 0, 72, 7, 159, 0, 20, 27, 8, 162, 0, 22, 42, 180, 0, 39]
abbrev dktX2_part_1 : List UInt8 := dkwX2_part_1 ++ dktX2_part_2
def dkwX2_part_0 : List UInt8 := [42, 182, 0, 19, 60, 42, 27, 155, 0, 12, 27, 8, 163, 0, 7, 4, 167, 0, 4, 3, 182, 0, 23, 27]
abbrev dktX2_part_0 : List UInt8 := dkwX2_part_0 ++ dktX2_part_1
theorem dksX2_part_0 : cX2_part.data.toList.drop 0 = dktX2_part_0 := by decide +kernel
theorem dksX2_part_1 : cX2_part.data.toList.drop 24 = dktX2_part_1 := dk_seg dksX2_part_0 24 rfl rfl
theorem dksX2_part_2 : cX2_part.data.toList.drop 48 = dktX2_part_2 := dk_seg dksX2_part_1 24 rfl rfl
theorem dksX2_part_3 : cX2_part.data.toList.drop 72 = dktX2_part_3 := dk_seg dksX2_part_2 24 rfl rfl
theorem dksX2_part_4 : cX2_part.data.toList.drop 94 = dktX2_part_4 := dk_seg dksX2_part_3 22 rfl rfl
theorem dksX2_part_5 : cX2_part.data.toList.drop 116 = dktX2_part_5 := dk_seg dksX2_part_4 22 rfl rfl
theorem dksX2_part_6 : cX2_part.data.toList.drop 140 = dktX2_part_6 := dk_seg dksX2_part_5 24 rfl rfl
theorem dksX2_part_7 : cX2_part.data.toList.drop 164 = dktX2_part_7 := dk_seg dksX2_part_6 24 rfl rfl
theorem dX2_part_0 : decode cX2_part 0 = .ok (.aload_n 0, 1) := dk_42 (dk_at dksX2_part_0 0 rfl rfl)
theorem dX2_part_1 : decode cX2_part 1 = .ok (.invokevirtual 19, 3) := dk_182 0 19 (dk_at dksX2_part_0 1 rfl rfl)
theorem dX2_part_4 : decode cX2_part 4 = .ok (.istore_n 1, 1) := dk_60 (dk_at dksX2_part_0 4 rfl rfl)
theorem dX2_part_5 : decode cX2_part 5 = .ok (.aload_n 0, 1) := dk_42 (dk_at dksX2_part_0 5 rfl rfl)
theorem dX2_part_6 : decode cX2_part 6 = .ok (.iload_n 1, 1) := dk_27 (dk_at dksX2_part_0 6 rfl rfl)
theorem dX2_part_7 : decode cX2_part 7 = .ok (.ifCond .lt 12, 3) := dk_155 0 12 (dk_at dksX2_part_0 7 rfl rfl)
theorem dX2_part_10 : decode cX2_part 10 = .ok (.iload_n 1, 1) := dk_27 (dk_at dksX2_part_0 10 rfl rfl)
theorem dX2_part_11 : decode cX2_part 11 = .ok (.iconst 5, 1) := dk_8 (dk_at dksX2_part_0 11 rfl rfl)
theorem dX2_part_12 : decode cX2_part 12 = .ok (.if_icmp .gt 7, 3) := dk_163 0 7 (dk_at dksX2_part_0 12 rfl rfl)
theorem dX2_part_15 : decode cX2_part 15 = .ok (.iconst 1, 1) := dk_4 (dk_at dksX2_part_0 15 rfl rfl)
theorem dX2_part_16 : decode cX2_part 16 = .ok (.goto 4, 3) := dk_167 0 4 (dk_at dksX2_part_0 16 rfl rfl)
theorem dX2_part_19 : decode cX2_part 19 = .ok (.iconst 0, 1) := dk_3 (dk_at dksX2_part_0 19 rfl rfl)
theorem dX2_part_20 : decode cX2_part 20 = .ok (.invokevirtual 23, 3) := dk_182 0 23 (dk_at dksX2_part_0 20 rfl rfl)
theorem dX2_part_23 : decode cX2_part 23 = .ok (.iload_n 1, 1) := dk_27 (dk_at dksX2_part_0 23 rfl rfl)
theorem dX2_part_24 : decode cX2_part 24 = .ok (.iconst 5, 1) := dk_8 (dk_at dksX2_part_1 0 rfl rfl)
theorem dX2_part_25 : decode cX2_part 25 = .ok (.if_icmp .ne 14, 3) := dk_160 0 14 (dk_at dksX2_part_1 1 rfl rfl)
theorem dX2_part_28 : decode cX2_part 28 = .ok (.aload_n 0, 1) := dk_42 (dk_at dksX2_part_1 4 rfl rfl)
theorem dX2_part_29 : decode cX2_part 29 = .ok (.getfield 39, 3) := dk_180 0 39 (dk_at dksX2_part_1 5 rfl rfl)
theorem dX2_part_32 : decode cX2_part 32 = .ok (.getfield 72, 3) := dk_180 0 72 (dk_at dksX2_part_1 8 rfl rfl)
theorem dX2_part_35 : decode cX2_part 35 = .ok (.iconst 4, 1) := dk_7 (dk_at dksX2_part_1 11 rfl rfl)
theorem dX2_part_36 : decode cX2_part 36 = .ok (.if_icmp .eq 20, 3) := dk_159 0 20 (dk_at dksX2_part_1 12 rfl rfl)
theorem dX2_part_39 : decode cX2_part 39 = .ok (.iload_n 1, 1) := dk_27 (dk_at dksX2_part_1 15 rfl rfl)
theorem dX2_part_40 : decode cX2_part 40 = .ok (.iconst 5, 1) := dk_8 (dk_at dksX2_part_1 16 rfl rfl)
theorem dX2_part_41 : decode cX2_part 41 = .ok (.if_icmp .ge 22, 3) := dk_162 0 22 (dk_at dksX2_part_1 17 rfl rfl)
theorem dX2_part_44 : decode cX2_part 44 = .ok (.aload_n 0, 1) := dk_42 (dk_at dksX2_part_1 20 rfl rfl)
theorem dX2_part_45 : decode cX2_part 45 = .ok (.getfield 39, 3) := dk_180 0 39 (dk_at dksX2_part_1 21 rfl rfl)
theorem dX2_part_48 : decode cX2_part 48 = .ok (.getfield 75, 3) := dk_180 0 75 (dk_at dksX2_part_2 0 rfl rfl)
theorem dX2_part_51 : decode cX2_part 51 = .ok (.bipush 16, 2) := dk_16 16 (dk_at dksX2_part_2 3 rfl rfl)
theorem dX2_part_53 : decode cX2_part 53 = .ok (.if_icmp .ne 10, 3) := dk_160 0 10 (dk_at dksX2_part_2 5 rfl rfl)
theorem dX2_part_56 : decode cX2_part 56 = .ok (.aload_n 0, 1) := dk_42 (dk_at dksX2_part_2 8 rfl rfl)
theorem dX2_part_57 : decode cX2_part 57 = .ok (.bipush 6, 2) := dk_16 6 (dk_at dksX2_part_2 9 rfl rfl)
theorem dX2_part_59 : decode cX2_part 59 = .ok (.invokevirtual 64, 3) := dk_182 0 64 (dk_at dksX2_part_2 11 rfl rfl)
theorem dX2_part_62 : decode cX2_part 62 = .ok (.athrow, 1) := dk_191 (dk_at dksX2_part_2 14 rfl rfl)
theorem dX2_part_63 : decode cX2_part 63 = .ok (.aload_n 0, 1) := dk_42 (dk_at dksX2_part_2 15 rfl rfl)
theorem dX2_part_64 : decode cX2_part 64 = .ok (.invokevirtual 27, 3) := dk_182 0 27 (dk_at dksX2_part_2 16 rfl rfl)
theorem dX2_part_67 : decode cX2_part 67 = .ok (.aload_n 0, 1) := dk_42 (dk_at dksX2_part_2 19 rfl rfl)
theorem dX2_part_68 : decode cX2_part 68 = .ok (.invokevirtual 78, 3) := dk_182 0 78 (dk_at dksX2_part_2 20 rfl rfl)
theorem dX2_part_71 : decode cX2_part 71 = .ok (.lstore_n 2, 1) := dk_65 (dk_at dksX2_part_2 23 rfl rfl)
theorem dX2_part_72 : decode cX2_part 72 = .ok (.iload_n 1, 1) := dk_27 (dk_at dksX2_part_3 0 rfl rfl)
theorem dX2_part_73 : decode cX2_part 73 = .ok (.iconst 5, 1) := dk_8 (dk_at dksX2_part_3 1 rfl rfl)
theorem dX2_part_74 : decode cX2_part 74 = .ok (.if_icmp .ne 33, 3) := dk_160 0 33 (dk_at dksX2_part_3 2 rfl rfl)
theorem dX2_part_77 : decode cX2_part 77 = .ok (.aload_n 0, 1) := dk_42 (dk_at dksX2_part_3 5 rfl rfl)
theorem dX2_part_78 : decode cX2_part 78 = .ok (.getfield 39, 3) := dk_180 0 39 (dk_at dksX2_part_3 6 rfl rfl)
theorem dX2_part_81 : decode cX2_part 81 = .ok (.getfield 81, 3) := dk_180 0 81 (dk_at dksX2_part_3 9 rfl rfl)
theorem dX2_part_84 : decode cX2_part 84 = .ok (.aload_n 0, 1) := dk_42 (dk_at dksX2_part_3 12 rfl rfl)
theorem dX2_part_85 : decode cX2_part 85 = .ok (.getfield 39, 3) := dk_180 0 39 (dk_at dksX2_part_3 13 rfl rfl)
theorem dX2_part_88 : decode cX2_part 88 = .ok (.getfield 72, 3) := dk_180 0 72 (dk_at dksX2_part_3 16 rfl rfl)
theorem dX2_part_91 : decode cX2_part 91 = .ok (.lload_n 2, 1) := dk_32 (dk_at dksX2_part_3 19 rfl rfl)
theorem dX2_part_92 : decode cX2_part 92 = .ok (.lastore, 1) := dk_80 (dk_at dksX2_part_3 20 rfl rfl)
theorem dX2_part_93 : decode cX2_part 93 = .ok (.aload_n 0, 1) := dk_42 (dk_at dksX2_part_3 21 rfl rfl)
theorem dX2_part_94 : decode cX2_part 94 = .ok (.getfield 39, 3) := dk_180 0 39 (dk_at dksX2_part_4 0 rfl rfl)
theorem dX2_part_97 : decode cX2_part 97 = .ok (.dup, 1) := dk_89 (dk_at dksX2_part_4 3 rfl rfl)
theorem dX2_part_98 : decode cX2_part 98 = .ok (.getfield 72, 3) := dk_180 0 72 (dk_at dksX2_part_4 4 rfl rfl)
theorem dX2_part_101 : decode cX2_part 101 = .ok (.iconst 1, 1) := dk_4 (dk_at dksX2_part_4 7 rfl rfl)
theorem dX2_part_102 : decode cX2_part 102 = .ok (.iadd, 1) := dk_96 (dk_at dksX2_part_4 8 rfl rfl)
theorem dX2_part_103 : decode cX2_part 103 = .ok (.putfield 72, 3) := dk_181 0 72 (dk_at dksX2_part_4 9 rfl rfl)
theorem dX2_part_106 : decode cX2_part 106 = .ok (.return_, 1) := dk_177 (dk_at dksX2_part_4 12 rfl rfl)
theorem dX2_part_107 : decode cX2_part 107 = .ok (.iload_n 1, 1) := dk_27 (dk_at dksX2_part_4 13 rfl rfl)
theorem dX2_part_108 : decode cX2_part 108 = .ok (.ifCond .ne 11, 3) := dk_154 0 11 (dk_at dksX2_part_4 14 rfl rfl)
theorem dX2_part_111 : decode cX2_part 111 = .ok (.aload_n 0, 1) := dk_42 (dk_at dksX2_part_4 17 rfl rfl)
theorem dX2_part_112 : decode cX2_part 112 = .ok (.lload_n 2, 1) := dk_32 (dk_at dksX2_part_4 18 rfl rfl)
theorem dX2_part_113 : decode cX2_part 113 = .ok (.invokevirtual 85, 3) := dk_182 0 85 (dk_at dksX2_part_4 19 rfl rfl)
theorem dX2_part_116 : decode cX2_part 116 = .ok (.goto 22, 3) := dk_167 0 22 (dk_at dksX2_part_5 0 rfl rfl)
theorem dX2_part_119 : decode cX2_part 119 = .ok (.iload_n 1, 1) := dk_27 (dk_at dksX2_part_5 3 rfl rfl)
theorem dX2_part_120 : decode cX2_part 120 = .ok (.iconst 4, 1) := dk_7 (dk_at dksX2_part_5 4 rfl rfl)
theorem dX2_part_121 : decode cX2_part 121 = .ok (.if_icmp .ne 11, 3) := dk_160 0 11 (dk_at dksX2_part_5 5 rfl rfl)
theorem dX2_part_124 : decode cX2_part 124 = .ok (.aload_n 0, 1) := dk_42 (dk_at dksX2_part_5 8 rfl rfl)
theorem dX2_part_125 : decode cX2_part 125 = .ok (.lload_n 2, 1) := dk_32 (dk_at dksX2_part_5 9 rfl rfl)
theorem dX2_part_126 : decode cX2_part 126 = .ok (.invokevirtual 89, 3) := dk_182 0 89 (dk_at dksX2_part_5 10 rfl rfl)
theorem dX2_part_129 : decode cX2_part 129 = .ok (.goto 9, 3) := dk_167 0 9 (dk_at dksX2_part_5 13 rfl rfl)
theorem dX2_part_132 : decode cX2_part 132 = .ok (.aload_n 0, 1) := dk_42 (dk_at dksX2_part_5 16 rfl rfl)
theorem dX2_part_133 : decode cX2_part 133 = .ok (.lload_n 2, 1) := dk_32 (dk_at dksX2_part_5 17 rfl rfl)
theorem dX2_part_134 : decode cX2_part 134 = .ok (.iload_n 1, 1) := dk_27 (dk_at dksX2_part_5 18 rfl rfl)
theorem dX2_part_135 : decode cX2_part 135 = .ok (.invokevirtual 92, 3) := dk_182 0 92 (dk_at dksX2_part_5 19 rfl rfl)
theorem dX2_part_138 : decode cX2_part 138 = .ok (.astore 4, 2) := dk_58 4 (dk_at dksX2_part_5 22 rfl rfl)
theorem dX2_part_140 : decode cX2_part 140 = .ok (.aload_n 0, 1) := dk_42 (dk_at dksX2_part_6 0 rfl rfl)
theorem dX2_part_141 : decode cX2_part 141 = .ok (.invokevirtual 19, 3) := dk_182 0 19 (dk_at dksX2_part_6 1 rfl rfl)
theorem dX2_part_144 : decode cX2_part 144 = .ok (.bipush 10, 2) := dk_16 10 (dk_at dksX2_part_6 4 rfl rfl)
theorem dX2_part_146 : decode cX2_part 146 = .ok (.if_icmp .ne 9, 3) := dk_160 0 9 (dk_at dksX2_part_6 6 rfl rfl)
theorem dX2_part_149 : decode cX2_part 149 = .ok (.aload_n 0, 1) := dk_42 (dk_at dksX2_part_6 9 rfl rfl)
theorem dX2_part_150 : decode cX2_part 150 = .ok (.aload 4, 2) := dk_25 4 (dk_at dksX2_part_6 10 rfl rfl)
theorem dX2_part_152 : decode cX2_part 152 = .ok (.invokevirtual 96, 3) := dk_182 0 96 (dk_at dksX2_part_6 12 rfl rfl)
theorem dX2_part_155 : decode cX2_part 155 = .ok (.aload_n 0, 1) := dk_42 (dk_at dksX2_part_6 15 rfl rfl)
theorem dX2_part_156 : decode cX2_part 156 = .ok (.getfield 39, 3) := dk_180 0 39 (dk_at dksX2_part_6 16 rfl rfl)
theorem dX2_part_159 : decode cX2_part 159 = .ok (.aload 4, 2) := dk_25 4 (dk_at dksX2_part_6 19 rfl rfl)
theorem dX2_part_161 : decode cX2_part 161 = .ok (.invokevirtual 100, 3) := dk_182 0 100 (dk_at dksX2_part_6 21 rfl rfl)
theorem dX2_part_164 : decode cX2_part 164 = .ok (.return_, 1) := dk_177 (dk_at dksX2_part_7 0 rfl rfl)
abbrev cX2_newName : ByteArray := prog_7_method_5_code
def yX2_newName : MethodName := ⟨RX2, "newName", "()J"⟩
def dkwX2_newName_1 : List UInt8 := [182, 0, 61, 2, 159, 0, 9, 42, 6, 182, 0, 64, 191, 42, 182, 0, 27, 31, 173]
abbrev dktX2_newName_1 : List UInt8 := dkwX2_newName_1 ++ []
def dkwX2_newName_0 : List UInt8 := [42, 182, 0, 53, 64, 42, 180, 0, 39, 31, 182, 0, 57, 2, 160, 0, 15, 42, 180, 0, 39, 31]
abbrev dktX2_newName_0 : List UInt8 := dkwX2_newName_0 ++ dktX2_newName_1
theorem dksX2_newName_0 : cX2_newName.data.toList.drop 0 = dktX2_newName_0 := by decide +kernel
theorem dksX2_newName_1 : cX2_newName.data.toList.drop 22 = dktX2_newName_1 := dk_seg dksX2_newName_0 22 rfl rfl
theorem dX2_newName_0 : decode cX2_newName 0 = .ok (.aload_n 0, 1) := dk_42 (dk_at dksX2_newName_0 0 rfl rfl)
theorem dX2_newName_1 : decode cX2_newName 1 = .ok (.invokevirtual 53, 3) := dk_182 0 53 (dk_at dksX2_newName_0 1 rfl rfl)
theorem dX2_newName_4 : decode cX2_newName 4 = .ok (.lstore_n 1, 1) := dk_64 (dk_at dksX2_newName_0 4 rfl rfl)
theorem dX2_newName_5 : decode cX2_newName 5 = .ok (.aload_n 0, 1) := dk_42 (dk_at dksX2_newName_0 5 rfl rfl)
theorem dX2_newName_6 : decode cX2_newName 6 = .ok (.getfield 39, 3) := dk_180 0 39 (dk_at dksX2_newName_0 6 rfl rfl)
theorem dX2_newName_9 : decode cX2_newName 9 = .ok (.lload_n 1, 1) := dk_31 (dk_at dksX2_newName_0 9 rfl rfl)
theorem dX2_newName_10 : decode cX2_newName 10 = .ok (.invokevirtual 57, 3) := dk_182 0 57 (dk_at dksX2_newName_0 10 rfl rfl)
theorem dX2_newName_13 : decode cX2_newName 13 = .ok (.iconst (-1), 1) := dk_2 (dk_at dksX2_newName_0 13 rfl rfl)
theorem dX2_newName_14 : decode cX2_newName 14 = .ok (.if_icmp .ne 15, 3) := dk_160 0 15 (dk_at dksX2_newName_0 14 rfl rfl)
theorem dX2_newName_17 : decode cX2_newName 17 = .ok (.aload_n 0, 1) := dk_42 (dk_at dksX2_newName_0 17 rfl rfl)
theorem dX2_newName_18 : decode cX2_newName 18 = .ok (.getfield 39, 3) := dk_180 0 39 (dk_at dksX2_newName_0 18 rfl rfl)
theorem dX2_newName_21 : decode cX2_newName 21 = .ok (.lload_n 1, 1) := dk_31 (dk_at dksX2_newName_0 21 rfl rfl)
theorem dX2_newName_22 : decode cX2_newName 22 = .ok (.invokevirtual 61, 3) := dk_182 0 61 (dk_at dksX2_newName_1 0 rfl rfl)
theorem dX2_newName_25 : decode cX2_newName 25 = .ok (.iconst (-1), 1) := dk_2 (dk_at dksX2_newName_1 3 rfl rfl)
theorem dX2_newName_26 : decode cX2_newName 26 = .ok (.if_icmp .eq 9, 3) := dk_159 0 9 (dk_at dksX2_newName_1 4 rfl rfl)
theorem dX2_newName_29 : decode cX2_newName 29 = .ok (.aload_n 0, 1) := dk_42 (dk_at dksX2_newName_1 7 rfl rfl)
theorem dX2_newName_30 : decode cX2_newName 30 = .ok (.iconst 3, 1) := dk_6 (dk_at dksX2_newName_1 8 rfl rfl)
theorem dX2_newName_31 : decode cX2_newName 31 = .ok (.invokevirtual 64, 3) := dk_182 0 64 (dk_at dksX2_newName_1 9 rfl rfl)
theorem dX2_newName_34 : decode cX2_newName 34 = .ok (.athrow, 1) := dk_191 (dk_at dksX2_newName_1 12 rfl rfl)
theorem dX2_newName_35 : decode cX2_newName 35 = .ok (.aload_n 0, 1) := dk_42 (dk_at dksX2_newName_1 13 rfl rfl)
theorem dX2_newName_36 : decode cX2_newName 36 = .ok (.invokevirtual 27, 3) := dk_182 0 27 (dk_at dksX2_newName_1 14 rfl rfl)
theorem dX2_newName_39 : decode cX2_newName 39 = .ok (.lload_n 1, 1) := dk_31 (dk_at dksX2_newName_1 17 rfl rfl)
theorem dX2_newName_40 : decode cX2_newName 40 = .ok (.lreturn, 1) := dk_173 (dk_at dksX2_newName_1 18 rfl rfl)
abbrev cX2_aPut : ByteArray := prog_7_method_9_code
def yX2_aPut : MethodName := ⟨RX2, "aPut", "(J)LSwapBook$Change;"⟩
def dkwX2_aPut_1 : List UInt8 := [182, 0, 111, 181, 0, 114, 42, 16, 7, 182, 0, 108, 45, 42, 182, 0, 111, 181, 0, 116, 45, 176]
abbrev dktX2_aPut_1 : List UInt8 := dkwX2_aPut_1 ++ []
def dkwX2_aPut_0 : List UInt8 := [187, 0, 103, 89, 31, 42, 180, 0, 39, 180, 0, 75, 183, 0, 105, 78, 42, 16, 6, 182, 0, 108, 45, 42]
abbrev dktX2_aPut_0 : List UInt8 := dkwX2_aPut_0 ++ dktX2_aPut_1
theorem dksX2_aPut_0 : cX2_aPut.data.toList.drop 0 = dktX2_aPut_0 := by decide +kernel
theorem dksX2_aPut_1 : cX2_aPut.data.toList.drop 24 = dktX2_aPut_1 := dk_seg dksX2_aPut_0 24 rfl rfl
theorem dX2_aPut_0 : decode cX2_aPut 0 = .ok (.new 103, 3) := dk_187 0 103 (dk_at dksX2_aPut_0 0 rfl rfl)
theorem dX2_aPut_3 : decode cX2_aPut 3 = .ok (.dup, 1) := dk_89 (dk_at dksX2_aPut_0 3 rfl rfl)
theorem dX2_aPut_4 : decode cX2_aPut 4 = .ok (.lload_n 1, 1) := dk_31 (dk_at dksX2_aPut_0 4 rfl rfl)
theorem dX2_aPut_5 : decode cX2_aPut 5 = .ok (.aload_n 0, 1) := dk_42 (dk_at dksX2_aPut_0 5 rfl rfl)
theorem dX2_aPut_6 : decode cX2_aPut 6 = .ok (.getfield 39, 3) := dk_180 0 39 (dk_at dksX2_aPut_0 6 rfl rfl)
theorem dX2_aPut_9 : decode cX2_aPut 9 = .ok (.getfield 75, 3) := dk_180 0 75 (dk_at dksX2_aPut_0 9 rfl rfl)
theorem dX2_aPut_12 : decode cX2_aPut 12 = .ok (.invokespecial 105, 3) := dk_183 0 105 (dk_at dksX2_aPut_0 12 rfl rfl)
theorem dX2_aPut_15 : decode cX2_aPut 15 = .ok (.astore_n 3, 1) := dk_78 (dk_at dksX2_aPut_0 15 rfl rfl)
theorem dX2_aPut_16 : decode cX2_aPut 16 = .ok (.aload_n 0, 1) := dk_42 (dk_at dksX2_aPut_0 16 rfl rfl)
theorem dX2_aPut_17 : decode cX2_aPut 17 = .ok (.bipush 6, 2) := dk_16 6 (dk_at dksX2_aPut_0 17 rfl rfl)
theorem dX2_aPut_19 : decode cX2_aPut 19 = .ok (.invokevirtual 108, 3) := dk_182 0 108 (dk_at dksX2_aPut_0 19 rfl rfl)
theorem dX2_aPut_22 : decode cX2_aPut 22 = .ok (.aload_n 3, 1) := dk_45 (dk_at dksX2_aPut_0 22 rfl rfl)
theorem dX2_aPut_23 : decode cX2_aPut 23 = .ok (.aload_n 0, 1) := dk_42 (dk_at dksX2_aPut_0 23 rfl rfl)
theorem dX2_aPut_24 : decode cX2_aPut 24 = .ok (.invokevirtual 111, 3) := dk_182 0 111 (dk_at dksX2_aPut_1 0 rfl rfl)
theorem dX2_aPut_27 : decode cX2_aPut 27 = .ok (.putfield 114, 3) := dk_181 0 114 (dk_at dksX2_aPut_1 3 rfl rfl)
theorem dX2_aPut_30 : decode cX2_aPut 30 = .ok (.aload_n 0, 1) := dk_42 (dk_at dksX2_aPut_1 6 rfl rfl)
theorem dX2_aPut_31 : decode cX2_aPut 31 = .ok (.bipush 7, 2) := dk_16 7 (dk_at dksX2_aPut_1 7 rfl rfl)
theorem dX2_aPut_33 : decode cX2_aPut 33 = .ok (.invokevirtual 108, 3) := dk_182 0 108 (dk_at dksX2_aPut_1 9 rfl rfl)
theorem dX2_aPut_36 : decode cX2_aPut 36 = .ok (.aload_n 3, 1) := dk_45 (dk_at dksX2_aPut_1 12 rfl rfl)
theorem dX2_aPut_37 : decode cX2_aPut 37 = .ok (.aload_n 0, 1) := dk_42 (dk_at dksX2_aPut_1 13 rfl rfl)
theorem dX2_aPut_38 : decode cX2_aPut 38 = .ok (.invokevirtual 111, 3) := dk_182 0 111 (dk_at dksX2_aPut_1 14 rfl rfl)
theorem dX2_aPut_41 : decode cX2_aPut 41 = .ok (.putfield 116, 3) := dk_181 0 116 (dk_at dksX2_aPut_1 17 rfl rfl)
theorem dX2_aPut_44 : decode cX2_aPut 44 = .ok (.aload_n 3, 1) := dk_45 (dk_at dksX2_aPut_1 20 rfl rfl)
theorem dX2_aPut_45 : decode cX2_aPut 45 = .ok (.areturn, 1) := dk_176 (dk_at dksX2_aPut_1 21 rfl rfl)
abbrev cX2_word : ByteArray := prog_7_method_2_code
def yX2_word : MethodName := ⟨RX2, "word", "(I)V"⟩
def dkwX2_word_0 : List UInt8 := [42, 42, 182, 0, 19, 27, 160, 0, 7, 4, 167, 0, 4, 3, 182, 0, 23, 42, 182, 0, 27, 177]
abbrev dktX2_word_0 : List UInt8 := dkwX2_word_0 ++ []
theorem dksX2_word_0 : cX2_word.data.toList.drop 0 = dktX2_word_0 := by decide +kernel
theorem dX2_word_0 : decode cX2_word 0 = .ok (.aload_n 0, 1) := dk_42 (dk_at dksX2_word_0 0 rfl rfl)
theorem dX2_word_1 : decode cX2_word 1 = .ok (.aload_n 0, 1) := dk_42 (dk_at dksX2_word_0 1 rfl rfl)
theorem dX2_word_2 : decode cX2_word 2 = .ok (.invokevirtual 19, 3) := dk_182 0 19 (dk_at dksX2_word_0 2 rfl rfl)
theorem dX2_word_5 : decode cX2_word 5 = .ok (.iload_n 1, 1) := dk_27 (dk_at dksX2_word_0 5 rfl rfl)
theorem dX2_word_6 : decode cX2_word 6 = .ok (.if_icmp .ne 7, 3) := dk_160 0 7 (dk_at dksX2_word_0 6 rfl rfl)
theorem dX2_word_9 : decode cX2_word 9 = .ok (.iconst 1, 1) := dk_4 (dk_at dksX2_word_0 9 rfl rfl)
theorem dX2_word_10 : decode cX2_word 10 = .ok (.goto 4, 3) := dk_167 0 4 (dk_at dksX2_word_0 10 rfl rfl)
theorem dX2_word_13 : decode cX2_word 13 = .ok (.iconst 0, 1) := dk_3 (dk_at dksX2_word_0 13 rfl rfl)
theorem dX2_word_14 : decode cX2_word 14 = .ok (.invokevirtual 23, 3) := dk_182 0 23 (dk_at dksX2_word_0 14 rfl rfl)
theorem dX2_word_17 : decode cX2_word 17 = .ok (.aload_n 0, 1) := dk_42 (dk_at dksX2_word_0 17 rfl rfl)
theorem dX2_word_18 : decode cX2_word 18 = .ok (.invokevirtual 27, 3) := dk_182 0 27 (dk_at dksX2_word_0 18 rfl rfl)
theorem dX2_word_21 : decode cX2_word 21 = .ok (.return_, 1) := dk_177 (dk_at dksX2_word_0 21 rfl rfl)
abbrev cX2_told : ByteArray := prog_7_method_7_code
def yX2_told : MethodName := ⟨RX2, "told", "()I"⟩
def dkwX2_told_0 : List UInt8 := [42, 3, 17, 39, 15, 182, 0, 68, 172]
abbrev dktX2_told_0 : List UInt8 := dkwX2_told_0 ++ []
theorem dksX2_told_0 : cX2_told.data.toList.drop 0 = dktX2_told_0 := by decide +kernel
theorem dX2_told_0 : decode cX2_told 0 = .ok (.aload_n 0, 1) := dk_42 (dk_at dksX2_told_0 0 rfl rfl)
theorem dX2_told_1 : decode cX2_told 1 = .ok (.iconst 0, 1) := dk_3 (dk_at dksX2_told_0 1 rfl rfl)
theorem dX2_told_2 : decode cX2_told 2 = .ok (.sipush 9999, 3) := dk_17 39 15 (dk_at dksX2_told_0 2 rfl rfl)
theorem dX2_told_5 : decode cX2_told 5 = .ok (.invokevirtual 68, 3) := dk_182 0 68 (dk_at dksX2_told_0 5 rfl rfl)
theorem dX2_told_8 : decode cX2_told 8 = .ok (.ireturn, 1) := dk_172 (dk_at dksX2_told_0 8 rfl rfl)
abbrev cX2_aSettle : ByteArray := prog_7_method_12_code
def yX2_aSettle : MethodName := ⟨RX2, "aSettle", "(J)LSwapBook$Change;"⟩
def dkwX2_aSettle_5 : List UInt8 := [181, 0, 165, 45, 176]
abbrev dktX2_aSettle_5 : List UInt8 := dkwX2_aSettle_5 ++ []
def dkwX2_aSettle_4 : List UInt8 := [180, 0, 158, 120, 128, 181, 0, 164, 45, 42, 180, 0, 39, 180, 0, 130, 45, 180, 0, 157, 50, 180, 0, 145]
abbrev dktX2_aSettle_4 : List UInt8 := dkwX2_aSettle_4 ++ dktX2_aSettle_5
def dkwX2_aSettle_3 : List UInt8 := [154, 0, 9, 42, 8, 182, 0, 64, 191, 42, 182, 0, 27, 45, 4, 45, 180, 0, 157, 120, 4, 45]
abbrev dktX2_aSettle_3 : List UInt8 := dkwX2_aSettle_3 ++ dktX2_aSettle_4
def dkwX2_aSettle_2 : List UInt8 := [42, 180, 0, 39, 180, 0, 130, 45, 180, 0, 157, 50, 180, 0, 161, 45, 180, 0, 158, 122, 4, 126]
abbrev dktX2_aSettle_2 : List UInt8 := dkwX2_aSettle_2 ++ dktX2_aSettle_3
def dkwX2_aSettle_1 : List UInt8 := [182, 0, 154, 181, 0, 157, 42, 182, 0, 27, 42, 16, 9, 182, 0, 108, 45, 42, 182, 0, 154, 181, 0, 158]
abbrev dktX2_aSettle_1 : List UInt8 := dkwX2_aSettle_1 ++ dktX2_aSettle_2
def dkwX2_aSettle_0 : List UInt8 := [187, 0, 151, 89, 31, 42, 180, 0, 39, 180, 0, 75, 183, 0, 153, 78, 42, 16, 8, 182, 0, 108, 45, 42]
abbrev dktX2_aSettle_0 : List UInt8 := dkwX2_aSettle_0 ++ dktX2_aSettle_1
theorem dksX2_aSettle_0 : cX2_aSettle.data.toList.drop 0 = dktX2_aSettle_0 := by decide +kernel
theorem dksX2_aSettle_1 : cX2_aSettle.data.toList.drop 24 = dktX2_aSettle_1 := dk_seg dksX2_aSettle_0 24 rfl rfl
theorem dksX2_aSettle_2 : cX2_aSettle.data.toList.drop 48 = dktX2_aSettle_2 := dk_seg dksX2_aSettle_1 24 rfl rfl
theorem dksX2_aSettle_3 : cX2_aSettle.data.toList.drop 70 = dktX2_aSettle_3 := dk_seg dksX2_aSettle_2 22 rfl rfl
theorem dksX2_aSettle_4 : cX2_aSettle.data.toList.drop 92 = dktX2_aSettle_4 := dk_seg dksX2_aSettle_3 22 rfl rfl
theorem dksX2_aSettle_5 : cX2_aSettle.data.toList.drop 116 = dktX2_aSettle_5 := dk_seg dksX2_aSettle_4 24 rfl rfl
theorem dX2_aSettle_0 : decode cX2_aSettle 0 = .ok (.new 151, 3) := dk_187 0 151 (dk_at dksX2_aSettle_0 0 rfl rfl)
theorem dX2_aSettle_3 : decode cX2_aSettle 3 = .ok (.dup, 1) := dk_89 (dk_at dksX2_aSettle_0 3 rfl rfl)
theorem dX2_aSettle_4 : decode cX2_aSettle 4 = .ok (.lload_n 1, 1) := dk_31 (dk_at dksX2_aSettle_0 4 rfl rfl)
theorem dX2_aSettle_5 : decode cX2_aSettle 5 = .ok (.aload_n 0, 1) := dk_42 (dk_at dksX2_aSettle_0 5 rfl rfl)
theorem dX2_aSettle_6 : decode cX2_aSettle 6 = .ok (.getfield 39, 3) := dk_180 0 39 (dk_at dksX2_aSettle_0 6 rfl rfl)
theorem dX2_aSettle_9 : decode cX2_aSettle 9 = .ok (.getfield 75, 3) := dk_180 0 75 (dk_at dksX2_aSettle_0 9 rfl rfl)
theorem dX2_aSettle_12 : decode cX2_aSettle 12 = .ok (.invokespecial 153, 3) := dk_183 0 153 (dk_at dksX2_aSettle_0 12 rfl rfl)
theorem dX2_aSettle_15 : decode cX2_aSettle 15 = .ok (.astore_n 3, 1) := dk_78 (dk_at dksX2_aSettle_0 15 rfl rfl)
theorem dX2_aSettle_16 : decode cX2_aSettle 16 = .ok (.aload_n 0, 1) := dk_42 (dk_at dksX2_aSettle_0 16 rfl rfl)
theorem dX2_aSettle_17 : decode cX2_aSettle 17 = .ok (.bipush 8, 2) := dk_16 8 (dk_at dksX2_aSettle_0 17 rfl rfl)
theorem dX2_aSettle_19 : decode cX2_aSettle 19 = .ok (.invokevirtual 108, 3) := dk_182 0 108 (dk_at dksX2_aSettle_0 19 rfl rfl)
theorem dX2_aSettle_22 : decode cX2_aSettle 22 = .ok (.aload_n 3, 1) := dk_45 (dk_at dksX2_aSettle_0 22 rfl rfl)
theorem dX2_aSettle_23 : decode cX2_aSettle 23 = .ok (.aload_n 0, 1) := dk_42 (dk_at dksX2_aSettle_0 23 rfl rfl)
theorem dX2_aSettle_24 : decode cX2_aSettle 24 = .ok (.invokevirtual 154, 3) := dk_182 0 154 (dk_at dksX2_aSettle_1 0 rfl rfl)
theorem dX2_aSettle_27 : decode cX2_aSettle 27 = .ok (.putfield 157, 3) := dk_181 0 157 (dk_at dksX2_aSettle_1 3 rfl rfl)
theorem dX2_aSettle_30 : decode cX2_aSettle 30 = .ok (.aload_n 0, 1) := dk_42 (dk_at dksX2_aSettle_1 6 rfl rfl)
theorem dX2_aSettle_31 : decode cX2_aSettle 31 = .ok (.invokevirtual 27, 3) := dk_182 0 27 (dk_at dksX2_aSettle_1 7 rfl rfl)
theorem dX2_aSettle_34 : decode cX2_aSettle 34 = .ok (.aload_n 0, 1) := dk_42 (dk_at dksX2_aSettle_1 10 rfl rfl)
theorem dX2_aSettle_35 : decode cX2_aSettle 35 = .ok (.bipush 9, 2) := dk_16 9 (dk_at dksX2_aSettle_1 11 rfl rfl)
theorem dX2_aSettle_37 : decode cX2_aSettle 37 = .ok (.invokevirtual 108, 3) := dk_182 0 108 (dk_at dksX2_aSettle_1 13 rfl rfl)
theorem dX2_aSettle_40 : decode cX2_aSettle 40 = .ok (.aload_n 3, 1) := dk_45 (dk_at dksX2_aSettle_1 16 rfl rfl)
theorem dX2_aSettle_41 : decode cX2_aSettle 41 = .ok (.aload_n 0, 1) := dk_42 (dk_at dksX2_aSettle_1 17 rfl rfl)
theorem dX2_aSettle_42 : decode cX2_aSettle 42 = .ok (.invokevirtual 154, 3) := dk_182 0 154 (dk_at dksX2_aSettle_1 18 rfl rfl)
theorem dX2_aSettle_45 : decode cX2_aSettle 45 = .ok (.putfield 158, 3) := dk_181 0 158 (dk_at dksX2_aSettle_1 21 rfl rfl)
theorem dX2_aSettle_48 : decode cX2_aSettle 48 = .ok (.aload_n 0, 1) := dk_42 (dk_at dksX2_aSettle_2 0 rfl rfl)
theorem dX2_aSettle_49 : decode cX2_aSettle 49 = .ok (.getfield 39, 3) := dk_180 0 39 (dk_at dksX2_aSettle_2 1 rfl rfl)
theorem dX2_aSettle_52 : decode cX2_aSettle 52 = .ok (.getfield 130, 3) := dk_180 0 130 (dk_at dksX2_aSettle_2 4 rfl rfl)
theorem dX2_aSettle_55 : decode cX2_aSettle 55 = .ok (.aload_n 3, 1) := dk_45 (dk_at dksX2_aSettle_2 7 rfl rfl)
theorem dX2_aSettle_56 : decode cX2_aSettle 56 = .ok (.getfield 157, 3) := dk_180 0 157 (dk_at dksX2_aSettle_2 8 rfl rfl)
theorem dX2_aSettle_59 : decode cX2_aSettle 59 = .ok (.aaload, 1) := dk_50 (dk_at dksX2_aSettle_2 11 rfl rfl)
theorem dX2_aSettle_60 : decode cX2_aSettle 60 = .ok (.getfield 161, 3) := dk_180 0 161 (dk_at dksX2_aSettle_2 12 rfl rfl)
theorem dX2_aSettle_63 : decode cX2_aSettle 63 = .ok (.aload_n 3, 1) := dk_45 (dk_at dksX2_aSettle_2 15 rfl rfl)
theorem dX2_aSettle_64 : decode cX2_aSettle 64 = .ok (.getfield 158, 3) := dk_180 0 158 (dk_at dksX2_aSettle_2 16 rfl rfl)
theorem dX2_aSettle_67 : decode cX2_aSettle 67 = .ok (.ishr, 1) := dk_122 (dk_at dksX2_aSettle_2 19 rfl rfl)
theorem dX2_aSettle_68 : decode cX2_aSettle 68 = .ok (.iconst 1, 1) := dk_4 (dk_at dksX2_aSettle_2 20 rfl rfl)
theorem dX2_aSettle_69 : decode cX2_aSettle 69 = .ok (.iand, 1) := dk_126 (dk_at dksX2_aSettle_2 21 rfl rfl)
theorem dX2_aSettle_70 : decode cX2_aSettle 70 = .ok (.ifCond .ne 9, 3) := dk_154 0 9 (dk_at dksX2_aSettle_3 0 rfl rfl)
theorem dX2_aSettle_73 : decode cX2_aSettle 73 = .ok (.aload_n 0, 1) := dk_42 (dk_at dksX2_aSettle_3 3 rfl rfl)
theorem dX2_aSettle_74 : decode cX2_aSettle 74 = .ok (.iconst 5, 1) := dk_8 (dk_at dksX2_aSettle_3 4 rfl rfl)
theorem dX2_aSettle_75 : decode cX2_aSettle 75 = .ok (.invokevirtual 64, 3) := dk_182 0 64 (dk_at dksX2_aSettle_3 5 rfl rfl)
theorem dX2_aSettle_78 : decode cX2_aSettle 78 = .ok (.athrow, 1) := dk_191 (dk_at dksX2_aSettle_3 8 rfl rfl)
theorem dX2_aSettle_79 : decode cX2_aSettle 79 = .ok (.aload_n 0, 1) := dk_42 (dk_at dksX2_aSettle_3 9 rfl rfl)
theorem dX2_aSettle_80 : decode cX2_aSettle 80 = .ok (.invokevirtual 27, 3) := dk_182 0 27 (dk_at dksX2_aSettle_3 10 rfl rfl)
theorem dX2_aSettle_83 : decode cX2_aSettle 83 = .ok (.aload_n 3, 1) := dk_45 (dk_at dksX2_aSettle_3 13 rfl rfl)
theorem dX2_aSettle_84 : decode cX2_aSettle 84 = .ok (.iconst 1, 1) := dk_4 (dk_at dksX2_aSettle_3 14 rfl rfl)
theorem dX2_aSettle_85 : decode cX2_aSettle 85 = .ok (.aload_n 3, 1) := dk_45 (dk_at dksX2_aSettle_3 15 rfl rfl)
theorem dX2_aSettle_86 : decode cX2_aSettle 86 = .ok (.getfield 157, 3) := dk_180 0 157 (dk_at dksX2_aSettle_3 16 rfl rfl)
theorem dX2_aSettle_89 : decode cX2_aSettle 89 = .ok (.ishl, 1) := dk_120 (dk_at dksX2_aSettle_3 19 rfl rfl)
theorem dX2_aSettle_90 : decode cX2_aSettle 90 = .ok (.iconst 1, 1) := dk_4 (dk_at dksX2_aSettle_3 20 rfl rfl)
theorem dX2_aSettle_91 : decode cX2_aSettle 91 = .ok (.aload_n 3, 1) := dk_45 (dk_at dksX2_aSettle_3 21 rfl rfl)
theorem dX2_aSettle_92 : decode cX2_aSettle 92 = .ok (.getfield 158, 3) := dk_180 0 158 (dk_at dksX2_aSettle_4 0 rfl rfl)
theorem dX2_aSettle_95 : decode cX2_aSettle 95 = .ok (.ishl, 1) := dk_120 (dk_at dksX2_aSettle_4 3 rfl rfl)
theorem dX2_aSettle_96 : decode cX2_aSettle 96 = .ok (.ior, 1) := dk_128 (dk_at dksX2_aSettle_4 4 rfl rfl)
theorem dX2_aSettle_97 : decode cX2_aSettle 97 = .ok (.putfield 164, 3) := dk_181 0 164 (dk_at dksX2_aSettle_4 5 rfl rfl)
theorem dX2_aSettle_100 : decode cX2_aSettle 100 = .ok (.aload_n 3, 1) := dk_45 (dk_at dksX2_aSettle_4 8 rfl rfl)
theorem dX2_aSettle_101 : decode cX2_aSettle 101 = .ok (.aload_n 0, 1) := dk_42 (dk_at dksX2_aSettle_4 9 rfl rfl)
theorem dX2_aSettle_102 : decode cX2_aSettle 102 = .ok (.getfield 39, 3) := dk_180 0 39 (dk_at dksX2_aSettle_4 10 rfl rfl)
theorem dX2_aSettle_105 : decode cX2_aSettle 105 = .ok (.getfield 130, 3) := dk_180 0 130 (dk_at dksX2_aSettle_4 13 rfl rfl)
theorem dX2_aSettle_108 : decode cX2_aSettle 108 = .ok (.aload_n 3, 1) := dk_45 (dk_at dksX2_aSettle_4 16 rfl rfl)
theorem dX2_aSettle_109 : decode cX2_aSettle 109 = .ok (.getfield 157, 3) := dk_180 0 157 (dk_at dksX2_aSettle_4 17 rfl rfl)
theorem dX2_aSettle_112 : decode cX2_aSettle 112 = .ok (.aaload, 1) := dk_50 (dk_at dksX2_aSettle_4 20 rfl rfl)
theorem dX2_aSettle_113 : decode cX2_aSettle 113 = .ok (.getfield 145, 3) := dk_180 0 145 (dk_at dksX2_aSettle_4 21 rfl rfl)
theorem dX2_aSettle_116 : decode cX2_aSettle 116 = .ok (.putfield 165, 3) := dk_181 0 165 (dk_at dksX2_aSettle_5 0 rfl rfl)
theorem dX2_aSettle_119 : decode cX2_aSettle 119 = .ok (.aload_n 3, 1) := dk_45 (dk_at dksX2_aSettle_5 3 rfl rfl)
theorem dX2_aSettle_120 : decode cX2_aSettle 120 = .ok (.areturn, 1) := dk_176 (dk_at dksX2_aSettle_5 4 rfl rfl)
abbrev cX2_ofTwo : ByteArray := prog_7_method_11_code
def yX2_ofTwo : MethodName := ⟨RX2, "ofTwo", "()I"⟩
def dkwX2_ofTwo_1 : List UInt8 := [180, 0, 130, 27, 50, 182, 0, 134, 7, 160, 0, 9, 42, 8, 182, 0, 64, 191, 27, 172]
abbrev dktX2_ofTwo_1 : List UInt8 := dkwX2_ofTwo_1 ++ []
def dkwX2_ofTwo_0 : List UInt8 := [42, 182, 0, 127, 60, 42, 180, 0, 39, 180, 0, 130, 27, 50, 182, 0, 134, 153, 0, 19, 42, 180, 0, 39]
abbrev dktX2_ofTwo_0 : List UInt8 := dkwX2_ofTwo_0 ++ dktX2_ofTwo_1
theorem dksX2_ofTwo_0 : cX2_ofTwo.data.toList.drop 0 = dktX2_ofTwo_0 := by decide +kernel
theorem dksX2_ofTwo_1 : cX2_ofTwo.data.toList.drop 24 = dktX2_ofTwo_1 := dk_seg dksX2_ofTwo_0 24 rfl rfl
theorem dX2_ofTwo_0 : decode cX2_ofTwo 0 = .ok (.aload_n 0, 1) := dk_42 (dk_at dksX2_ofTwo_0 0 rfl rfl)
theorem dX2_ofTwo_1 : decode cX2_ofTwo 1 = .ok (.invokevirtual 127, 3) := dk_182 0 127 (dk_at dksX2_ofTwo_0 1 rfl rfl)
theorem dX2_ofTwo_4 : decode cX2_ofTwo 4 = .ok (.istore_n 1, 1) := dk_60 (dk_at dksX2_ofTwo_0 4 rfl rfl)
theorem dX2_ofTwo_5 : decode cX2_ofTwo 5 = .ok (.aload_n 0, 1) := dk_42 (dk_at dksX2_ofTwo_0 5 rfl rfl)
theorem dX2_ofTwo_6 : decode cX2_ofTwo 6 = .ok (.getfield 39, 3) := dk_180 0 39 (dk_at dksX2_ofTwo_0 6 rfl rfl)
theorem dX2_ofTwo_9 : decode cX2_ofTwo 9 = .ok (.getfield 130, 3) := dk_180 0 130 (dk_at dksX2_ofTwo_0 9 rfl rfl)
theorem dX2_ofTwo_12 : decode cX2_ofTwo 12 = .ok (.iload_n 1, 1) := dk_27 (dk_at dksX2_ofTwo_0 12 rfl rfl)
theorem dX2_ofTwo_13 : decode cX2_ofTwo 13 = .ok (.aaload, 1) := dk_50 (dk_at dksX2_ofTwo_0 13 rfl rfl)
theorem dX2_ofTwo_14 : decode cX2_ofTwo 14 = .ok (.invokevirtual 134, 3) := dk_182 0 134 (dk_at dksX2_ofTwo_0 14 rfl rfl)
theorem dX2_ofTwo_17 : decode cX2_ofTwo 17 = .ok (.ifCond .eq 19, 3) := dk_153 0 19 (dk_at dksX2_ofTwo_0 17 rfl rfl)
theorem dX2_ofTwo_20 : decode cX2_ofTwo 20 = .ok (.aload_n 0, 1) := dk_42 (dk_at dksX2_ofTwo_0 20 rfl rfl)
theorem dX2_ofTwo_21 : decode cX2_ofTwo 21 = .ok (.getfield 39, 3) := dk_180 0 39 (dk_at dksX2_ofTwo_0 21 rfl rfl)
theorem dX2_ofTwo_24 : decode cX2_ofTwo 24 = .ok (.getfield 130, 3) := dk_180 0 130 (dk_at dksX2_ofTwo_1 0 rfl rfl)
theorem dX2_ofTwo_27 : decode cX2_ofTwo 27 = .ok (.iload_n 1, 1) := dk_27 (dk_at dksX2_ofTwo_1 3 rfl rfl)
theorem dX2_ofTwo_28 : decode cX2_ofTwo 28 = .ok (.aaload, 1) := dk_50 (dk_at dksX2_ofTwo_1 4 rfl rfl)
theorem dX2_ofTwo_29 : decode cX2_ofTwo 29 = .ok (.invokevirtual 134, 3) := dk_182 0 134 (dk_at dksX2_ofTwo_1 5 rfl rfl)
theorem dX2_ofTwo_32 : decode cX2_ofTwo 32 = .ok (.iconst 4, 1) := dk_7 (dk_at dksX2_ofTwo_1 8 rfl rfl)
theorem dX2_ofTwo_33 : decode cX2_ofTwo 33 = .ok (.if_icmp .ne 9, 3) := dk_160 0 9 (dk_at dksX2_ofTwo_1 9 rfl rfl)
theorem dX2_ofTwo_36 : decode cX2_ofTwo 36 = .ok (.aload_n 0, 1) := dk_42 (dk_at dksX2_ofTwo_1 12 rfl rfl)
theorem dX2_ofTwo_37 : decode cX2_ofTwo 37 = .ok (.iconst 5, 1) := dk_8 (dk_at dksX2_ofTwo_1 13 rfl rfl)
theorem dX2_ofTwo_38 : decode cX2_ofTwo 38 = .ok (.invokevirtual 64, 3) := dk_182 0 64 (dk_at dksX2_ofTwo_1 14 rfl rfl)
theorem dX2_ofTwo_41 : decode cX2_ofTwo 41 = .ok (.athrow, 1) := dk_191 (dk_at dksX2_ofTwo_1 17 rfl rfl)
theorem dX2_ofTwo_42 : decode cX2_ofTwo 42 = .ok (.iload_n 1, 1) := dk_27 (dk_at dksX2_ofTwo_1 18 rfl rfl)
theorem dX2_ofTwo_43 : decode cX2_ofTwo 43 = .ok (.ireturn, 1) := dk_172 (dk_at dksX2_ofTwo_1 19 rfl rfl)
abbrev cX2_aChange : ByteArray := prog_7_method_6_code
def yX2_aChange : MethodName := ⟨RX2, "aChange", "()I"⟩
def dkwX2_aChange_1 : List UInt8 := [172]
abbrev dktX2_aChange_1 : List UInt8 := dkwX2_aChange_1 ++ []
def dkwX2_aChange_0 : List UInt8 := [42, 180, 0, 39, 42, 182, 0, 53, 182, 0, 57, 60, 27, 2, 160, 0, 9, 42, 6, 182, 0, 64, 191, 27]
abbrev dktX2_aChange_0 : List UInt8 := dkwX2_aChange_0 ++ dktX2_aChange_1
theorem dksX2_aChange_0 : cX2_aChange.data.toList.drop 0 = dktX2_aChange_0 := by decide +kernel
theorem dksX2_aChange_1 : cX2_aChange.data.toList.drop 24 = dktX2_aChange_1 := dk_seg dksX2_aChange_0 24 rfl rfl
theorem dX2_aChange_0 : decode cX2_aChange 0 = .ok (.aload_n 0, 1) := dk_42 (dk_at dksX2_aChange_0 0 rfl rfl)
theorem dX2_aChange_1 : decode cX2_aChange 1 = .ok (.getfield 39, 3) := dk_180 0 39 (dk_at dksX2_aChange_0 1 rfl rfl)
theorem dX2_aChange_4 : decode cX2_aChange 4 = .ok (.aload_n 0, 1) := dk_42 (dk_at dksX2_aChange_0 4 rfl rfl)
theorem dX2_aChange_5 : decode cX2_aChange 5 = .ok (.invokevirtual 53, 3) := dk_182 0 53 (dk_at dksX2_aChange_0 5 rfl rfl)
theorem dX2_aChange_8 : decode cX2_aChange 8 = .ok (.invokevirtual 57, 3) := dk_182 0 57 (dk_at dksX2_aChange_0 8 rfl rfl)
theorem dX2_aChange_11 : decode cX2_aChange 11 = .ok (.istore_n 1, 1) := dk_60 (dk_at dksX2_aChange_0 11 rfl rfl)
theorem dX2_aChange_12 : decode cX2_aChange 12 = .ok (.iload_n 1, 1) := dk_27 (dk_at dksX2_aChange_0 12 rfl rfl)
theorem dX2_aChange_13 : decode cX2_aChange 13 = .ok (.iconst (-1), 1) := dk_2 (dk_at dksX2_aChange_0 13 rfl rfl)
theorem dX2_aChange_14 : decode cX2_aChange 14 = .ok (.if_icmp .ne 9, 3) := dk_160 0 9 (dk_at dksX2_aChange_0 14 rfl rfl)
theorem dX2_aChange_17 : decode cX2_aChange 17 = .ok (.aload_n 0, 1) := dk_42 (dk_at dksX2_aChange_0 17 rfl rfl)
theorem dX2_aChange_18 : decode cX2_aChange 18 = .ok (.iconst 3, 1) := dk_6 (dk_at dksX2_aChange_0 18 rfl rfl)
theorem dX2_aChange_19 : decode cX2_aChange 19 = .ok (.invokevirtual 64, 3) := dk_182 0 64 (dk_at dksX2_aChange_0 19 rfl rfl)
theorem dX2_aChange_22 : decode cX2_aChange 22 = .ok (.athrow, 1) := dk_191 (dk_at dksX2_aChange_0 22 rfl rfl)
theorem dX2_aChange_23 : decode cX2_aChange 23 = .ok (.iload_n 1, 1) := dk_27 (dk_at dksX2_aChange_0 23 rfl rfl)
theorem dX2_aChange_24 : decode cX2_aChange 24 = .ok (.ireturn, 1) := dk_172 (dk_at dksX2_aChange_1 0 rfl rfl)
abbrev cX2_another : ByteArray := prog_7_method_10_code
def yX2_another : MethodName := ⟨RX2, "another", "(JI)LSwapBook$Change;"⟩
def dkwX2_another_7 : List UInt8 := [182, 0, 111, 181, 0, 148, 25, 5, 176]
abbrev dktX2_another_7 : List UInt8 := dkwX2_another_7 ++ []
def dkwX2_another_6 : List UInt8 := [198, 0, 28, 42, 29, 5, 160, 0, 8, 16, 7, 167, 0, 5, 16, 6, 182, 0, 108, 25, 4, 42]
abbrev dktX2_another_6 : List UInt8 := dkwX2_another_6 ++ dktX2_another_7
def dkwX2_another_5 : List UInt8 := [21, 6, 120, 181, 0, 142, 25, 5, 25, 7, 180, 0, 145, 181, 0, 145, 42, 182, 0, 27, 25, 4]
abbrev dktX2_another_5 : List UInt8 := dkwX2_another_5 ++ dktX2_another_6
def dkwX2_another_4 : List UInt8 := [182, 0, 134, 7, 160, 0, 9, 42, 8, 182, 0, 64, 191, 25, 5, 21, 6, 181, 0, 139, 25, 5, 4]
abbrev dktX2_another_4 : List UInt8 := dkwX2_another_4 ++ dktX2_another_5
def dkwX2_another_3 : List UInt8 := [180, 0, 39, 180, 0, 130, 21, 6, 50, 58, 7, 25, 7, 182, 0, 134, 4, 159, 0, 12, 25, 7]
abbrev dktX2_another_3 : List UInt8 := dkwX2_another_3 ++ dktX2_another_4
def dkwX2_another_2 : List UInt8 := [183, 0, 126, 167, 0, 5, 25, 4, 58, 5, 42, 16, 8, 182, 0, 108, 42, 182, 0, 127, 54, 6, 42]
abbrev dktX2_another_2 : List UInt8 := dkwX2_another_2 ++ dktX2_another_3
def dkwX2_another_1 : List UInt8 := [183, 0, 121, 58, 4, 25, 4, 199, 0, 21, 187, 0, 124, 89, 31, 42, 180, 0, 39, 180, 0, 75]
abbrev dktX2_another_1 : List UInt8 := dkwX2_another_1 ++ dktX2_another_2
def dkwX2_another_0 : List UInt8 := [29, 4, 160, 0, 7, 1, 167, 0, 19, 187, 0, 119, 89, 31, 42, 180, 0, 39, 180, 0, 75, 29]
abbrev dktX2_another_0 : List UInt8 := dkwX2_another_0 ++ dktX2_another_1
theorem dksX2_another_0 : cX2_another.data.toList.drop 0 = dktX2_another_0 := by decide +kernel
theorem dksX2_another_1 : cX2_another.data.toList.drop 22 = dktX2_another_1 := dk_seg dksX2_another_0 22 rfl rfl
theorem dksX2_another_2 : cX2_another.data.toList.drop 44 = dktX2_another_2 := dk_seg dksX2_another_1 22 rfl rfl
theorem dksX2_another_3 : cX2_another.data.toList.drop 67 = dktX2_another_3 := dk_seg dksX2_another_2 23 rfl rfl
theorem dksX2_another_4 : cX2_another.data.toList.drop 89 = dktX2_another_4 := dk_seg dksX2_another_3 22 rfl rfl
theorem dksX2_another_5 : cX2_another.data.toList.drop 112 = dktX2_another_5 := dk_seg dksX2_another_4 23 rfl rfl
theorem dksX2_another_6 : cX2_another.data.toList.drop 134 = dktX2_another_6 := dk_seg dksX2_another_5 22 rfl rfl
theorem dksX2_another_7 : cX2_another.data.toList.drop 156 = dktX2_another_7 := dk_seg dksX2_another_6 22 rfl rfl
theorem dX2_another_0 : decode cX2_another 0 = .ok (.iload_n 3, 1) := dk_29 (dk_at dksX2_another_0 0 rfl rfl)
theorem dX2_another_1 : decode cX2_another 1 = .ok (.iconst 1, 1) := dk_4 (dk_at dksX2_another_0 1 rfl rfl)
theorem dX2_another_2 : decode cX2_another 2 = .ok (.if_icmp .ne 7, 3) := dk_160 0 7 (dk_at dksX2_another_0 2 rfl rfl)
theorem dX2_another_5 : decode cX2_another 5 = .ok (.aconst_null, 1) := dk_1 (dk_at dksX2_another_0 5 rfl rfl)
theorem dX2_another_6 : decode cX2_another 6 = .ok (.goto 19, 3) := dk_167 0 19 (dk_at dksX2_another_0 6 rfl rfl)
theorem dX2_another_9 : decode cX2_another 9 = .ok (.new 119, 3) := dk_187 0 119 (dk_at dksX2_another_0 9 rfl rfl)
theorem dX2_another_12 : decode cX2_another 12 = .ok (.dup, 1) := dk_89 (dk_at dksX2_another_0 12 rfl rfl)
theorem dX2_another_13 : decode cX2_another 13 = .ok (.lload_n 1, 1) := dk_31 (dk_at dksX2_another_0 13 rfl rfl)
theorem dX2_another_14 : decode cX2_another 14 = .ok (.aload_n 0, 1) := dk_42 (dk_at dksX2_another_0 14 rfl rfl)
theorem dX2_another_15 : decode cX2_another 15 = .ok (.getfield 39, 3) := dk_180 0 39 (dk_at dksX2_another_0 15 rfl rfl)
theorem dX2_another_18 : decode cX2_another 18 = .ok (.getfield 75, 3) := dk_180 0 75 (dk_at dksX2_another_0 18 rfl rfl)
theorem dX2_another_21 : decode cX2_another 21 = .ok (.iload_n 3, 1) := dk_29 (dk_at dksX2_another_0 21 rfl rfl)
theorem dX2_another_22 : decode cX2_another 22 = .ok (.invokespecial 121, 3) := dk_183 0 121 (dk_at dksX2_another_1 0 rfl rfl)
theorem dX2_another_25 : decode cX2_another 25 = .ok (.astore 4, 2) := dk_58 4 (dk_at dksX2_another_1 3 rfl rfl)
theorem dX2_another_27 : decode cX2_another 27 = .ok (.aload 4, 2) := dk_25 4 (dk_at dksX2_another_1 5 rfl rfl)
theorem dX2_another_29 : decode cX2_another 29 = .ok (.ifnonnull 21, 3) := dk_199 0 21 (dk_at dksX2_another_1 7 rfl rfl)
theorem dX2_another_32 : decode cX2_another 32 = .ok (.new 124, 3) := dk_187 0 124 (dk_at dksX2_another_1 10 rfl rfl)
theorem dX2_another_35 : decode cX2_another 35 = .ok (.dup, 1) := dk_89 (dk_at dksX2_another_1 13 rfl rfl)
theorem dX2_another_36 : decode cX2_another 36 = .ok (.lload_n 1, 1) := dk_31 (dk_at dksX2_another_1 14 rfl rfl)
theorem dX2_another_37 : decode cX2_another 37 = .ok (.aload_n 0, 1) := dk_42 (dk_at dksX2_another_1 15 rfl rfl)
theorem dX2_another_38 : decode cX2_another 38 = .ok (.getfield 39, 3) := dk_180 0 39 (dk_at dksX2_another_1 16 rfl rfl)
theorem dX2_another_41 : decode cX2_another 41 = .ok (.getfield 75, 3) := dk_180 0 75 (dk_at dksX2_another_1 19 rfl rfl)
theorem dX2_another_44 : decode cX2_another 44 = .ok (.invokespecial 126, 3) := dk_183 0 126 (dk_at dksX2_another_2 0 rfl rfl)
theorem dX2_another_47 : decode cX2_another 47 = .ok (.goto 5, 3) := dk_167 0 5 (dk_at dksX2_another_2 3 rfl rfl)
theorem dX2_another_50 : decode cX2_another 50 = .ok (.aload 4, 2) := dk_25 4 (dk_at dksX2_another_2 6 rfl rfl)
theorem dX2_another_52 : decode cX2_another 52 = .ok (.astore 5, 2) := dk_58 5 (dk_at dksX2_another_2 8 rfl rfl)
theorem dX2_another_54 : decode cX2_another 54 = .ok (.aload_n 0, 1) := dk_42 (dk_at dksX2_another_2 10 rfl rfl)
theorem dX2_another_55 : decode cX2_another 55 = .ok (.bipush 8, 2) := dk_16 8 (dk_at dksX2_another_2 11 rfl rfl)
theorem dX2_another_57 : decode cX2_another 57 = .ok (.invokevirtual 108, 3) := dk_182 0 108 (dk_at dksX2_another_2 13 rfl rfl)
theorem dX2_another_60 : decode cX2_another 60 = .ok (.aload_n 0, 1) := dk_42 (dk_at dksX2_another_2 16 rfl rfl)
theorem dX2_another_61 : decode cX2_another 61 = .ok (.invokevirtual 127, 3) := dk_182 0 127 (dk_at dksX2_another_2 17 rfl rfl)
theorem dX2_another_64 : decode cX2_another 64 = .ok (.istore 6, 2) := dk_54 6 (dk_at dksX2_another_2 20 rfl rfl)
theorem dX2_another_66 : decode cX2_another 66 = .ok (.aload_n 0, 1) := dk_42 (dk_at dksX2_another_2 22 rfl rfl)
theorem dX2_another_67 : decode cX2_another 67 = .ok (.getfield 39, 3) := dk_180 0 39 (dk_at dksX2_another_3 0 rfl rfl)
theorem dX2_another_70 : decode cX2_another 70 = .ok (.getfield 130, 3) := dk_180 0 130 (dk_at dksX2_another_3 3 rfl rfl)
theorem dX2_another_73 : decode cX2_another 73 = .ok (.iload 6, 2) := dk_21 6 (dk_at dksX2_another_3 6 rfl rfl)
theorem dX2_another_75 : decode cX2_another 75 = .ok (.aaload, 1) := dk_50 (dk_at dksX2_another_3 8 rfl rfl)
theorem dX2_another_76 : decode cX2_another 76 = .ok (.astore 7, 2) := dk_58 7 (dk_at dksX2_another_3 9 rfl rfl)
theorem dX2_another_78 : decode cX2_another 78 = .ok (.aload 7, 2) := dk_25 7 (dk_at dksX2_another_3 11 rfl rfl)
theorem dX2_another_80 : decode cX2_another 80 = .ok (.invokevirtual 134, 3) := dk_182 0 134 (dk_at dksX2_another_3 13 rfl rfl)
theorem dX2_another_83 : decode cX2_another 83 = .ok (.iconst 1, 1) := dk_4 (dk_at dksX2_another_3 16 rfl rfl)
theorem dX2_another_84 : decode cX2_another 84 = .ok (.if_icmp .eq 12, 3) := dk_159 0 12 (dk_at dksX2_another_3 17 rfl rfl)
theorem dX2_another_87 : decode cX2_another 87 = .ok (.aload 7, 2) := dk_25 7 (dk_at dksX2_another_3 20 rfl rfl)
theorem dX2_another_89 : decode cX2_another 89 = .ok (.invokevirtual 134, 3) := dk_182 0 134 (dk_at dksX2_another_4 0 rfl rfl)
theorem dX2_another_92 : decode cX2_another 92 = .ok (.iconst 4, 1) := dk_7 (dk_at dksX2_another_4 3 rfl rfl)
theorem dX2_another_93 : decode cX2_another 93 = .ok (.if_icmp .ne 9, 3) := dk_160 0 9 (dk_at dksX2_another_4 4 rfl rfl)
theorem dX2_another_96 : decode cX2_another 96 = .ok (.aload_n 0, 1) := dk_42 (dk_at dksX2_another_4 7 rfl rfl)
theorem dX2_another_97 : decode cX2_another 97 = .ok (.iconst 5, 1) := dk_8 (dk_at dksX2_another_4 8 rfl rfl)
theorem dX2_another_98 : decode cX2_another 98 = .ok (.invokevirtual 64, 3) := dk_182 0 64 (dk_at dksX2_another_4 9 rfl rfl)
theorem dX2_another_101 : decode cX2_another 101 = .ok (.athrow, 1) := dk_191 (dk_at dksX2_another_4 12 rfl rfl)
theorem dX2_another_102 : decode cX2_another 102 = .ok (.aload 5, 2) := dk_25 5 (dk_at dksX2_another_4 13 rfl rfl)
theorem dX2_another_104 : decode cX2_another 104 = .ok (.iload 6, 2) := dk_21 6 (dk_at dksX2_another_4 15 rfl rfl)
theorem dX2_another_106 : decode cX2_another 106 = .ok (.putfield 139, 3) := dk_181 0 139 (dk_at dksX2_another_4 17 rfl rfl)
theorem dX2_another_109 : decode cX2_another 109 = .ok (.aload 5, 2) := dk_25 5 (dk_at dksX2_another_4 20 rfl rfl)
theorem dX2_another_111 : decode cX2_another 111 = .ok (.iconst 1, 1) := dk_4 (dk_at dksX2_another_4 22 rfl rfl)
theorem dX2_another_112 : decode cX2_another 112 = .ok (.iload 6, 2) := dk_21 6 (dk_at dksX2_another_5 0 rfl rfl)
theorem dX2_another_114 : decode cX2_another 114 = .ok (.ishl, 1) := dk_120 (dk_at dksX2_another_5 2 rfl rfl)
theorem dX2_another_115 : decode cX2_another 115 = .ok (.putfield 142, 3) := dk_181 0 142 (dk_at dksX2_another_5 3 rfl rfl)
theorem dX2_another_118 : decode cX2_another 118 = .ok (.aload 5, 2) := dk_25 5 (dk_at dksX2_another_5 6 rfl rfl)
theorem dX2_another_120 : decode cX2_another 120 = .ok (.aload 7, 2) := dk_25 7 (dk_at dksX2_another_5 8 rfl rfl)
theorem dX2_another_122 : decode cX2_another 122 = .ok (.getfield 145, 3) := dk_180 0 145 (dk_at dksX2_another_5 10 rfl rfl)
theorem dX2_another_125 : decode cX2_another 125 = .ok (.putfield 145, 3) := dk_181 0 145 (dk_at dksX2_another_5 13 rfl rfl)
theorem dX2_another_128 : decode cX2_another 128 = .ok (.aload_n 0, 1) := dk_42 (dk_at dksX2_another_5 16 rfl rfl)
theorem dX2_another_129 : decode cX2_another 129 = .ok (.invokevirtual 27, 3) := dk_182 0 27 (dk_at dksX2_another_5 17 rfl rfl)
theorem dX2_another_132 : decode cX2_another 132 = .ok (.aload 4, 2) := dk_25 4 (dk_at dksX2_another_5 20 rfl rfl)
theorem dX2_another_134 : decode cX2_another 134 = .ok (.ifnull 28, 3) := dk_198 0 28 (dk_at dksX2_another_6 0 rfl rfl)
theorem dX2_another_137 : decode cX2_another 137 = .ok (.aload_n 0, 1) := dk_42 (dk_at dksX2_another_6 3 rfl rfl)
theorem dX2_another_138 : decode cX2_another 138 = .ok (.iload_n 3, 1) := dk_29 (dk_at dksX2_another_6 4 rfl rfl)
theorem dX2_another_139 : decode cX2_another 139 = .ok (.iconst 2, 1) := dk_5 (dk_at dksX2_another_6 5 rfl rfl)
theorem dX2_another_140 : decode cX2_another 140 = .ok (.if_icmp .ne 8, 3) := dk_160 0 8 (dk_at dksX2_another_6 6 rfl rfl)
theorem dX2_another_143 : decode cX2_another 143 = .ok (.bipush 7, 2) := dk_16 7 (dk_at dksX2_another_6 9 rfl rfl)
theorem dX2_another_145 : decode cX2_another 145 = .ok (.goto 5, 3) := dk_167 0 5 (dk_at dksX2_another_6 11 rfl rfl)
theorem dX2_another_148 : decode cX2_another 148 = .ok (.bipush 6, 2) := dk_16 6 (dk_at dksX2_another_6 14 rfl rfl)
theorem dX2_another_150 : decode cX2_another 150 = .ok (.invokevirtual 108, 3) := dk_182 0 108 (dk_at dksX2_another_6 16 rfl rfl)
theorem dX2_another_153 : decode cX2_another 153 = .ok (.aload 4, 2) := dk_25 4 (dk_at dksX2_another_6 19 rfl rfl)
theorem dX2_another_155 : decode cX2_another 155 = .ok (.aload_n 0, 1) := dk_42 (dk_at dksX2_another_6 21 rfl rfl)
theorem dX2_another_156 : decode cX2_another 156 = .ok (.invokevirtual 111, 3) := dk_182 0 111 (dk_at dksX2_another_7 0 rfl rfl)
theorem dX2_another_159 : decode cX2_another 159 = .ok (.putfield 148, 3) := dk_181 0 148 (dk_at dksX2_another_7 3 rfl rfl)
theorem dX2_another_162 : decode cX2_another 162 = .ok (.aload 5, 2) := dk_25 5 (dk_at dksX2_another_7 6 rfl rfl)
theorem dX2_another_164 : decode cX2_another 164 = .ok (.areturn, 1) := dk_176 (dk_at dksX2_another_7 8 rfl rfl)
abbrev cX2_after : ByteArray := prog_7_method_13_code
def yX2_after : MethodName := ⟨RX2, "after", "(LSwapBook$Change;)V"⟩
def dkwX2_after_2 : List UInt8 := [180, 0, 142, 28, 128, 181, 0, 142, 177]
abbrev dktX2_after_2 : List UInt8 := dkwX2_after_2 ++ []
def dkwX2_after_1 : List UInt8 := [182, 0, 64, 191, 28, 4, 29, 120, 128, 61, 42, 182, 0, 27, 42, 182, 0, 166, 154, 255, 222, 43, 89]
abbrev dktX2_after_1 : List UInt8 := dkwX2_after_1 ++ dktX2_after_2
def dkwX2_after_0 : List UInt8 := [42, 182, 0, 27, 3, 61, 42, 182, 0, 127, 62, 28, 29, 122, 4, 126, 4, 160, 0, 9, 42, 8]
abbrev dktX2_after_0 : List UInt8 := dkwX2_after_0 ++ dktX2_after_1
theorem dksX2_after_0 : cX2_after.data.toList.drop 0 = dktX2_after_0 := by decide +kernel
theorem dksX2_after_1 : cX2_after.data.toList.drop 22 = dktX2_after_1 := dk_seg dksX2_after_0 22 rfl rfl
theorem dksX2_after_2 : cX2_after.data.toList.drop 45 = dktX2_after_2 := dk_seg dksX2_after_1 23 rfl rfl
theorem dX2_after_0 : decode cX2_after 0 = .ok (.aload_n 0, 1) := dk_42 (dk_at dksX2_after_0 0 rfl rfl)
theorem dX2_after_1 : decode cX2_after 1 = .ok (.invokevirtual 27, 3) := dk_182 0 27 (dk_at dksX2_after_0 1 rfl rfl)
theorem dX2_after_4 : decode cX2_after 4 = .ok (.iconst 0, 1) := dk_3 (dk_at dksX2_after_0 4 rfl rfl)
theorem dX2_after_5 : decode cX2_after 5 = .ok (.istore_n 2, 1) := dk_61 (dk_at dksX2_after_0 5 rfl rfl)
theorem dX2_after_6 : decode cX2_after 6 = .ok (.aload_n 0, 1) := dk_42 (dk_at dksX2_after_0 6 rfl rfl)
theorem dX2_after_7 : decode cX2_after 7 = .ok (.invokevirtual 127, 3) := dk_182 0 127 (dk_at dksX2_after_0 7 rfl rfl)
theorem dX2_after_10 : decode cX2_after 10 = .ok (.istore_n 3, 1) := dk_62 (dk_at dksX2_after_0 10 rfl rfl)
theorem dX2_after_11 : decode cX2_after 11 = .ok (.iload_n 2, 1) := dk_28 (dk_at dksX2_after_0 11 rfl rfl)
theorem dX2_after_12 : decode cX2_after 12 = .ok (.iload_n 3, 1) := dk_29 (dk_at dksX2_after_0 12 rfl rfl)
theorem dX2_after_13 : decode cX2_after 13 = .ok (.ishr, 1) := dk_122 (dk_at dksX2_after_0 13 rfl rfl)
theorem dX2_after_14 : decode cX2_after 14 = .ok (.iconst 1, 1) := dk_4 (dk_at dksX2_after_0 14 rfl rfl)
theorem dX2_after_15 : decode cX2_after 15 = .ok (.iand, 1) := dk_126 (dk_at dksX2_after_0 15 rfl rfl)
theorem dX2_after_16 : decode cX2_after 16 = .ok (.iconst 1, 1) := dk_4 (dk_at dksX2_after_0 16 rfl rfl)
theorem dX2_after_17 : decode cX2_after 17 = .ok (.if_icmp .ne 9, 3) := dk_160 0 9 (dk_at dksX2_after_0 17 rfl rfl)
theorem dX2_after_20 : decode cX2_after 20 = .ok (.aload_n 0, 1) := dk_42 (dk_at dksX2_after_0 20 rfl rfl)
theorem dX2_after_21 : decode cX2_after 21 = .ok (.iconst 5, 1) := dk_8 (dk_at dksX2_after_0 21 rfl rfl)
theorem dX2_after_22 : decode cX2_after 22 = .ok (.invokevirtual 64, 3) := dk_182 0 64 (dk_at dksX2_after_1 0 rfl rfl)
theorem dX2_after_25 : decode cX2_after 25 = .ok (.athrow, 1) := dk_191 (dk_at dksX2_after_1 3 rfl rfl)
theorem dX2_after_26 : decode cX2_after 26 = .ok (.iload_n 2, 1) := dk_28 (dk_at dksX2_after_1 4 rfl rfl)
theorem dX2_after_27 : decode cX2_after 27 = .ok (.iconst 1, 1) := dk_4 (dk_at dksX2_after_1 5 rfl rfl)
theorem dX2_after_28 : decode cX2_after 28 = .ok (.iload_n 3, 1) := dk_29 (dk_at dksX2_after_1 6 rfl rfl)
theorem dX2_after_29 : decode cX2_after 29 = .ok (.ishl, 1) := dk_120 (dk_at dksX2_after_1 7 rfl rfl)
theorem dX2_after_30 : decode cX2_after 30 = .ok (.ior, 1) := dk_128 (dk_at dksX2_after_1 8 rfl rfl)
theorem dX2_after_31 : decode cX2_after 31 = .ok (.istore_n 2, 1) := dk_61 (dk_at dksX2_after_1 9 rfl rfl)
theorem dX2_after_32 : decode cX2_after 32 = .ok (.aload_n 0, 1) := dk_42 (dk_at dksX2_after_1 10 rfl rfl)
theorem dX2_after_33 : decode cX2_after 33 = .ok (.invokevirtual 27, 3) := dk_182 0 27 (dk_at dksX2_after_1 11 rfl rfl)
theorem dX2_after_36 : decode cX2_after 36 = .ok (.aload_n 0, 1) := dk_42 (dk_at dksX2_after_1 14 rfl rfl)
theorem dX2_after_37 : decode cX2_after 37 = .ok (.invokevirtual 166, 3) := dk_182 0 166 (dk_at dksX2_after_1 15 rfl rfl)
theorem dX2_after_40 : decode cX2_after 40 = .ok (.ifCond .ne (-34), 3) := dk_154 255 222 (dk_at dksX2_after_1 18 rfl rfl)
theorem dX2_after_43 : decode cX2_after 43 = .ok (.aload_n 1, 1) := dk_43 (dk_at dksX2_after_1 21 rfl rfl)
theorem dX2_after_44 : decode cX2_after 44 = .ok (.dup, 1) := dk_89 (dk_at dksX2_after_1 22 rfl rfl)
theorem dX2_after_45 : decode cX2_after 45 = .ok (.getfield 142, 3) := dk_180 0 142 (dk_at dksX2_after_2 0 rfl rfl)
theorem dX2_after_48 : decode cX2_after 48 = .ok (.iload_n 2, 1) := dk_28 (dk_at dksX2_after_2 3 rfl rfl)
theorem dX2_after_49 : decode cX2_after 49 = .ok (.ior, 1) := dk_128 (dk_at dksX2_after_2 4 rfl rfl)
theorem dX2_after_50 : decode cX2_after 50 = .ok (.putfield 142, 3) := dk_181 0 142 (dk_at dksX2_after_2 5 rfl rfl)
theorem dX2_after_53 : decode cX2_after 53 = .ok (.return_, 1) := dk_177 (dk_at dksX2_after_2 8 rfl rfl)
abbrev cX2_isName : ByteArray := prog_7_method_3_code
def yX2_isName : MethodName := ⟨RX2, "isName", "()Z"⟩
def dkwX2_isName_0 : List UInt8 := [42, 180, 0, 31, 5, 160, 0, 15, 42, 182, 0, 19, 2, 160, 0, 7, 4, 167, 0, 4, 3, 172]
abbrev dktX2_isName_0 : List UInt8 := dkwX2_isName_0 ++ []
theorem dksX2_isName_0 : cX2_isName.data.toList.drop 0 = dktX2_isName_0 := by decide +kernel
theorem dX2_isName_0 : decode cX2_isName 0 = .ok (.aload_n 0, 1) := dk_42 (dk_at dksX2_isName_0 0 rfl rfl)
theorem dX2_isName_1 : decode cX2_isName 1 = .ok (.getfield 31, 3) := dk_180 0 31 (dk_at dksX2_isName_0 1 rfl rfl)
theorem dX2_isName_4 : decode cX2_isName 4 = .ok (.iconst 2, 1) := dk_5 (dk_at dksX2_isName_0 4 rfl rfl)
theorem dX2_isName_5 : decode cX2_isName 5 = .ok (.if_icmp .ne 15, 3) := dk_160 0 15 (dk_at dksX2_isName_0 5 rfl rfl)
theorem dX2_isName_8 : decode cX2_isName 8 = .ok (.aload_n 0, 1) := dk_42 (dk_at dksX2_isName_0 8 rfl rfl)
theorem dX2_isName_9 : decode cX2_isName 9 = .ok (.invokevirtual 19, 3) := dk_182 0 19 (dk_at dksX2_isName_0 9 rfl rfl)
theorem dX2_isName_12 : decode cX2_isName 12 = .ok (.iconst (-1), 1) := dk_2 (dk_at dksX2_isName_0 12 rfl rfl)
theorem dX2_isName_13 : decode cX2_isName 13 = .ok (.if_icmp .ne 7, 3) := dk_160 0 7 (dk_at dksX2_isName_0 13 rfl rfl)
theorem dX2_isName_16 : decode cX2_isName 16 = .ok (.iconst 1, 1) := dk_4 (dk_at dksX2_isName_0 16 rfl rfl)
theorem dX2_isName_17 : decode cX2_isName 17 = .ok (.goto 4, 3) := dk_167 0 4 (dk_at dksX2_isName_0 17 rfl rfl)
theorem dX2_isName_20 : decode cX2_isName 20 = .ok (.iconst 0, 1) := dk_3 (dk_at dksX2_isName_0 20 rfl rfl)
theorem dX2_isName_21 : decode cX2_isName 21 = .ok (.ireturn, 1) := dk_172 (dk_at dksX2_isName_0 21 rfl rfl)
abbrev cX2_log : ByteArray := prog_7_method_14_code
def yX2_log : MethodName := ⟨RX2, "log", "(ILSwapBook$Book;)[LSwapBook$Step;"⟩
def dkwX2_log_2 : List UInt8 := [42, 42, 180, 0, 182, 154, 0, 7, 4, 167, 0, 4, 3, 182, 0, 23, 42, 180, 0, 172, 176]
abbrev dktX2_log_2 : List UInt8 := dkwX2_log_2 ++ []
def dkwX2_log_1 : List UInt8 := [42, 3, 181, 0, 182, 42, 27, 182, 0, 43, 42, 180, 0, 31, 153, 0, 10, 42, 182, 0, 185, 167, 255, 245]
abbrev dktX2_log_1 : List UInt8 := dkwX2_log_1 ++ dktX2_log_2
def dkwX2_log_0 : List UInt8 := [42, 44, 181, 0, 39, 42, 16, 60, 189, 0, 170, 181, 0, 172, 42, 3, 181, 0, 176, 42, 3, 181, 0, 179]
abbrev dktX2_log_0 : List UInt8 := dkwX2_log_0 ++ dktX2_log_1
theorem dksX2_log_0 : cX2_log.data.toList.drop 0 = dktX2_log_0 := by decide +kernel
theorem dksX2_log_1 : cX2_log.data.toList.drop 24 = dktX2_log_1 := dk_seg dksX2_log_0 24 rfl rfl
theorem dksX2_log_2 : cX2_log.data.toList.drop 48 = dktX2_log_2 := dk_seg dksX2_log_1 24 rfl rfl
theorem dX2_log_0 : decode cX2_log 0 = .ok (.aload_n 0, 1) := dk_42 (dk_at dksX2_log_0 0 rfl rfl)
theorem dX2_log_1 : decode cX2_log 1 = .ok (.aload_n 2, 1) := dk_44 (dk_at dksX2_log_0 1 rfl rfl)
theorem dX2_log_2 : decode cX2_log 2 = .ok (.putfield 39, 3) := dk_181 0 39 (dk_at dksX2_log_0 2 rfl rfl)
theorem dX2_log_5 : decode cX2_log 5 = .ok (.aload_n 0, 1) := dk_42 (dk_at dksX2_log_0 5 rfl rfl)
theorem dX2_log_6 : decode cX2_log 6 = .ok (.bipush 60, 2) := dk_16 60 (dk_at dksX2_log_0 6 rfl rfl)
theorem dX2_log_8 : decode cX2_log 8 = .ok (.anewarray 170, 3) := dk_189 0 170 (dk_at dksX2_log_0 8 rfl rfl)
theorem dX2_log_11 : decode cX2_log 11 = .ok (.putfield 172, 3) := dk_181 0 172 (dk_at dksX2_log_0 11 rfl rfl)
theorem dX2_log_14 : decode cX2_log 14 = .ok (.aload_n 0, 1) := dk_42 (dk_at dksX2_log_0 14 rfl rfl)
theorem dX2_log_15 : decode cX2_log 15 = .ok (.iconst 0, 1) := dk_3 (dk_at dksX2_log_0 15 rfl rfl)
theorem dX2_log_16 : decode cX2_log 16 = .ok (.putfield 176, 3) := dk_181 0 176 (dk_at dksX2_log_0 16 rfl rfl)
theorem dX2_log_19 : decode cX2_log 19 = .ok (.aload_n 0, 1) := dk_42 (dk_at dksX2_log_0 19 rfl rfl)
theorem dX2_log_20 : decode cX2_log 20 = .ok (.iconst 0, 1) := dk_3 (dk_at dksX2_log_0 20 rfl rfl)
theorem dX2_log_21 : decode cX2_log 21 = .ok (.putfield 179, 3) := dk_181 0 179 (dk_at dksX2_log_0 21 rfl rfl)
theorem dX2_log_24 : decode cX2_log 24 = .ok (.aload_n 0, 1) := dk_42 (dk_at dksX2_log_1 0 rfl rfl)
theorem dX2_log_25 : decode cX2_log 25 = .ok (.iconst 0, 1) := dk_3 (dk_at dksX2_log_1 1 rfl rfl)
theorem dX2_log_26 : decode cX2_log 26 = .ok (.putfield 182, 3) := dk_181 0 182 (dk_at dksX2_log_1 2 rfl rfl)
theorem dX2_log_29 : decode cX2_log 29 = .ok (.aload_n 0, 1) := dk_42 (dk_at dksX2_log_1 5 rfl rfl)
theorem dX2_log_30 : decode cX2_log 30 = .ok (.iload_n 1, 1) := dk_27 (dk_at dksX2_log_1 6 rfl rfl)
theorem dX2_log_31 : decode cX2_log 31 = .ok (.invokevirtual 43, 3) := dk_182 0 43 (dk_at dksX2_log_1 7 rfl rfl)
theorem dX2_log_34 : decode cX2_log 34 = .ok (.aload_n 0, 1) := dk_42 (dk_at dksX2_log_1 10 rfl rfl)
theorem dX2_log_35 : decode cX2_log 35 = .ok (.getfield 31, 3) := dk_180 0 31 (dk_at dksX2_log_1 11 rfl rfl)
theorem dX2_log_38 : decode cX2_log 38 = .ok (.ifCond .eq 10, 3) := dk_153 0 10 (dk_at dksX2_log_1 14 rfl rfl)
theorem dX2_log_41 : decode cX2_log 41 = .ok (.aload_n 0, 1) := dk_42 (dk_at dksX2_log_1 17 rfl rfl)
theorem dX2_log_42 : decode cX2_log 42 = .ok (.invokevirtual 185, 3) := dk_182 0 185 (dk_at dksX2_log_1 18 rfl rfl)
theorem dX2_log_45 : decode cX2_log 45 = .ok (.goto (-11), 3) := dk_167 255 245 (dk_at dksX2_log_1 21 rfl rfl)
theorem dX2_log_48 : decode cX2_log 48 = .ok (.aload_n 0, 1) := dk_42 (dk_at dksX2_log_2 0 rfl rfl)
theorem dX2_log_49 : decode cX2_log 49 = .ok (.aload_n 0, 1) := dk_42 (dk_at dksX2_log_2 1 rfl rfl)
theorem dX2_log_50 : decode cX2_log 50 = .ok (.getfield 182, 3) := dk_180 0 182 (dk_at dksX2_log_2 2 rfl rfl)
theorem dX2_log_53 : decode cX2_log 53 = .ok (.ifCond .ne 7, 3) := dk_154 0 7 (dk_at dksX2_log_2 5 rfl rfl)
theorem dX2_log_56 : decode cX2_log 56 = .ok (.iconst 1, 1) := dk_4 (dk_at dksX2_log_2 8 rfl rfl)
theorem dX2_log_57 : decode cX2_log 57 = .ok (.goto 4, 3) := dk_167 0 4 (dk_at dksX2_log_2 9 rfl rfl)
theorem dX2_log_60 : decode cX2_log 60 = .ok (.iconst 0, 1) := dk_3 (dk_at dksX2_log_2 12 rfl rfl)
theorem dX2_log_61 : decode cX2_log 61 = .ok (.invokevirtual 23, 3) := dk_182 0 23 (dk_at dksX2_log_2 13 rfl rfl)
theorem dX2_log_64 : decode cX2_log 64 = .ok (.aload_n 0, 1) := dk_42 (dk_at dksX2_log_2 16 rfl rfl)
theorem dX2_log_65 : decode cX2_log 65 = .ok (.getfield 172, 3) := dk_180 0 172 (dk_at dksX2_log_2 17 rfl rfl)
theorem dX2_log_68 : decode cX2_log 68 = .ok (.areturn, 1) := dk_176 (dk_at dksX2_log_2 20 rfl rfl)
abbrev cX2_step : ByteArray := prog_7_method_19_code
def yX2_step : MethodName := ⟨RX2, "step", "()V"⟩
def dkwX2_step_14 : List UInt8 := [177]
abbrev dktX2_step_14 : List UInt8 := dkwX2_step_14 ++ []
def dkwX2_step_13 : List UInt8 := [96, 181, 0, 179, 42, 180, 0, 172, 42, 180, 0, 176, 45, 83, 42, 89, 180, 0, 176, 4, 96, 181, 0, 176]
abbrev dktX2_step_13 : List UInt8 := dkwX2_step_13 ++ dktX2_step_14
def dkwX2_step_12 : List UInt8 := [180, 0, 182, 4, 96, 181, 0, 182, 42, 89, 180, 0, 179, 27, 16, 20, 160, 0, 7, 3, 167, 0, 4, 4]
abbrev dktX2_step_12 : List UInt8 := dkwX2_step_12 ++ dktX2_step_13
def dkwX2_step_11 : List UInt8 := [182, 0, 50, 28, 153, 0, 26, 42, 180, 0, 13, 42, 180, 0, 182, 42, 180, 0, 176, 79, 42, 89]
abbrev dktX2_step_11 : List UInt8 := dkwX2_step_11 ++ dktX2_step_12
def dkwX2_step_10 : List UInt8 := [181, 0, 221, 42, 180, 0, 172, 45, 180, 0, 221, 50, 42, 180, 0, 176, 181, 0, 221, 167, 0, 3, 42]
abbrev dktX2_step_10 : List UInt8 := dkwX2_step_10 ++ dktX2_step_11
def dkwX2_step_9 : List UInt8 := [167, 0, 45, 42, 89, 180, 0, 182, 4, 100, 181, 0, 182, 45, 42, 180, 0, 13, 42, 180, 0, 182, 46]
abbrev dktX2_step_9 : List UInt8 := dkwX2_step_9 ++ dktX2_step_10
def dkwX2_step_8 : List UInt8 := [167, 0, 67, 45, 42, 3, 16, 16, 182, 0, 68, 181, 0, 191, 167, 0, 53, 42, 45, 182, 0, 219]
abbrev dktX2_step_8 : List UInt8 := dkwX2_step_8 ++ dktX2_step_9
def dkwX2_step_7 : List UInt8 := [167, 0, 89, 42, 45, 182, 0, 215, 167, 0, 81, 45, 42, 4, 16, 99, 182, 0, 68, 181, 0, 191]
abbrev dktX2_step_7 : List UInt8 := dkwX2_step_7 ++ dktX2_step_8
def dkwX2_step_6 : List UInt8 := [45, 42, 182, 0, 200, 181, 0, 203, 42, 16, 21, 182, 0, 108, 45, 42, 182, 0, 194, 181, 0, 197]
abbrev dktX2_step_6 : List UInt8 := dkwX2_step_6 ++ dktX2_step_7
def dkwX2_step_5 : List UInt8 := [170, 0, 0, 0, 0, 0, 0, 167, 0, 0, 0, 11, 0, 0, 0, 20, 0, 0, 0, 56, 0, 0, 0, 81, 0, 0, 0, 56, 0, 0, 0, 56, 0, 0, 0, 89, 0, 0, 0, 103, 0, 0, 0, 117, 0, 0, 0, 89, 0, 0, 0, 167, 0, 0, 0, 125]
abbrev dktX2_step_5 : List UInt8 := dkwX2_step_5 ++ dktX2_step_6
def dkwX2_step_4 : List UInt8 := [16, 7, 182, 0, 64, 191, 187, 0, 170, 89, 27, 183, 0, 213, 78, 42, 182, 0, 27, 27]
abbrev dktX2_step_4 : List UInt8 := dkwX2_step_4 ++ dktX2_step_5
def dkwX2_step_3 : List UInt8 := [160, 0, 10, 42, 16, 6, 182, 0, 64, 191, 28, 153, 0, 18, 42, 180, 0, 182, 6, 160, 0, 10, 42]
abbrev dktX2_step_3 : List UInt8 := dkwX2_step_3 ++ dktX2_step_4
def dkwX2_step_2 : List UInt8 := [158, 0, 7, 4, 167, 0, 4, 3, 182, 0, 23, 27, 16, 20, 159, 0, 19, 42, 180, 0, 179, 16, 30]
abbrev dktX2_step_2 : List UInt8 := dkwX2_step_2 ++ dktX2_step_3
def dkwX2_step_1 : List UInt8 := [27, 16, 11, 161, 0, 9, 27, 16, 19, 164, 0, 16, 27, 16, 20, 160, 0, 14, 42, 180, 0, 182]
abbrev dktX2_step_1 : List UInt8 := dkwX2_step_1 ++ dktX2_step_2
def dkwX2_step_0 : List UInt8 := [42, 182, 0, 19, 60, 27, 16, 17, 159, 0, 9, 27, 16, 18, 160, 0, 7, 4, 167, 0, 4, 3, 61, 42]
abbrev dktX2_step_0 : List UInt8 := dkwX2_step_0 ++ dktX2_step_1
theorem dksX2_step_0 : cX2_step.data.toList.drop 0 = dktX2_step_0 := by decide +kernel
theorem dksX2_step_1 : cX2_step.data.toList.drop 24 = dktX2_step_1 := dk_seg dksX2_step_0 24 rfl rfl
theorem dksX2_step_2 : cX2_step.data.toList.drop 46 = dktX2_step_2 := dk_seg dksX2_step_1 22 rfl rfl
theorem dksX2_step_3 : cX2_step.data.toList.drop 69 = dktX2_step_3 := dk_seg dksX2_step_2 23 rfl rfl
theorem dksX2_step_4 : cX2_step.data.toList.drop 92 = dktX2_step_4 := dk_seg dksX2_step_3 23 rfl rfl
theorem dksX2_step_5 : cX2_step.data.toList.drop 112 = dktX2_step_5 := dk_seg dksX2_step_4 20 rfl rfl
theorem dksX2_step_6 : cX2_step.data.toList.drop 168 = dktX2_step_6 := dk_seg dksX2_step_5 56 rfl rfl
theorem dksX2_step_7 : cX2_step.data.toList.drop 190 = dktX2_step_7 := dk_seg dksX2_step_6 22 rfl rfl
theorem dksX2_step_8 : cX2_step.data.toList.drop 212 = dktX2_step_8 := dk_seg dksX2_step_7 22 rfl rfl
theorem dksX2_step_9 : cX2_step.data.toList.drop 234 = dktX2_step_9 := dk_seg dksX2_step_8 22 rfl rfl
theorem dksX2_step_10 : cX2_step.data.toList.drop 257 = dktX2_step_10 := dk_seg dksX2_step_9 23 rfl rfl
theorem dksX2_step_11 : cX2_step.data.toList.drop 280 = dktX2_step_11 := dk_seg dksX2_step_10 23 rfl rfl
theorem dksX2_step_12 : cX2_step.data.toList.drop 302 = dktX2_step_12 := dk_seg dksX2_step_11 22 rfl rfl
theorem dksX2_step_13 : cX2_step.data.toList.drop 326 = dktX2_step_13 := dk_seg dksX2_step_12 24 rfl rfl
theorem dksX2_step_14 : cX2_step.data.toList.drop 350 = dktX2_step_14 := dk_seg dksX2_step_13 24 rfl rfl
theorem dX2_step_0 : decode cX2_step 0 = .ok (.aload_n 0, 1) := dk_42 (dk_at dksX2_step_0 0 rfl rfl)
theorem dX2_step_1 : decode cX2_step 1 = .ok (.invokevirtual 19, 3) := dk_182 0 19 (dk_at dksX2_step_0 1 rfl rfl)
theorem dX2_step_4 : decode cX2_step 4 = .ok (.istore_n 1, 1) := dk_60 (dk_at dksX2_step_0 4 rfl rfl)
theorem dX2_step_5 : decode cX2_step 5 = .ok (.iload_n 1, 1) := dk_27 (dk_at dksX2_step_0 5 rfl rfl)
theorem dX2_step_6 : decode cX2_step 6 = .ok (.bipush 17, 2) := dk_16 17 (dk_at dksX2_step_0 6 rfl rfl)
theorem dX2_step_8 : decode cX2_step 8 = .ok (.if_icmp .eq 9, 3) := dk_159 0 9 (dk_at dksX2_step_0 8 rfl rfl)
theorem dX2_step_11 : decode cX2_step 11 = .ok (.iload_n 1, 1) := dk_27 (dk_at dksX2_step_0 11 rfl rfl)
theorem dX2_step_12 : decode cX2_step 12 = .ok (.bipush 18, 2) := dk_16 18 (dk_at dksX2_step_0 12 rfl rfl)
theorem dX2_step_14 : decode cX2_step 14 = .ok (.if_icmp .ne 7, 3) := dk_160 0 7 (dk_at dksX2_step_0 14 rfl rfl)
theorem dX2_step_17 : decode cX2_step 17 = .ok (.iconst 1, 1) := dk_4 (dk_at dksX2_step_0 17 rfl rfl)
theorem dX2_step_18 : decode cX2_step 18 = .ok (.goto 4, 3) := dk_167 0 4 (dk_at dksX2_step_0 18 rfl rfl)
theorem dX2_step_21 : decode cX2_step 21 = .ok (.iconst 0, 1) := dk_3 (dk_at dksX2_step_0 21 rfl rfl)
theorem dX2_step_22 : decode cX2_step 22 = .ok (.istore_n 2, 1) := dk_61 (dk_at dksX2_step_0 22 rfl rfl)
theorem dX2_step_23 : decode cX2_step 23 = .ok (.aload_n 0, 1) := dk_42 (dk_at dksX2_step_0 23 rfl rfl)
theorem dX2_step_24 : decode cX2_step 24 = .ok (.iload_n 1, 1) := dk_27 (dk_at dksX2_step_1 0 rfl rfl)
theorem dX2_step_25 : decode cX2_step 25 = .ok (.bipush 11, 2) := dk_16 11 (dk_at dksX2_step_1 1 rfl rfl)
theorem dX2_step_27 : decode cX2_step 27 = .ok (.if_icmp .lt 9, 3) := dk_161 0 9 (dk_at dksX2_step_1 3 rfl rfl)
theorem dX2_step_30 : decode cX2_step 30 = .ok (.iload_n 1, 1) := dk_27 (dk_at dksX2_step_1 6 rfl rfl)
theorem dX2_step_31 : decode cX2_step 31 = .ok (.bipush 19, 2) := dk_16 19 (dk_at dksX2_step_1 7 rfl rfl)
theorem dX2_step_33 : decode cX2_step 33 = .ok (.if_icmp .le 16, 3) := dk_164 0 16 (dk_at dksX2_step_1 9 rfl rfl)
theorem dX2_step_36 : decode cX2_step 36 = .ok (.iload_n 1, 1) := dk_27 (dk_at dksX2_step_1 12 rfl rfl)
theorem dX2_step_37 : decode cX2_step 37 = .ok (.bipush 20, 2) := dk_16 20 (dk_at dksX2_step_1 13 rfl rfl)
theorem dX2_step_39 : decode cX2_step 39 = .ok (.if_icmp .ne 14, 3) := dk_160 0 14 (dk_at dksX2_step_1 15 rfl rfl)
theorem dX2_step_42 : decode cX2_step 42 = .ok (.aload_n 0, 1) := dk_42 (dk_at dksX2_step_1 18 rfl rfl)
theorem dX2_step_43 : decode cX2_step 43 = .ok (.getfield 182, 3) := dk_180 0 182 (dk_at dksX2_step_1 19 rfl rfl)
theorem dX2_step_46 : decode cX2_step 46 = .ok (.ifCond .le 7, 3) := dk_158 0 7 (dk_at dksX2_step_2 0 rfl rfl)
theorem dX2_step_49 : decode cX2_step 49 = .ok (.iconst 1, 1) := dk_4 (dk_at dksX2_step_2 3 rfl rfl)
theorem dX2_step_50 : decode cX2_step 50 = .ok (.goto 4, 3) := dk_167 0 4 (dk_at dksX2_step_2 4 rfl rfl)
theorem dX2_step_53 : decode cX2_step 53 = .ok (.iconst 0, 1) := dk_3 (dk_at dksX2_step_2 7 rfl rfl)
theorem dX2_step_54 : decode cX2_step 54 = .ok (.invokevirtual 23, 3) := dk_182 0 23 (dk_at dksX2_step_2 8 rfl rfl)
theorem dX2_step_57 : decode cX2_step 57 = .ok (.iload_n 1, 1) := dk_27 (dk_at dksX2_step_2 11 rfl rfl)
theorem dX2_step_58 : decode cX2_step 58 = .ok (.bipush 20, 2) := dk_16 20 (dk_at dksX2_step_2 12 rfl rfl)
theorem dX2_step_60 : decode cX2_step 60 = .ok (.if_icmp .eq 19, 3) := dk_159 0 19 (dk_at dksX2_step_2 14 rfl rfl)
theorem dX2_step_63 : decode cX2_step 63 = .ok (.aload_n 0, 1) := dk_42 (dk_at dksX2_step_2 17 rfl rfl)
theorem dX2_step_64 : decode cX2_step 64 = .ok (.getfield 179, 3) := dk_180 0 179 (dk_at dksX2_step_2 18 rfl rfl)
theorem dX2_step_67 : decode cX2_step 67 = .ok (.bipush 30, 2) := dk_16 30 (dk_at dksX2_step_2 21 rfl rfl)
theorem dX2_step_69 : decode cX2_step 69 = .ok (.if_icmp .ne 10, 3) := dk_160 0 10 (dk_at dksX2_step_3 0 rfl rfl)
theorem dX2_step_72 : decode cX2_step 72 = .ok (.aload_n 0, 1) := dk_42 (dk_at dksX2_step_3 3 rfl rfl)
theorem dX2_step_73 : decode cX2_step 73 = .ok (.bipush 6, 2) := dk_16 6 (dk_at dksX2_step_3 4 rfl rfl)
theorem dX2_step_75 : decode cX2_step 75 = .ok (.invokevirtual 64, 3) := dk_182 0 64 (dk_at dksX2_step_3 6 rfl rfl)
theorem dX2_step_78 : decode cX2_step 78 = .ok (.athrow, 1) := dk_191 (dk_at dksX2_step_3 9 rfl rfl)
theorem dX2_step_79 : decode cX2_step 79 = .ok (.iload_n 2, 1) := dk_28 (dk_at dksX2_step_3 10 rfl rfl)
theorem dX2_step_80 : decode cX2_step 80 = .ok (.ifCond .eq 18, 3) := dk_153 0 18 (dk_at dksX2_step_3 11 rfl rfl)
theorem dX2_step_83 : decode cX2_step 83 = .ok (.aload_n 0, 1) := dk_42 (dk_at dksX2_step_3 14 rfl rfl)
theorem dX2_step_84 : decode cX2_step 84 = .ok (.getfield 182, 3) := dk_180 0 182 (dk_at dksX2_step_3 15 rfl rfl)
theorem dX2_step_87 : decode cX2_step 87 = .ok (.iconst 3, 1) := dk_6 (dk_at dksX2_step_3 18 rfl rfl)
theorem dX2_step_88 : decode cX2_step 88 = .ok (.if_icmp .ne 10, 3) := dk_160 0 10 (dk_at dksX2_step_3 19 rfl rfl)
theorem dX2_step_91 : decode cX2_step 91 = .ok (.aload_n 0, 1) := dk_42 (dk_at dksX2_step_3 22 rfl rfl)
theorem dX2_step_92 : decode cX2_step 92 = .ok (.bipush 7, 2) := dk_16 7 (dk_at dksX2_step_4 0 rfl rfl)
theorem dX2_step_94 : decode cX2_step 94 = .ok (.invokevirtual 64, 3) := dk_182 0 64 (dk_at dksX2_step_4 2 rfl rfl)
theorem dX2_step_97 : decode cX2_step 97 = .ok (.athrow, 1) := dk_191 (dk_at dksX2_step_4 5 rfl rfl)
theorem dX2_step_98 : decode cX2_step 98 = .ok (.new 170, 3) := dk_187 0 170 (dk_at dksX2_step_4 6 rfl rfl)
theorem dX2_step_101 : decode cX2_step 101 = .ok (.dup, 1) := dk_89 (dk_at dksX2_step_4 9 rfl rfl)
theorem dX2_step_102 : decode cX2_step 102 = .ok (.iload_n 1, 1) := dk_27 (dk_at dksX2_step_4 10 rfl rfl)
theorem dX2_step_103 : decode cX2_step 103 = .ok (.invokespecial 213, 3) := dk_183 0 213 (dk_at dksX2_step_4 11 rfl rfl)
theorem dX2_step_106 : decode cX2_step 106 = .ok (.astore_n 3, 1) := dk_78 (dk_at dksX2_step_4 14 rfl rfl)
theorem dX2_step_107 : decode cX2_step 107 = .ok (.aload_n 0, 1) := dk_42 (dk_at dksX2_step_4 15 rfl rfl)
theorem dX2_step_108 : decode cX2_step 108 = .ok (.invokevirtual 27, 3) := dk_182 0 27 (dk_at dksX2_step_4 16 rfl rfl)
theorem dX2_step_111 : decode cX2_step 111 = .ok (.iload_n 1, 1) := dk_27 (dk_at dksX2_step_4 19 rfl rfl)
theorem dX2_step_112 : decode cX2_step 112 = .ok (.tableswitch 167 11 20 #[56, 81, 56, 56, 89, 103, 117, 89, 167, 125], 56) := by decide +kernel
theorem dX2_step_168 : decode cX2_step 168 = .ok (.aload_n 3, 1) := dk_45 (dk_at dksX2_step_6 0 rfl rfl)
theorem dX2_step_169 : decode cX2_step 169 = .ok (.aload_n 0, 1) := dk_42 (dk_at dksX2_step_6 1 rfl rfl)
theorem dX2_step_170 : decode cX2_step 170 = .ok (.invokevirtual 200, 3) := dk_182 0 200 (dk_at dksX2_step_6 2 rfl rfl)
theorem dX2_step_173 : decode cX2_step 173 = .ok (.putfield 203, 3) := dk_181 0 203 (dk_at dksX2_step_6 5 rfl rfl)
theorem dX2_step_176 : decode cX2_step 176 = .ok (.aload_n 0, 1) := dk_42 (dk_at dksX2_step_6 8 rfl rfl)
theorem dX2_step_177 : decode cX2_step 177 = .ok (.bipush 21, 2) := dk_16 21 (dk_at dksX2_step_6 9 rfl rfl)
theorem dX2_step_179 : decode cX2_step 179 = .ok (.invokevirtual 108, 3) := dk_182 0 108 (dk_at dksX2_step_6 11 rfl rfl)
theorem dX2_step_182 : decode cX2_step 182 = .ok (.aload_n 3, 1) := dk_45 (dk_at dksX2_step_6 14 rfl rfl)
theorem dX2_step_183 : decode cX2_step 183 = .ok (.aload_n 0, 1) := dk_42 (dk_at dksX2_step_6 15 rfl rfl)
theorem dX2_step_184 : decode cX2_step 184 = .ok (.invokevirtual 194, 3) := dk_182 0 194 (dk_at dksX2_step_6 16 rfl rfl)
theorem dX2_step_187 : decode cX2_step 187 = .ok (.putfield 197, 3) := dk_181 0 197 (dk_at dksX2_step_6 19 rfl rfl)
theorem dX2_step_190 : decode cX2_step 190 = .ok (.goto 89, 3) := dk_167 0 89 (dk_at dksX2_step_7 0 rfl rfl)
theorem dX2_step_193 : decode cX2_step 193 = .ok (.aload_n 0, 1) := dk_42 (dk_at dksX2_step_7 3 rfl rfl)
theorem dX2_step_194 : decode cX2_step 194 = .ok (.aload_n 3, 1) := dk_45 (dk_at dksX2_step_7 4 rfl rfl)
theorem dX2_step_195 : decode cX2_step 195 = .ok (.invokevirtual 215, 3) := dk_182 0 215 (dk_at dksX2_step_7 5 rfl rfl)
theorem dX2_step_198 : decode cX2_step 198 = .ok (.goto 81, 3) := dk_167 0 81 (dk_at dksX2_step_7 8 rfl rfl)
theorem dX2_step_201 : decode cX2_step 201 = .ok (.aload_n 3, 1) := dk_45 (dk_at dksX2_step_7 11 rfl rfl)
theorem dX2_step_202 : decode cX2_step 202 = .ok (.aload_n 0, 1) := dk_42 (dk_at dksX2_step_7 12 rfl rfl)
theorem dX2_step_203 : decode cX2_step 203 = .ok (.iconst 1, 1) := dk_4 (dk_at dksX2_step_7 13 rfl rfl)
theorem dX2_step_204 : decode cX2_step 204 = .ok (.bipush 99, 2) := dk_16 99 (dk_at dksX2_step_7 14 rfl rfl)
theorem dX2_step_206 : decode cX2_step 206 = .ok (.invokevirtual 68, 3) := dk_182 0 68 (dk_at dksX2_step_7 16 rfl rfl)
theorem dX2_step_209 : decode cX2_step 209 = .ok (.putfield 191, 3) := dk_181 0 191 (dk_at dksX2_step_7 19 rfl rfl)
theorem dX2_step_212 : decode cX2_step 212 = .ok (.goto 67, 3) := dk_167 0 67 (dk_at dksX2_step_8 0 rfl rfl)
theorem dX2_step_215 : decode cX2_step 215 = .ok (.aload_n 3, 1) := dk_45 (dk_at dksX2_step_8 3 rfl rfl)
theorem dX2_step_216 : decode cX2_step 216 = .ok (.aload_n 0, 1) := dk_42 (dk_at dksX2_step_8 4 rfl rfl)
theorem dX2_step_217 : decode cX2_step 217 = .ok (.iconst 0, 1) := dk_3 (dk_at dksX2_step_8 5 rfl rfl)
theorem dX2_step_218 : decode cX2_step 218 = .ok (.bipush 16, 2) := dk_16 16 (dk_at dksX2_step_8 6 rfl rfl)
theorem dX2_step_220 : decode cX2_step 220 = .ok (.invokevirtual 68, 3) := dk_182 0 68 (dk_at dksX2_step_8 8 rfl rfl)
theorem dX2_step_223 : decode cX2_step 223 = .ok (.putfield 191, 3) := dk_181 0 191 (dk_at dksX2_step_8 11 rfl rfl)
theorem dX2_step_226 : decode cX2_step 226 = .ok (.goto 53, 3) := dk_167 0 53 (dk_at dksX2_step_8 14 rfl rfl)
theorem dX2_step_229 : decode cX2_step 229 = .ok (.aload_n 0, 1) := dk_42 (dk_at dksX2_step_8 17 rfl rfl)
theorem dX2_step_230 : decode cX2_step 230 = .ok (.aload_n 3, 1) := dk_45 (dk_at dksX2_step_8 18 rfl rfl)
theorem dX2_step_231 : decode cX2_step 231 = .ok (.invokevirtual 219, 3) := dk_182 0 219 (dk_at dksX2_step_8 19 rfl rfl)
theorem dX2_step_234 : decode cX2_step 234 = .ok (.goto 45, 3) := dk_167 0 45 (dk_at dksX2_step_9 0 rfl rfl)
theorem dX2_step_237 : decode cX2_step 237 = .ok (.aload_n 0, 1) := dk_42 (dk_at dksX2_step_9 3 rfl rfl)
theorem dX2_step_238 : decode cX2_step 238 = .ok (.dup, 1) := dk_89 (dk_at dksX2_step_9 4 rfl rfl)
theorem dX2_step_239 : decode cX2_step 239 = .ok (.getfield 182, 3) := dk_180 0 182 (dk_at dksX2_step_9 5 rfl rfl)
theorem dX2_step_242 : decode cX2_step 242 = .ok (.iconst 1, 1) := dk_4 (dk_at dksX2_step_9 8 rfl rfl)
theorem dX2_step_243 : decode cX2_step 243 = .ok (.isub, 1) := dk_100 (dk_at dksX2_step_9 9 rfl rfl)
theorem dX2_step_244 : decode cX2_step 244 = .ok (.putfield 182, 3) := dk_181 0 182 (dk_at dksX2_step_9 10 rfl rfl)
theorem dX2_step_247 : decode cX2_step 247 = .ok (.aload_n 3, 1) := dk_45 (dk_at dksX2_step_9 13 rfl rfl)
theorem dX2_step_248 : decode cX2_step 248 = .ok (.aload_n 0, 1) := dk_42 (dk_at dksX2_step_9 14 rfl rfl)
theorem dX2_step_249 : decode cX2_step 249 = .ok (.getfield 13, 3) := dk_180 0 13 (dk_at dksX2_step_9 15 rfl rfl)
theorem dX2_step_252 : decode cX2_step 252 = .ok (.aload_n 0, 1) := dk_42 (dk_at dksX2_step_9 18 rfl rfl)
theorem dX2_step_253 : decode cX2_step 253 = .ok (.getfield 182, 3) := dk_180 0 182 (dk_at dksX2_step_9 19 rfl rfl)
theorem dX2_step_256 : decode cX2_step 256 = .ok (.iaload, 1) := dk_46 (dk_at dksX2_step_9 22 rfl rfl)
theorem dX2_step_257 : decode cX2_step 257 = .ok (.putfield 221, 3) := dk_181 0 221 (dk_at dksX2_step_10 0 rfl rfl)
theorem dX2_step_260 : decode cX2_step 260 = .ok (.aload_n 0, 1) := dk_42 (dk_at dksX2_step_10 3 rfl rfl)
theorem dX2_step_261 : decode cX2_step 261 = .ok (.getfield 172, 3) := dk_180 0 172 (dk_at dksX2_step_10 4 rfl rfl)
theorem dX2_step_264 : decode cX2_step 264 = .ok (.aload_n 3, 1) := dk_45 (dk_at dksX2_step_10 7 rfl rfl)
theorem dX2_step_265 : decode cX2_step 265 = .ok (.getfield 221, 3) := dk_180 0 221 (dk_at dksX2_step_10 8 rfl rfl)
theorem dX2_step_268 : decode cX2_step 268 = .ok (.aaload, 1) := dk_50 (dk_at dksX2_step_10 11 rfl rfl)
theorem dX2_step_269 : decode cX2_step 269 = .ok (.aload_n 0, 1) := dk_42 (dk_at dksX2_step_10 12 rfl rfl)
theorem dX2_step_270 : decode cX2_step 270 = .ok (.getfield 176, 3) := dk_180 0 176 (dk_at dksX2_step_10 13 rfl rfl)
theorem dX2_step_273 : decode cX2_step 273 = .ok (.putfield 221, 3) := dk_181 0 221 (dk_at dksX2_step_10 16 rfl rfl)
theorem dX2_step_276 : decode cX2_step 276 = .ok (.goto 3, 3) := dk_167 0 3 (dk_at dksX2_step_10 19 rfl rfl)
theorem dX2_step_279 : decode cX2_step 279 = .ok (.aload_n 0, 1) := dk_42 (dk_at dksX2_step_10 22 rfl rfl)
theorem dX2_step_280 : decode cX2_step 280 = .ok (.invokevirtual 50, 3) := dk_182 0 50 (dk_at dksX2_step_11 0 rfl rfl)
theorem dX2_step_283 : decode cX2_step 283 = .ok (.iload_n 2, 1) := dk_28 (dk_at dksX2_step_11 3 rfl rfl)
theorem dX2_step_284 : decode cX2_step 284 = .ok (.ifCond .eq 26, 3) := dk_153 0 26 (dk_at dksX2_step_11 4 rfl rfl)
theorem dX2_step_287 : decode cX2_step 287 = .ok (.aload_n 0, 1) := dk_42 (dk_at dksX2_step_11 7 rfl rfl)
theorem dX2_step_288 : decode cX2_step 288 = .ok (.getfield 13, 3) := dk_180 0 13 (dk_at dksX2_step_11 8 rfl rfl)
theorem dX2_step_291 : decode cX2_step 291 = .ok (.aload_n 0, 1) := dk_42 (dk_at dksX2_step_11 11 rfl rfl)
theorem dX2_step_292 : decode cX2_step 292 = .ok (.getfield 182, 3) := dk_180 0 182 (dk_at dksX2_step_11 12 rfl rfl)
theorem dX2_step_295 : decode cX2_step 295 = .ok (.aload_n 0, 1) := dk_42 (dk_at dksX2_step_11 15 rfl rfl)
theorem dX2_step_296 : decode cX2_step 296 = .ok (.getfield 176, 3) := dk_180 0 176 (dk_at dksX2_step_11 16 rfl rfl)
theorem dX2_step_299 : decode cX2_step 299 = .ok (.iastore, 1) := dk_79 (dk_at dksX2_step_11 19 rfl rfl)
theorem dX2_step_300 : decode cX2_step 300 = .ok (.aload_n 0, 1) := dk_42 (dk_at dksX2_step_11 20 rfl rfl)
theorem dX2_step_301 : decode cX2_step 301 = .ok (.dup, 1) := dk_89 (dk_at dksX2_step_11 21 rfl rfl)
theorem dX2_step_302 : decode cX2_step 302 = .ok (.getfield 182, 3) := dk_180 0 182 (dk_at dksX2_step_12 0 rfl rfl)
theorem dX2_step_305 : decode cX2_step 305 = .ok (.iconst 1, 1) := dk_4 (dk_at dksX2_step_12 3 rfl rfl)
theorem dX2_step_306 : decode cX2_step 306 = .ok (.iadd, 1) := dk_96 (dk_at dksX2_step_12 4 rfl rfl)
theorem dX2_step_307 : decode cX2_step 307 = .ok (.putfield 182, 3) := dk_181 0 182 (dk_at dksX2_step_12 5 rfl rfl)
theorem dX2_step_310 : decode cX2_step 310 = .ok (.aload_n 0, 1) := dk_42 (dk_at dksX2_step_12 8 rfl rfl)
theorem dX2_step_311 : decode cX2_step 311 = .ok (.dup, 1) := dk_89 (dk_at dksX2_step_12 9 rfl rfl)
theorem dX2_step_312 : decode cX2_step 312 = .ok (.getfield 179, 3) := dk_180 0 179 (dk_at dksX2_step_12 10 rfl rfl)
theorem dX2_step_315 : decode cX2_step 315 = .ok (.iload_n 1, 1) := dk_27 (dk_at dksX2_step_12 13 rfl rfl)
theorem dX2_step_316 : decode cX2_step 316 = .ok (.bipush 20, 2) := dk_16 20 (dk_at dksX2_step_12 14 rfl rfl)
theorem dX2_step_318 : decode cX2_step 318 = .ok (.if_icmp .ne 7, 3) := dk_160 0 7 (dk_at dksX2_step_12 16 rfl rfl)
theorem dX2_step_321 : decode cX2_step 321 = .ok (.iconst 0, 1) := dk_3 (dk_at dksX2_step_12 19 rfl rfl)
theorem dX2_step_322 : decode cX2_step 322 = .ok (.goto 4, 3) := dk_167 0 4 (dk_at dksX2_step_12 20 rfl rfl)
theorem dX2_step_325 : decode cX2_step 325 = .ok (.iconst 1, 1) := dk_4 (dk_at dksX2_step_12 23 rfl rfl)
theorem dX2_step_326 : decode cX2_step 326 = .ok (.iadd, 1) := dk_96 (dk_at dksX2_step_13 0 rfl rfl)
theorem dX2_step_327 : decode cX2_step 327 = .ok (.putfield 179, 3) := dk_181 0 179 (dk_at dksX2_step_13 1 rfl rfl)
theorem dX2_step_330 : decode cX2_step 330 = .ok (.aload_n 0, 1) := dk_42 (dk_at dksX2_step_13 4 rfl rfl)
theorem dX2_step_331 : decode cX2_step 331 = .ok (.getfield 172, 3) := dk_180 0 172 (dk_at dksX2_step_13 5 rfl rfl)
theorem dX2_step_334 : decode cX2_step 334 = .ok (.aload_n 0, 1) := dk_42 (dk_at dksX2_step_13 8 rfl rfl)
theorem dX2_step_335 : decode cX2_step 335 = .ok (.getfield 176, 3) := dk_180 0 176 (dk_at dksX2_step_13 9 rfl rfl)
theorem dX2_step_338 : decode cX2_step 338 = .ok (.aload_n 3, 1) := dk_45 (dk_at dksX2_step_13 12 rfl rfl)
theorem dX2_step_339 : decode cX2_step 339 = .ok (.aastore, 1) := dk_83 (dk_at dksX2_step_13 13 rfl rfl)
theorem dX2_step_340 : decode cX2_step 340 = .ok (.aload_n 0, 1) := dk_42 (dk_at dksX2_step_13 14 rfl rfl)
theorem dX2_step_341 : decode cX2_step 341 = .ok (.dup, 1) := dk_89 (dk_at dksX2_step_13 15 rfl rfl)
theorem dX2_step_342 : decode cX2_step 342 = .ok (.getfield 176, 3) := dk_180 0 176 (dk_at dksX2_step_13 16 rfl rfl)
theorem dX2_step_345 : decode cX2_step 345 = .ok (.iconst 1, 1) := dk_4 (dk_at dksX2_step_13 19 rfl rfl)
theorem dX2_step_346 : decode cX2_step 346 = .ok (.iadd, 1) := dk_96 (dk_at dksX2_step_13 20 rfl rfl)
theorem dX2_step_347 : decode cX2_step 347 = .ok (.putfield 176, 3) := dk_181 0 176 (dk_at dksX2_step_13 21 rfl rfl)
theorem dX2_step_350 : decode cX2_step 350 = .ok (.return_, 1) := dk_177 (dk_at dksX2_step_14 0 rfl rfl)
abbrev cX2_passedChange : ByteArray := prog_7_method_16_code
def yX2_passedChange : MethodName := ⟨RX2, "passedChange", "()I"⟩
def dkwX2_passedChange_0 : List UInt8 := [42, 182, 0, 127, 60, 42, 182, 0, 27, 27, 172]
abbrev dktX2_passedChange_0 : List UInt8 := dkwX2_passedChange_0 ++ []
theorem dksX2_passedChange_0 : cX2_passedChange.data.toList.drop 0 = dktX2_passedChange_0 := by decide +kernel
theorem dX2_passedChange_0 : decode cX2_passedChange 0 = .ok (.aload_n 0, 1) := dk_42 (dk_at dksX2_passedChange_0 0 rfl rfl)
theorem dX2_passedChange_1 : decode cX2_passedChange 1 = .ok (.invokevirtual 127, 3) := dk_182 0 127 (dk_at dksX2_passedChange_0 1 rfl rfl)
theorem dX2_passedChange_4 : decode cX2_passedChange 4 = .ok (.istore_n 1, 1) := dk_60 (dk_at dksX2_passedChange_0 4 rfl rfl)
theorem dX2_passedChange_5 : decode cX2_passedChange 5 = .ok (.aload_n 0, 1) := dk_42 (dk_at dksX2_passedChange_0 5 rfl rfl)
theorem dX2_passedChange_6 : decode cX2_passedChange 6 = .ok (.invokevirtual 27, 3) := dk_182 0 27 (dk_at dksX2_passedChange_0 6 rfl rfl)
theorem dX2_passedChange_9 : decode cX2_passedChange 9 = .ok (.iload_n 1, 1) := dk_27 (dk_at dksX2_passedChange_0 9 rfl rfl)
theorem dX2_passedChange_10 : decode cX2_passedChange 10 = .ok (.ireturn, 1) := dk_172 (dk_at dksX2_passedChange_0 10 rfl rfl)
abbrev cX2_anIsland : ByteArray := prog_7_method_15_code
def yX2_anIsland : MethodName := ⟨RX2, "anIsland", "()I"⟩
def dkwX2_anIsland_1 : List UInt8 := [182, 0, 27, 27, 172]
abbrev dktX2_anIsland_1 : List UInt8 := dkwX2_anIsland_1 ++ []
def dkwX2_anIsland_0 : List UInt8 := [42, 180, 0, 39, 42, 182, 0, 53, 182, 0, 61, 60, 27, 2, 160, 0, 9, 42, 6, 182, 0, 64, 191, 42]
abbrev dktX2_anIsland_0 : List UInt8 := dkwX2_anIsland_0 ++ dktX2_anIsland_1
theorem dksX2_anIsland_0 : cX2_anIsland.data.toList.drop 0 = dktX2_anIsland_0 := by decide +kernel
theorem dksX2_anIsland_1 : cX2_anIsland.data.toList.drop 24 = dktX2_anIsland_1 := dk_seg dksX2_anIsland_0 24 rfl rfl
theorem dX2_anIsland_0 : decode cX2_anIsland 0 = .ok (.aload_n 0, 1) := dk_42 (dk_at dksX2_anIsland_0 0 rfl rfl)
theorem dX2_anIsland_1 : decode cX2_anIsland 1 = .ok (.getfield 39, 3) := dk_180 0 39 (dk_at dksX2_anIsland_0 1 rfl rfl)
theorem dX2_anIsland_4 : decode cX2_anIsland 4 = .ok (.aload_n 0, 1) := dk_42 (dk_at dksX2_anIsland_0 4 rfl rfl)
theorem dX2_anIsland_5 : decode cX2_anIsland 5 = .ok (.invokevirtual 53, 3) := dk_182 0 53 (dk_at dksX2_anIsland_0 5 rfl rfl)
theorem dX2_anIsland_8 : decode cX2_anIsland 8 = .ok (.invokevirtual 61, 3) := dk_182 0 61 (dk_at dksX2_anIsland_0 8 rfl rfl)
theorem dX2_anIsland_11 : decode cX2_anIsland 11 = .ok (.istore_n 1, 1) := dk_60 (dk_at dksX2_anIsland_0 11 rfl rfl)
theorem dX2_anIsland_12 : decode cX2_anIsland 12 = .ok (.iload_n 1, 1) := dk_27 (dk_at dksX2_anIsland_0 12 rfl rfl)
theorem dX2_anIsland_13 : decode cX2_anIsland 13 = .ok (.iconst (-1), 1) := dk_2 (dk_at dksX2_anIsland_0 13 rfl rfl)
theorem dX2_anIsland_14 : decode cX2_anIsland 14 = .ok (.if_icmp .ne 9, 3) := dk_160 0 9 (dk_at dksX2_anIsland_0 14 rfl rfl)
theorem dX2_anIsland_17 : decode cX2_anIsland 17 = .ok (.aload_n 0, 1) := dk_42 (dk_at dksX2_anIsland_0 17 rfl rfl)
theorem dX2_anIsland_18 : decode cX2_anIsland 18 = .ok (.iconst 3, 1) := dk_6 (dk_at dksX2_anIsland_0 18 rfl rfl)
theorem dX2_anIsland_19 : decode cX2_anIsland 19 = .ok (.invokevirtual 64, 3) := dk_182 0 64 (dk_at dksX2_anIsland_0 19 rfl rfl)
theorem dX2_anIsland_22 : decode cX2_anIsland 22 = .ok (.athrow, 1) := dk_191 (dk_at dksX2_anIsland_0 22 rfl rfl)
theorem dX2_anIsland_23 : decode cX2_anIsland 23 = .ok (.aload_n 0, 1) := dk_42 (dk_at dksX2_anIsland_0 23 rfl rfl)
theorem dX2_anIsland_24 : decode cX2_anIsland 24 = .ok (.invokevirtual 27, 3) := dk_182 0 27 (dk_at dksX2_anIsland_1 0 rfl rfl)
theorem dX2_anIsland_27 : decode cX2_anIsland 27 = .ok (.iload_n 1, 1) := dk_27 (dk_at dksX2_anIsland_1 3 rfl rfl)
theorem dX2_anIsland_28 : decode cX2_anIsland 28 = .ok (.ireturn, 1) := dk_172 (dk_at dksX2_anIsland_1 4 rfl rfl)
abbrev cX2_ship : ByteArray := prog_7_method_18_code
def yX2_ship : MethodName := ⟨RX2, "ship", "(LSwapBook$Step;)V"⟩
def dkwX2_ship_2 : List UInt8 := [182, 0, 19, 16, 24, 160, 0, 12, 43, 4, 181, 0, 209, 42, 182, 0, 27, 177]
abbrev dktX2_ship_2 : List UInt8 := dkwX2_ship_2 ++ []
def dkwX2_ship_1 : List UInt8 := [182, 0, 19, 16, 23, 160, 0, 18, 42, 182, 0, 27, 43, 42, 3, 16, 9, 182, 0, 68, 181, 0, 206, 42]
abbrev dktX2_ship_1 : List UInt8 := dkwX2_ship_1 ++ dktX2_ship_2
def dkwX2_ship_0 : List UInt8 := [43, 42, 182, 0, 194, 181, 0, 203, 42, 16, 22, 182, 0, 108, 43, 42, 182, 0, 194, 181, 0, 197, 42]
abbrev dktX2_ship_0 : List UInt8 := dkwX2_ship_0 ++ dktX2_ship_1
theorem dksX2_ship_0 : cX2_ship.data.toList.drop 0 = dktX2_ship_0 := by decide +kernel
theorem dksX2_ship_1 : cX2_ship.data.toList.drop 23 = dktX2_ship_1 := dk_seg dksX2_ship_0 23 rfl rfl
theorem dksX2_ship_2 : cX2_ship.data.toList.drop 47 = dktX2_ship_2 := dk_seg dksX2_ship_1 24 rfl rfl
theorem dX2_ship_0 : decode cX2_ship 0 = .ok (.aload_n 1, 1) := dk_43 (dk_at dksX2_ship_0 0 rfl rfl)
theorem dX2_ship_1 : decode cX2_ship 1 = .ok (.aload_n 0, 1) := dk_42 (dk_at dksX2_ship_0 1 rfl rfl)
theorem dX2_ship_2 : decode cX2_ship 2 = .ok (.invokevirtual 194, 3) := dk_182 0 194 (dk_at dksX2_ship_0 2 rfl rfl)
theorem dX2_ship_5 : decode cX2_ship 5 = .ok (.putfield 203, 3) := dk_181 0 203 (dk_at dksX2_ship_0 5 rfl rfl)
theorem dX2_ship_8 : decode cX2_ship 8 = .ok (.aload_n 0, 1) := dk_42 (dk_at dksX2_ship_0 8 rfl rfl)
theorem dX2_ship_9 : decode cX2_ship 9 = .ok (.bipush 22, 2) := dk_16 22 (dk_at dksX2_ship_0 9 rfl rfl)
theorem dX2_ship_11 : decode cX2_ship 11 = .ok (.invokevirtual 108, 3) := dk_182 0 108 (dk_at dksX2_ship_0 11 rfl rfl)
theorem dX2_ship_14 : decode cX2_ship 14 = .ok (.aload_n 1, 1) := dk_43 (dk_at dksX2_ship_0 14 rfl rfl)
theorem dX2_ship_15 : decode cX2_ship 15 = .ok (.aload_n 0, 1) := dk_42 (dk_at dksX2_ship_0 15 rfl rfl)
theorem dX2_ship_16 : decode cX2_ship 16 = .ok (.invokevirtual 194, 3) := dk_182 0 194 (dk_at dksX2_ship_0 16 rfl rfl)
theorem dX2_ship_19 : decode cX2_ship 19 = .ok (.putfield 197, 3) := dk_181 0 197 (dk_at dksX2_ship_0 19 rfl rfl)
theorem dX2_ship_22 : decode cX2_ship 22 = .ok (.aload_n 0, 1) := dk_42 (dk_at dksX2_ship_0 22 rfl rfl)
theorem dX2_ship_23 : decode cX2_ship 23 = .ok (.invokevirtual 19, 3) := dk_182 0 19 (dk_at dksX2_ship_1 0 rfl rfl)
theorem dX2_ship_26 : decode cX2_ship 26 = .ok (.bipush 23, 2) := dk_16 23 (dk_at dksX2_ship_1 3 rfl rfl)
theorem dX2_ship_28 : decode cX2_ship 28 = .ok (.if_icmp .ne 18, 3) := dk_160 0 18 (dk_at dksX2_ship_1 5 rfl rfl)
theorem dX2_ship_31 : decode cX2_ship 31 = .ok (.aload_n 0, 1) := dk_42 (dk_at dksX2_ship_1 8 rfl rfl)
theorem dX2_ship_32 : decode cX2_ship 32 = .ok (.invokevirtual 27, 3) := dk_182 0 27 (dk_at dksX2_ship_1 9 rfl rfl)
theorem dX2_ship_35 : decode cX2_ship 35 = .ok (.aload_n 1, 1) := dk_43 (dk_at dksX2_ship_1 12 rfl rfl)
theorem dX2_ship_36 : decode cX2_ship 36 = .ok (.aload_n 0, 1) := dk_42 (dk_at dksX2_ship_1 13 rfl rfl)
theorem dX2_ship_37 : decode cX2_ship 37 = .ok (.iconst 0, 1) := dk_3 (dk_at dksX2_ship_1 14 rfl rfl)
theorem dX2_ship_38 : decode cX2_ship 38 = .ok (.bipush 9, 2) := dk_16 9 (dk_at dksX2_ship_1 15 rfl rfl)
theorem dX2_ship_40 : decode cX2_ship 40 = .ok (.invokevirtual 68, 3) := dk_182 0 68 (dk_at dksX2_ship_1 17 rfl rfl)
theorem dX2_ship_43 : decode cX2_ship 43 = .ok (.putfield 206, 3) := dk_181 0 206 (dk_at dksX2_ship_1 20 rfl rfl)
theorem dX2_ship_46 : decode cX2_ship 46 = .ok (.aload_n 0, 1) := dk_42 (dk_at dksX2_ship_1 23 rfl rfl)
theorem dX2_ship_47 : decode cX2_ship 47 = .ok (.invokevirtual 19, 3) := dk_182 0 19 (dk_at dksX2_ship_2 0 rfl rfl)
theorem dX2_ship_50 : decode cX2_ship 50 = .ok (.bipush 24, 2) := dk_16 24 (dk_at dksX2_ship_2 3 rfl rfl)
theorem dX2_ship_52 : decode cX2_ship 52 = .ok (.if_icmp .ne 12, 3) := dk_160 0 12 (dk_at dksX2_ship_2 5 rfl rfl)
theorem dX2_ship_55 : decode cX2_ship 55 = .ok (.aload_n 1, 1) := dk_43 (dk_at dksX2_ship_2 8 rfl rfl)
theorem dX2_ship_56 : decode cX2_ship 56 = .ok (.iconst 1, 1) := dk_4 (dk_at dksX2_ship_2 9 rfl rfl)
theorem dX2_ship_57 : decode cX2_ship 57 = .ok (.putfield 209, 3) := dk_181 0 209 (dk_at dksX2_ship_2 10 rfl rfl)
theorem dX2_ship_60 : decode cX2_ship 60 = .ok (.aload_n 0, 1) := dk_42 (dk_at dksX2_ship_2 13 rfl rfl)
theorem dX2_ship_61 : decode cX2_ship 61 = .ok (.invokevirtual 27, 3) := dk_182 0 27 (dk_at dksX2_ship_2 14 rfl rfl)
theorem dX2_ship_64 : decode cX2_ship 64 = .ok (.return_, 1) := dk_177 (dk_at dksX2_ship_2 17 rfl rfl)
abbrev cX2_test : ByteArray := prog_7_method_17_code
def yX2_test : MethodName := ⟨RX2, "test", "(LSwapBook$Step;)V"⟩
def dkwX2_test_3 : List UInt8 := [180, 0, 188, 16, 25, 160, 0, 11, 43, 42, 182, 0, 200, 181, 0, 203, 177]
abbrev dktX2_test_3 : List UInt8 := dkwX2_test_3 ++ []
def dkwX2_test_2 : List UInt8 := [43, 42, 3, 17, 3, 231, 182, 0, 68, 181, 0, 191, 177, 43, 42, 182, 0, 194, 181, 0, 197, 43]
abbrev dktX2_test_2 : List UInt8 := dkwX2_test_2 ++ dktX2_test_3
def dkwX2_test_1 : List UInt8 := [163, 0, 7, 4, 167, 0, 4, 3, 182, 0, 23, 42, 182, 0, 27, 43, 180, 0, 188, 16, 27, 160, 0, 16]
abbrev dktX2_test_1 : List UInt8 := dkwX2_test_1 ++ dktX2_test_2
def dkwX2_test_0 : List UInt8 := [43, 42, 182, 0, 19, 181, 0, 188, 42, 43, 180, 0, 188, 16, 25, 161, 0, 16, 43, 180, 0, 188, 16, 27]
abbrev dktX2_test_0 : List UInt8 := dkwX2_test_0 ++ dktX2_test_1
theorem dksX2_test_0 : cX2_test.data.toList.drop 0 = dktX2_test_0 := by decide +kernel
theorem dksX2_test_1 : cX2_test.data.toList.drop 24 = dktX2_test_1 := dk_seg dksX2_test_0 24 rfl rfl
theorem dksX2_test_2 : cX2_test.data.toList.drop 48 = dktX2_test_2 := dk_seg dksX2_test_1 24 rfl rfl
theorem dksX2_test_3 : cX2_test.data.toList.drop 70 = dktX2_test_3 := dk_seg dksX2_test_2 22 rfl rfl
theorem dX2_test_0 : decode cX2_test 0 = .ok (.aload_n 1, 1) := dk_43 (dk_at dksX2_test_0 0 rfl rfl)
theorem dX2_test_1 : decode cX2_test 1 = .ok (.aload_n 0, 1) := dk_42 (dk_at dksX2_test_0 1 rfl rfl)
theorem dX2_test_2 : decode cX2_test 2 = .ok (.invokevirtual 19, 3) := dk_182 0 19 (dk_at dksX2_test_0 2 rfl rfl)
theorem dX2_test_5 : decode cX2_test 5 = .ok (.putfield 188, 3) := dk_181 0 188 (dk_at dksX2_test_0 5 rfl rfl)
theorem dX2_test_8 : decode cX2_test 8 = .ok (.aload_n 0, 1) := dk_42 (dk_at dksX2_test_0 8 rfl rfl)
theorem dX2_test_9 : decode cX2_test 9 = .ok (.aload_n 1, 1) := dk_43 (dk_at dksX2_test_0 9 rfl rfl)
theorem dX2_test_10 : decode cX2_test 10 = .ok (.getfield 188, 3) := dk_180 0 188 (dk_at dksX2_test_0 10 rfl rfl)
theorem dX2_test_13 : decode cX2_test 13 = .ok (.bipush 25, 2) := dk_16 25 (dk_at dksX2_test_0 13 rfl rfl)
theorem dX2_test_15 : decode cX2_test 15 = .ok (.if_icmp .lt 16, 3) := dk_161 0 16 (dk_at dksX2_test_0 15 rfl rfl)
theorem dX2_test_18 : decode cX2_test 18 = .ok (.aload_n 1, 1) := dk_43 (dk_at dksX2_test_0 18 rfl rfl)
theorem dX2_test_19 : decode cX2_test 19 = .ok (.getfield 188, 3) := dk_180 0 188 (dk_at dksX2_test_0 19 rfl rfl)
theorem dX2_test_22 : decode cX2_test 22 = .ok (.bipush 27, 2) := dk_16 27 (dk_at dksX2_test_0 22 rfl rfl)
theorem dX2_test_24 : decode cX2_test 24 = .ok (.if_icmp .gt 7, 3) := dk_163 0 7 (dk_at dksX2_test_1 0 rfl rfl)
theorem dX2_test_27 : decode cX2_test 27 = .ok (.iconst 1, 1) := dk_4 (dk_at dksX2_test_1 3 rfl rfl)
theorem dX2_test_28 : decode cX2_test 28 = .ok (.goto 4, 3) := dk_167 0 4 (dk_at dksX2_test_1 4 rfl rfl)
theorem dX2_test_31 : decode cX2_test 31 = .ok (.iconst 0, 1) := dk_3 (dk_at dksX2_test_1 7 rfl rfl)
theorem dX2_test_32 : decode cX2_test 32 = .ok (.invokevirtual 23, 3) := dk_182 0 23 (dk_at dksX2_test_1 8 rfl rfl)
theorem dX2_test_35 : decode cX2_test 35 = .ok (.aload_n 0, 1) := dk_42 (dk_at dksX2_test_1 11 rfl rfl)
theorem dX2_test_36 : decode cX2_test 36 = .ok (.invokevirtual 27, 3) := dk_182 0 27 (dk_at dksX2_test_1 12 rfl rfl)
theorem dX2_test_39 : decode cX2_test 39 = .ok (.aload_n 1, 1) := dk_43 (dk_at dksX2_test_1 15 rfl rfl)
theorem dX2_test_40 : decode cX2_test 40 = .ok (.getfield 188, 3) := dk_180 0 188 (dk_at dksX2_test_1 16 rfl rfl)
theorem dX2_test_43 : decode cX2_test 43 = .ok (.bipush 27, 2) := dk_16 27 (dk_at dksX2_test_1 19 rfl rfl)
theorem dX2_test_45 : decode cX2_test 45 = .ok (.if_icmp .ne 16, 3) := dk_160 0 16 (dk_at dksX2_test_1 21 rfl rfl)
theorem dX2_test_48 : decode cX2_test 48 = .ok (.aload_n 1, 1) := dk_43 (dk_at dksX2_test_2 0 rfl rfl)
theorem dX2_test_49 : decode cX2_test 49 = .ok (.aload_n 0, 1) := dk_42 (dk_at dksX2_test_2 1 rfl rfl)
theorem dX2_test_50 : decode cX2_test 50 = .ok (.iconst 0, 1) := dk_3 (dk_at dksX2_test_2 2 rfl rfl)
theorem dX2_test_51 : decode cX2_test 51 = .ok (.sipush 999, 3) := dk_17 3 231 (dk_at dksX2_test_2 3 rfl rfl)
theorem dX2_test_54 : decode cX2_test 54 = .ok (.invokevirtual 68, 3) := dk_182 0 68 (dk_at dksX2_test_2 6 rfl rfl)
theorem dX2_test_57 : decode cX2_test 57 = .ok (.putfield 191, 3) := dk_181 0 191 (dk_at dksX2_test_2 9 rfl rfl)
theorem dX2_test_60 : decode cX2_test 60 = .ok (.return_, 1) := dk_177 (dk_at dksX2_test_2 12 rfl rfl)
theorem dX2_test_61 : decode cX2_test 61 = .ok (.aload_n 1, 1) := dk_43 (dk_at dksX2_test_2 13 rfl rfl)
theorem dX2_test_62 : decode cX2_test 62 = .ok (.aload_n 0, 1) := dk_42 (dk_at dksX2_test_2 14 rfl rfl)
theorem dX2_test_63 : decode cX2_test 63 = .ok (.invokevirtual 194, 3) := dk_182 0 194 (dk_at dksX2_test_2 15 rfl rfl)
theorem dX2_test_66 : decode cX2_test 66 = .ok (.putfield 197, 3) := dk_181 0 197 (dk_at dksX2_test_2 18 rfl rfl)
theorem dX2_test_69 : decode cX2_test 69 = .ok (.aload_n 1, 1) := dk_43 (dk_at dksX2_test_2 21 rfl rfl)
theorem dX2_test_70 : decode cX2_test 70 = .ok (.getfield 188, 3) := dk_180 0 188 (dk_at dksX2_test_3 0 rfl rfl)
theorem dX2_test_73 : decode cX2_test 73 = .ok (.bipush 25, 2) := dk_16 25 (dk_at dksX2_test_3 3 rfl rfl)
theorem dX2_test_75 : decode cX2_test 75 = .ok (.if_icmp .ne 11, 3) := dk_160 0 11 (dk_at dksX2_test_3 5 rfl rfl)
theorem dX2_test_78 : decode cX2_test 78 = .ok (.aload_n 1, 1) := dk_43 (dk_at dksX2_test_3 8 rfl rfl)
theorem dX2_test_79 : decode cX2_test 79 = .ok (.aload_n 0, 1) := dk_42 (dk_at dksX2_test_3 9 rfl rfl)
theorem dX2_test_80 : decode cX2_test 80 = .ok (.invokevirtual 200, 3) := dk_182 0 200 (dk_at dksX2_test_3 10 rfl rfl)
theorem dX2_test_83 : decode cX2_test 83 = .ok (.putfield 203, 3) := dk_181 0 203 (dk_at dksX2_test_3 13 rfl rfl)
theorem dX2_test_86 : decode cX2_test 86 = .ok (.return_, 1) := dk_177 (dk_at dksX2_test_3 16 rfl rfl)
theorem q147 : (Jvm.Cond.initialized "SwapBook$Reader") ∈ lw_all := lw_g (lw_at lw_m1 3 rfl) rfl
theorem q184 : (Jvm.Cond.instantiable "SwapBook$Reader" (16 : Nat)) ∈ lw_all := lw_g (lw_at lw_m1 40 rfl) rfl
theorem q274 : (Jvm.Cond.instanceMethod ({ cls := "SwapBook$Reader", name := "<init>", desc := "(LSwapBook$Wrong;)V" } : Jvm.MethodName)) ∈ lw_all := lw_g (lw_at lw_m1 130 rfl) rfl
theorem q275 : (Jvm.Cond.code ({ cls := "SwapBook$Reader", name := "<init>", desc := "(LSwapBook$Wrong;)V" } : Jvm.MethodName) prog_7_method_1_code (2 : Nat) (Option.none : Option Jvm.ClassFile.FieldType)) ∈ lw_all := lw_g (lw_at lw_m1 131 rfl) rfl
theorem q276 : (Jvm.Cond.stringRef "SwapBook$Reader" (3 : Nat) " put take name move settle island key says of not after make ship out pick wait draw when loop stop end at to late twice has quiet day ") ∈ lw_tbl := lw_at lw_m1 132 rfl
theorem q277 : (Jvm.Cond.stringRef "SwapBook$Reader" (5 : Nat) ";") ∈ lw_tbl := lw_at lw_m1 133 rfl
theorem q278 : (Jvm.Cond.methodLink "SwapBook$Reader" (7 : Nat) ({ cls := "SwapBook$Scan", name := "<init>", desc := "([BLjava/lang/String;Ljava/lang/String;LSwapBook$Wrong;)V" } : Jvm.MethodName)) ∈ lw_all := lw_g (lw_at lw_m1 134 rfl) rfl
theorem q283 : (Jvm.Cond.fieldLink "SwapBook$Reader" (176 : Nat) "SwapBook$Reader" "stepMany" "I") ∈ lw_all := lw_g (lw_at lw_m1 139 rfl) rfl
theorem q285 : (Jvm.Cond.fieldLink "SwapBook$Reader" (179 : Nat) "SwapBook$Reader" "counted" "I") ∈ lw_all := lw_g (lw_at lw_m1 141 rfl) rfl
theorem q287 : (Jvm.Cond.fieldLink "SwapBook$Reader" (182 : Nat) "SwapBook$Reader" "open" "I") ∈ lw_all := lw_g (lw_at lw_m1 143 rfl) rfl
theorem q288 : (Jvm.Cond.fieldLink "SwapBook$Reader" (39 : Nat) "SwapBook$Reader" "book" "LSwapBook$Book;") ∈ lw_all := lw_g (lw_at lw_m1 144 rfl) rfl
theorem q289 : (Jvm.Cond.fieldLink "SwapBook$Reader" (172 : Nat) "SwapBook$Reader" "steps" "[LSwapBook$Step;") ∈ lw_all := lw_g (lw_at lw_m1 145 rfl) rfl
theorem q290 : (Jvm.Cond.fieldLink "SwapBook$Reader" (13 : Nat) "SwapBook$Reader" "opened" "[I") ∈ lw_all := lw_g (lw_at lw_m1 146 rfl) rfl
theorem q293 : (Jvm.Cond.sameField "SwapBook$Reader" "SwapBook$Scan" "tape" "[B") ∈ lw_all := lw_g (lw_at lw_m1 149 rfl) rfl
theorem q295 : (Jvm.Cond.fieldLink "SwapBook$Reader" (31 : Nat) "SwapBook$Reader" "sort" "I") ∈ lw_all := lw_g (lw_at lw_m1 151 rfl) rfl
theorem q296 : (Jvm.Cond.sameField "SwapBook$Reader" "SwapBook$Scan" "sort" "I") ∈ lw_all := lw_g (lw_at lw_m1 152 rfl) rfl
theorem q304 : (Jvm.Cond.lays "SwapBook$Reader" "SwapBook$Reader" "taped" "I") ∈ lw_all := lw_g (lw_at lw_m1 160 rfl) rfl
theorem q305 : (Jvm.Cond.soleField "SwapBook$Reader" "taped") ∈ lw_all := lw_g (lw_at lw_m1 161 rfl) rfl
theorem q306 : (Jvm.Cond.lays "SwapBook$Reader" "SwapBook$Reader" "stepMany" "I") ∈ lw_all := lw_g (lw_at lw_m1 162 rfl) rfl
theorem q307 : (Jvm.Cond.soleField "SwapBook$Reader" "stepMany") ∈ lw_all := lw_g (lw_at lw_m1 163 rfl) rfl
theorem q308 : (Jvm.Cond.lays "SwapBook$Reader" "SwapBook$Reader" "counted" "I") ∈ lw_all := lw_g (lw_at lw_m1 164 rfl) rfl
theorem q309 : (Jvm.Cond.soleField "SwapBook$Reader" "counted") ∈ lw_all := lw_g (lw_at lw_m1 165 rfl) rfl
theorem q310 : (Jvm.Cond.lays "SwapBook$Reader" "SwapBook$Reader" "open" "I") ∈ lw_all := lw_g (lw_at lw_m1 166 rfl) rfl
theorem q311 : (Jvm.Cond.soleField "SwapBook$Reader" "open") ∈ lw_all := lw_g (lw_at lw_m1 167 rfl) rfl
theorem q312 : (Jvm.Cond.lays "SwapBook$Reader" "SwapBook$Reader" "book" "LSwapBook$Book;") ∈ lw_all := lw_g (lw_at lw_m1 168 rfl) rfl
theorem q313 : (Jvm.Cond.soleField "SwapBook$Reader" "book") ∈ lw_all := lw_g (lw_at lw_m1 169 rfl) rfl
theorem q314 : (Jvm.Cond.lays "SwapBook$Reader" "SwapBook$Reader" "steps" "[LSwapBook$Step;") ∈ lw_all := lw_g (lw_at lw_m1 170 rfl) rfl
theorem q315 : (Jvm.Cond.soleField "SwapBook$Reader" "steps") ∈ lw_all := lw_g (lw_at lw_m1 171 rfl) rfl
theorem q316 : (Jvm.Cond.laysFinal "SwapBook$Reader" "SwapBook$Reader" "opened" "[I") ∈ lw_all := lw_g (lw_at lw_m1 172 rfl) rfl
theorem q317 : (Jvm.Cond.soleField "SwapBook$Reader" "opened") ∈ lw_all := lw_g (lw_at lw_m1 173 rfl) rfl
theorem q318 : (Jvm.Cond.laysFinal "SwapBook$Reader" "SwapBook$Scan" "tape" "[B") ∈ lw_all := lw_g (lw_at lw_m1 174 rfl) rfl
theorem q320 : (Jvm.Cond.lays "SwapBook$Reader" "SwapBook$Scan" "size" "I") ∈ lw_all := lw_g (lw_at lw_m1 176 rfl) rfl
theorem q322 : (Jvm.Cond.lays "SwapBook$Reader" "SwapBook$Scan" "sort" "I") ∈ lw_all := lw_g (lw_at lw_m1 178 rfl) rfl
theorem q324 : (Jvm.Cond.lays "SwapBook$Reader" "SwapBook$Scan" "from" "I") ∈ lw_all := lw_g (lw_at lw_m1 180 rfl) rfl
theorem q326 : (Jvm.Cond.lays "SwapBook$Reader" "SwapBook$Scan" "end" "I") ∈ lw_all := lw_g (lw_at lw_m1 182 rfl) rfl
theorem q328 : (Jvm.Cond.lays "SwapBook$Reader" "SwapBook$Scan" "value" "I") ∈ lw_all := lw_g (lw_at lw_m1 184 rfl) rfl
theorem q330 : (Jvm.Cond.laysFinal "SwapBook$Reader" "SwapBook$Scan" "keys" "Ljava/lang/String;") ∈ lw_all := lw_g (lw_at lw_m1 186 rfl) rfl
theorem q332 : (Jvm.Cond.laysFinal "SwapBook$Reader" "SwapBook$Scan" "signs" "Ljava/lang/String;") ∈ lw_all := lw_g (lw_at lw_m1 188 rfl) rfl
theorem q334 : (Jvm.Cond.laysFinal "SwapBook$Reader" "SwapBook$Scan" "wrong" "LSwapBook$Wrong;") ∈ lw_all := lw_g (lw_at lw_m1 190 rfl) rfl
theorem q336 : (Jvm.Cond.superclass "SwapBook$Reader" "SwapBook$Scan") ∈ lw_all := lw_g (lw_at lw_m1 192 rfl) rfl
theorem q348 : (Jvm.Cond.fieldLink "SwapBook$Reader" (130 : Nat) "SwapBook$Book" "changes" "[LSwapBook$Change;") ∈ lw_all := lw_g (lw_at lw_m1 204 rfl) rfl
theorem q351 : (Jvm.Cond.fieldLink "SwapBook$Reader" (81 : Nat) "SwapBook$Book" "islands" "[J") ∈ lw_all := lw_g (lw_at lw_m1 207 rfl) rfl
theorem q353 : (Jvm.Cond.fieldLinkNest "SwapBook$Reader" (75 : Nat) "SwapBook$Book" "many" "I" "SwapBook") ∈ lw_tbl := lw_at lw_m1 209 rfl
theorem q356 : (Jvm.Cond.fieldLinkNest "SwapBook$Reader" (72 : Nat) "SwapBook$Book" "islandMany" "I" "SwapBook") ∈ lw_tbl := lw_at lw_m1 212 rfl
theorem q646 : (Jvm.Cond.instanceMethod ({ cls := "SwapBook$Reader", name := "book", desc := "(I)LSwapBook$Book;" } : Jvm.MethodName)) ∈ lw_all := lw_g (lw_at lw_m3 22 rfl) rfl
theorem q647 : (Jvm.Cond.selects "SwapBook$Reader" ({ cls := "SwapBook$Reader", name := "book", desc := "(I)LSwapBook$Book;" } : Jvm.MethodName) ({ cls := "SwapBook$Reader", name := "book", desc := "(I)LSwapBook$Book;" } : Jvm.MethodName)) ∈ lw_all := lw_g (lw_at lw_m3 23 rfl) rfl
theorem q648 : (Jvm.Cond.code ({ cls := "SwapBook$Reader", name := "book", desc := "(I)LSwapBook$Book;" } : Jvm.MethodName) prog_7_method_4_code (2 : Nat) (Option.some (Jvm.ClassFile.FieldType.object "SwapBook$Book"))) ∈ lw_all := lw_g (lw_at lw_m3 24 rfl) rfl
theorem q649 : (Jvm.Cond.classLink "SwapBook$Reader" (35 : Nat) "SwapBook$Book") ∈ lw_all := lw_g (lw_at lw_m3 25 rfl) rfl
theorem q650 : (Jvm.Cond.methodLinkNest "SwapBook$Reader" (37 : Nat) ({ cls := "SwapBook$Book", name := "<init>", desc := "()V" } : Jvm.MethodName) "SwapBook") ∈ lw_tbl := lw_at lw_m3 26 rfl
theorem q651 : (Jvm.Cond.methodLink "SwapBook$Reader" (43 : Nat) ({ cls := "SwapBook$Reader", name := "begin", desc := "(I)V" } : Jvm.MethodName)) ∈ lw_all := lw_g (lw_at lw_m3 27 rfl) rfl
theorem q652 : (Jvm.Cond.sameMethod "SwapBook$Reader" "SwapBook$Scan" "begin" "(I)V") ∈ lw_all := lw_g (lw_at lw_m3 28 rfl) rfl
theorem q654 : (Jvm.Cond.selects "SwapBook$Reader" ({ cls := "SwapBook$Reader", name := "begin", desc := "(I)V" } : Jvm.MethodName) ({ cls := "SwapBook$Scan", name := "begin", desc := "(I)V" } : Jvm.MethodName)) ∈ lw_all := lw_g (lw_at lw_m3 30 rfl) rfl
theorem q660 : (Jvm.Cond.selects "SwapBook$Reader" ({ cls := "SwapBook$Scan", name := "next", desc := "()V" } : Jvm.MethodName) ({ cls := "SwapBook$Scan", name := "next", desc := "()V" } : Jvm.MethodName)) ∈ lw_all := lw_g (lw_at lw_m3 36 rfl) rfl
theorem q728 : (Jvm.Cond.methodLink "SwapBook$Reader" (47 : Nat) ({ cls := "SwapBook$Reader", name := "part", desc := "()V" } : Jvm.MethodName)) ∈ lw_all := lw_g (lw_at lw_m3 104 rfl) rfl
theorem q729 : (Jvm.Cond.privateMethod ({ cls := "SwapBook$Reader", name := "part", desc := "()V" } : Jvm.MethodName)) ∈ lw_tbl := lw_at lw_m3 105 rfl
theorem q730 : (Jvm.Cond.instanceMethod ({ cls := "SwapBook$Reader", name := "part", desc := "()V" } : Jvm.MethodName)) ∈ lw_all := lw_g (lw_at lw_m3 106 rfl) rfl
theorem q731 : (Jvm.Cond.code ({ cls := "SwapBook$Reader", name := "part", desc := "()V" } : Jvm.MethodName) prog_7_method_8_code (5 : Nat) (Option.none : Option Jvm.ClassFile.FieldType)) ∈ lw_all := lw_g (lw_at lw_m3 107 rfl) rfl
theorem q732 : (Jvm.Cond.methodLink "SwapBook$Reader" (19 : Nat) ({ cls := "SwapBook$Reader", name := "key", desc := "()I" } : Jvm.MethodName)) ∈ lw_all := lw_g (lw_at lw_m3 108 rfl) rfl
theorem q733 : (Jvm.Cond.sameMethod "SwapBook$Reader" "SwapBook$Scan" "key" "()I") ∈ lw_all := lw_g (lw_at lw_m3 109 rfl) rfl
theorem q735 : (Jvm.Cond.selects "SwapBook$Reader" ({ cls := "SwapBook$Reader", name := "key", desc := "()I" } : Jvm.MethodName) ({ cls := "SwapBook$Scan", name := "key", desc := "()I" } : Jvm.MethodName)) ∈ lw_all := lw_g (lw_at lw_m3 111 rfl) rfl
theorem q741 : (Jvm.Cond.selects "SwapBook$Reader" ({ cls := "SwapBook$Scan", name := "in", desc := "(Ljava/lang/String;)I" } : Jvm.MethodName) ({ cls := "SwapBook$Scan", name := "in", desc := "(Ljava/lang/String;)I" } : Jvm.MethodName)) ∈ lw_all := lw_g (lw_at lw_m3 117 rfl) rfl
theorem q747 : (Jvm.Cond.methodLink "SwapBook$Reader" (23 : Nat) ({ cls := "SwapBook$Reader", name := "need", desc := "(Z)V" } : Jvm.MethodName)) ∈ lw_all := lw_g (lw_at lw_m3 123 rfl) rfl
theorem q748 : (Jvm.Cond.sameMethod "SwapBook$Reader" "SwapBook$Scan" "need" "(Z)V") ∈ lw_all := lw_g (lw_at lw_m3 124 rfl) rfl
theorem q750 : (Jvm.Cond.selects "SwapBook$Reader" ({ cls := "SwapBook$Reader", name := "need", desc := "(Z)V" } : Jvm.MethodName) ({ cls := "SwapBook$Scan", name := "need", desc := "(Z)V" } : Jvm.MethodName)) ∈ lw_all := lw_g (lw_at lw_m3 126 rfl) rfl
theorem q756 : (Jvm.Cond.selects "SwapBook$Reader" ({ cls := "SwapBook$Scan", name := "fail", desc := "(I)LSwapBook$Wrong;" } : Jvm.MethodName) ({ cls := "SwapBook$Scan", name := "fail", desc := "(I)LSwapBook$Wrong;" } : Jvm.MethodName)) ∈ lw_all := lw_g (lw_at lw_m3 132 rfl) rfl
theorem q762 : (Jvm.Cond.methodLink "SwapBook$Reader" (64 : Nat) ({ cls := "SwapBook$Reader", name := "fail", desc := "(I)LSwapBook$Wrong;" } : Jvm.MethodName)) ∈ lw_all := lw_g (lw_at lw_m3 138 rfl) rfl
theorem q763 : (Jvm.Cond.sameMethod "SwapBook$Reader" "SwapBook$Scan" "fail" "(I)LSwapBook$Wrong;") ∈ lw_all := lw_g (lw_at lw_m3 139 rfl) rfl
theorem q765 : (Jvm.Cond.selects "SwapBook$Reader" ({ cls := "SwapBook$Reader", name := "fail", desc := "(I)LSwapBook$Wrong;" } : Jvm.MethodName) ({ cls := "SwapBook$Scan", name := "fail", desc := "(I)LSwapBook$Wrong;" } : Jvm.MethodName)) ∈ lw_all := lw_g (lw_at lw_m3 141 rfl) rfl
theorem q766 : (Jvm.Cond.methodLink "SwapBook$Reader" (27 : Nat) ({ cls := "SwapBook$Reader", name := "next", desc := "()V" } : Jvm.MethodName)) ∈ lw_all := lw_g (lw_at lw_m3 142 rfl) rfl
theorem q767 : (Jvm.Cond.sameMethod "SwapBook$Reader" "SwapBook$Scan" "next" "()V") ∈ lw_all := lw_g (lw_at lw_m3 143 rfl) rfl
theorem q769 : (Jvm.Cond.selects "SwapBook$Reader" ({ cls := "SwapBook$Reader", name := "next", desc := "()V" } : Jvm.MethodName) ({ cls := "SwapBook$Scan", name := "next", desc := "()V" } : Jvm.MethodName)) ∈ lw_all := lw_g (lw_at lw_m3 145 rfl) rfl
theorem q770 : (Jvm.Cond.methodLink "SwapBook$Reader" (78 : Nat) ({ cls := "SwapBook$Reader", name := "newName", desc := "()J" } : Jvm.MethodName)) ∈ lw_all := lw_g (lw_at lw_m3 146 rfl) rfl
theorem q771 : (Jvm.Cond.privateMethod ({ cls := "SwapBook$Reader", name := "newName", desc := "()J" } : Jvm.MethodName)) ∈ lw_tbl := lw_at lw_m3 147 rfl
theorem q772 : (Jvm.Cond.instanceMethod ({ cls := "SwapBook$Reader", name := "newName", desc := "()J" } : Jvm.MethodName)) ∈ lw_all := lw_g (lw_at lw_m3 148 rfl) rfl
theorem q773 : (Jvm.Cond.code ({ cls := "SwapBook$Reader", name := "newName", desc := "()J" } : Jvm.MethodName) prog_7_method_5_code (3 : Nat) (Option.some Jvm.ClassFile.FieldType.long)) ∈ lw_all := lw_g (lw_at lw_m3 149 rfl) rfl
theorem q774 : (Jvm.Cond.methodLink "SwapBook$Reader" (53 : Nat) ({ cls := "SwapBook$Reader", name := "name", desc := "()J" } : Jvm.MethodName)) ∈ lw_all := lw_g (lw_at lw_m3 150 rfl) rfl
theorem q775 : (Jvm.Cond.sameMethod "SwapBook$Reader" "SwapBook$Scan" "name" "()J") ∈ lw_all := lw_g (lw_at lw_m3 151 rfl) rfl
theorem q777 : (Jvm.Cond.selects "SwapBook$Reader" ({ cls := "SwapBook$Reader", name := "name", desc := "()J" } : Jvm.MethodName) ({ cls := "SwapBook$Scan", name := "name", desc := "()J" } : Jvm.MethodName)) ∈ lw_all := lw_g (lw_at lw_m3 153 rfl) rfl
theorem q782 : (Jvm.Cond.methodLink "SwapBook$Reader" (57 : Nat) ({ cls := "SwapBook$Book", name := "change", desc := "(J)I" } : Jvm.MethodName)) ∈ lw_all := lw_g (lw_at lw_m3 158 rfl) rfl
theorem q786 : (Jvm.Cond.methodLink "SwapBook$Reader" (61 : Nat) ({ cls := "SwapBook$Book", name := "island", desc := "(J)I" } : Jvm.MethodName)) ∈ lw_all := lw_g (lw_at lw_m3 162 rfl) rfl
theorem q790 : (Jvm.Cond.methodLink "SwapBook$Reader" (85 : Nat) ({ cls := "SwapBook$Reader", name := "aPut", desc := "(J)LSwapBook$Change;" } : Jvm.MethodName)) ∈ lw_all := lw_g (lw_at lw_m3 166 rfl) rfl
theorem q791 : (Jvm.Cond.privateMethod ({ cls := "SwapBook$Reader", name := "aPut", desc := "(J)LSwapBook$Change;" } : Jvm.MethodName)) ∈ lw_tbl := lw_at lw_m3 167 rfl
theorem q792 : (Jvm.Cond.instanceMethod ({ cls := "SwapBook$Reader", name := "aPut", desc := "(J)LSwapBook$Change;" } : Jvm.MethodName)) ∈ lw_all := lw_g (lw_at lw_m3 168 rfl) rfl
theorem q793 : (Jvm.Cond.code ({ cls := "SwapBook$Reader", name := "aPut", desc := "(J)LSwapBook$Change;" } : Jvm.MethodName) prog_7_method_9_code (4 : Nat) (Option.some (Jvm.ClassFile.FieldType.object "SwapBook$Change"))) ∈ lw_all := lw_g (lw_at lw_m3 169 rfl) rfl
theorem q794 : (Jvm.Cond.classLink "SwapBook$Reader" (103 : Nat) "SwapBook$Put") ∈ lw_all := lw_g (lw_at lw_m3 170 rfl) rfl
theorem q796 : (Jvm.Cond.methodLink "SwapBook$Reader" (105 : Nat) ({ cls := "SwapBook$Put", name := "<init>", desc := "(JI)V" } : Jvm.MethodName)) ∈ lw_all := lw_g (lw_at lw_m3 172 rfl) rfl
theorem q804 : (Jvm.Cond.fieldLinkNest "SwapBook$Reader" (114 : Nat) "SwapBook$Put" "key" "I" "SwapBook") ∈ lw_tbl := lw_at lw_m3 180 rfl
theorem q806 : (Jvm.Cond.fieldLinkNest "SwapBook$Reader" (116 : Nat) "SwapBook$Put" "says" "I" "SwapBook") ∈ lw_tbl := lw_at lw_m3 182 rfl
theorem q814 : (Jvm.Cond.fieldLink "SwapBook$Reader" (145 : Nat) "SwapBook$Change" "thing" "I") ∈ lw_all := lw_g (lw_at lw_m3 190 rfl) rfl
theorem q815 : (Jvm.Cond.fieldLink "SwapBook$Reader" (165 : Nat) "SwapBook$Settle" "thing" "I") ∈ lw_all := lw_g (lw_at lw_m3 191 rfl) rfl
theorem q821 : (Jvm.Cond.fieldLink "SwapBook$Reader" (139 : Nat) "SwapBook$Change" "of" "I") ∈ lw_all := lw_g (lw_at lw_m3 197 rfl) rfl
theorem q822 : (Jvm.Cond.fieldLink "SwapBook$Reader" (157 : Nat) "SwapBook$Settle" "of" "I") ∈ lw_all := lw_g (lw_at lw_m3 198 rfl) rfl
theorem q824 : (Jvm.Cond.fieldLink "SwapBook$Reader" (142 : Nat) "SwapBook$Change" "needs" "I") ∈ lw_all := lw_g (lw_at lw_m3 200 rfl) rfl
theorem q825 : (Jvm.Cond.fieldLink "SwapBook$Reader" (164 : Nat) "SwapBook$Settle" "needs" "I") ∈ lw_all := lw_g (lw_at lw_m3 201 rfl) rfl
theorem q833 : (Jvm.Cond.fieldLink "SwapBook$Reader" (161 : Nat) "SwapBook$Change" "quarrels" "I") ∈ lw_all := lw_g (lw_at lw_m3 209 rfl) rfl
theorem q856 : (Jvm.Cond.methodLink "SwapBook$Reader" (108 : Nat) ({ cls := "SwapBook$Reader", name := "word", desc := "(I)V" } : Jvm.MethodName)) ∈ lw_all := lw_g (lw_at lw_m3 232 rfl) rfl
theorem q857 : (Jvm.Cond.privateMethod ({ cls := "SwapBook$Reader", name := "word", desc := "(I)V" } : Jvm.MethodName)) ∈ lw_tbl := lw_at lw_m3 233 rfl
theorem q858 : (Jvm.Cond.instanceMethod ({ cls := "SwapBook$Reader", name := "word", desc := "(I)V" } : Jvm.MethodName)) ∈ lw_all := lw_g (lw_at lw_m3 234 rfl) rfl
theorem q859 : (Jvm.Cond.code ({ cls := "SwapBook$Reader", name := "word", desc := "(I)V" } : Jvm.MethodName) prog_7_method_2_code (2 : Nat) (Option.none : Option Jvm.ClassFile.FieldType)) ∈ lw_all := lw_g (lw_at lw_m3 235 rfl) rfl
theorem q860 : (Jvm.Cond.methodLink "SwapBook$Reader" (111 : Nat) ({ cls := "SwapBook$Reader", name := "told", desc := "()I" } : Jvm.MethodName)) ∈ lw_all := lw_g (lw_at lw_m3 236 rfl) rfl
theorem q861 : (Jvm.Cond.privateMethod ({ cls := "SwapBook$Reader", name := "told", desc := "()I" } : Jvm.MethodName)) ∈ lw_tbl := lw_at lw_m3 237 rfl
theorem q862 : (Jvm.Cond.instanceMethod ({ cls := "SwapBook$Reader", name := "told", desc := "()I" } : Jvm.MethodName)) ∈ lw_all := lw_g (lw_at lw_m3 238 rfl) rfl
theorem q863 : (Jvm.Cond.code ({ cls := "SwapBook$Reader", name := "told", desc := "()I" } : Jvm.MethodName) prog_7_method_7_code (1 : Nat) (Option.some Jvm.ClassFile.FieldType.int)) ∈ lw_all := lw_g (lw_at lw_m3 239 rfl) rfl
theorem q864 : (Jvm.Cond.methodLink "SwapBook$Reader" (68 : Nat) ({ cls := "SwapBook$Reader", name := "passed", desc := "(II)I" } : Jvm.MethodName)) ∈ lw_all := lw_g (lw_at lw_m4 0 rfl) rfl
theorem q865 : (Jvm.Cond.sameMethod "SwapBook$Reader" "SwapBook$Scan" "passed" "(II)I") ∈ lw_all := lw_g (lw_at lw_m4 1 rfl) rfl
theorem q867 : (Jvm.Cond.selects "SwapBook$Reader" ({ cls := "SwapBook$Reader", name := "passed", desc := "(II)I" } : Jvm.MethodName) ({ cls := "SwapBook$Scan", name := "passed", desc := "(II)I" } : Jvm.MethodName)) ∈ lw_all := lw_g (lw_at lw_m4 3 rfl) rfl
theorem q873 : (Jvm.Cond.selects "SwapBook$Reader" ({ cls := "SwapBook$Scan", name := "number", desc := "(II)I" } : Jvm.MethodName) ({ cls := "SwapBook$Scan", name := "number", desc := "(II)I" } : Jvm.MethodName)) ∈ lw_all := lw_g (lw_at lw_m4 9 rfl) rfl
theorem q875 : (Jvm.Cond.methodLink "SwapBook$Reader" (89 : Nat) ({ cls := "SwapBook$Reader", name := "aSettle", desc := "(J)LSwapBook$Change;" } : Jvm.MethodName)) ∈ lw_all := lw_g (lw_at lw_m4 11 rfl) rfl
theorem q876 : (Jvm.Cond.privateMethod ({ cls := "SwapBook$Reader", name := "aSettle", desc := "(J)LSwapBook$Change;" } : Jvm.MethodName)) ∈ lw_tbl := lw_at lw_m4 12 rfl
theorem q877 : (Jvm.Cond.instanceMethod ({ cls := "SwapBook$Reader", name := "aSettle", desc := "(J)LSwapBook$Change;" } : Jvm.MethodName)) ∈ lw_all := lw_g (lw_at lw_m4 13 rfl) rfl
theorem q878 : (Jvm.Cond.code ({ cls := "SwapBook$Reader", name := "aSettle", desc := "(J)LSwapBook$Change;" } : Jvm.MethodName) prog_7_method_12_code (4 : Nat) (Option.some (Jvm.ClassFile.FieldType.object "SwapBook$Change"))) ∈ lw_all := lw_g (lw_at lw_m4 14 rfl) rfl
theorem q879 : (Jvm.Cond.classLink "SwapBook$Reader" (151 : Nat) "SwapBook$Settle") ∈ lw_all := lw_g (lw_at lw_m4 15 rfl) rfl
theorem q881 : (Jvm.Cond.methodLink "SwapBook$Reader" (153 : Nat) ({ cls := "SwapBook$Settle", name := "<init>", desc := "(JI)V" } : Jvm.MethodName)) ∈ lw_all := lw_g (lw_at lw_m4 17 rfl) rfl
theorem q886 : (Jvm.Cond.fieldLinkNest "SwapBook$Reader" (158 : Nat) "SwapBook$Settle" "not" "I" "SwapBook") ∈ lw_tbl := lw_at lw_m4 22 rfl
theorem q898 : (Jvm.Cond.methodLink "SwapBook$Reader" (154 : Nat) ({ cls := "SwapBook$Reader", name := "ofTwo", desc := "()I" } : Jvm.MethodName)) ∈ lw_all := lw_g (lw_at lw_m4 34 rfl) rfl
theorem q899 : (Jvm.Cond.privateMethod ({ cls := "SwapBook$Reader", name := "ofTwo", desc := "()I" } : Jvm.MethodName)) ∈ lw_tbl := lw_at lw_m4 35 rfl
theorem q900 : (Jvm.Cond.instanceMethod ({ cls := "SwapBook$Reader", name := "ofTwo", desc := "()I" } : Jvm.MethodName)) ∈ lw_all := lw_g (lw_at lw_m4 36 rfl) rfl
theorem q901 : (Jvm.Cond.code ({ cls := "SwapBook$Reader", name := "ofTwo", desc := "()I" } : Jvm.MethodName) prog_7_method_11_code (2 : Nat) (Option.some Jvm.ClassFile.FieldType.int)) ∈ lw_all := lw_g (lw_at lw_m4 37 rfl) rfl
theorem q902 : (Jvm.Cond.methodLink "SwapBook$Reader" (127 : Nat) ({ cls := "SwapBook$Reader", name := "aChange", desc := "()I" } : Jvm.MethodName)) ∈ lw_all := lw_g (lw_at lw_m4 38 rfl) rfl
theorem q903 : (Jvm.Cond.privateMethod ({ cls := "SwapBook$Reader", name := "aChange", desc := "()I" } : Jvm.MethodName)) ∈ lw_tbl := lw_at lw_m4 39 rfl
theorem q904 : (Jvm.Cond.instanceMethod ({ cls := "SwapBook$Reader", name := "aChange", desc := "()I" } : Jvm.MethodName)) ∈ lw_all := lw_g (lw_at lw_m4 40 rfl) rfl
theorem q905 : (Jvm.Cond.code ({ cls := "SwapBook$Reader", name := "aChange", desc := "()I" } : Jvm.MethodName) prog_7_method_6_code (2 : Nat) (Option.some Jvm.ClassFile.FieldType.int)) ∈ lw_all := lw_g (lw_at lw_m4 41 rfl) rfl
theorem q906 : (Jvm.Cond.methodLink "SwapBook$Reader" (134 : Nat) ({ cls := "SwapBook$Change", name := "kind", desc := "()I" } : Jvm.MethodName)) ∈ lw_all := lw_g (lw_at lw_m4 42 rfl) rfl
theorem q921 : (Jvm.Cond.methodLink "SwapBook$Reader" (92 : Nat) ({ cls := "SwapBook$Reader", name := "another", desc := "(JI)LSwapBook$Change;" } : Jvm.MethodName)) ∈ lw_all := lw_g (lw_at lw_m4 57 rfl) rfl
theorem q922 : (Jvm.Cond.privateMethod ({ cls := "SwapBook$Reader", name := "another", desc := "(JI)LSwapBook$Change;" } : Jvm.MethodName)) ∈ lw_tbl := lw_at lw_m4 58 rfl
theorem q923 : (Jvm.Cond.instanceMethod ({ cls := "SwapBook$Reader", name := "another", desc := "(JI)LSwapBook$Change;" } : Jvm.MethodName)) ∈ lw_all := lw_g (lw_at lw_m4 59 rfl) rfl
theorem q924 : (Jvm.Cond.code ({ cls := "SwapBook$Reader", name := "another", desc := "(JI)LSwapBook$Change;" } : Jvm.MethodName) prog_7_method_10_code (8 : Nat) (Option.some (Jvm.ClassFile.FieldType.object "SwapBook$Change"))) ∈ lw_all := lw_g (lw_at lw_m4 60 rfl) rfl
theorem q925 : (Jvm.Cond.classLink "SwapBook$Reader" (119 : Nat) "SwapBook$Other") ∈ lw_all := lw_g (lw_at lw_m4 61 rfl) rfl
theorem q927 : (Jvm.Cond.methodLink "SwapBook$Reader" (121 : Nat) ({ cls := "SwapBook$Other", name := "<init>", desc := "(JII)V" } : Jvm.MethodName)) ∈ lw_all := lw_g (lw_at lw_m4 63 rfl) rfl
theorem q933 : (Jvm.Cond.fieldLinkNest "SwapBook$Reader" (148 : Nat) "SwapBook$Other" "tells" "I" "SwapBook") ∈ lw_tbl := lw_at lw_m4 69 rfl
theorem q947 : (Jvm.Cond.classLink "SwapBook$Reader" (124 : Nat) "SwapBook$Take") ∈ lw_all := lw_g (lw_at lw_m4 83 rfl) rfl
theorem q949 : (Jvm.Cond.methodLink "SwapBook$Reader" (126 : Nat) ({ cls := "SwapBook$Take", name := "<init>", desc := "(JI)V" } : Jvm.MethodName)) ∈ lw_all := lw_g (lw_at lw_m4 85 rfl) rfl
theorem q962 : (Jvm.Cond.methodLink "SwapBook$Reader" (96 : Nat) ({ cls := "SwapBook$Reader", name := "after", desc := "(LSwapBook$Change;)V" } : Jvm.MethodName)) ∈ lw_all := lw_g (lw_at lw_m4 98 rfl) rfl
theorem q963 : (Jvm.Cond.privateMethod ({ cls := "SwapBook$Reader", name := "after", desc := "(LSwapBook$Change;)V" } : Jvm.MethodName)) ∈ lw_tbl := lw_at lw_m4 99 rfl
theorem q964 : (Jvm.Cond.instanceMethod ({ cls := "SwapBook$Reader", name := "after", desc := "(LSwapBook$Change;)V" } : Jvm.MethodName)) ∈ lw_all := lw_g (lw_at lw_m4 100 rfl) rfl
theorem q965 : (Jvm.Cond.code ({ cls := "SwapBook$Reader", name := "after", desc := "(LSwapBook$Change;)V" } : Jvm.MethodName) prog_7_method_13_code (4 : Nat) (Option.none : Option Jvm.ClassFile.FieldType)) ∈ lw_all := lw_g (lw_at lw_m4 101 rfl) rfl
theorem q966 : (Jvm.Cond.methodLink "SwapBook$Reader" (166 : Nat) ({ cls := "SwapBook$Reader", name := "isName", desc := "()Z" } : Jvm.MethodName)) ∈ lw_all := lw_g (lw_at lw_m4 102 rfl) rfl
theorem q967 : (Jvm.Cond.privateMethod ({ cls := "SwapBook$Reader", name := "isName", desc := "()Z" } : Jvm.MethodName)) ∈ lw_tbl := lw_at lw_m4 103 rfl
theorem q968 : (Jvm.Cond.instanceMethod ({ cls := "SwapBook$Reader", name := "isName", desc := "()Z" } : Jvm.MethodName)) ∈ lw_all := lw_g (lw_at lw_m4 104 rfl) rfl
theorem q969 : (Jvm.Cond.code ({ cls := "SwapBook$Reader", name := "isName", desc := "()Z" } : Jvm.MethodName) prog_7_method_3_code (1 : Nat) (Option.some Jvm.ClassFile.FieldType.boolean)) ∈ lw_all := lw_g (lw_at lw_m4 105 rfl) rfl
theorem q970 : (Jvm.Cond.methodLink "SwapBook$Reader" (100 : Nat) ({ cls := "SwapBook$Book", name := "add", desc := "(LSwapBook$Change;)V" } : Jvm.MethodName)) ∈ lw_all := lw_g (lw_at lw_m4 106 rfl) rfl
theorem q990 : (Jvm.Cond.methodLink "SwapBook$Reader" (50 : Nat) ({ cls := "SwapBook$Reader", name := "closes", desc := "()V" } : Jvm.MethodName)) ∈ lw_all := lw_g (lw_at lw_m4 126 rfl) rfl
theorem q991 : (Jvm.Cond.sameMethod "SwapBook$Reader" "SwapBook$Scan" "closes" "()V") ∈ lw_all := lw_g (lw_at lw_m4 127 rfl) rfl
theorem q993 : (Jvm.Cond.selects "SwapBook$Reader" ({ cls := "SwapBook$Reader", name := "closes", desc := "()V" } : Jvm.MethodName) ({ cls := "SwapBook$Scan", name := "closes", desc := "()V" } : Jvm.MethodName)) ∈ lw_all := lw_g (lw_at lw_m4 129 rfl) rfl
theorem q999 : (Jvm.Cond.selects "SwapBook$Reader" ({ cls := "SwapBook$Scan", name := "is", desc := "(I)Z" } : Jvm.MethodName) ({ cls := "SwapBook$Scan", name := "is", desc := "(I)Z" } : Jvm.MethodName)) ∈ lw_all := lw_g (lw_at lw_m4 135 rfl) rfl
theorem q1014 : (Jvm.Cond.instanceMethod ({ cls := "SwapBook$Reader", name := "log", desc := "(ILSwapBook$Book;)[LSwapBook$Step;" } : Jvm.MethodName)) ∈ lw_all := lw_g (lw_at lw_m4 150 rfl) rfl
theorem q1015 : (Jvm.Cond.selects "SwapBook$Reader" ({ cls := "SwapBook$Reader", name := "log", desc := "(ILSwapBook$Book;)[LSwapBook$Step;" } : Jvm.MethodName) ({ cls := "SwapBook$Reader", name := "log", desc := "(ILSwapBook$Book;)[LSwapBook$Step;" } : Jvm.MethodName)) ∈ lw_all := lw_g (lw_at lw_m4 151 rfl) rfl
theorem q1016 : (Jvm.Cond.code ({ cls := "SwapBook$Reader", name := "log", desc := "(ILSwapBook$Book;)[LSwapBook$Step;" } : Jvm.MethodName) prog_7_method_14_code (3 : Nat) (Option.some (Jvm.ClassFile.FieldType.array (Jvm.ClassFile.FieldType.object "SwapBook$Step")))) ∈ lw_all := lw_g (lw_at lw_m4 152 rfl) rfl
theorem q1017 : (Jvm.Cond.classLink "SwapBook$Reader" (170 : Nat) "SwapBook$Step") ∈ lw_all := lw_g (lw_at lw_m4 153 rfl) rfl
theorem q1019 : (Jvm.Cond.methodLink "SwapBook$Reader" (185 : Nat) ({ cls := "SwapBook$Reader", name := "step", desc := "()V" } : Jvm.MethodName)) ∈ lw_all := lw_g (lw_at lw_m4 155 rfl) rfl
theorem q1020 : (Jvm.Cond.privateMethod ({ cls := "SwapBook$Reader", name := "step", desc := "()V" } : Jvm.MethodName)) ∈ lw_tbl := lw_at lw_m4 156 rfl
theorem q1021 : (Jvm.Cond.instanceMethod ({ cls := "SwapBook$Reader", name := "step", desc := "()V" } : Jvm.MethodName)) ∈ lw_all := lw_g (lw_at lw_m4 157 rfl) rfl
theorem q1022 : (Jvm.Cond.code ({ cls := "SwapBook$Reader", name := "step", desc := "()V" } : Jvm.MethodName) prog_7_method_19_code (4 : Nat) (Option.none : Option Jvm.ClassFile.FieldType)) ∈ lw_all := lw_g (lw_at lw_m4 158 rfl) rfl
theorem q1024 : (Jvm.Cond.methodLink "SwapBook$Reader" (213 : Nat) ({ cls := "SwapBook$Step", name := "<init>", desc := "(I)V" } : Jvm.MethodName)) ∈ lw_all := lw_g (lw_at lw_m4 160 rfl) rfl
theorem q1030 : (Jvm.Cond.fieldLinkNest "SwapBook$Reader" (203 : Nat) "SwapBook$Step" "one" "I" "SwapBook") ∈ lw_tbl := lw_at lw_m4 166 rfl
theorem q1032 : (Jvm.Cond.fieldLinkNest "SwapBook$Reader" (197 : Nat) "SwapBook$Step" "two" "I" "SwapBook") ∈ lw_tbl := lw_at lw_m4 168 rfl
theorem q1034 : (Jvm.Cond.fieldLinkNest "SwapBook$Reader" (206 : Nat) "SwapBook$Step" "late" "I" "SwapBook") ∈ lw_tbl := lw_at lw_m4 170 rfl
theorem q1036 : (Jvm.Cond.fieldLinkNest "SwapBook$Reader" (191 : Nat) "SwapBook$Step" "number" "I" "SwapBook") ∈ lw_tbl := lw_at lw_m4 172 rfl
theorem q1038 : (Jvm.Cond.fieldLinkNest "SwapBook$Reader" (188 : Nat) "SwapBook$Step" "test" "I" "SwapBook") ∈ lw_tbl := lw_at lw_m4 174 rfl
theorem q1040 : (Jvm.Cond.fieldLinkNest "SwapBook$Reader" (221 : Nat) "SwapBook$Step" "to" "I" "SwapBook") ∈ lw_tbl := lw_at lw_m4 176 rfl
theorem q1043 : (Jvm.Cond.fieldLinkNest "SwapBook$Reader" (209 : Nat) "SwapBook$Step" "twice" "Z" "SwapBook") ∈ lw_tbl := lw_at lw_m4 179 rfl
theorem q1064 : (Jvm.Cond.methodLink "SwapBook$Reader" (200 : Nat) ({ cls := "SwapBook$Reader", name := "passedChange", desc := "()I" } : Jvm.MethodName)) ∈ lw_all := lw_g (lw_at lw_m4 200 rfl) rfl
theorem q1065 : (Jvm.Cond.privateMethod ({ cls := "SwapBook$Reader", name := "passedChange", desc := "()I" } : Jvm.MethodName)) ∈ lw_tbl := lw_at lw_m4 201 rfl
theorem q1066 : (Jvm.Cond.instanceMethod ({ cls := "SwapBook$Reader", name := "passedChange", desc := "()I" } : Jvm.MethodName)) ∈ lw_all := lw_g (lw_at lw_m4 202 rfl) rfl
theorem q1067 : (Jvm.Cond.code ({ cls := "SwapBook$Reader", name := "passedChange", desc := "()I" } : Jvm.MethodName) prog_7_method_16_code (2 : Nat) (Option.some Jvm.ClassFile.FieldType.int)) ∈ lw_all := lw_g (lw_at lw_m4 203 rfl) rfl
theorem q1068 : (Jvm.Cond.methodLink "SwapBook$Reader" (194 : Nat) ({ cls := "SwapBook$Reader", name := "anIsland", desc := "()I" } : Jvm.MethodName)) ∈ lw_all := lw_g (lw_at lw_m4 204 rfl) rfl
theorem q1069 : (Jvm.Cond.privateMethod ({ cls := "SwapBook$Reader", name := "anIsland", desc := "()I" } : Jvm.MethodName)) ∈ lw_tbl := lw_at lw_m4 205 rfl
theorem q1070 : (Jvm.Cond.instanceMethod ({ cls := "SwapBook$Reader", name := "anIsland", desc := "()I" } : Jvm.MethodName)) ∈ lw_all := lw_g (lw_at lw_m4 206 rfl) rfl
theorem q1071 : (Jvm.Cond.code ({ cls := "SwapBook$Reader", name := "anIsland", desc := "()I" } : Jvm.MethodName) prog_7_method_15_code (2 : Nat) (Option.some Jvm.ClassFile.FieldType.int)) ∈ lw_all := lw_g (lw_at lw_m4 207 rfl) rfl
theorem q1072 : (Jvm.Cond.methodLink "SwapBook$Reader" (215 : Nat) ({ cls := "SwapBook$Reader", name := "ship", desc := "(LSwapBook$Step;)V" } : Jvm.MethodName)) ∈ lw_all := lw_g (lw_at lw_m4 208 rfl) rfl
theorem q1073 : (Jvm.Cond.privateMethod ({ cls := "SwapBook$Reader", name := "ship", desc := "(LSwapBook$Step;)V" } : Jvm.MethodName)) ∈ lw_tbl := lw_at lw_m4 209 rfl
theorem q1074 : (Jvm.Cond.instanceMethod ({ cls := "SwapBook$Reader", name := "ship", desc := "(LSwapBook$Step;)V" } : Jvm.MethodName)) ∈ lw_all := lw_g (lw_at lw_m4 210 rfl) rfl
theorem q1075 : (Jvm.Cond.code ({ cls := "SwapBook$Reader", name := "ship", desc := "(LSwapBook$Step;)V" } : Jvm.MethodName) prog_7_method_18_code (2 : Nat) (Option.none : Option Jvm.ClassFile.FieldType)) ∈ lw_all := lw_g (lw_at lw_m4 211 rfl) rfl
theorem q1076 : (Jvm.Cond.methodLink "SwapBook$Reader" (219 : Nat) ({ cls := "SwapBook$Reader", name := "test", desc := "(LSwapBook$Step;)V" } : Jvm.MethodName)) ∈ lw_all := lw_g (lw_at lw_m4 212 rfl) rfl
theorem q1077 : (Jvm.Cond.privateMethod ({ cls := "SwapBook$Reader", name := "test", desc := "(LSwapBook$Step;)V" } : Jvm.MethodName)) ∈ lw_tbl := lw_at lw_m4 213 rfl
theorem q1078 : (Jvm.Cond.instanceMethod ({ cls := "SwapBook$Reader", name := "test", desc := "(LSwapBook$Step;)V" } : Jvm.MethodName)) ∈ lw_all := lw_g (lw_at lw_m4 214 rfl) rfl
theorem q1079 : (Jvm.Cond.code ({ cls := "SwapBook$Reader", name := "test", desc := "(LSwapBook$Step;)V" } : Jvm.MethodName) prog_7_method_17_code (2 : Nat) (Option.none : Option Jvm.ClassFile.FieldType)) ∈ lw_all := lw_g (lw_at lw_m4 215 rfl) rfl
theorem q2213 : (Jvm.Cond.selects "SwapBook$Reader" ({ cls := "SwapBook$Scan", name := "need", desc := "(Z)V" } : Jvm.MethodName) ({ cls := "SwapBook$Scan", name := "need", desc := "(Z)V" } : Jvm.MethodName)) ∈ lw_all := lw_g (lw_at lw_m9 149 rfl) rfl
theorem in_X2 : ∀ w ∈ wsX20, w ∈ lw_all := lw_in wsX20 [318, 320, 322, 324, 326, 328, 330, 332, 334, 304, 306, 308, 310, 312, 314, 316] (by decide +kernel) (by decide +kernel)

/-! SwapBook$Wrong -/
set_option maxRecDepth 100000
def RX3 : String := "SwapBook$Wrong"
def TX3 : u_T := fun k => match k with
  | 0 => ("java/lang/Throwable", "cause", "Ljava/lang/Throwable;", false)
  | 1 => ("java/lang/Throwable", "stackTrace", "[Ljava/lang/StackTraceElement;", false)
  | 2 => ("java/lang/Throwable", "suppressedExceptions", "Ljava/util/List;", false)
  | 3 => ("java/lang/Throwable", "detailMessage", "Ljava/lang/String;", false)
  | 4 => ("java/lang/Throwable", "backtrace", "Ljava/lang/Object;", false)
  | 5 => ("java/lang/Throwable", "depth", "I", false)
  | 6 => ("SwapBook$Wrong", "kind", "I", false)
  | _ => ("SwapBook$Wrong", "place", "I", false)
def tyX3 : Nat → FieldType := fun k => match k with
  | 0 => .object "java/lang/Throwable"
  | 1 => .array (.object "java/lang/StackTraceElement")
  | 2 => .object "java/util/List"
  | 3 => .object "java/lang/String"
  | 4 => .object "java/lang/Object"
  | 5 => .int
  | 6 => .int
  | _ => .int
abbrev wsX30 : List Cond := u_ws RX3 TX3 8
theorem nmX3 : ∀ a, a < 8 → ∀ b, b < 8 → a ≠ b → (TX3 a).2.1 ≠ (TX3 b).2.1 := by decide +kernel
theorem tyX3_ok : ∀ k, k < 8 → parseFieldDescriptor (TX3 k).2.2.1 = some (tyX3 k) := by decide +kernel
abbrev cX3_init : ByteArray := prog_13_method_1_code
def yX3_init : MethodName := ⟨RX3, "<init>", "()V"⟩
def dkwX3_init_0 : List UInt8 := [42, 1, 1, 3, 3, 183, 0, 1, 177]
abbrev dktX3_init_0 : List UInt8 := dkwX3_init_0 ++ []
theorem dksX3_init_0 : cX3_init.data.toList.drop 0 = dktX3_init_0 := by decide +kernel
theorem dX3_init_0 : decode cX3_init 0 = .ok (.aload_n 0, 1) := dk_42 (dk_at dksX3_init_0 0 rfl rfl)
theorem dX3_init_1 : decode cX3_init 1 = .ok (.aconst_null, 1) := dk_1 (dk_at dksX3_init_0 1 rfl rfl)
theorem dX3_init_2 : decode cX3_init 2 = .ok (.aconst_null, 1) := dk_1 (dk_at dksX3_init_0 2 rfl rfl)
theorem dX3_init_3 : decode cX3_init 3 = .ok (.iconst 0, 1) := dk_3 (dk_at dksX3_init_0 3 rfl rfl)
theorem dX3_init_4 : decode cX3_init 4 = .ok (.iconst 0, 1) := dk_3 (dk_at dksX3_init_0 4 rfl rfl)
theorem dX3_init_5 : decode cX3_init 5 = .ok (.invokespecial 1, 3) := dk_183 0 1 (dk_at dksX3_init_0 5 rfl rfl)
theorem dX3_init_8 : decode cX3_init 8 = .ok (.return_, 1) := dk_177 (dk_at dksX3_init_0 8 rfl rfl)
abbrev cX3_of : ByteArray := prog_13_method_2_code
def yX3_of : MethodName := ⟨RX3, "of", "(II)LSwapBook$Wrong;"⟩
def dkwX3_of_0 : List UInt8 := [42, 27, 181, 0, 7, 42, 28, 181, 0, 13, 42, 176]
abbrev dktX3_of_0 : List UInt8 := dkwX3_of_0 ++ []
theorem dksX3_of_0 : cX3_of.data.toList.drop 0 = dktX3_of_0 := by decide +kernel
theorem dX3_of_0 : decode cX3_of 0 = .ok (.aload_n 0, 1) := dk_42 (dk_at dksX3_of_0 0 rfl rfl)
theorem dX3_of_1 : decode cX3_of 1 = .ok (.iload_n 1, 1) := dk_27 (dk_at dksX3_of_0 1 rfl rfl)
theorem dX3_of_2 : decode cX3_of 2 = .ok (.putfield 7, 3) := dk_181 0 7 (dk_at dksX3_of_0 2 rfl rfl)
theorem dX3_of_5 : decode cX3_of 5 = .ok (.aload_n 0, 1) := dk_42 (dk_at dksX3_of_0 5 rfl rfl)
theorem dX3_of_6 : decode cX3_of 6 = .ok (.iload_n 2, 1) := dk_28 (dk_at dksX3_of_0 6 rfl rfl)
theorem dX3_of_7 : decode cX3_of 7 = .ok (.putfield 13, 3) := dk_181 0 13 (dk_at dksX3_of_0 7 rfl rfl)
theorem dX3_of_10 : decode cX3_of 10 = .ok (.aload_n 0, 1) := dk_42 (dk_at dksX3_of_0 10 rfl rfl)
theorem dX3_of_11 : decode cX3_of 11 = .ok (.areturn, 1) := dk_176 (dk_at dksX3_of_0 11 rfl rfl)
theorem q151 : (Jvm.Cond.initialized "SwapBook$Wrong") ∈ lw_all := lw_g (lw_at lw_m1 7 rfl) rfl
theorem q186 : (Jvm.Cond.instantiable "SwapBook$Wrong" (8 : Nat)) ∈ lw_all := lw_g (lw_at lw_m1 42 rfl) rfl
theorem q187 : (Jvm.Cond.castable "SwapBook$Wrong" "SwapBook$Wrong") ∈ lw_tbl := lw_at lw_m1 43 rfl
theorem q194 : (Jvm.Cond.selects "SwapBook$Wrong" ({ cls := "java/lang/Throwable", name := "fillInStackTrace", desc := "(I)Ljava/lang/Throwable;" } : Jvm.MethodName) ({ cls := "java/lang/Throwable", name := "fillInStackTrace", desc := "(I)Ljava/lang/Throwable;" } : Jvm.MethodName)) ∈ lw_all := lw_g (lw_at lw_m1 50 rfl) rfl
theorem q195 : (Jvm.Cond.selects "SwapBook$Wrong" ({ cls := "java/lang/Throwable", name := "fillInStackTrace", desc := "()Ljava/lang/Throwable;" } : Jvm.MethodName) ({ cls := "java/lang/Throwable", name := "fillInStackTrace", desc := "()Ljava/lang/Throwable;" } : Jvm.MethodName)) ∈ lw_all := lw_g (lw_at lw_m1 51 rfl) rfl
theorem q196 : (Jvm.Cond.lays "SwapBook$Wrong" "java/lang/Throwable" "cause" "Ljava/lang/Throwable;") ∈ lw_all := lw_g (lw_at lw_m1 52 rfl) rfl
theorem q198 : (Jvm.Cond.lays "SwapBook$Wrong" "java/lang/Throwable" "stackTrace" "[Ljava/lang/StackTraceElement;") ∈ lw_all := lw_g (lw_at lw_m1 54 rfl) rfl
theorem q200 : (Jvm.Cond.lays "SwapBook$Wrong" "java/lang/Throwable" "suppressedExceptions" "Ljava/util/List;") ∈ lw_all := lw_g (lw_at lw_m1 56 rfl) rfl
theorem q202 : (Jvm.Cond.lays "SwapBook$Wrong" "java/lang/Throwable" "detailMessage" "Ljava/lang/String;") ∈ lw_all := lw_g (lw_at lw_m1 58 rfl) rfl
theorem q204 : (Jvm.Cond.lays "SwapBook$Wrong" "java/lang/Throwable" "backtrace" "Ljava/lang/Object;") ∈ lw_all := lw_g (lw_at lw_m1 60 rfl) rfl
theorem q241 : (Jvm.Cond.instanceMethod ({ cls := "SwapBook$Wrong", name := "<init>", desc := "()V" } : Jvm.MethodName)) ∈ lw_all := lw_g (lw_at lw_m1 97 rfl) rfl
theorem q242 : (Jvm.Cond.code ({ cls := "SwapBook$Wrong", name := "<init>", desc := "()V" } : Jvm.MethodName) prog_13_method_1_code (1 : Nat) (Option.none : Option Jvm.ClassFile.FieldType)) ∈ lw_all := lw_g (lw_at lw_m1 98 rfl) rfl
theorem q243 : (Jvm.Cond.methodLink "SwapBook$Wrong" (1 : Nat) ({ cls := "java/lang/RuntimeException", name := "<init>", desc := "(Ljava/lang/String;Ljava/lang/Throwable;ZZ)V" } : Jvm.MethodName)) ∈ lw_all := lw_g (lw_at lw_m1 99 rfl) rfl
theorem q252 : (Jvm.Cond.fieldLink "SwapBook$Wrong" (7 : Nat) "SwapBook$Wrong" "kind" "I") ∈ lw_all := lw_g (lw_at lw_m1 108 rfl) rfl
theorem q254 : (Jvm.Cond.fieldLink "SwapBook$Wrong" (13 : Nat) "SwapBook$Wrong" "place" "I") ∈ lw_all := lw_g (lw_at lw_m1 110 rfl) rfl
theorem q261 : (Jvm.Cond.lays "SwapBook$Wrong" "SwapBook$Wrong" "kind" "I") ∈ lw_all := lw_g (lw_at lw_m1 117 rfl) rfl
theorem q262 : (Jvm.Cond.soleField "SwapBook$Wrong" "kind") ∈ lw_all := lw_g (lw_at lw_m1 118 rfl) rfl
theorem q263 : (Jvm.Cond.lays "SwapBook$Wrong" "SwapBook$Wrong" "place" "I") ∈ lw_all := lw_g (lw_at lw_m1 119 rfl) rfl
theorem q264 : (Jvm.Cond.soleField "SwapBook$Wrong" "place") ∈ lw_all := lw_g (lw_at lw_m1 120 rfl) rfl
theorem q269 : (Jvm.Cond.lays "SwapBook$Wrong" "java/lang/Throwable" "depth" "I") ∈ lw_all := lw_g (lw_at lw_m1 125 rfl) rfl
theorem q272 : (Jvm.Cond.superclass "SwapBook$Wrong" "java/lang/RuntimeException") ∈ lw_all := lw_g (lw_at lw_m1 128 rfl) rfl
theorem q759 : (Jvm.Cond.instanceMethod ({ cls := "SwapBook$Wrong", name := "of", desc := "(II)LSwapBook$Wrong;" } : Jvm.MethodName)) ∈ lw_all := lw_g (lw_at lw_m3 135 rfl) rfl
theorem q760 : (Jvm.Cond.selects "SwapBook$Wrong" ({ cls := "SwapBook$Wrong", name := "of", desc := "(II)LSwapBook$Wrong;" } : Jvm.MethodName) ({ cls := "SwapBook$Wrong", name := "of", desc := "(II)LSwapBook$Wrong;" } : Jvm.MethodName)) ∈ lw_all := lw_g (lw_at lw_m3 136 rfl) rfl
theorem q761 : (Jvm.Cond.code ({ cls := "SwapBook$Wrong", name := "of", desc := "(II)LSwapBook$Wrong;" } : Jvm.MethodName) prog_13_method_2_code (3 : Nat) (Option.some (Jvm.ClassFile.FieldType.object "SwapBook$Wrong"))) ∈ lw_all := lw_g (lw_at lw_m3 137 rfl) rfl
theorem in_X3 : ∀ w ∈ wsX30, w ∈ lw_all := lw_in wsX30 [196, 198, 200, 202, 204, 269, 261, 263] (by decide +kernel) (by decide +kernel)

/-! SwapBook$Book -/
set_option maxRecDepth 100000
def RX4 : String := "SwapBook$Book"
def TX4 : u_T := fun k => match k with
  | 0 => ("SwapBook$Book", "changes", "[LSwapBook$Change;", true)
  | 1 => ("SwapBook$Book", "islands", "[J", true)
  | 2 => ("SwapBook$Book", "many", "I", false)
  | _ => ("SwapBook$Book", "islandMany", "I", false)
def tyX4 : Nat → FieldType := fun k => match k with
  | 0 => .array (.object "SwapBook$Change")
  | 1 => .array .long
  | 2 => .int
  | _ => .int
abbrev wsX40 : List Cond := u_ws RX4 TX4 4
theorem nmX4 : ∀ a, a < 4 → ∀ b, b < 4 → a ≠ b → (TX4 a).2.1 ≠ (TX4 b).2.1 := by decide +kernel
theorem tyX4_ok : ∀ k, k < 4 → parseFieldDescriptor (TX4 k).2.2.1 = some (tyX4 k) := by decide +kernel
abbrev cX4_init : ByteArray := prog_2_method_1_code
def yX4_init : MethodName := ⟨RX4, "<init>", "()V"⟩
def dkwX4_init_0 : List UInt8 := [42, 183, 0, 3, 42, 16, 16, 189, 0, 9, 181, 0, 11, 42, 7, 188, 11, 181, 0, 17, 177]
abbrev dktX4_init_0 : List UInt8 := dkwX4_init_0 ++ []
theorem dksX4_init_0 : cX4_init.data.toList.drop 0 = dktX4_init_0 := by decide +kernel
theorem dX4_init_0 : decode cX4_init 0 = .ok (.aload_n 0, 1) := dk_42 (dk_at dksX4_init_0 0 rfl rfl)
theorem dX4_init_1 : decode cX4_init 1 = .ok (.invokespecial 3, 3) := dk_183 0 3 (dk_at dksX4_init_0 1 rfl rfl)
theorem dX4_init_4 : decode cX4_init 4 = .ok (.aload_n 0, 1) := dk_42 (dk_at dksX4_init_0 4 rfl rfl)
theorem dX4_init_5 : decode cX4_init 5 = .ok (.bipush 16, 2) := dk_16 16 (dk_at dksX4_init_0 5 rfl rfl)
theorem dX4_init_7 : decode cX4_init 7 = .ok (.anewarray 9, 3) := dk_189 0 9 (dk_at dksX4_init_0 7 rfl rfl)
theorem dX4_init_10 : decode cX4_init 10 = .ok (.putfield 11, 3) := dk_181 0 11 (dk_at dksX4_init_0 10 rfl rfl)
theorem dX4_init_13 : decode cX4_init 13 = .ok (.aload_n 0, 1) := dk_42 (dk_at dksX4_init_0 13 rfl rfl)
theorem dX4_init_14 : decode cX4_init 14 = .ok (.iconst 4, 1) := dk_7 (dk_at dksX4_init_0 14 rfl rfl)
theorem dX4_init_15 : decode cX4_init 15 = .ok (.newarray .long, 2) := dk_188_11 (dk_at dksX4_init_0 15 rfl rfl)
theorem dX4_init_17 : decode cX4_init 17 = .ok (.putfield 17, 3) := dk_181 0 17 (dk_at dksX4_init_0 17 rfl rfl)
theorem dX4_init_20 : decode cX4_init 20 = .ok (.return_, 1) := dk_177 (dk_at dksX4_init_0 20 rfl rfl)
abbrev cX4_change : ByteArray := prog_2_method_2_code
def yX4_change : MethodName := ⟨RX4, "change", "(J)I"⟩
def dkwX4_change_1 : List UInt8 := [29, 172, 132, 3, 1, 167, 255, 229, 2, 172]
abbrev dktX4_change_1 : List UInt8 := dkwX4_change_1 ++ []
def dkwX4_change_0 : List UInt8 := [3, 62, 29, 42, 180, 0, 21, 162, 0, 25, 42, 180, 0, 11, 29, 50, 180, 0, 25, 31, 148, 154, 0, 5]
abbrev dktX4_change_0 : List UInt8 := dkwX4_change_0 ++ dktX4_change_1
theorem dksX4_change_0 : cX4_change.data.toList.drop 0 = dktX4_change_0 := by decide +kernel
theorem dksX4_change_1 : cX4_change.data.toList.drop 24 = dktX4_change_1 := dk_seg dksX4_change_0 24 rfl rfl
theorem dX4_change_0 : decode cX4_change 0 = .ok (.iconst 0, 1) := dk_3 (dk_at dksX4_change_0 0 rfl rfl)
theorem dX4_change_1 : decode cX4_change 1 = .ok (.istore_n 3, 1) := dk_62 (dk_at dksX4_change_0 1 rfl rfl)
theorem dX4_change_2 : decode cX4_change 2 = .ok (.iload_n 3, 1) := dk_29 (dk_at dksX4_change_0 2 rfl rfl)
theorem dX4_change_3 : decode cX4_change 3 = .ok (.aload_n 0, 1) := dk_42 (dk_at dksX4_change_0 3 rfl rfl)
theorem dX4_change_4 : decode cX4_change 4 = .ok (.getfield 21, 3) := dk_180 0 21 (dk_at dksX4_change_0 4 rfl rfl)
theorem dX4_change_7 : decode cX4_change 7 = .ok (.if_icmp .ge 25, 3) := dk_162 0 25 (dk_at dksX4_change_0 7 rfl rfl)
theorem dX4_change_10 : decode cX4_change 10 = .ok (.aload_n 0, 1) := dk_42 (dk_at dksX4_change_0 10 rfl rfl)
theorem dX4_change_11 : decode cX4_change 11 = .ok (.getfield 11, 3) := dk_180 0 11 (dk_at dksX4_change_0 11 rfl rfl)
theorem dX4_change_14 : decode cX4_change 14 = .ok (.iload_n 3, 1) := dk_29 (dk_at dksX4_change_0 14 rfl rfl)
theorem dX4_change_15 : decode cX4_change 15 = .ok (.aaload, 1) := dk_50 (dk_at dksX4_change_0 15 rfl rfl)
theorem dX4_change_16 : decode cX4_change 16 = .ok (.getfield 25, 3) := dk_180 0 25 (dk_at dksX4_change_0 16 rfl rfl)
theorem dX4_change_19 : decode cX4_change 19 = .ok (.lload_n 1, 1) := dk_31 (dk_at dksX4_change_0 19 rfl rfl)
theorem dX4_change_20 : decode cX4_change 20 = .ok (.lcmp, 1) := dk_148 (dk_at dksX4_change_0 20 rfl rfl)
theorem dX4_change_21 : decode cX4_change 21 = .ok (.ifCond .ne 5, 3) := dk_154 0 5 (dk_at dksX4_change_0 21 rfl rfl)
theorem dX4_change_24 : decode cX4_change 24 = .ok (.iload_n 3, 1) := dk_29 (dk_at dksX4_change_1 0 rfl rfl)
theorem dX4_change_25 : decode cX4_change 25 = .ok (.ireturn, 1) := dk_172 (dk_at dksX4_change_1 1 rfl rfl)
theorem dX4_change_26 : decode cX4_change 26 = .ok (.iinc 3 1, 3) := dk_132 3 1 (dk_at dksX4_change_1 2 rfl rfl)
theorem dX4_change_29 : decode cX4_change 29 = .ok (.goto (-27), 3) := dk_167 255 229 (dk_at dksX4_change_1 5 rfl rfl)
theorem dX4_change_32 : decode cX4_change 32 = .ok (.iconst (-1), 1) := dk_2 (dk_at dksX4_change_1 8 rfl rfl)
theorem dX4_change_33 : decode cX4_change 33 = .ok (.ireturn, 1) := dk_172 (dk_at dksX4_change_1 9 rfl rfl)
abbrev cX4_island : ByteArray := prog_2_method_3_code
def yX4_island : MethodName := ⟨RX4, "island", "(J)I"⟩
def dkwX4_island_1 : List UInt8 := [132, 3, 1, 167, 255, 232, 2, 172]
abbrev dktX4_island_1 : List UInt8 := dkwX4_island_1 ++ []
def dkwX4_island_0 : List UInt8 := [3, 62, 29, 42, 180, 0, 29, 162, 0, 22, 42, 180, 0, 17, 29, 47, 31, 148, 154, 0, 5, 29, 172]
abbrev dktX4_island_0 : List UInt8 := dkwX4_island_0 ++ dktX4_island_1
theorem dksX4_island_0 : cX4_island.data.toList.drop 0 = dktX4_island_0 := by decide +kernel
theorem dksX4_island_1 : cX4_island.data.toList.drop 23 = dktX4_island_1 := dk_seg dksX4_island_0 23 rfl rfl
theorem dX4_island_0 : decode cX4_island 0 = .ok (.iconst 0, 1) := dk_3 (dk_at dksX4_island_0 0 rfl rfl)
theorem dX4_island_1 : decode cX4_island 1 = .ok (.istore_n 3, 1) := dk_62 (dk_at dksX4_island_0 1 rfl rfl)
theorem dX4_island_2 : decode cX4_island 2 = .ok (.iload_n 3, 1) := dk_29 (dk_at dksX4_island_0 2 rfl rfl)
theorem dX4_island_3 : decode cX4_island 3 = .ok (.aload_n 0, 1) := dk_42 (dk_at dksX4_island_0 3 rfl rfl)
theorem dX4_island_4 : decode cX4_island 4 = .ok (.getfield 29, 3) := dk_180 0 29 (dk_at dksX4_island_0 4 rfl rfl)
theorem dX4_island_7 : decode cX4_island 7 = .ok (.if_icmp .ge 22, 3) := dk_162 0 22 (dk_at dksX4_island_0 7 rfl rfl)
theorem dX4_island_10 : decode cX4_island 10 = .ok (.aload_n 0, 1) := dk_42 (dk_at dksX4_island_0 10 rfl rfl)
theorem dX4_island_11 : decode cX4_island 11 = .ok (.getfield 17, 3) := dk_180 0 17 (dk_at dksX4_island_0 11 rfl rfl)
theorem dX4_island_14 : decode cX4_island 14 = .ok (.iload_n 3, 1) := dk_29 (dk_at dksX4_island_0 14 rfl rfl)
theorem dX4_island_15 : decode cX4_island 15 = .ok (.laload, 1) := dk_47 (dk_at dksX4_island_0 15 rfl rfl)
theorem dX4_island_16 : decode cX4_island 16 = .ok (.lload_n 1, 1) := dk_31 (dk_at dksX4_island_0 16 rfl rfl)
theorem dX4_island_17 : decode cX4_island 17 = .ok (.lcmp, 1) := dk_148 (dk_at dksX4_island_0 17 rfl rfl)
theorem dX4_island_18 : decode cX4_island 18 = .ok (.ifCond .ne 5, 3) := dk_154 0 5 (dk_at dksX4_island_0 18 rfl rfl)
theorem dX4_island_21 : decode cX4_island 21 = .ok (.iload_n 3, 1) := dk_29 (dk_at dksX4_island_0 21 rfl rfl)
theorem dX4_island_22 : decode cX4_island 22 = .ok (.ireturn, 1) := dk_172 (dk_at dksX4_island_0 22 rfl rfl)
theorem dX4_island_23 : decode cX4_island 23 = .ok (.iinc 3 1, 3) := dk_132 3 1 (dk_at dksX4_island_1 0 rfl rfl)
theorem dX4_island_26 : decode cX4_island 26 = .ok (.goto (-24), 3) := dk_167 255 232 (dk_at dksX4_island_1 3 rfl rfl)
theorem dX4_island_29 : decode cX4_island 29 = .ok (.iconst (-1), 1) := dk_2 (dk_at dksX4_island_1 6 rfl rfl)
theorem dX4_island_30 : decode cX4_island 30 = .ok (.ireturn, 1) := dk_172 (dk_at dksX4_island_1 7 rfl rfl)
abbrev cX4_add : ByteArray := prog_2_method_5_code
def yX4_add : MethodName := ⟨RX4, "add", "(LSwapBook$Change;)V"⟩
def dkwX4_add_8 : List UInt8 := [181, 0, 21, 177]
abbrev dktX4_add_8 : List UInt8 := dkwX4_add_8 ++ []
def dkwX4_add_7 : List UInt8 := [132, 2, 1, 167, 255, 166, 42, 180, 0, 11, 42, 180, 0, 21, 43, 83, 42, 89, 180, 0, 21, 4, 96]
abbrev dktX4_add_7 : List UInt8 := dkwX4_add_7 ++ dktX4_add_8
def dkwX4_add_6 : List UInt8 := [181, 0, 58, 42, 180, 0, 11, 28, 50, 89, 180, 0, 58, 4, 42, 180, 0, 21, 120, 128, 181, 0, 58]
abbrev dktX4_add_6 : List UInt8 := dkwX4_add_6 ++ dktX4_add_7
def dkwX4_add_5 : List UInt8 := [28, 50, 182, 0, 50, 182, 0, 54, 154, 0, 6, 167, 0, 35, 43, 89, 180, 0, 58, 4, 28, 120, 128]
abbrev dktX4_add_5 : List UInt8 := dkwX4_add_5 ++ dktX4_add_6
def dkwX4_add_4 : List UInt8 := [159, 0, 70, 42, 180, 0, 11, 28, 50, 180, 0, 47, 43, 180, 0, 47, 160, 0, 54, 43, 42, 180, 0, 11]
abbrev dktX4_add_4 : List UInt8 := dkwX4_add_4 ++ dktX4_add_5
def dkwX4_add_3 : List UInt8 := [167, 255, 187, 3, 61, 28, 42, 180, 0, 21, 162, 0, 88, 43, 180, 0, 35, 28, 122, 4, 126, 4]
abbrev dktX4_add_3 : List UInt8 := dkwX4_add_3 ++ dktX4_add_4
def dkwX4_add_2 : List UInt8 := [180, 0, 38, 42, 180, 0, 11, 28, 50, 180, 0, 38, 4, 96, 184, 0, 41, 181, 0, 38, 132, 2, 1]
abbrev dktX4_add_2 : List UInt8 := dkwX4_add_2 ++ dktX4_add_3
def dkwX4_add_1 : List UInt8 := [43, 89, 180, 0, 35, 4, 28, 120, 42, 180, 0, 11, 28, 50, 180, 0, 35, 128, 128, 181, 0, 35, 43, 43]
abbrev dktX4_add_1 : List UInt8 := dkwX4_add_1 ++ dktX4_add_2
def dkwX4_add_0 : List UInt8 := [3, 61, 28, 42, 180, 0, 21, 162, 0, 67, 43, 180, 0, 32, 28, 122, 4, 126, 154, 0, 6, 167, 0, 47]
abbrev dktX4_add_0 : List UInt8 := dkwX4_add_0 ++ dktX4_add_1
theorem dksX4_add_0 : cX4_add.data.toList.drop 0 = dktX4_add_0 := by decide +kernel
theorem dksX4_add_1 : cX4_add.data.toList.drop 24 = dktX4_add_1 := dk_seg dksX4_add_0 24 rfl rfl
theorem dksX4_add_2 : cX4_add.data.toList.drop 48 = dktX4_add_2 := dk_seg dksX4_add_1 24 rfl rfl
theorem dksX4_add_3 : cX4_add.data.toList.drop 71 = dktX4_add_3 := dk_seg dksX4_add_2 23 rfl rfl
theorem dksX4_add_4 : cX4_add.data.toList.drop 93 = dktX4_add_4 := dk_seg dksX4_add_3 22 rfl rfl
theorem dksX4_add_5 : cX4_add.data.toList.drop 117 = dktX4_add_5 := dk_seg dksX4_add_4 24 rfl rfl
theorem dksX4_add_6 : cX4_add.data.toList.drop 140 = dktX4_add_6 := dk_seg dksX4_add_5 23 rfl rfl
theorem dksX4_add_7 : cX4_add.data.toList.drop 163 = dktX4_add_7 := dk_seg dksX4_add_6 23 rfl rfl
theorem dksX4_add_8 : cX4_add.data.toList.drop 186 = dktX4_add_8 := dk_seg dksX4_add_7 23 rfl rfl
theorem dX4_add_0 : decode cX4_add 0 = .ok (.iconst 0, 1) := dk_3 (dk_at dksX4_add_0 0 rfl rfl)
theorem dX4_add_1 : decode cX4_add 1 = .ok (.istore_n 2, 1) := dk_61 (dk_at dksX4_add_0 1 rfl rfl)
theorem dX4_add_2 : decode cX4_add 2 = .ok (.iload_n 2, 1) := dk_28 (dk_at dksX4_add_0 2 rfl rfl)
theorem dX4_add_3 : decode cX4_add 3 = .ok (.aload_n 0, 1) := dk_42 (dk_at dksX4_add_0 3 rfl rfl)
theorem dX4_add_4 : decode cX4_add 4 = .ok (.getfield 21, 3) := dk_180 0 21 (dk_at dksX4_add_0 4 rfl rfl)
theorem dX4_add_7 : decode cX4_add 7 = .ok (.if_icmp .ge 67, 3) := dk_162 0 67 (dk_at dksX4_add_0 7 rfl rfl)
theorem dX4_add_10 : decode cX4_add 10 = .ok (.aload_n 1, 1) := dk_43 (dk_at dksX4_add_0 10 rfl rfl)
theorem dX4_add_11 : decode cX4_add 11 = .ok (.getfield 32, 3) := dk_180 0 32 (dk_at dksX4_add_0 11 rfl rfl)
theorem dX4_add_14 : decode cX4_add 14 = .ok (.iload_n 2, 1) := dk_28 (dk_at dksX4_add_0 14 rfl rfl)
theorem dX4_add_15 : decode cX4_add 15 = .ok (.ishr, 1) := dk_122 (dk_at dksX4_add_0 15 rfl rfl)
theorem dX4_add_16 : decode cX4_add 16 = .ok (.iconst 1, 1) := dk_4 (dk_at dksX4_add_0 16 rfl rfl)
theorem dX4_add_17 : decode cX4_add 17 = .ok (.iand, 1) := dk_126 (dk_at dksX4_add_0 17 rfl rfl)
theorem dX4_add_18 : decode cX4_add 18 = .ok (.ifCond .ne 6, 3) := dk_154 0 6 (dk_at dksX4_add_0 18 rfl rfl)
theorem dX4_add_21 : decode cX4_add 21 = .ok (.goto 47, 3) := dk_167 0 47 (dk_at dksX4_add_0 21 rfl rfl)
theorem dX4_add_24 : decode cX4_add 24 = .ok (.aload_n 1, 1) := dk_43 (dk_at dksX4_add_1 0 rfl rfl)
theorem dX4_add_25 : decode cX4_add 25 = .ok (.dup, 1) := dk_89 (dk_at dksX4_add_1 1 rfl rfl)
theorem dX4_add_26 : decode cX4_add 26 = .ok (.getfield 35, 3) := dk_180 0 35 (dk_at dksX4_add_1 2 rfl rfl)
theorem dX4_add_29 : decode cX4_add 29 = .ok (.iconst 1, 1) := dk_4 (dk_at dksX4_add_1 5 rfl rfl)
theorem dX4_add_30 : decode cX4_add 30 = .ok (.iload_n 2, 1) := dk_28 (dk_at dksX4_add_1 6 rfl rfl)
theorem dX4_add_31 : decode cX4_add 31 = .ok (.ishl, 1) := dk_120 (dk_at dksX4_add_1 7 rfl rfl)
theorem dX4_add_32 : decode cX4_add 32 = .ok (.aload_n 0, 1) := dk_42 (dk_at dksX4_add_1 8 rfl rfl)
theorem dX4_add_33 : decode cX4_add 33 = .ok (.getfield 11, 3) := dk_180 0 11 (dk_at dksX4_add_1 9 rfl rfl)
theorem dX4_add_36 : decode cX4_add 36 = .ok (.iload_n 2, 1) := dk_28 (dk_at dksX4_add_1 12 rfl rfl)
theorem dX4_add_37 : decode cX4_add 37 = .ok (.aaload, 1) := dk_50 (dk_at dksX4_add_1 13 rfl rfl)
theorem dX4_add_38 : decode cX4_add 38 = .ok (.getfield 35, 3) := dk_180 0 35 (dk_at dksX4_add_1 14 rfl rfl)
theorem dX4_add_41 : decode cX4_add 41 = .ok (.ior, 1) := dk_128 (dk_at dksX4_add_1 17 rfl rfl)
theorem dX4_add_42 : decode cX4_add 42 = .ok (.ior, 1) := dk_128 (dk_at dksX4_add_1 18 rfl rfl)
theorem dX4_add_43 : decode cX4_add 43 = .ok (.putfield 35, 3) := dk_181 0 35 (dk_at dksX4_add_1 19 rfl rfl)
theorem dX4_add_46 : decode cX4_add 46 = .ok (.aload_n 1, 1) := dk_43 (dk_at dksX4_add_1 22 rfl rfl)
theorem dX4_add_47 : decode cX4_add 47 = .ok (.aload_n 1, 1) := dk_43 (dk_at dksX4_add_1 23 rfl rfl)
theorem dX4_add_48 : decode cX4_add 48 = .ok (.getfield 38, 3) := dk_180 0 38 (dk_at dksX4_add_2 0 rfl rfl)
theorem dX4_add_51 : decode cX4_add 51 = .ok (.aload_n 0, 1) := dk_42 (dk_at dksX4_add_2 3 rfl rfl)
theorem dX4_add_52 : decode cX4_add 52 = .ok (.getfield 11, 3) := dk_180 0 11 (dk_at dksX4_add_2 4 rfl rfl)
theorem dX4_add_55 : decode cX4_add 55 = .ok (.iload_n 2, 1) := dk_28 (dk_at dksX4_add_2 7 rfl rfl)
theorem dX4_add_56 : decode cX4_add 56 = .ok (.aaload, 1) := dk_50 (dk_at dksX4_add_2 8 rfl rfl)
theorem dX4_add_57 : decode cX4_add 57 = .ok (.getfield 38, 3) := dk_180 0 38 (dk_at dksX4_add_2 9 rfl rfl)
theorem dX4_add_60 : decode cX4_add 60 = .ok (.iconst 1, 1) := dk_4 (dk_at dksX4_add_2 12 rfl rfl)
theorem dX4_add_61 : decode cX4_add 61 = .ok (.iadd, 1) := dk_96 (dk_at dksX4_add_2 13 rfl rfl)
theorem dX4_add_62 : decode cX4_add 62 = .ok (.invokestatic 41, 3) := dk_184 0 41 (dk_at dksX4_add_2 14 rfl rfl)
theorem dX4_add_65 : decode cX4_add 65 = .ok (.putfield 38, 3) := dk_181 0 38 (dk_at dksX4_add_2 17 rfl rfl)
theorem dX4_add_68 : decode cX4_add 68 = .ok (.iinc 2 1, 3) := dk_132 2 1 (dk_at dksX4_add_2 20 rfl rfl)
theorem dX4_add_71 : decode cX4_add 71 = .ok (.goto (-69), 3) := dk_167 255 187 (dk_at dksX4_add_3 0 rfl rfl)
theorem dX4_add_74 : decode cX4_add 74 = .ok (.iconst 0, 1) := dk_3 (dk_at dksX4_add_3 3 rfl rfl)
theorem dX4_add_75 : decode cX4_add 75 = .ok (.istore_n 2, 1) := dk_61 (dk_at dksX4_add_3 4 rfl rfl)
theorem dX4_add_76 : decode cX4_add 76 = .ok (.iload_n 2, 1) := dk_28 (dk_at dksX4_add_3 5 rfl rfl)
theorem dX4_add_77 : decode cX4_add 77 = .ok (.aload_n 0, 1) := dk_42 (dk_at dksX4_add_3 6 rfl rfl)
theorem dX4_add_78 : decode cX4_add 78 = .ok (.getfield 21, 3) := dk_180 0 21 (dk_at dksX4_add_3 7 rfl rfl)
theorem dX4_add_81 : decode cX4_add 81 = .ok (.if_icmp .ge 88, 3) := dk_162 0 88 (dk_at dksX4_add_3 10 rfl rfl)
theorem dX4_add_84 : decode cX4_add 84 = .ok (.aload_n 1, 1) := dk_43 (dk_at dksX4_add_3 13 rfl rfl)
theorem dX4_add_85 : decode cX4_add 85 = .ok (.getfield 35, 3) := dk_180 0 35 (dk_at dksX4_add_3 14 rfl rfl)
theorem dX4_add_88 : decode cX4_add 88 = .ok (.iload_n 2, 1) := dk_28 (dk_at dksX4_add_3 17 rfl rfl)
theorem dX4_add_89 : decode cX4_add 89 = .ok (.ishr, 1) := dk_122 (dk_at dksX4_add_3 18 rfl rfl)
theorem dX4_add_90 : decode cX4_add 90 = .ok (.iconst 1, 1) := dk_4 (dk_at dksX4_add_3 19 rfl rfl)
theorem dX4_add_91 : decode cX4_add 91 = .ok (.iand, 1) := dk_126 (dk_at dksX4_add_3 20 rfl rfl)
theorem dX4_add_92 : decode cX4_add 92 = .ok (.iconst 1, 1) := dk_4 (dk_at dksX4_add_3 21 rfl rfl)
theorem dX4_add_93 : decode cX4_add 93 = .ok (.if_icmp .eq 70, 3) := dk_159 0 70 (dk_at dksX4_add_4 0 rfl rfl)
theorem dX4_add_96 : decode cX4_add 96 = .ok (.aload_n 0, 1) := dk_42 (dk_at dksX4_add_4 3 rfl rfl)
theorem dX4_add_97 : decode cX4_add 97 = .ok (.getfield 11, 3) := dk_180 0 11 (dk_at dksX4_add_4 4 rfl rfl)
theorem dX4_add_100 : decode cX4_add 100 = .ok (.iload_n 2, 1) := dk_28 (dk_at dksX4_add_4 7 rfl rfl)
theorem dX4_add_101 : decode cX4_add 101 = .ok (.aaload, 1) := dk_50 (dk_at dksX4_add_4 8 rfl rfl)
theorem dX4_add_102 : decode cX4_add 102 = .ok (.getfield 47, 3) := dk_180 0 47 (dk_at dksX4_add_4 9 rfl rfl)
theorem dX4_add_105 : decode cX4_add 105 = .ok (.aload_n 1, 1) := dk_43 (dk_at dksX4_add_4 12 rfl rfl)
theorem dX4_add_106 : decode cX4_add 106 = .ok (.getfield 47, 3) := dk_180 0 47 (dk_at dksX4_add_4 13 rfl rfl)
theorem dX4_add_109 : decode cX4_add 109 = .ok (.if_icmp .ne 54, 3) := dk_160 0 54 (dk_at dksX4_add_4 16 rfl rfl)
theorem dX4_add_112 : decode cX4_add 112 = .ok (.aload_n 1, 1) := dk_43 (dk_at dksX4_add_4 19 rfl rfl)
theorem dX4_add_113 : decode cX4_add 113 = .ok (.aload_n 0, 1) := dk_42 (dk_at dksX4_add_4 20 rfl rfl)
theorem dX4_add_114 : decode cX4_add 114 = .ok (.getfield 11, 3) := dk_180 0 11 (dk_at dksX4_add_4 21 rfl rfl)
theorem dX4_add_117 : decode cX4_add 117 = .ok (.iload_n 2, 1) := dk_28 (dk_at dksX4_add_5 0 rfl rfl)
theorem dX4_add_118 : decode cX4_add 118 = .ok (.aaload, 1) := dk_50 (dk_at dksX4_add_5 1 rfl rfl)
theorem dX4_add_119 : decode cX4_add 119 = .ok (.invokevirtual 50, 3) := dk_182 0 50 (dk_at dksX4_add_5 2 rfl rfl)
theorem dX4_add_122 : decode cX4_add 122 = .ok (.invokevirtual 54, 3) := dk_182 0 54 (dk_at dksX4_add_5 5 rfl rfl)
theorem dX4_add_125 : decode cX4_add 125 = .ok (.ifCond .ne 6, 3) := dk_154 0 6 (dk_at dksX4_add_5 8 rfl rfl)
theorem dX4_add_128 : decode cX4_add 128 = .ok (.goto 35, 3) := dk_167 0 35 (dk_at dksX4_add_5 11 rfl rfl)
theorem dX4_add_131 : decode cX4_add 131 = .ok (.aload_n 1, 1) := dk_43 (dk_at dksX4_add_5 14 rfl rfl)
theorem dX4_add_132 : decode cX4_add 132 = .ok (.dup, 1) := dk_89 (dk_at dksX4_add_5 15 rfl rfl)
theorem dX4_add_133 : decode cX4_add 133 = .ok (.getfield 58, 3) := dk_180 0 58 (dk_at dksX4_add_5 16 rfl rfl)
theorem dX4_add_136 : decode cX4_add 136 = .ok (.iconst 1, 1) := dk_4 (dk_at dksX4_add_5 19 rfl rfl)
theorem dX4_add_137 : decode cX4_add 137 = .ok (.iload_n 2, 1) := dk_28 (dk_at dksX4_add_5 20 rfl rfl)
theorem dX4_add_138 : decode cX4_add 138 = .ok (.ishl, 1) := dk_120 (dk_at dksX4_add_5 21 rfl rfl)
theorem dX4_add_139 : decode cX4_add 139 = .ok (.ior, 1) := dk_128 (dk_at dksX4_add_5 22 rfl rfl)
theorem dX4_add_140 : decode cX4_add 140 = .ok (.putfield 58, 3) := dk_181 0 58 (dk_at dksX4_add_6 0 rfl rfl)
theorem dX4_add_143 : decode cX4_add 143 = .ok (.aload_n 0, 1) := dk_42 (dk_at dksX4_add_6 3 rfl rfl)
theorem dX4_add_144 : decode cX4_add 144 = .ok (.getfield 11, 3) := dk_180 0 11 (dk_at dksX4_add_6 4 rfl rfl)
theorem dX4_add_147 : decode cX4_add 147 = .ok (.iload_n 2, 1) := dk_28 (dk_at dksX4_add_6 7 rfl rfl)
theorem dX4_add_148 : decode cX4_add 148 = .ok (.aaload, 1) := dk_50 (dk_at dksX4_add_6 8 rfl rfl)
theorem dX4_add_149 : decode cX4_add 149 = .ok (.dup, 1) := dk_89 (dk_at dksX4_add_6 9 rfl rfl)
theorem dX4_add_150 : decode cX4_add 150 = .ok (.getfield 58, 3) := dk_180 0 58 (dk_at dksX4_add_6 10 rfl rfl)
theorem dX4_add_153 : decode cX4_add 153 = .ok (.iconst 1, 1) := dk_4 (dk_at dksX4_add_6 13 rfl rfl)
theorem dX4_add_154 : decode cX4_add 154 = .ok (.aload_n 0, 1) := dk_42 (dk_at dksX4_add_6 14 rfl rfl)
theorem dX4_add_155 : decode cX4_add 155 = .ok (.getfield 21, 3) := dk_180 0 21 (dk_at dksX4_add_6 15 rfl rfl)
theorem dX4_add_158 : decode cX4_add 158 = .ok (.ishl, 1) := dk_120 (dk_at dksX4_add_6 18 rfl rfl)
theorem dX4_add_159 : decode cX4_add 159 = .ok (.ior, 1) := dk_128 (dk_at dksX4_add_6 19 rfl rfl)
theorem dX4_add_160 : decode cX4_add 160 = .ok (.putfield 58, 3) := dk_181 0 58 (dk_at dksX4_add_6 20 rfl rfl)
theorem dX4_add_163 : decode cX4_add 163 = .ok (.iinc 2 1, 3) := dk_132 2 1 (dk_at dksX4_add_7 0 rfl rfl)
theorem dX4_add_166 : decode cX4_add 166 = .ok (.goto (-90), 3) := dk_167 255 166 (dk_at dksX4_add_7 3 rfl rfl)
theorem dX4_add_169 : decode cX4_add 169 = .ok (.aload_n 0, 1) := dk_42 (dk_at dksX4_add_7 6 rfl rfl)
theorem dX4_add_170 : decode cX4_add 170 = .ok (.getfield 11, 3) := dk_180 0 11 (dk_at dksX4_add_7 7 rfl rfl)
theorem dX4_add_173 : decode cX4_add 173 = .ok (.aload_n 0, 1) := dk_42 (dk_at dksX4_add_7 10 rfl rfl)
theorem dX4_add_174 : decode cX4_add 174 = .ok (.getfield 21, 3) := dk_180 0 21 (dk_at dksX4_add_7 11 rfl rfl)
theorem dX4_add_177 : decode cX4_add 177 = .ok (.aload_n 1, 1) := dk_43 (dk_at dksX4_add_7 14 rfl rfl)
theorem dX4_add_178 : decode cX4_add 178 = .ok (.aastore, 1) := dk_83 (dk_at dksX4_add_7 15 rfl rfl)
theorem dX4_add_179 : decode cX4_add 179 = .ok (.aload_n 0, 1) := dk_42 (dk_at dksX4_add_7 16 rfl rfl)
theorem dX4_add_180 : decode cX4_add 180 = .ok (.dup, 1) := dk_89 (dk_at dksX4_add_7 17 rfl rfl)
theorem dX4_add_181 : decode cX4_add 181 = .ok (.getfield 21, 3) := dk_180 0 21 (dk_at dksX4_add_7 18 rfl rfl)
theorem dX4_add_184 : decode cX4_add 184 = .ok (.iconst 1, 1) := dk_4 (dk_at dksX4_add_7 21 rfl rfl)
theorem dX4_add_185 : decode cX4_add 185 = .ok (.iadd, 1) := dk_96 (dk_at dksX4_add_7 22 rfl rfl)
theorem dX4_add_186 : decode cX4_add 186 = .ok (.putfield 21, 3) := dk_181 0 21 (dk_at dksX4_add_8 0 rfl rfl)
theorem dX4_add_189 : decode cX4_add 189 = .ok (.return_, 1) := dk_177 (dk_at dksX4_add_8 3 rfl rfl)
abbrev cX4_all : ByteArray := prog_2_method_4_code
def yX4_all : MethodName := ⟨RX4, "all", "()I"⟩
def dkwX4_all_0 : List UInt8 := [4, 42, 180, 0, 21, 120, 4, 100, 172]
abbrev dktX4_all_0 : List UInt8 := dkwX4_all_0 ++ []
theorem dksX4_all_0 : cX4_all.data.toList.drop 0 = dktX4_all_0 := by decide +kernel
theorem dX4_all_0 : decode cX4_all 0 = .ok (.iconst 1, 1) := dk_4 (dk_at dksX4_all_0 0 rfl rfl)
theorem dX4_all_1 : decode cX4_all 1 = .ok (.aload_n 0, 1) := dk_42 (dk_at dksX4_all_0 1 rfl rfl)
theorem dX4_all_2 : decode cX4_all 2 = .ok (.getfield 21, 3) := dk_180 0 21 (dk_at dksX4_all_0 2 rfl rfl)
theorem dX4_all_5 : decode cX4_all 5 = .ok (.ishl, 1) := dk_120 (dk_at dksX4_all_0 5 rfl rfl)
theorem dX4_all_6 : decode cX4_all 6 = .ok (.iconst 1, 1) := dk_4 (dk_at dksX4_all_0 6 rfl rfl)
theorem dX4_all_7 : decode cX4_all 7 = .ok (.isub, 1) := dk_100 (dk_at dksX4_all_0 7 rfl rfl)
theorem dX4_all_8 : decode cX4_all 8 = .ok (.ireturn, 1) := dk_172 (dk_at dksX4_all_0 8 rfl rfl)
abbrev cX4_holds : ByteArray := prog_2_method_6_code
def yX4_holds : MethodName := ⟨RX4, "holds", "(I)Z"⟩
def dkwX4_holds_1 : List UInt8 := [50, 180, 0, 35, 27, 2, 130, 126, 153, 0, 5, 3, 172, 132, 2, 1, 167, 255, 218, 4, 172]
abbrev dktX4_holds_1 : List UInt8 := dkwX4_holds_1 ++ []
def dkwX4_holds_0 : List UInt8 := [3, 61, 28, 42, 180, 0, 21, 162, 0, 36, 27, 28, 122, 4, 126, 4, 160, 0, 21, 42, 180, 0, 11, 28]
abbrev dktX4_holds_0 : List UInt8 := dkwX4_holds_0 ++ dktX4_holds_1
theorem dksX4_holds_0 : cX4_holds.data.toList.drop 0 = dktX4_holds_0 := by decide +kernel
theorem dksX4_holds_1 : cX4_holds.data.toList.drop 24 = dktX4_holds_1 := dk_seg dksX4_holds_0 24 rfl rfl
theorem dX4_holds_0 : decode cX4_holds 0 = .ok (.iconst 0, 1) := dk_3 (dk_at dksX4_holds_0 0 rfl rfl)
theorem dX4_holds_1 : decode cX4_holds 1 = .ok (.istore_n 2, 1) := dk_61 (dk_at dksX4_holds_0 1 rfl rfl)
theorem dX4_holds_2 : decode cX4_holds 2 = .ok (.iload_n 2, 1) := dk_28 (dk_at dksX4_holds_0 2 rfl rfl)
theorem dX4_holds_3 : decode cX4_holds 3 = .ok (.aload_n 0, 1) := dk_42 (dk_at dksX4_holds_0 3 rfl rfl)
theorem dX4_holds_4 : decode cX4_holds 4 = .ok (.getfield 21, 3) := dk_180 0 21 (dk_at dksX4_holds_0 4 rfl rfl)
theorem dX4_holds_7 : decode cX4_holds 7 = .ok (.if_icmp .ge 36, 3) := dk_162 0 36 (dk_at dksX4_holds_0 7 rfl rfl)
theorem dX4_holds_10 : decode cX4_holds 10 = .ok (.iload_n 1, 1) := dk_27 (dk_at dksX4_holds_0 10 rfl rfl)
theorem dX4_holds_11 : decode cX4_holds 11 = .ok (.iload_n 2, 1) := dk_28 (dk_at dksX4_holds_0 11 rfl rfl)
theorem dX4_holds_12 : decode cX4_holds 12 = .ok (.ishr, 1) := dk_122 (dk_at dksX4_holds_0 12 rfl rfl)
theorem dX4_holds_13 : decode cX4_holds 13 = .ok (.iconst 1, 1) := dk_4 (dk_at dksX4_holds_0 13 rfl rfl)
theorem dX4_holds_14 : decode cX4_holds 14 = .ok (.iand, 1) := dk_126 (dk_at dksX4_holds_0 14 rfl rfl)
theorem dX4_holds_15 : decode cX4_holds 15 = .ok (.iconst 1, 1) := dk_4 (dk_at dksX4_holds_0 15 rfl rfl)
theorem dX4_holds_16 : decode cX4_holds 16 = .ok (.if_icmp .ne 21, 3) := dk_160 0 21 (dk_at dksX4_holds_0 16 rfl rfl)
theorem dX4_holds_19 : decode cX4_holds 19 = .ok (.aload_n 0, 1) := dk_42 (dk_at dksX4_holds_0 19 rfl rfl)
theorem dX4_holds_20 : decode cX4_holds 20 = .ok (.getfield 11, 3) := dk_180 0 11 (dk_at dksX4_holds_0 20 rfl rfl)
theorem dX4_holds_23 : decode cX4_holds 23 = .ok (.iload_n 2, 1) := dk_28 (dk_at dksX4_holds_0 23 rfl rfl)
theorem dX4_holds_24 : decode cX4_holds 24 = .ok (.aaload, 1) := dk_50 (dk_at dksX4_holds_1 0 rfl rfl)
theorem dX4_holds_25 : decode cX4_holds 25 = .ok (.getfield 35, 3) := dk_180 0 35 (dk_at dksX4_holds_1 1 rfl rfl)
theorem dX4_holds_28 : decode cX4_holds 28 = .ok (.iload_n 1, 1) := dk_27 (dk_at dksX4_holds_1 4 rfl rfl)
theorem dX4_holds_29 : decode cX4_holds 29 = .ok (.iconst (-1), 1) := dk_2 (dk_at dksX4_holds_1 5 rfl rfl)
theorem dX4_holds_30 : decode cX4_holds 30 = .ok (.ixor, 1) := dk_130 (dk_at dksX4_holds_1 6 rfl rfl)
theorem dX4_holds_31 : decode cX4_holds 31 = .ok (.iand, 1) := dk_126 (dk_at dksX4_holds_1 7 rfl rfl)
theorem dX4_holds_32 : decode cX4_holds 32 = .ok (.ifCond .eq 5, 3) := dk_153 0 5 (dk_at dksX4_holds_1 8 rfl rfl)
theorem dX4_holds_35 : decode cX4_holds 35 = .ok (.iconst 0, 1) := dk_3 (dk_at dksX4_holds_1 11 rfl rfl)
theorem dX4_holds_36 : decode cX4_holds 36 = .ok (.ireturn, 1) := dk_172 (dk_at dksX4_holds_1 12 rfl rfl)
theorem dX4_holds_37 : decode cX4_holds 37 = .ok (.iinc 2 1, 3) := dk_132 2 1 (dk_at dksX4_holds_1 13 rfl rfl)
theorem dX4_holds_40 : decode cX4_holds 40 = .ok (.goto (-38), 3) := dk_167 255 218 (dk_at dksX4_holds_1 16 rfl rfl)
theorem dX4_holds_43 : decode cX4_holds 43 = .ok (.iconst 1, 1) := dk_4 (dk_at dksX4_holds_1 19 rfl rfl)
theorem dX4_holds_44 : decode cX4_holds 44 = .ok (.ireturn, 1) := dk_172 (dk_at dksX4_holds_1 20 rfl rfl)
abbrev cX4_isGone : ByteArray := prog_2_method_10_code
def yX4_isGone : MethodName := ⟨RX4, "isGone", "(II)Z"⟩
def dkwX4_isGone_3 : List UInt8 := [154, 0, 5, 4, 172, 132, 4, 1, 167, 255, 187, 3, 172]
abbrev dktX4_isGone_3 : List UInt8 := dkwX4_isGone_3 ++ []
def dkwX4_isGone_2 : List UInt8 := [160, 0, 29, 42, 180, 0, 11, 21, 4, 50, 180, 0, 47, 28, 160, 0, 15, 42, 27, 21, 4, 182, 0, 69]
abbrev dktX4_isGone_2 : List UInt8 := dkwX4_isGone_2 ++ dktX4_isGone_3
def dkwX4_isGone_1 : List UInt8 := [21, 4, 16, 16, 112, 122, 16, 31, 120, 153, 0, 43, 42, 180, 0, 11, 21, 4, 50, 182, 0, 50, 4]
abbrev dktX4_isGone_1 : List UInt8 := dkwX4_isGone_1 ++ dktX4_isGone_2
def dkwX4_isGone_0 : List UInt8 := [42, 27, 182, 0, 71, 62, 3, 54, 4, 21, 4, 42, 180, 0, 21, 162, 0, 66, 27, 29, 2, 130, 126]
abbrev dktX4_isGone_0 : List UInt8 := dkwX4_isGone_0 ++ dktX4_isGone_1
theorem dksX4_isGone_0 : cX4_isGone.data.toList.drop 0 = dktX4_isGone_0 := by decide +kernel
theorem dksX4_isGone_1 : cX4_isGone.data.toList.drop 23 = dktX4_isGone_1 := dk_seg dksX4_isGone_0 23 rfl rfl
theorem dksX4_isGone_2 : cX4_isGone.data.toList.drop 46 = dktX4_isGone_2 := dk_seg dksX4_isGone_1 23 rfl rfl
theorem dksX4_isGone_3 : cX4_isGone.data.toList.drop 70 = dktX4_isGone_3 := dk_seg dksX4_isGone_2 24 rfl rfl
theorem dX4_isGone_0 : decode cX4_isGone 0 = .ok (.aload_n 0, 1) := dk_42 (dk_at dksX4_isGone_0 0 rfl rfl)
theorem dX4_isGone_1 : decode cX4_isGone 1 = .ok (.iload_n 1, 1) := dk_27 (dk_at dksX4_isGone_0 1 rfl rfl)
theorem dX4_isGone_2 : decode cX4_isGone 2 = .ok (.invokevirtual 71, 3) := dk_182 0 71 (dk_at dksX4_isGone_0 2 rfl rfl)
theorem dX4_isGone_5 : decode cX4_isGone 5 = .ok (.istore_n 3, 1) := dk_62 (dk_at dksX4_isGone_0 5 rfl rfl)
theorem dX4_isGone_6 : decode cX4_isGone 6 = .ok (.iconst 0, 1) := dk_3 (dk_at dksX4_isGone_0 6 rfl rfl)
theorem dX4_isGone_7 : decode cX4_isGone 7 = .ok (.istore 4, 2) := dk_54 4 (dk_at dksX4_isGone_0 7 rfl rfl)
theorem dX4_isGone_9 : decode cX4_isGone 9 = .ok (.iload 4, 2) := dk_21 4 (dk_at dksX4_isGone_0 9 rfl rfl)
theorem dX4_isGone_11 : decode cX4_isGone 11 = .ok (.aload_n 0, 1) := dk_42 (dk_at dksX4_isGone_0 11 rfl rfl)
theorem dX4_isGone_12 : decode cX4_isGone 12 = .ok (.getfield 21, 3) := dk_180 0 21 (dk_at dksX4_isGone_0 12 rfl rfl)
theorem dX4_isGone_15 : decode cX4_isGone 15 = .ok (.if_icmp .ge 66, 3) := dk_162 0 66 (dk_at dksX4_isGone_0 15 rfl rfl)
theorem dX4_isGone_18 : decode cX4_isGone 18 = .ok (.iload_n 1, 1) := dk_27 (dk_at dksX4_isGone_0 18 rfl rfl)
theorem dX4_isGone_19 : decode cX4_isGone 19 = .ok (.iload_n 3, 1) := dk_29 (dk_at dksX4_isGone_0 19 rfl rfl)
theorem dX4_isGone_20 : decode cX4_isGone 20 = .ok (.iconst (-1), 1) := dk_2 (dk_at dksX4_isGone_0 20 rfl rfl)
theorem dX4_isGone_21 : decode cX4_isGone 21 = .ok (.ixor, 1) := dk_130 (dk_at dksX4_isGone_0 21 rfl rfl)
theorem dX4_isGone_22 : decode cX4_isGone 22 = .ok (.iand, 1) := dk_126 (dk_at dksX4_isGone_0 22 rfl rfl)
theorem dX4_isGone_23 : decode cX4_isGone 23 = .ok (.iload 4, 2) := dk_21 4 (dk_at dksX4_isGone_1 0 rfl rfl)
theorem dX4_isGone_25 : decode cX4_isGone 25 = .ok (.bipush 16, 2) := dk_16 16 (dk_at dksX4_isGone_1 2 rfl rfl)
theorem dX4_isGone_27 : decode cX4_isGone 27 = .ok (.irem, 1) := dk_112 (dk_at dksX4_isGone_1 4 rfl rfl)
theorem dX4_isGone_28 : decode cX4_isGone 28 = .ok (.ishr, 1) := dk_122 (dk_at dksX4_isGone_1 5 rfl rfl)
theorem dX4_isGone_29 : decode cX4_isGone 29 = .ok (.bipush 31, 2) := dk_16 31 (dk_at dksX4_isGone_1 6 rfl rfl)
theorem dX4_isGone_31 : decode cX4_isGone 31 = .ok (.ishl, 1) := dk_120 (dk_at dksX4_isGone_1 8 rfl rfl)
theorem dX4_isGone_32 : decode cX4_isGone 32 = .ok (.ifCond .eq 43, 3) := dk_153 0 43 (dk_at dksX4_isGone_1 9 rfl rfl)
theorem dX4_isGone_35 : decode cX4_isGone 35 = .ok (.aload_n 0, 1) := dk_42 (dk_at dksX4_isGone_1 12 rfl rfl)
theorem dX4_isGone_36 : decode cX4_isGone 36 = .ok (.getfield 11, 3) := dk_180 0 11 (dk_at dksX4_isGone_1 13 rfl rfl)
theorem dX4_isGone_39 : decode cX4_isGone 39 = .ok (.iload 4, 2) := dk_21 4 (dk_at dksX4_isGone_1 16 rfl rfl)
theorem dX4_isGone_41 : decode cX4_isGone 41 = .ok (.aaload, 1) := dk_50 (dk_at dksX4_isGone_1 18 rfl rfl)
theorem dX4_isGone_42 : decode cX4_isGone 42 = .ok (.invokevirtual 50, 3) := dk_182 0 50 (dk_at dksX4_isGone_1 19 rfl rfl)
theorem dX4_isGone_45 : decode cX4_isGone 45 = .ok (.iconst 1, 1) := dk_4 (dk_at dksX4_isGone_1 22 rfl rfl)
theorem dX4_isGone_46 : decode cX4_isGone 46 = .ok (.if_icmp .ne 29, 3) := dk_160 0 29 (dk_at dksX4_isGone_2 0 rfl rfl)
theorem dX4_isGone_49 : decode cX4_isGone 49 = .ok (.aload_n 0, 1) := dk_42 (dk_at dksX4_isGone_2 3 rfl rfl)
theorem dX4_isGone_50 : decode cX4_isGone 50 = .ok (.getfield 11, 3) := dk_180 0 11 (dk_at dksX4_isGone_2 4 rfl rfl)
theorem dX4_isGone_53 : decode cX4_isGone 53 = .ok (.iload 4, 2) := dk_21 4 (dk_at dksX4_isGone_2 7 rfl rfl)
theorem dX4_isGone_55 : decode cX4_isGone 55 = .ok (.aaload, 1) := dk_50 (dk_at dksX4_isGone_2 9 rfl rfl)
theorem dX4_isGone_56 : decode cX4_isGone 56 = .ok (.getfield 47, 3) := dk_180 0 47 (dk_at dksX4_isGone_2 10 rfl rfl)
theorem dX4_isGone_59 : decode cX4_isGone 59 = .ok (.iload_n 2, 1) := dk_28 (dk_at dksX4_isGone_2 13 rfl rfl)
theorem dX4_isGone_60 : decode cX4_isGone 60 = .ok (.if_icmp .ne 15, 3) := dk_160 0 15 (dk_at dksX4_isGone_2 14 rfl rfl)
theorem dX4_isGone_63 : decode cX4_isGone 63 = .ok (.aload_n 0, 1) := dk_42 (dk_at dksX4_isGone_2 17 rfl rfl)
theorem dX4_isGone_64 : decode cX4_isGone 64 = .ok (.iload_n 1, 1) := dk_27 (dk_at dksX4_isGone_2 18 rfl rfl)
theorem dX4_isGone_65 : decode cX4_isGone 65 = .ok (.iload 4, 2) := dk_21 4 (dk_at dksX4_isGone_2 19 rfl rfl)
theorem dX4_isGone_67 : decode cX4_isGone 67 = .ok (.invokevirtual 69, 3) := dk_182 0 69 (dk_at dksX4_isGone_2 21 rfl rfl)
theorem dX4_isGone_70 : decode cX4_isGone 70 = .ok (.ifCond .ne 5, 3) := dk_154 0 5 (dk_at dksX4_isGone_3 0 rfl rfl)
theorem dX4_isGone_73 : decode cX4_isGone 73 = .ok (.iconst 1, 1) := dk_4 (dk_at dksX4_isGone_3 3 rfl rfl)
theorem dX4_isGone_74 : decode cX4_isGone 74 = .ok (.ireturn, 1) := dk_172 (dk_at dksX4_isGone_3 4 rfl rfl)
theorem dX4_isGone_75 : decode cX4_isGone 75 = .ok (.iinc 4 1, 3) := dk_132 4 1 (dk_at dksX4_isGone_3 5 rfl rfl)
theorem dX4_isGone_78 : decode cX4_isGone 78 = .ok (.goto (-69), 3) := dk_167 255 187 (dk_at dksX4_isGone_3 8 rfl rfl)
theorem dX4_isGone_81 : decode cX4_isGone 81 = .ok (.iconst 0, 1) := dk_3 (dk_at dksX4_isGone_3 11 rfl rfl)
theorem dX4_isGone_82 : decode cX4_isGone 82 = .ok (.ireturn, 1) := dk_172 (dk_at dksX4_isGone_3 12 rfl rfl)
abbrev cX4_leftOut : ByteArray := prog_2_method_9_code
def yX4_leftOut : MethodName := ⟨RX4, "leftOut", "(I)I"⟩
def dkwX4_leftOut_2 : List UInt8 := [180, 0, 66, 120, 128, 61, 132, 3, 1, 167, 255, 206, 28, 172]
abbrev dktX4_leftOut_2 : List UInt8 := dkwX4_leftOut_2 ++ []
def dkwX4_leftOut_1 : List UInt8 := [180, 0, 11, 29, 50, 182, 0, 50, 7, 160, 0, 20, 28, 4, 42, 180, 0, 11, 29, 50, 192, 0, 61]
abbrev dktX4_leftOut_1 : List UInt8 := dkwX4_leftOut_1 ++ dktX4_leftOut_2
def dkwX4_leftOut_0 : List UInt8 := [3, 61, 3, 62, 29, 42, 180, 0, 21, 162, 0, 48, 27, 29, 122, 4, 126, 4, 160, 0, 33, 42]
abbrev dktX4_leftOut_0 : List UInt8 := dkwX4_leftOut_0 ++ dktX4_leftOut_1
theorem dksX4_leftOut_0 : cX4_leftOut.data.toList.drop 0 = dktX4_leftOut_0 := by decide +kernel
theorem dksX4_leftOut_1 : cX4_leftOut.data.toList.drop 22 = dktX4_leftOut_1 := dk_seg dksX4_leftOut_0 22 rfl rfl
theorem dksX4_leftOut_2 : cX4_leftOut.data.toList.drop 45 = dktX4_leftOut_2 := dk_seg dksX4_leftOut_1 23 rfl rfl
theorem dX4_leftOut_0 : decode cX4_leftOut 0 = .ok (.iconst 0, 1) := dk_3 (dk_at dksX4_leftOut_0 0 rfl rfl)
theorem dX4_leftOut_1 : decode cX4_leftOut 1 = .ok (.istore_n 2, 1) := dk_61 (dk_at dksX4_leftOut_0 1 rfl rfl)
theorem dX4_leftOut_2 : decode cX4_leftOut 2 = .ok (.iconst 0, 1) := dk_3 (dk_at dksX4_leftOut_0 2 rfl rfl)
theorem dX4_leftOut_3 : decode cX4_leftOut 3 = .ok (.istore_n 3, 1) := dk_62 (dk_at dksX4_leftOut_0 3 rfl rfl)
theorem dX4_leftOut_4 : decode cX4_leftOut 4 = .ok (.iload_n 3, 1) := dk_29 (dk_at dksX4_leftOut_0 4 rfl rfl)
theorem dX4_leftOut_5 : decode cX4_leftOut 5 = .ok (.aload_n 0, 1) := dk_42 (dk_at dksX4_leftOut_0 5 rfl rfl)
theorem dX4_leftOut_6 : decode cX4_leftOut 6 = .ok (.getfield 21, 3) := dk_180 0 21 (dk_at dksX4_leftOut_0 6 rfl rfl)
theorem dX4_leftOut_9 : decode cX4_leftOut 9 = .ok (.if_icmp .ge 48, 3) := dk_162 0 48 (dk_at dksX4_leftOut_0 9 rfl rfl)
theorem dX4_leftOut_12 : decode cX4_leftOut 12 = .ok (.iload_n 1, 1) := dk_27 (dk_at dksX4_leftOut_0 12 rfl rfl)
theorem dX4_leftOut_13 : decode cX4_leftOut 13 = .ok (.iload_n 3, 1) := dk_29 (dk_at dksX4_leftOut_0 13 rfl rfl)
theorem dX4_leftOut_14 : decode cX4_leftOut 14 = .ok (.ishr, 1) := dk_122 (dk_at dksX4_leftOut_0 14 rfl rfl)
theorem dX4_leftOut_15 : decode cX4_leftOut 15 = .ok (.iconst 1, 1) := dk_4 (dk_at dksX4_leftOut_0 15 rfl rfl)
theorem dX4_leftOut_16 : decode cX4_leftOut 16 = .ok (.iand, 1) := dk_126 (dk_at dksX4_leftOut_0 16 rfl rfl)
theorem dX4_leftOut_17 : decode cX4_leftOut 17 = .ok (.iconst 1, 1) := dk_4 (dk_at dksX4_leftOut_0 17 rfl rfl)
theorem dX4_leftOut_18 : decode cX4_leftOut 18 = .ok (.if_icmp .ne 33, 3) := dk_160 0 33 (dk_at dksX4_leftOut_0 18 rfl rfl)
theorem dX4_leftOut_21 : decode cX4_leftOut 21 = .ok (.aload_n 0, 1) := dk_42 (dk_at dksX4_leftOut_0 21 rfl rfl)
theorem dX4_leftOut_22 : decode cX4_leftOut 22 = .ok (.getfield 11, 3) := dk_180 0 11 (dk_at dksX4_leftOut_1 0 rfl rfl)
theorem dX4_leftOut_25 : decode cX4_leftOut 25 = .ok (.iload_n 3, 1) := dk_29 (dk_at dksX4_leftOut_1 3 rfl rfl)
theorem dX4_leftOut_26 : decode cX4_leftOut 26 = .ok (.aaload, 1) := dk_50 (dk_at dksX4_leftOut_1 4 rfl rfl)
theorem dX4_leftOut_27 : decode cX4_leftOut 27 = .ok (.invokevirtual 50, 3) := dk_182 0 50 (dk_at dksX4_leftOut_1 5 rfl rfl)
theorem dX4_leftOut_30 : decode cX4_leftOut 30 = .ok (.iconst 4, 1) := dk_7 (dk_at dksX4_leftOut_1 8 rfl rfl)
theorem dX4_leftOut_31 : decode cX4_leftOut 31 = .ok (.if_icmp .ne 20, 3) := dk_160 0 20 (dk_at dksX4_leftOut_1 9 rfl rfl)
theorem dX4_leftOut_34 : decode cX4_leftOut 34 = .ok (.iload_n 2, 1) := dk_28 (dk_at dksX4_leftOut_1 12 rfl rfl)
theorem dX4_leftOut_35 : decode cX4_leftOut 35 = .ok (.iconst 1, 1) := dk_4 (dk_at dksX4_leftOut_1 13 rfl rfl)
theorem dX4_leftOut_36 : decode cX4_leftOut 36 = .ok (.aload_n 0, 1) := dk_42 (dk_at dksX4_leftOut_1 14 rfl rfl)
theorem dX4_leftOut_37 : decode cX4_leftOut 37 = .ok (.getfield 11, 3) := dk_180 0 11 (dk_at dksX4_leftOut_1 15 rfl rfl)
theorem dX4_leftOut_40 : decode cX4_leftOut 40 = .ok (.iload_n 3, 1) := dk_29 (dk_at dksX4_leftOut_1 18 rfl rfl)
theorem dX4_leftOut_41 : decode cX4_leftOut 41 = .ok (.aaload, 1) := dk_50 (dk_at dksX4_leftOut_1 19 rfl rfl)
theorem dX4_leftOut_42 : decode cX4_leftOut 42 = .ok (.checkcast 61, 3) := dk_192 0 61 (dk_at dksX4_leftOut_1 20 rfl rfl)
theorem dX4_leftOut_45 : decode cX4_leftOut 45 = .ok (.getfield 66, 3) := dk_180 0 66 (dk_at dksX4_leftOut_2 0 rfl rfl)
theorem dX4_leftOut_48 : decode cX4_leftOut 48 = .ok (.ishl, 1) := dk_120 (dk_at dksX4_leftOut_2 3 rfl rfl)
theorem dX4_leftOut_49 : decode cX4_leftOut 49 = .ok (.ior, 1) := dk_128 (dk_at dksX4_leftOut_2 4 rfl rfl)
theorem dX4_leftOut_50 : decode cX4_leftOut 50 = .ok (.istore_n 2, 1) := dk_61 (dk_at dksX4_leftOut_2 5 rfl rfl)
theorem dX4_leftOut_51 : decode cX4_leftOut 51 = .ok (.iinc 3 1, 3) := dk_132 3 1 (dk_at dksX4_leftOut_2 6 rfl rfl)
theorem dX4_leftOut_54 : decode cX4_leftOut 54 = .ok (.goto (-50), 3) := dk_167 255 206 (dk_at dksX4_leftOut_2 9 rfl rfl)
theorem dX4_leftOut_57 : decode cX4_leftOut 57 = .ok (.iload_n 2, 1) := dk_28 (dk_at dksX4_leftOut_2 12 rfl rfl)
theorem dX4_leftOut_58 : decode cX4_leftOut 58 = .ok (.ireturn, 1) := dk_172 (dk_at dksX4_leftOut_2 13 rfl rfl)
abbrev cX4_quarrels : ByteArray := prog_2_method_7_code
def yX4_quarrels : MethodName := ⟨RX4, "quarrels", "(II)I"⟩
def dkwX4_quarrels_4 : List UInt8 := [29, 4, 25, 5, 180, 0, 63, 120, 2, 130, 126, 62, 132, 4, 1, 167, 255, 160, 29, 172]
abbrev dktX4_quarrels_4 : List UInt8 := dkwX4_quarrels_4 ++ []
def dkwX4_quarrels_3 : List UInt8 := [160, 0, 15, 29, 4, 25, 5, 180, 0, 66, 120, 2, 130, 126, 62, 25, 5, 180, 0, 66, 28, 160, 0, 15]
abbrev dktX4_quarrels_3 : List UInt8 := dkwX4_quarrels_3 ++ dktX4_quarrels_4
def dkwX4_quarrels_2 : List UInt8 := [159, 0, 6, 167, 0, 57, 42, 180, 0, 11, 21, 4, 50, 192, 0, 61, 58, 5, 25, 5, 180, 0, 63, 28]
abbrev dktX4_quarrels_2 : List UInt8 := dkwX4_quarrels_2 ++ dktX4_quarrels_3
def dkwX4_quarrels_1 : List UInt8 := [29, 153, 0, 89, 27, 21, 4, 122, 4, 126, 153, 0, 74, 42, 180, 0, 11, 21, 4, 50, 182, 0, 50, 7]
abbrev dktX4_quarrels_1 : List UInt8 := dkwX4_quarrels_1 ++ dktX4_quarrels_2
def dkwX4_quarrels_0 : List UInt8 := [42, 180, 0, 11, 28, 50, 180, 0, 58, 27, 126, 62, 3, 54, 4, 21, 4, 42, 180, 0, 21, 162, 0, 93]
abbrev dktX4_quarrels_0 : List UInt8 := dkwX4_quarrels_0 ++ dktX4_quarrels_1
theorem dksX4_quarrels_0 : cX4_quarrels.data.toList.drop 0 = dktX4_quarrels_0 := by decide +kernel
theorem dksX4_quarrels_1 : cX4_quarrels.data.toList.drop 24 = dktX4_quarrels_1 := dk_seg dksX4_quarrels_0 24 rfl rfl
theorem dksX4_quarrels_2 : cX4_quarrels.data.toList.drop 48 = dktX4_quarrels_2 := dk_seg dksX4_quarrels_1 24 rfl rfl
theorem dksX4_quarrels_3 : cX4_quarrels.data.toList.drop 72 = dktX4_quarrels_3 := dk_seg dksX4_quarrels_2 24 rfl rfl
theorem dksX4_quarrels_4 : cX4_quarrels.data.toList.drop 96 = dktX4_quarrels_4 := dk_seg dksX4_quarrels_3 24 rfl rfl
theorem dX4_quarrels_0 : decode cX4_quarrels 0 = .ok (.aload_n 0, 1) := dk_42 (dk_at dksX4_quarrels_0 0 rfl rfl)
theorem dX4_quarrels_1 : decode cX4_quarrels 1 = .ok (.getfield 11, 3) := dk_180 0 11 (dk_at dksX4_quarrels_0 1 rfl rfl)
theorem dX4_quarrels_4 : decode cX4_quarrels 4 = .ok (.iload_n 2, 1) := dk_28 (dk_at dksX4_quarrels_0 4 rfl rfl)
theorem dX4_quarrels_5 : decode cX4_quarrels 5 = .ok (.aaload, 1) := dk_50 (dk_at dksX4_quarrels_0 5 rfl rfl)
theorem dX4_quarrels_6 : decode cX4_quarrels 6 = .ok (.getfield 58, 3) := dk_180 0 58 (dk_at dksX4_quarrels_0 6 rfl rfl)
theorem dX4_quarrels_9 : decode cX4_quarrels 9 = .ok (.iload_n 1, 1) := dk_27 (dk_at dksX4_quarrels_0 9 rfl rfl)
theorem dX4_quarrels_10 : decode cX4_quarrels 10 = .ok (.iand, 1) := dk_126 (dk_at dksX4_quarrels_0 10 rfl rfl)
theorem dX4_quarrels_11 : decode cX4_quarrels 11 = .ok (.istore_n 3, 1) := dk_62 (dk_at dksX4_quarrels_0 11 rfl rfl)
theorem dX4_quarrels_12 : decode cX4_quarrels 12 = .ok (.iconst 0, 1) := dk_3 (dk_at dksX4_quarrels_0 12 rfl rfl)
theorem dX4_quarrels_13 : decode cX4_quarrels 13 = .ok (.istore 4, 2) := dk_54 4 (dk_at dksX4_quarrels_0 13 rfl rfl)
theorem dX4_quarrels_15 : decode cX4_quarrels 15 = .ok (.iload 4, 2) := dk_21 4 (dk_at dksX4_quarrels_0 15 rfl rfl)
theorem dX4_quarrels_17 : decode cX4_quarrels 17 = .ok (.aload_n 0, 1) := dk_42 (dk_at dksX4_quarrels_0 17 rfl rfl)
theorem dX4_quarrels_18 : decode cX4_quarrels 18 = .ok (.getfield 21, 3) := dk_180 0 21 (dk_at dksX4_quarrels_0 18 rfl rfl)
theorem dX4_quarrels_21 : decode cX4_quarrels 21 = .ok (.if_icmp .ge 93, 3) := dk_162 0 93 (dk_at dksX4_quarrels_0 21 rfl rfl)
theorem dX4_quarrels_24 : decode cX4_quarrels 24 = .ok (.iload_n 3, 1) := dk_29 (dk_at dksX4_quarrels_1 0 rfl rfl)
theorem dX4_quarrels_25 : decode cX4_quarrels 25 = .ok (.ifCond .eq 89, 3) := dk_153 0 89 (dk_at dksX4_quarrels_1 1 rfl rfl)
theorem dX4_quarrels_28 : decode cX4_quarrels 28 = .ok (.iload_n 1, 1) := dk_27 (dk_at dksX4_quarrels_1 4 rfl rfl)
theorem dX4_quarrels_29 : decode cX4_quarrels 29 = .ok (.iload 4, 2) := dk_21 4 (dk_at dksX4_quarrels_1 5 rfl rfl)
theorem dX4_quarrels_31 : decode cX4_quarrels 31 = .ok (.ishr, 1) := dk_122 (dk_at dksX4_quarrels_1 7 rfl rfl)
theorem dX4_quarrels_32 : decode cX4_quarrels 32 = .ok (.iconst 1, 1) := dk_4 (dk_at dksX4_quarrels_1 8 rfl rfl)
theorem dX4_quarrels_33 : decode cX4_quarrels 33 = .ok (.iand, 1) := dk_126 (dk_at dksX4_quarrels_1 9 rfl rfl)
theorem dX4_quarrels_34 : decode cX4_quarrels 34 = .ok (.ifCond .eq 74, 3) := dk_153 0 74 (dk_at dksX4_quarrels_1 10 rfl rfl)
theorem dX4_quarrels_37 : decode cX4_quarrels 37 = .ok (.aload_n 0, 1) := dk_42 (dk_at dksX4_quarrels_1 13 rfl rfl)
theorem dX4_quarrels_38 : decode cX4_quarrels 38 = .ok (.getfield 11, 3) := dk_180 0 11 (dk_at dksX4_quarrels_1 14 rfl rfl)
theorem dX4_quarrels_41 : decode cX4_quarrels 41 = .ok (.iload 4, 2) := dk_21 4 (dk_at dksX4_quarrels_1 17 rfl rfl)
theorem dX4_quarrels_43 : decode cX4_quarrels 43 = .ok (.aaload, 1) := dk_50 (dk_at dksX4_quarrels_1 19 rfl rfl)
theorem dX4_quarrels_44 : decode cX4_quarrels 44 = .ok (.invokevirtual 50, 3) := dk_182 0 50 (dk_at dksX4_quarrels_1 20 rfl rfl)
theorem dX4_quarrels_47 : decode cX4_quarrels 47 = .ok (.iconst 4, 1) := dk_7 (dk_at dksX4_quarrels_1 23 rfl rfl)
theorem dX4_quarrels_48 : decode cX4_quarrels 48 = .ok (.if_icmp .eq 6, 3) := dk_159 0 6 (dk_at dksX4_quarrels_2 0 rfl rfl)
theorem dX4_quarrels_51 : decode cX4_quarrels 51 = .ok (.goto 57, 3) := dk_167 0 57 (dk_at dksX4_quarrels_2 3 rfl rfl)
theorem dX4_quarrels_54 : decode cX4_quarrels 54 = .ok (.aload_n 0, 1) := dk_42 (dk_at dksX4_quarrels_2 6 rfl rfl)
theorem dX4_quarrels_55 : decode cX4_quarrels 55 = .ok (.getfield 11, 3) := dk_180 0 11 (dk_at dksX4_quarrels_2 7 rfl rfl)
theorem dX4_quarrels_58 : decode cX4_quarrels 58 = .ok (.iload 4, 2) := dk_21 4 (dk_at dksX4_quarrels_2 10 rfl rfl)
theorem dX4_quarrels_60 : decode cX4_quarrels 60 = .ok (.aaload, 1) := dk_50 (dk_at dksX4_quarrels_2 12 rfl rfl)
theorem dX4_quarrels_61 : decode cX4_quarrels 61 = .ok (.checkcast 61, 3) := dk_192 0 61 (dk_at dksX4_quarrels_2 13 rfl rfl)
theorem dX4_quarrels_64 : decode cX4_quarrels 64 = .ok (.astore 5, 2) := dk_58 5 (dk_at dksX4_quarrels_2 16 rfl rfl)
theorem dX4_quarrels_66 : decode cX4_quarrels 66 = .ok (.aload 5, 2) := dk_25 5 (dk_at dksX4_quarrels_2 18 rfl rfl)
theorem dX4_quarrels_68 : decode cX4_quarrels 68 = .ok (.getfield 63, 3) := dk_180 0 63 (dk_at dksX4_quarrels_2 20 rfl rfl)
theorem dX4_quarrels_71 : decode cX4_quarrels 71 = .ok (.iload_n 2, 1) := dk_28 (dk_at dksX4_quarrels_2 23 rfl rfl)
theorem dX4_quarrels_72 : decode cX4_quarrels 72 = .ok (.if_icmp .ne 15, 3) := dk_160 0 15 (dk_at dksX4_quarrels_3 0 rfl rfl)
theorem dX4_quarrels_75 : decode cX4_quarrels 75 = .ok (.iload_n 3, 1) := dk_29 (dk_at dksX4_quarrels_3 3 rfl rfl)
theorem dX4_quarrels_76 : decode cX4_quarrels 76 = .ok (.iconst 1, 1) := dk_4 (dk_at dksX4_quarrels_3 4 rfl rfl)
theorem dX4_quarrels_77 : decode cX4_quarrels 77 = .ok (.aload 5, 2) := dk_25 5 (dk_at dksX4_quarrels_3 5 rfl rfl)
theorem dX4_quarrels_79 : decode cX4_quarrels 79 = .ok (.getfield 66, 3) := dk_180 0 66 (dk_at dksX4_quarrels_3 7 rfl rfl)
theorem dX4_quarrels_82 : decode cX4_quarrels 82 = .ok (.ishl, 1) := dk_120 (dk_at dksX4_quarrels_3 10 rfl rfl)
theorem dX4_quarrels_83 : decode cX4_quarrels 83 = .ok (.iconst (-1), 1) := dk_2 (dk_at dksX4_quarrels_3 11 rfl rfl)
theorem dX4_quarrels_84 : decode cX4_quarrels 84 = .ok (.ixor, 1) := dk_130 (dk_at dksX4_quarrels_3 12 rfl rfl)
theorem dX4_quarrels_85 : decode cX4_quarrels 85 = .ok (.iand, 1) := dk_126 (dk_at dksX4_quarrels_3 13 rfl rfl)
theorem dX4_quarrels_86 : decode cX4_quarrels 86 = .ok (.istore_n 3, 1) := dk_62 (dk_at dksX4_quarrels_3 14 rfl rfl)
theorem dX4_quarrels_87 : decode cX4_quarrels 87 = .ok (.aload 5, 2) := dk_25 5 (dk_at dksX4_quarrels_3 15 rfl rfl)
theorem dX4_quarrels_89 : decode cX4_quarrels 89 = .ok (.getfield 66, 3) := dk_180 0 66 (dk_at dksX4_quarrels_3 17 rfl rfl)
theorem dX4_quarrels_92 : decode cX4_quarrels 92 = .ok (.iload_n 2, 1) := dk_28 (dk_at dksX4_quarrels_3 20 rfl rfl)
theorem dX4_quarrels_93 : decode cX4_quarrels 93 = .ok (.if_icmp .ne 15, 3) := dk_160 0 15 (dk_at dksX4_quarrels_3 21 rfl rfl)
theorem dX4_quarrels_96 : decode cX4_quarrels 96 = .ok (.iload_n 3, 1) := dk_29 (dk_at dksX4_quarrels_4 0 rfl rfl)
theorem dX4_quarrels_97 : decode cX4_quarrels 97 = .ok (.iconst 1, 1) := dk_4 (dk_at dksX4_quarrels_4 1 rfl rfl)
theorem dX4_quarrels_98 : decode cX4_quarrels 98 = .ok (.aload 5, 2) := dk_25 5 (dk_at dksX4_quarrels_4 2 rfl rfl)
theorem dX4_quarrels_100 : decode cX4_quarrels 100 = .ok (.getfield 63, 3) := dk_180 0 63 (dk_at dksX4_quarrels_4 4 rfl rfl)
theorem dX4_quarrels_103 : decode cX4_quarrels 103 = .ok (.ishl, 1) := dk_120 (dk_at dksX4_quarrels_4 7 rfl rfl)
theorem dX4_quarrels_104 : decode cX4_quarrels 104 = .ok (.iconst (-1), 1) := dk_2 (dk_at dksX4_quarrels_4 8 rfl rfl)
theorem dX4_quarrels_105 : decode cX4_quarrels 105 = .ok (.ixor, 1) := dk_130 (dk_at dksX4_quarrels_4 9 rfl rfl)
theorem dX4_quarrels_106 : decode cX4_quarrels 106 = .ok (.iand, 1) := dk_126 (dk_at dksX4_quarrels_4 10 rfl rfl)
theorem dX4_quarrels_107 : decode cX4_quarrels 107 = .ok (.istore_n 3, 1) := dk_62 (dk_at dksX4_quarrels_4 11 rfl rfl)
theorem dX4_quarrels_108 : decode cX4_quarrels 108 = .ok (.iinc 4 1, 3) := dk_132 4 1 (dk_at dksX4_quarrels_4 12 rfl rfl)
theorem dX4_quarrels_111 : decode cX4_quarrels 111 = .ok (.goto (-96), 3) := dk_167 255 160 (dk_at dksX4_quarrels_4 15 rfl rfl)
theorem dX4_quarrels_114 : decode cX4_quarrels 114 = .ok (.iload_n 3, 1) := dk_29 (dk_at dksX4_quarrels_4 18 rfl rfl)
theorem dX4_quarrels_115 : decode cX4_quarrels 115 = .ok (.ireturn, 1) := dk_172 (dk_at dksX4_quarrels_4 19 rfl rfl)
abbrev cX4_tells : ByteArray := prog_2_method_11_code
def yX4_tells : MethodName := ⟨RX4, "tells", "(III)I"⟩
def dkwX4_tells_11 : List UInt8 := [180, 0, 91, 167, 0, 8, 25, 4, 180, 0, 94, 172]
abbrev dktX4_tells_11 : List UInt8 := dkwX4_tells_11 ++ []
def dkwX4_tells_10 : List UInt8 := [159, 0, 16, 42, 180, 0, 11, 21, 8, 50, 182, 0, 88, 167, 0, 21, 29, 5, 160, 0, 11, 25, 4]
abbrev dktX4_tells_10 : List UInt8 := dkwX4_tells_10 ++ dktX4_tells_11
def dkwX4_tells_9 : List UInt8 := [21, 6, 154, 0, 7, 28, 167, 0, 11, 16, 31, 21, 7, 184, 0, 85, 100, 54, 8, 21, 8, 28]
abbrev dktX4_tells_9 : List UInt8 := dkwX4_tells_9 ++ dktX4_tells_10
def dkwX4_tells_8 : List UInt8 := [132, 8, 1, 167, 255, 218, 21, 6, 184, 0, 77, 4, 160, 0, 11, 21, 6, 184, 0, 82, 167, 0, 20]
abbrev dktX4_tells_8 : List UInt8 := dkwX4_tells_8 ++ dktX4_tells_9
def dkwX4_tells_7 : List UInt8 := [122, 4, 126, 4, 160, 0, 18, 21, 7, 42, 180, 0, 11, 21, 8, 50, 180, 0, 35, 126, 54, 7]
abbrev dktX4_tells_7 : List UInt8 := dkwX4_tells_7 ++ dktX4_tells_8
def dkwX4_tells_6 : List UInt8 := [21, 5, 4, 28, 120, 128, 54, 7, 3, 54, 8, 21, 8, 42, 180, 0, 21, 162, 0, 35, 21, 6, 21, 8]
abbrev dktX4_tells_6 : List UInt8 := dkwX4_tells_6 ++ dktX4_tells_7
def dkwX4_tells_5 : List UInt8 := [21, 6, 42, 180, 0, 11, 21, 7, 50, 180, 0, 35, 2, 130, 126, 54, 6, 132, 7, 1, 167, 255, 216]
abbrev dktX4_tells_5 : List UInt8 := dkwX4_tells_5 ++ dktX4_tells_6
def dkwX4_tells_4 : List UInt8 := [3, 54, 7, 21, 7, 42, 180, 0, 21, 162, 0, 37, 21, 5, 21, 7, 122, 4, 126, 4, 160, 0, 20]
abbrev dktX4_tells_4 : List UInt8 := dkwX4_tells_4 ++ dktX4_tells_5
def dkwX4_tells_3 : List UInt8 := [54, 5, 132, 6, 1, 167, 255, 197, 21, 5, 42, 27, 182, 0, 71, 2, 130, 126, 54, 5, 21, 5, 54, 6]
abbrev dktX4_tells_3 : List UInt8 := dkwX4_tells_3 ++ dktX4_tells_4
def dkwX4_tells_2 : List UInt8 := [160, 0, 26, 42, 180, 0, 11, 21, 6, 50, 180, 0, 47, 28, 160, 0, 12, 21, 5, 4, 21, 6, 120, 128]
abbrev dktX4_tells_2 : List UInt8 := dkwX4_tells_2 ++ dktX4_tells_3
def dkwX4_tells_1 : List UInt8 := [162, 0, 56, 27, 21, 6, 122, 4, 126, 4, 160, 0, 40, 42, 180, 0, 11, 21, 6, 50, 182, 0, 50, 29]
abbrev dktX4_tells_1 : List UInt8 := dkwX4_tells_1 ++ dktX4_tells_2
def dkwX4_tells_0 : List UInt8 := [42, 180, 0, 11, 28, 50, 192, 0, 75, 58, 4, 3, 54, 5, 3, 54, 6, 21, 6, 42, 180, 0, 21]
abbrev dktX4_tells_0 : List UInt8 := dkwX4_tells_0 ++ dktX4_tells_1
theorem dksX4_tells_0 : cX4_tells.data.toList.drop 0 = dktX4_tells_0 := by decide +kernel
theorem dksX4_tells_1 : cX4_tells.data.toList.drop 23 = dktX4_tells_1 := dk_seg dksX4_tells_0 23 rfl rfl
theorem dksX4_tells_2 : cX4_tells.data.toList.drop 47 = dktX4_tells_2 := dk_seg dksX4_tells_1 24 rfl rfl
theorem dksX4_tells_3 : cX4_tells.data.toList.drop 71 = dktX4_tells_3 := dk_seg dksX4_tells_2 24 rfl rfl
theorem dksX4_tells_4 : cX4_tells.data.toList.drop 95 = dktX4_tells_4 := dk_seg dksX4_tells_3 24 rfl rfl
theorem dksX4_tells_5 : cX4_tells.data.toList.drop 118 = dktX4_tells_5 := dk_seg dksX4_tells_4 23 rfl rfl
theorem dksX4_tells_6 : cX4_tells.data.toList.drop 141 = dktX4_tells_6 := dk_seg dksX4_tells_5 23 rfl rfl
theorem dksX4_tells_7 : cX4_tells.data.toList.drop 165 = dktX4_tells_7 := dk_seg dksX4_tells_6 24 rfl rfl
theorem dksX4_tells_8 : cX4_tells.data.toList.drop 187 = dktX4_tells_8 := dk_seg dksX4_tells_7 22 rfl rfl
theorem dksX4_tells_9 : cX4_tells.data.toList.drop 210 = dktX4_tells_9 := dk_seg dksX4_tells_8 23 rfl rfl
theorem dksX4_tells_10 : cX4_tells.data.toList.drop 232 = dktX4_tells_10 := dk_seg dksX4_tells_9 22 rfl rfl
theorem dksX4_tells_11 : cX4_tells.data.toList.drop 255 = dktX4_tells_11 := dk_seg dksX4_tells_10 23 rfl rfl
theorem dX4_tells_0 : decode cX4_tells 0 = .ok (.aload_n 0, 1) := dk_42 (dk_at dksX4_tells_0 0 rfl rfl)
theorem dX4_tells_1 : decode cX4_tells 1 = .ok (.getfield 11, 3) := dk_180 0 11 (dk_at dksX4_tells_0 1 rfl rfl)
theorem dX4_tells_4 : decode cX4_tells 4 = .ok (.iload_n 2, 1) := dk_28 (dk_at dksX4_tells_0 4 rfl rfl)
theorem dX4_tells_5 : decode cX4_tells 5 = .ok (.aaload, 1) := dk_50 (dk_at dksX4_tells_0 5 rfl rfl)
theorem dX4_tells_6 : decode cX4_tells 6 = .ok (.checkcast 75, 3) := dk_192 0 75 (dk_at dksX4_tells_0 6 rfl rfl)
theorem dX4_tells_9 : decode cX4_tells 9 = .ok (.astore 4, 2) := dk_58 4 (dk_at dksX4_tells_0 9 rfl rfl)
theorem dX4_tells_11 : decode cX4_tells 11 = .ok (.iconst 0, 1) := dk_3 (dk_at dksX4_tells_0 11 rfl rfl)
theorem dX4_tells_12 : decode cX4_tells 12 = .ok (.istore 5, 2) := dk_54 5 (dk_at dksX4_tells_0 12 rfl rfl)
theorem dX4_tells_14 : decode cX4_tells 14 = .ok (.iconst 0, 1) := dk_3 (dk_at dksX4_tells_0 14 rfl rfl)
theorem dX4_tells_15 : decode cX4_tells 15 = .ok (.istore 6, 2) := dk_54 6 (dk_at dksX4_tells_0 15 rfl rfl)
theorem dX4_tells_17 : decode cX4_tells 17 = .ok (.iload 6, 2) := dk_21 6 (dk_at dksX4_tells_0 17 rfl rfl)
theorem dX4_tells_19 : decode cX4_tells 19 = .ok (.aload_n 0, 1) := dk_42 (dk_at dksX4_tells_0 19 rfl rfl)
theorem dX4_tells_20 : decode cX4_tells 20 = .ok (.getfield 21, 3) := dk_180 0 21 (dk_at dksX4_tells_0 20 rfl rfl)
theorem dX4_tells_23 : decode cX4_tells 23 = .ok (.if_icmp .ge 56, 3) := dk_162 0 56 (dk_at dksX4_tells_1 0 rfl rfl)
theorem dX4_tells_26 : decode cX4_tells 26 = .ok (.iload_n 1, 1) := dk_27 (dk_at dksX4_tells_1 3 rfl rfl)
theorem dX4_tells_27 : decode cX4_tells 27 = .ok (.iload 6, 2) := dk_21 6 (dk_at dksX4_tells_1 4 rfl rfl)
theorem dX4_tells_29 : decode cX4_tells 29 = .ok (.ishr, 1) := dk_122 (dk_at dksX4_tells_1 6 rfl rfl)
theorem dX4_tells_30 : decode cX4_tells 30 = .ok (.iconst 1, 1) := dk_4 (dk_at dksX4_tells_1 7 rfl rfl)
theorem dX4_tells_31 : decode cX4_tells 31 = .ok (.iand, 1) := dk_126 (dk_at dksX4_tells_1 8 rfl rfl)
theorem dX4_tells_32 : decode cX4_tells 32 = .ok (.iconst 1, 1) := dk_4 (dk_at dksX4_tells_1 9 rfl rfl)
theorem dX4_tells_33 : decode cX4_tells 33 = .ok (.if_icmp .ne 40, 3) := dk_160 0 40 (dk_at dksX4_tells_1 10 rfl rfl)
theorem dX4_tells_36 : decode cX4_tells 36 = .ok (.aload_n 0, 1) := dk_42 (dk_at dksX4_tells_1 13 rfl rfl)
theorem dX4_tells_37 : decode cX4_tells 37 = .ok (.getfield 11, 3) := dk_180 0 11 (dk_at dksX4_tells_1 14 rfl rfl)
theorem dX4_tells_40 : decode cX4_tells 40 = .ok (.iload 6, 2) := dk_21 6 (dk_at dksX4_tells_1 17 rfl rfl)
theorem dX4_tells_42 : decode cX4_tells 42 = .ok (.aaload, 1) := dk_50 (dk_at dksX4_tells_1 19 rfl rfl)
theorem dX4_tells_43 : decode cX4_tells 43 = .ok (.invokevirtual 50, 3) := dk_182 0 50 (dk_at dksX4_tells_1 20 rfl rfl)
theorem dX4_tells_46 : decode cX4_tells 46 = .ok (.iload_n 3, 1) := dk_29 (dk_at dksX4_tells_1 23 rfl rfl)
theorem dX4_tells_47 : decode cX4_tells 47 = .ok (.if_icmp .ne 26, 3) := dk_160 0 26 (dk_at dksX4_tells_2 0 rfl rfl)
theorem dX4_tells_50 : decode cX4_tells 50 = .ok (.aload_n 0, 1) := dk_42 (dk_at dksX4_tells_2 3 rfl rfl)
theorem dX4_tells_51 : decode cX4_tells 51 = .ok (.getfield 11, 3) := dk_180 0 11 (dk_at dksX4_tells_2 4 rfl rfl)
theorem dX4_tells_54 : decode cX4_tells 54 = .ok (.iload 6, 2) := dk_21 6 (dk_at dksX4_tells_2 7 rfl rfl)
theorem dX4_tells_56 : decode cX4_tells 56 = .ok (.aaload, 1) := dk_50 (dk_at dksX4_tells_2 9 rfl rfl)
theorem dX4_tells_57 : decode cX4_tells 57 = .ok (.getfield 47, 3) := dk_180 0 47 (dk_at dksX4_tells_2 10 rfl rfl)
theorem dX4_tells_60 : decode cX4_tells 60 = .ok (.iload_n 2, 1) := dk_28 (dk_at dksX4_tells_2 13 rfl rfl)
theorem dX4_tells_61 : decode cX4_tells 61 = .ok (.if_icmp .ne 12, 3) := dk_160 0 12 (dk_at dksX4_tells_2 14 rfl rfl)
theorem dX4_tells_64 : decode cX4_tells 64 = .ok (.iload 5, 2) := dk_21 5 (dk_at dksX4_tells_2 17 rfl rfl)
theorem dX4_tells_66 : decode cX4_tells 66 = .ok (.iconst 1, 1) := dk_4 (dk_at dksX4_tells_2 19 rfl rfl)
theorem dX4_tells_67 : decode cX4_tells 67 = .ok (.iload 6, 2) := dk_21 6 (dk_at dksX4_tells_2 20 rfl rfl)
theorem dX4_tells_69 : decode cX4_tells 69 = .ok (.ishl, 1) := dk_120 (dk_at dksX4_tells_2 22 rfl rfl)
theorem dX4_tells_70 : decode cX4_tells 70 = .ok (.ior, 1) := dk_128 (dk_at dksX4_tells_2 23 rfl rfl)
theorem dX4_tells_71 : decode cX4_tells 71 = .ok (.istore 5, 2) := dk_54 5 (dk_at dksX4_tells_3 0 rfl rfl)
theorem dX4_tells_73 : decode cX4_tells 73 = .ok (.iinc 6 1, 3) := dk_132 6 1 (dk_at dksX4_tells_3 2 rfl rfl)
theorem dX4_tells_76 : decode cX4_tells 76 = .ok (.goto (-59), 3) := dk_167 255 197 (dk_at dksX4_tells_3 5 rfl rfl)
theorem dX4_tells_79 : decode cX4_tells 79 = .ok (.iload 5, 2) := dk_21 5 (dk_at dksX4_tells_3 8 rfl rfl)
theorem dX4_tells_81 : decode cX4_tells 81 = .ok (.aload_n 0, 1) := dk_42 (dk_at dksX4_tells_3 10 rfl rfl)
theorem dX4_tells_82 : decode cX4_tells 82 = .ok (.iload_n 1, 1) := dk_27 (dk_at dksX4_tells_3 11 rfl rfl)
theorem dX4_tells_83 : decode cX4_tells 83 = .ok (.invokevirtual 71, 3) := dk_182 0 71 (dk_at dksX4_tells_3 12 rfl rfl)
theorem dX4_tells_86 : decode cX4_tells 86 = .ok (.iconst (-1), 1) := dk_2 (dk_at dksX4_tells_3 15 rfl rfl)
theorem dX4_tells_87 : decode cX4_tells 87 = .ok (.ixor, 1) := dk_130 (dk_at dksX4_tells_3 16 rfl rfl)
theorem dX4_tells_88 : decode cX4_tells 88 = .ok (.iand, 1) := dk_126 (dk_at dksX4_tells_3 17 rfl rfl)
theorem dX4_tells_89 : decode cX4_tells 89 = .ok (.istore 5, 2) := dk_54 5 (dk_at dksX4_tells_3 18 rfl rfl)
theorem dX4_tells_91 : decode cX4_tells 91 = .ok (.iload 5, 2) := dk_21 5 (dk_at dksX4_tells_3 20 rfl rfl)
theorem dX4_tells_93 : decode cX4_tells 93 = .ok (.istore 6, 2) := dk_54 6 (dk_at dksX4_tells_3 22 rfl rfl)
theorem dX4_tells_95 : decode cX4_tells 95 = .ok (.iconst 0, 1) := dk_3 (dk_at dksX4_tells_4 0 rfl rfl)
theorem dX4_tells_96 : decode cX4_tells 96 = .ok (.istore 7, 2) := dk_54 7 (dk_at dksX4_tells_4 1 rfl rfl)
theorem dX4_tells_98 : decode cX4_tells 98 = .ok (.iload 7, 2) := dk_21 7 (dk_at dksX4_tells_4 3 rfl rfl)
theorem dX4_tells_100 : decode cX4_tells 100 = .ok (.aload_n 0, 1) := dk_42 (dk_at dksX4_tells_4 5 rfl rfl)
theorem dX4_tells_101 : decode cX4_tells 101 = .ok (.getfield 21, 3) := dk_180 0 21 (dk_at dksX4_tells_4 6 rfl rfl)
theorem dX4_tells_104 : decode cX4_tells 104 = .ok (.if_icmp .ge 37, 3) := dk_162 0 37 (dk_at dksX4_tells_4 9 rfl rfl)
theorem dX4_tells_107 : decode cX4_tells 107 = .ok (.iload 5, 2) := dk_21 5 (dk_at dksX4_tells_4 12 rfl rfl)
theorem dX4_tells_109 : decode cX4_tells 109 = .ok (.iload 7, 2) := dk_21 7 (dk_at dksX4_tells_4 14 rfl rfl)
theorem dX4_tells_111 : decode cX4_tells 111 = .ok (.ishr, 1) := dk_122 (dk_at dksX4_tells_4 16 rfl rfl)
theorem dX4_tells_112 : decode cX4_tells 112 = .ok (.iconst 1, 1) := dk_4 (dk_at dksX4_tells_4 17 rfl rfl)
theorem dX4_tells_113 : decode cX4_tells 113 = .ok (.iand, 1) := dk_126 (dk_at dksX4_tells_4 18 rfl rfl)
theorem dX4_tells_114 : decode cX4_tells 114 = .ok (.iconst 1, 1) := dk_4 (dk_at dksX4_tells_4 19 rfl rfl)
theorem dX4_tells_115 : decode cX4_tells 115 = .ok (.if_icmp .ne 20, 3) := dk_160 0 20 (dk_at dksX4_tells_4 20 rfl rfl)
theorem dX4_tells_118 : decode cX4_tells 118 = .ok (.iload 6, 2) := dk_21 6 (dk_at dksX4_tells_5 0 rfl rfl)
theorem dX4_tells_120 : decode cX4_tells 120 = .ok (.aload_n 0, 1) := dk_42 (dk_at dksX4_tells_5 2 rfl rfl)
theorem dX4_tells_121 : decode cX4_tells 121 = .ok (.getfield 11, 3) := dk_180 0 11 (dk_at dksX4_tells_5 3 rfl rfl)
theorem dX4_tells_124 : decode cX4_tells 124 = .ok (.iload 7, 2) := dk_21 7 (dk_at dksX4_tells_5 6 rfl rfl)
theorem dX4_tells_126 : decode cX4_tells 126 = .ok (.aaload, 1) := dk_50 (dk_at dksX4_tells_5 8 rfl rfl)
theorem dX4_tells_127 : decode cX4_tells 127 = .ok (.getfield 35, 3) := dk_180 0 35 (dk_at dksX4_tells_5 9 rfl rfl)
theorem dX4_tells_130 : decode cX4_tells 130 = .ok (.iconst (-1), 1) := dk_2 (dk_at dksX4_tells_5 12 rfl rfl)
theorem dX4_tells_131 : decode cX4_tells 131 = .ok (.ixor, 1) := dk_130 (dk_at dksX4_tells_5 13 rfl rfl)
theorem dX4_tells_132 : decode cX4_tells 132 = .ok (.iand, 1) := dk_126 (dk_at dksX4_tells_5 14 rfl rfl)
theorem dX4_tells_133 : decode cX4_tells 133 = .ok (.istore 6, 2) := dk_54 6 (dk_at dksX4_tells_5 15 rfl rfl)
theorem dX4_tells_135 : decode cX4_tells 135 = .ok (.iinc 7 1, 3) := dk_132 7 1 (dk_at dksX4_tells_5 17 rfl rfl)
theorem dX4_tells_138 : decode cX4_tells 138 = .ok (.goto (-40), 3) := dk_167 255 216 (dk_at dksX4_tells_5 20 rfl rfl)
theorem dX4_tells_141 : decode cX4_tells 141 = .ok (.iload 5, 2) := dk_21 5 (dk_at dksX4_tells_6 0 rfl rfl)
theorem dX4_tells_143 : decode cX4_tells 143 = .ok (.iconst 1, 1) := dk_4 (dk_at dksX4_tells_6 2 rfl rfl)
theorem dX4_tells_144 : decode cX4_tells 144 = .ok (.iload_n 2, 1) := dk_28 (dk_at dksX4_tells_6 3 rfl rfl)
theorem dX4_tells_145 : decode cX4_tells 145 = .ok (.ishl, 1) := dk_120 (dk_at dksX4_tells_6 4 rfl rfl)
theorem dX4_tells_146 : decode cX4_tells 146 = .ok (.ior, 1) := dk_128 (dk_at dksX4_tells_6 5 rfl rfl)
theorem dX4_tells_147 : decode cX4_tells 147 = .ok (.istore 7, 2) := dk_54 7 (dk_at dksX4_tells_6 6 rfl rfl)
theorem dX4_tells_149 : decode cX4_tells 149 = .ok (.iconst 0, 1) := dk_3 (dk_at dksX4_tells_6 8 rfl rfl)
theorem dX4_tells_150 : decode cX4_tells 150 = .ok (.istore 8, 2) := dk_54 8 (dk_at dksX4_tells_6 9 rfl rfl)
theorem dX4_tells_152 : decode cX4_tells 152 = .ok (.iload 8, 2) := dk_21 8 (dk_at dksX4_tells_6 11 rfl rfl)
theorem dX4_tells_154 : decode cX4_tells 154 = .ok (.aload_n 0, 1) := dk_42 (dk_at dksX4_tells_6 13 rfl rfl)
theorem dX4_tells_155 : decode cX4_tells 155 = .ok (.getfield 21, 3) := dk_180 0 21 (dk_at dksX4_tells_6 14 rfl rfl)
theorem dX4_tells_158 : decode cX4_tells 158 = .ok (.if_icmp .ge 35, 3) := dk_162 0 35 (dk_at dksX4_tells_6 17 rfl rfl)
theorem dX4_tells_161 : decode cX4_tells 161 = .ok (.iload 6, 2) := dk_21 6 (dk_at dksX4_tells_6 20 rfl rfl)
theorem dX4_tells_163 : decode cX4_tells 163 = .ok (.iload 8, 2) := dk_21 8 (dk_at dksX4_tells_6 22 rfl rfl)
theorem dX4_tells_165 : decode cX4_tells 165 = .ok (.ishr, 1) := dk_122 (dk_at dksX4_tells_7 0 rfl rfl)
theorem dX4_tells_166 : decode cX4_tells 166 = .ok (.iconst 1, 1) := dk_4 (dk_at dksX4_tells_7 1 rfl rfl)
theorem dX4_tells_167 : decode cX4_tells 167 = .ok (.iand, 1) := dk_126 (dk_at dksX4_tells_7 2 rfl rfl)
theorem dX4_tells_168 : decode cX4_tells 168 = .ok (.iconst 1, 1) := dk_4 (dk_at dksX4_tells_7 3 rfl rfl)
theorem dX4_tells_169 : decode cX4_tells 169 = .ok (.if_icmp .ne 18, 3) := dk_160 0 18 (dk_at dksX4_tells_7 4 rfl rfl)
theorem dX4_tells_172 : decode cX4_tells 172 = .ok (.iload 7, 2) := dk_21 7 (dk_at dksX4_tells_7 7 rfl rfl)
theorem dX4_tells_174 : decode cX4_tells 174 = .ok (.aload_n 0, 1) := dk_42 (dk_at dksX4_tells_7 9 rfl rfl)
theorem dX4_tells_175 : decode cX4_tells 175 = .ok (.getfield 11, 3) := dk_180 0 11 (dk_at dksX4_tells_7 10 rfl rfl)
theorem dX4_tells_178 : decode cX4_tells 178 = .ok (.iload 8, 2) := dk_21 8 (dk_at dksX4_tells_7 13 rfl rfl)
theorem dX4_tells_180 : decode cX4_tells 180 = .ok (.aaload, 1) := dk_50 (dk_at dksX4_tells_7 15 rfl rfl)
theorem dX4_tells_181 : decode cX4_tells 181 = .ok (.getfield 35, 3) := dk_180 0 35 (dk_at dksX4_tells_7 16 rfl rfl)
theorem dX4_tells_184 : decode cX4_tells 184 = .ok (.iand, 1) := dk_126 (dk_at dksX4_tells_7 19 rfl rfl)
theorem dX4_tells_185 : decode cX4_tells 185 = .ok (.istore 7, 2) := dk_54 7 (dk_at dksX4_tells_7 20 rfl rfl)
theorem dX4_tells_187 : decode cX4_tells 187 = .ok (.iinc 8 1, 3) := dk_132 8 1 (dk_at dksX4_tells_8 0 rfl rfl)
theorem dX4_tells_190 : decode cX4_tells 190 = .ok (.goto (-38), 3) := dk_167 255 218 (dk_at dksX4_tells_8 3 rfl rfl)
theorem dX4_tells_193 : decode cX4_tells 193 = .ok (.iload 6, 2) := dk_21 6 (dk_at dksX4_tells_8 6 rfl rfl)
theorem dX4_tells_195 : decode cX4_tells 195 = .ok (.invokestatic 77, 3) := dk_184 0 77 (dk_at dksX4_tells_8 8 rfl rfl)
theorem dX4_tells_198 : decode cX4_tells 198 = .ok (.iconst 1, 1) := dk_4 (dk_at dksX4_tells_8 11 rfl rfl)
theorem dX4_tells_199 : decode cX4_tells 199 = .ok (.if_icmp .ne 11, 3) := dk_160 0 11 (dk_at dksX4_tells_8 12 rfl rfl)
theorem dX4_tells_202 : decode cX4_tells 202 = .ok (.iload 6, 2) := dk_21 6 (dk_at dksX4_tells_8 15 rfl rfl)
theorem dX4_tells_204 : decode cX4_tells 204 = .ok (.invokestatic 82, 3) := dk_184 0 82 (dk_at dksX4_tells_8 17 rfl rfl)
theorem dX4_tells_207 : decode cX4_tells 207 = .ok (.goto 20, 3) := dk_167 0 20 (dk_at dksX4_tells_8 20 rfl rfl)
theorem dX4_tells_210 : decode cX4_tells 210 = .ok (.iload 6, 2) := dk_21 6 (dk_at dksX4_tells_9 0 rfl rfl)
theorem dX4_tells_212 : decode cX4_tells 212 = .ok (.ifCond .ne 7, 3) := dk_154 0 7 (dk_at dksX4_tells_9 2 rfl rfl)
theorem dX4_tells_215 : decode cX4_tells 215 = .ok (.iload_n 2, 1) := dk_28 (dk_at dksX4_tells_9 5 rfl rfl)
theorem dX4_tells_216 : decode cX4_tells 216 = .ok (.goto 11, 3) := dk_167 0 11 (dk_at dksX4_tells_9 6 rfl rfl)
theorem dX4_tells_219 : decode cX4_tells 219 = .ok (.bipush 31, 2) := dk_16 31 (dk_at dksX4_tells_9 9 rfl rfl)
theorem dX4_tells_221 : decode cX4_tells 221 = .ok (.iload 7, 2) := dk_21 7 (dk_at dksX4_tells_9 11 rfl rfl)
theorem dX4_tells_223 : decode cX4_tells 223 = .ok (.invokestatic 85, 3) := dk_184 0 85 (dk_at dksX4_tells_9 13 rfl rfl)
theorem dX4_tells_226 : decode cX4_tells 226 = .ok (.isub, 1) := dk_100 (dk_at dksX4_tells_9 16 rfl rfl)
theorem dX4_tells_227 : decode cX4_tells 227 = .ok (.istore 8, 2) := dk_54 8 (dk_at dksX4_tells_9 17 rfl rfl)
theorem dX4_tells_229 : decode cX4_tells 229 = .ok (.iload 8, 2) := dk_21 8 (dk_at dksX4_tells_9 19 rfl rfl)
theorem dX4_tells_231 : decode cX4_tells 231 = .ok (.iload_n 2, 1) := dk_28 (dk_at dksX4_tells_9 21 rfl rfl)
theorem dX4_tells_232 : decode cX4_tells 232 = .ok (.if_icmp .eq 16, 3) := dk_159 0 16 (dk_at dksX4_tells_10 0 rfl rfl)
theorem dX4_tells_235 : decode cX4_tells 235 = .ok (.aload_n 0, 1) := dk_42 (dk_at dksX4_tells_10 3 rfl rfl)
theorem dX4_tells_236 : decode cX4_tells 236 = .ok (.getfield 11, 3) := dk_180 0 11 (dk_at dksX4_tells_10 4 rfl rfl)
theorem dX4_tells_239 : decode cX4_tells 239 = .ok (.iload 8, 2) := dk_21 8 (dk_at dksX4_tells_10 7 rfl rfl)
theorem dX4_tells_241 : decode cX4_tells 241 = .ok (.aaload, 1) := dk_50 (dk_at dksX4_tells_10 9 rfl rfl)
theorem dX4_tells_242 : decode cX4_tells 242 = .ok (.invokevirtual 88, 3) := dk_182 0 88 (dk_at dksX4_tells_10 10 rfl rfl)
theorem dX4_tells_245 : decode cX4_tells 245 = .ok (.goto 21, 3) := dk_167 0 21 (dk_at dksX4_tells_10 13 rfl rfl)
theorem dX4_tells_248 : decode cX4_tells 248 = .ok (.iload_n 3, 1) := dk_29 (dk_at dksX4_tells_10 16 rfl rfl)
theorem dX4_tells_249 : decode cX4_tells 249 = .ok (.iconst 2, 1) := dk_5 (dk_at dksX4_tells_10 17 rfl rfl)
theorem dX4_tells_250 : decode cX4_tells 250 = .ok (.if_icmp .ne 11, 3) := dk_160 0 11 (dk_at dksX4_tells_10 18 rfl rfl)
theorem dX4_tells_253 : decode cX4_tells 253 = .ok (.aload 4, 2) := dk_25 4 (dk_at dksX4_tells_10 21 rfl rfl)
theorem dX4_tells_255 : decode cX4_tells 255 = .ok (.getfield 91, 3) := dk_180 0 91 (dk_at dksX4_tells_11 0 rfl rfl)
theorem dX4_tells_258 : decode cX4_tells 258 = .ok (.goto 8, 3) := dk_167 0 8 (dk_at dksX4_tells_11 3 rfl rfl)
theorem dX4_tells_261 : decode cX4_tells 261 = .ok (.aload 4, 2) := dk_25 4 (dk_at dksX4_tells_11 6 rfl rfl)
theorem dX4_tells_263 : decode cX4_tells 263 = .ok (.getfield 94, 3) := dk_180 0 94 (dk_at dksX4_tells_11 8 rfl rfl)
theorem dX4_tells_266 : decode cX4_tells 266 = .ok (.ireturn, 1) := dk_172 (dk_at dksX4_tells_11 11 rfl rfl)
abbrev cX4_isQuiet : ByteArray := prog_2_method_8_code
def yX4_isQuiet : MethodName := ⟨RX4, "isQuiet", "(I)Z"⟩
def dkwX4_isQuiet_1 : List UInt8 := [182, 0, 69, 153, 0, 5, 3, 172, 132, 2, 1, 167, 255, 225, 4, 172]
abbrev dktX4_isQuiet_1 : List UInt8 := dkwX4_isQuiet_1 ++ []
def dkwX4_isQuiet_0 : List UInt8 := [3, 61, 28, 42, 180, 0, 21, 162, 0, 29, 27, 28, 122, 4, 126, 4, 160, 0, 14, 42, 27, 28]
abbrev dktX4_isQuiet_0 : List UInt8 := dkwX4_isQuiet_0 ++ dktX4_isQuiet_1
theorem dksX4_isQuiet_0 : cX4_isQuiet.data.toList.drop 0 = dktX4_isQuiet_0 := by decide +kernel
theorem dksX4_isQuiet_1 : cX4_isQuiet.data.toList.drop 22 = dktX4_isQuiet_1 := dk_seg dksX4_isQuiet_0 22 rfl rfl
theorem dX4_isQuiet_0 : decode cX4_isQuiet 0 = .ok (.iconst 0, 1) := dk_3 (dk_at dksX4_isQuiet_0 0 rfl rfl)
theorem dX4_isQuiet_1 : decode cX4_isQuiet 1 = .ok (.istore_n 2, 1) := dk_61 (dk_at dksX4_isQuiet_0 1 rfl rfl)
theorem dX4_isQuiet_2 : decode cX4_isQuiet 2 = .ok (.iload_n 2, 1) := dk_28 (dk_at dksX4_isQuiet_0 2 rfl rfl)
theorem dX4_isQuiet_3 : decode cX4_isQuiet 3 = .ok (.aload_n 0, 1) := dk_42 (dk_at dksX4_isQuiet_0 3 rfl rfl)
theorem dX4_isQuiet_4 : decode cX4_isQuiet 4 = .ok (.getfield 21, 3) := dk_180 0 21 (dk_at dksX4_isQuiet_0 4 rfl rfl)
theorem dX4_isQuiet_7 : decode cX4_isQuiet 7 = .ok (.if_icmp .ge 29, 3) := dk_162 0 29 (dk_at dksX4_isQuiet_0 7 rfl rfl)
theorem dX4_isQuiet_10 : decode cX4_isQuiet 10 = .ok (.iload_n 1, 1) := dk_27 (dk_at dksX4_isQuiet_0 10 rfl rfl)
theorem dX4_isQuiet_11 : decode cX4_isQuiet 11 = .ok (.iload_n 2, 1) := dk_28 (dk_at dksX4_isQuiet_0 11 rfl rfl)
theorem dX4_isQuiet_12 : decode cX4_isQuiet 12 = .ok (.ishr, 1) := dk_122 (dk_at dksX4_isQuiet_0 12 rfl rfl)
theorem dX4_isQuiet_13 : decode cX4_isQuiet 13 = .ok (.iconst 1, 1) := dk_4 (dk_at dksX4_isQuiet_0 13 rfl rfl)
theorem dX4_isQuiet_14 : decode cX4_isQuiet 14 = .ok (.iand, 1) := dk_126 (dk_at dksX4_isQuiet_0 14 rfl rfl)
theorem dX4_isQuiet_15 : decode cX4_isQuiet 15 = .ok (.iconst 1, 1) := dk_4 (dk_at dksX4_isQuiet_0 15 rfl rfl)
theorem dX4_isQuiet_16 : decode cX4_isQuiet 16 = .ok (.if_icmp .ne 14, 3) := dk_160 0 14 (dk_at dksX4_isQuiet_0 16 rfl rfl)
theorem dX4_isQuiet_19 : decode cX4_isQuiet 19 = .ok (.aload_n 0, 1) := dk_42 (dk_at dksX4_isQuiet_0 19 rfl rfl)
theorem dX4_isQuiet_20 : decode cX4_isQuiet 20 = .ok (.iload_n 1, 1) := dk_27 (dk_at dksX4_isQuiet_0 20 rfl rfl)
theorem dX4_isQuiet_21 : decode cX4_isQuiet 21 = .ok (.iload_n 2, 1) := dk_28 (dk_at dksX4_isQuiet_0 21 rfl rfl)
theorem dX4_isQuiet_22 : decode cX4_isQuiet 22 = .ok (.invokevirtual 69, 3) := dk_182 0 69 (dk_at dksX4_isQuiet_1 0 rfl rfl)
theorem dX4_isQuiet_25 : decode cX4_isQuiet 25 = .ok (.ifCond .eq 5, 3) := dk_153 0 5 (dk_at dksX4_isQuiet_1 3 rfl rfl)
theorem dX4_isQuiet_28 : decode cX4_isQuiet 28 = .ok (.iconst 0, 1) := dk_3 (dk_at dksX4_isQuiet_1 6 rfl rfl)
theorem dX4_isQuiet_29 : decode cX4_isQuiet 29 = .ok (.ireturn, 1) := dk_172 (dk_at dksX4_isQuiet_1 7 rfl rfl)
theorem dX4_isQuiet_30 : decode cX4_isQuiet 30 = .ok (.iinc 2 1, 3) := dk_132 2 1 (dk_at dksX4_isQuiet_1 8 rfl rfl)
theorem dX4_isQuiet_33 : decode cX4_isQuiet 33 = .ok (.goto (-31), 3) := dk_167 255 225 (dk_at dksX4_isQuiet_1 11 rfl rfl)
theorem dX4_isQuiet_36 : decode cX4_isQuiet 36 = .ok (.iconst 1, 1) := dk_4 (dk_at dksX4_isQuiet_1 14 rfl rfl)
theorem dX4_isQuiet_37 : decode cX4_isQuiet 37 = .ok (.ireturn, 1) := dk_172 (dk_at dksX4_isQuiet_1 15 rfl rfl)
theorem q152 : (Jvm.Cond.initialized "SwapBook$Book") ∈ lw_all := lw_g (lw_at lw_m1 8 rfl) rfl
theorem q340 : (Jvm.Cond.instantiable "SwapBook$Book" (4 : Nat)) ∈ lw_all := lw_g (lw_at lw_m1 196 rfl) rfl
theorem q342 : (Jvm.Cond.instanceMethod ({ cls := "SwapBook$Book", name := "<init>", desc := "()V" } : Jvm.MethodName)) ∈ lw_all := lw_g (lw_at lw_m1 198 rfl) rfl
theorem q343 : (Jvm.Cond.code ({ cls := "SwapBook$Book", name := "<init>", desc := "()V" } : Jvm.MethodName) prog_2_method_1_code (1 : Nat) (Option.none : Option Jvm.ClassFile.FieldType)) ∈ lw_all := lw_g (lw_at lw_m1 199 rfl) rfl
theorem q344 : (Jvm.Cond.methodLink "SwapBook$Book" (3 : Nat) ({ cls := "java/lang/Object", name := "<init>", desc := "()V" } : Jvm.MethodName)) ∈ lw_all := lw_g (lw_at lw_m1 200 rfl) rfl
theorem q345 : (Jvm.Cond.classLink "SwapBook$Book" (9 : Nat) "SwapBook$Change") ∈ lw_all := lw_g (lw_at lw_m1 201 rfl) rfl
theorem q347 : (Jvm.Cond.fieldLink "SwapBook$Book" (11 : Nat) "SwapBook$Book" "changes" "[LSwapBook$Change;") ∈ lw_all := lw_g (lw_at lw_m1 203 rfl) rfl
theorem q350 : (Jvm.Cond.fieldLink "SwapBook$Book" (17 : Nat) "SwapBook$Book" "islands" "[J") ∈ lw_all := lw_g (lw_at lw_m1 206 rfl) rfl
theorem q352 : (Jvm.Cond.fieldLink "SwapBook$Book" (21 : Nat) "SwapBook$Book" "many" "I") ∈ lw_all := lw_g (lw_at lw_m1 208 rfl) rfl
theorem q355 : (Jvm.Cond.fieldLink "SwapBook$Book" (29 : Nat) "SwapBook$Book" "islandMany" "I") ∈ lw_all := lw_g (lw_at lw_m1 211 rfl) rfl
theorem q358 : (Jvm.Cond.laysFinal "SwapBook$Book" "SwapBook$Book" "changes" "[LSwapBook$Change;") ∈ lw_all := lw_g (lw_at lw_m1 214 rfl) rfl
theorem q359 : (Jvm.Cond.soleField "SwapBook$Book" "changes") ∈ lw_all := lw_g (lw_at lw_m1 215 rfl) rfl
theorem q360 : (Jvm.Cond.laysFinal "SwapBook$Book" "SwapBook$Book" "islands" "[J") ∈ lw_all := lw_g (lw_at lw_m1 216 rfl) rfl
theorem q361 : (Jvm.Cond.soleField "SwapBook$Book" "islands") ∈ lw_all := lw_g (lw_at lw_m1 217 rfl) rfl
theorem q362 : (Jvm.Cond.lays "SwapBook$Book" "SwapBook$Book" "many" "I") ∈ lw_all := lw_g (lw_at lw_m1 218 rfl) rfl
theorem q363 : (Jvm.Cond.soleField "SwapBook$Book" "many") ∈ lw_all := lw_g (lw_at lw_m1 219 rfl) rfl
theorem q364 : (Jvm.Cond.lays "SwapBook$Book" "SwapBook$Book" "islandMany" "I") ∈ lw_all := lw_g (lw_at lw_m1 220 rfl) rfl
theorem q365 : (Jvm.Cond.soleField "SwapBook$Book" "islandMany") ∈ lw_all := lw_g (lw_at lw_m1 221 rfl) rfl
theorem q366 : (Jvm.Cond.superclass "SwapBook$Book" "java/lang/Object") ∈ lw_all := lw_g (lw_at lw_m1 222 rfl) rfl
theorem q783 : (Jvm.Cond.instanceMethod ({ cls := "SwapBook$Book", name := "change", desc := "(J)I" } : Jvm.MethodName)) ∈ lw_all := lw_g (lw_at lw_m3 159 rfl) rfl
theorem q784 : (Jvm.Cond.selects "SwapBook$Book" ({ cls := "SwapBook$Book", name := "change", desc := "(J)I" } : Jvm.MethodName) ({ cls := "SwapBook$Book", name := "change", desc := "(J)I" } : Jvm.MethodName)) ∈ lw_all := lw_g (lw_at lw_m3 160 rfl) rfl
theorem q785 : (Jvm.Cond.code ({ cls := "SwapBook$Book", name := "change", desc := "(J)I" } : Jvm.MethodName) prog_2_method_2_code (4 : Nat) (Option.some Jvm.ClassFile.FieldType.int)) ∈ lw_all := lw_g (lw_at lw_m3 161 rfl) rfl
theorem q787 : (Jvm.Cond.instanceMethod ({ cls := "SwapBook$Book", name := "island", desc := "(J)I" } : Jvm.MethodName)) ∈ lw_all := lw_g (lw_at lw_m3 163 rfl) rfl
theorem q788 : (Jvm.Cond.selects "SwapBook$Book" ({ cls := "SwapBook$Book", name := "island", desc := "(J)I" } : Jvm.MethodName) ({ cls := "SwapBook$Book", name := "island", desc := "(J)I" } : Jvm.MethodName)) ∈ lw_all := lw_g (lw_at lw_m3 164 rfl) rfl
theorem q789 : (Jvm.Cond.code ({ cls := "SwapBook$Book", name := "island", desc := "(J)I" } : Jvm.MethodName) prog_2_method_3_code (4 : Nat) (Option.some Jvm.ClassFile.FieldType.int)) ∈ lw_all := lw_g (lw_at lw_m3 165 rfl) rfl
theorem q805 : (Jvm.Cond.fieldLinkNest "SwapBook$Book" (94 : Nat) "SwapBook$Put" "key" "I" "SwapBook") ∈ lw_tbl := lw_at lw_m3 181 rfl
theorem q807 : (Jvm.Cond.fieldLinkNest "SwapBook$Book" (91 : Nat) "SwapBook$Put" "says" "I" "SwapBook") ∈ lw_tbl := lw_at lw_m3 183 rfl
theorem q810 : (Jvm.Cond.fieldLink "SwapBook$Book" (25 : Nat) "SwapBook$Change" "name" "J") ∈ lw_all := lw_g (lw_at lw_m3 186 rfl) rfl
theorem q813 : (Jvm.Cond.fieldLink "SwapBook$Book" (47 : Nat) "SwapBook$Change" "thing" "I") ∈ lw_all := lw_g (lw_at lw_m3 189 rfl) rfl
theorem q819 : (Jvm.Cond.fieldLink "SwapBook$Book" (63 : Nat) "SwapBook$Settle" "of" "I") ∈ lw_all := lw_g (lw_at lw_m3 195 rfl) rfl
theorem q823 : (Jvm.Cond.fieldLink "SwapBook$Book" (32 : Nat) "SwapBook$Change" "needs" "I") ∈ lw_all := lw_g (lw_at lw_m3 199 rfl) rfl
theorem q828 : (Jvm.Cond.fieldLink "SwapBook$Book" (35 : Nat) "SwapBook$Change" "hangs" "I") ∈ lw_all := lw_g (lw_at lw_m3 204 rfl) rfl
theorem q830 : (Jvm.Cond.fieldLink "SwapBook$Book" (38 : Nat) "SwapBook$Change" "level" "I") ∈ lw_all := lw_g (lw_at lw_m3 206 rfl) rfl
theorem q832 : (Jvm.Cond.fieldLink "SwapBook$Book" (58 : Nat) "SwapBook$Change" "quarrels" "I") ∈ lw_all := lw_g (lw_at lw_m3 208 rfl) rfl
theorem q885 : (Jvm.Cond.fieldLinkNest "SwapBook$Book" (66 : Nat) "SwapBook$Settle" "not" "I" "SwapBook") ∈ lw_tbl := lw_at lw_m4 21 rfl
theorem q971 : (Jvm.Cond.instanceMethod ({ cls := "SwapBook$Book", name := "add", desc := "(LSwapBook$Change;)V" } : Jvm.MethodName)) ∈ lw_all := lw_g (lw_at lw_m4 107 rfl) rfl
theorem q972 : (Jvm.Cond.selects "SwapBook$Book" ({ cls := "SwapBook$Book", name := "add", desc := "(LSwapBook$Change;)V" } : Jvm.MethodName) ({ cls := "SwapBook$Book", name := "add", desc := "(LSwapBook$Change;)V" } : Jvm.MethodName)) ∈ lw_all := lw_g (lw_at lw_m4 108 rfl) rfl
theorem q973 : (Jvm.Cond.code ({ cls := "SwapBook$Book", name := "add", desc := "(LSwapBook$Change;)V" } : Jvm.MethodName) prog_2_method_5_code (3 : Nat) (Option.none : Option Jvm.ClassFile.FieldType)) ∈ lw_all := lw_g (lw_at lw_m4 109 rfl) rfl
theorem q974 : (Jvm.Cond.methodLink "SwapBook$Book" (41 : Nat) ({ cls := "java/lang/Math", name := "max", desc := "(II)I" } : Jvm.MethodName)) ∈ lw_all := lw_g (lw_at lw_m4 110 rfl) rfl
theorem q977 : (Jvm.Cond.methodLink "SwapBook$Book" (50 : Nat) ({ cls := "SwapBook$Change", name := "kind", desc := "()I" } : Jvm.MethodName)) ∈ lw_all := lw_g (lw_at lw_m4 113 rfl) rfl
theorem q978 : (Jvm.Cond.methodLink "SwapBook$Book" (54 : Nat) ({ cls := "SwapBook$Change", name := "minds", desc := "(I)Z" } : Jvm.MethodName)) ∈ lw_all := lw_g (lw_at lw_m4 114 rfl) rfl
theorem q1133 : (Jvm.Cond.instanceMethod ({ cls := "SwapBook$Book", name := "all", desc := "()I" } : Jvm.MethodName)) ∈ lw_all := lw_g (lw_at lw_m5 29 rfl) rfl
theorem q1134 : (Jvm.Cond.selects "SwapBook$Book" ({ cls := "SwapBook$Book", name := "all", desc := "()I" } : Jvm.MethodName) ({ cls := "SwapBook$Book", name := "all", desc := "()I" } : Jvm.MethodName)) ∈ lw_all := lw_g (lw_at lw_m5 30 rfl) rfl
theorem q1135 : (Jvm.Cond.code ({ cls := "SwapBook$Book", name := "all", desc := "()I" } : Jvm.MethodName) prog_2_method_4_code (1 : Nat) (Option.some Jvm.ClassFile.FieldType.int)) ∈ lw_all := lw_g (lw_at lw_m5 31 rfl) rfl
theorem q1137 : (Jvm.Cond.instanceMethod ({ cls := "SwapBook$Book", name := "holds", desc := "(I)Z" } : Jvm.MethodName)) ∈ lw_all := lw_g (lw_at lw_m5 33 rfl) rfl
theorem q1138 : (Jvm.Cond.selects "SwapBook$Book" ({ cls := "SwapBook$Book", name := "holds", desc := "(I)Z" } : Jvm.MethodName) ({ cls := "SwapBook$Book", name := "holds", desc := "(I)Z" } : Jvm.MethodName)) ∈ lw_all := lw_g (lw_at lw_m5 34 rfl) rfl
theorem q1139 : (Jvm.Cond.code ({ cls := "SwapBook$Book", name := "holds", desc := "(I)Z" } : Jvm.MethodName) prog_2_method_6_code (3 : Nat) (Option.some Jvm.ClassFile.FieldType.boolean)) ∈ lw_all := lw_g (lw_at lw_m5 35 rfl) rfl
theorem q1177 : (Jvm.Cond.instanceMethod ({ cls := "SwapBook$Book", name := "isGone", desc := "(II)Z" } : Jvm.MethodName)) ∈ lw_all := lw_g (lw_at lw_m5 73 rfl) rfl
theorem q1178 : (Jvm.Cond.selects "SwapBook$Book" ({ cls := "SwapBook$Book", name := "isGone", desc := "(II)Z" } : Jvm.MethodName) ({ cls := "SwapBook$Book", name := "isGone", desc := "(II)Z" } : Jvm.MethodName)) ∈ lw_all := lw_g (lw_at lw_m5 74 rfl) rfl
theorem q1179 : (Jvm.Cond.code ({ cls := "SwapBook$Book", name := "isGone", desc := "(II)Z" } : Jvm.MethodName) prog_2_method_10_code (5 : Nat) (Option.some Jvm.ClassFile.FieldType.boolean)) ∈ lw_all := lw_g (lw_at lw_m5 75 rfl) rfl
theorem q1180 : (Jvm.Cond.methodLink "SwapBook$Book" (71 : Nat) ({ cls := "SwapBook$Book", name := "leftOut", desc := "(I)I" } : Jvm.MethodName)) ∈ lw_all := lw_g (lw_at lw_m5 76 rfl) rfl
theorem q1181 : (Jvm.Cond.instanceMethod ({ cls := "SwapBook$Book", name := "leftOut", desc := "(I)I" } : Jvm.MethodName)) ∈ lw_all := lw_g (lw_at lw_m5 77 rfl) rfl
theorem q1182 : (Jvm.Cond.selects "SwapBook$Book" ({ cls := "SwapBook$Book", name := "leftOut", desc := "(I)I" } : Jvm.MethodName) ({ cls := "SwapBook$Book", name := "leftOut", desc := "(I)I" } : Jvm.MethodName)) ∈ lw_all := lw_g (lw_at lw_m5 78 rfl) rfl
theorem q1183 : (Jvm.Cond.code ({ cls := "SwapBook$Book", name := "leftOut", desc := "(I)I" } : Jvm.MethodName) prog_2_method_9_code (4 : Nat) (Option.some Jvm.ClassFile.FieldType.int)) ∈ lw_all := lw_g (lw_at lw_m5 79 rfl) rfl
theorem q1184 : (Jvm.Cond.classLink "SwapBook$Book" (61 : Nat) "SwapBook$Settle") ∈ lw_all := lw_g (lw_at lw_m5 80 rfl) rfl
theorem q1185 : (Jvm.Cond.methodLink "SwapBook$Book" (69 : Nat) ({ cls := "SwapBook$Book", name := "quarrels", desc := "(II)I" } : Jvm.MethodName)) ∈ lw_all := lw_g (lw_at lw_m5 81 rfl) rfl
theorem q1186 : (Jvm.Cond.instanceMethod ({ cls := "SwapBook$Book", name := "quarrels", desc := "(II)I" } : Jvm.MethodName)) ∈ lw_all := lw_g (lw_at lw_m5 82 rfl) rfl
theorem q1187 : (Jvm.Cond.selects "SwapBook$Book" ({ cls := "SwapBook$Book", name := "quarrels", desc := "(II)I" } : Jvm.MethodName) ({ cls := "SwapBook$Book", name := "quarrels", desc := "(II)I" } : Jvm.MethodName)) ∈ lw_all := lw_g (lw_at lw_m5 83 rfl) rfl
theorem q1188 : (Jvm.Cond.code ({ cls := "SwapBook$Book", name := "quarrels", desc := "(II)I" } : Jvm.MethodName) prog_2_method_7_code (6 : Nat) (Option.some Jvm.ClassFile.FieldType.int)) ∈ lw_all := lw_g (lw_at lw_m5 84 rfl) rfl
theorem q1190 : (Jvm.Cond.instanceMethod ({ cls := "SwapBook$Book", name := "tells", desc := "(III)I" } : Jvm.MethodName)) ∈ lw_all := lw_g (lw_at lw_m5 86 rfl) rfl
theorem q1191 : (Jvm.Cond.selects "SwapBook$Book" ({ cls := "SwapBook$Book", name := "tells", desc := "(III)I" } : Jvm.MethodName) ({ cls := "SwapBook$Book", name := "tells", desc := "(III)I" } : Jvm.MethodName)) ∈ lw_all := lw_g (lw_at lw_m5 87 rfl) rfl
theorem q1192 : (Jvm.Cond.code ({ cls := "SwapBook$Book", name := "tells", desc := "(III)I" } : Jvm.MethodName) prog_2_method_11_code (9 : Nat) (Option.some Jvm.ClassFile.FieldType.int)) ∈ lw_all := lw_g (lw_at lw_m5 88 rfl) rfl
theorem q1193 : (Jvm.Cond.classLink "SwapBook$Book" (75 : Nat) "SwapBook$Put") ∈ lw_all := lw_g (lw_at lw_m5 89 rfl) rfl
theorem q1194 : (Jvm.Cond.methodLink "SwapBook$Book" (77 : Nat) ({ cls := "java/lang/Integer", name := "bitCount", desc := "(I)I" } : Jvm.MethodName)) ∈ lw_all := lw_g (lw_at lw_m5 90 rfl) rfl
theorem q1195 : (Jvm.Cond.methodLink "SwapBook$Book" (82 : Nat) ({ cls := "java/lang/Integer", name := "numberOfTrailingZeros", desc := "(I)I" } : Jvm.MethodName)) ∈ lw_all := lw_g (lw_at lw_m5 91 rfl) rfl
theorem q1199 : (Jvm.Cond.methodLink "SwapBook$Book" (85 : Nat) ({ cls := "java/lang/Integer", name := "numberOfLeadingZeros", desc := "(I)I" } : Jvm.MethodName)) ∈ lw_all := lw_g (lw_at lw_m5 95 rfl) rfl
theorem q1202 : (Jvm.Cond.methodLink "SwapBook$Book" (88 : Nat) ({ cls := "SwapBook$Change", name := "tells", desc := "()I" } : Jvm.MethodName)) ∈ lw_all := lw_g (lw_at lw_m5 98 rfl) rfl
theorem q1266 : (Jvm.Cond.instanceMethod ({ cls := "SwapBook$Book", name := "isQuiet", desc := "(I)Z" } : Jvm.MethodName)) ∈ lw_all := lw_g (lw_at lw_m5 162 rfl) rfl
theorem q1267 : (Jvm.Cond.selects "SwapBook$Book" ({ cls := "SwapBook$Book", name := "isQuiet", desc := "(I)Z" } : Jvm.MethodName) ({ cls := "SwapBook$Book", name := "isQuiet", desc := "(I)Z" } : Jvm.MethodName)) ∈ lw_all := lw_g (lw_at lw_m5 163 rfl) rfl
theorem q1268 : (Jvm.Cond.code ({ cls := "SwapBook$Book", name := "isQuiet", desc := "(I)Z" } : Jvm.MethodName) prog_2_method_8_code (3 : Nat) (Option.some Jvm.ClassFile.FieldType.boolean)) ∈ lw_all := lw_g (lw_at lw_m5 164 rfl) rfl
theorem in_X4 : ∀ w ∈ wsX40, w ∈ lw_all := lw_in wsX40 [358, 360, 362, 364] (by decide +kernel) (by decide +kernel)

/-! SwapBook$Tray -/
set_option maxRecDepth 100000
def RX5 : String := "SwapBook$Tray"
def TX5 : u_T := fun k => match k with
  | 0 => ("SwapBook$Tray", "row", "Ljava/lang/Object;", false)
  | _ => ("SwapBook$Tray", "sort", "I", false)
def tyX5 : Nat → FieldType := fun k => match k with
  | 0 => .object "java/lang/Object"
  | _ => .int
abbrev wsX50 : List Cond := u_ws RX5 TX5 2
theorem nmX5 : ∀ a, a < 2 → ∀ b, b < 2 → a ≠ b → (TX5 a).2.1 ≠ (TX5 b).2.1 := by decide +kernel
theorem tyX5_ok : ∀ k, k < 2 → parseFieldDescriptor (TX5 k).2.2.1 = some (tyX5 k) := by decide +kernel
abbrev cX5_init : ByteArray := prog_12_method_1_code
def yX5_init : MethodName := ⟨RX5, "<init>", "()V"⟩
theorem dX5_init_0 : decode cX5_init 0 = .ok (.aload_n 0, 1) := by decide +kernel
theorem dX5_init_1 : decode cX5_init 1 = .ok (.invokespecial 1, 3) := by decide +kernel
theorem dX5_init_4 : decode cX5_init 4 = .ok (.return_, 1) := by decide +kernel
abbrev cX5_make : ByteArray := prog_12_method_2_code
def yX5_make : MethodName := ⟨RX5, "make", "(II)V"⟩
def dkwX5_make_1 : List UInt8 := [160, 0, 9, 28, 188, 10, 167, 0, 6, 28, 188, 11, 78, 42, 45, 181, 0, 7, 42, 27, 181, 0, 13, 177]
abbrev dktX5_make_1 : List UInt8 := dkwX5_make_1 ++ []
def dkwX5_make_0 : List UInt8 := [27, 154, 0, 9, 28, 188, 8, 167, 0, 28, 27, 4, 160, 0, 9, 28, 188, 9, 167, 0, 17, 27, 5]
abbrev dktX5_make_0 : List UInt8 := dkwX5_make_0 ++ dktX5_make_1
theorem dksX5_make_0 : cX5_make.data.toList.drop 0 = dktX5_make_0 := by decide +kernel
theorem dksX5_make_1 : cX5_make.data.toList.drop 23 = dktX5_make_1 := dk_seg dksX5_make_0 23 rfl rfl
theorem dX5_make_0 : decode cX5_make 0 = .ok (.iload_n 1, 1) := dk_27 (dk_at dksX5_make_0 0 rfl rfl)
theorem dX5_make_1 : decode cX5_make 1 = .ok (.ifCond .ne 9, 3) := dk_154 0 9 (dk_at dksX5_make_0 1 rfl rfl)
theorem dX5_make_4 : decode cX5_make 4 = .ok (.iload_n 2, 1) := dk_28 (dk_at dksX5_make_0 4 rfl rfl)
theorem dX5_make_5 : decode cX5_make 5 = .ok (.newarray .byte, 2) := dk_188_8 (dk_at dksX5_make_0 5 rfl rfl)
theorem dX5_make_7 : decode cX5_make 7 = .ok (.goto 28, 3) := dk_167 0 28 (dk_at dksX5_make_0 7 rfl rfl)
theorem dX5_make_10 : decode cX5_make 10 = .ok (.iload_n 1, 1) := dk_27 (dk_at dksX5_make_0 10 rfl rfl)
theorem dX5_make_11 : decode cX5_make 11 = .ok (.iconst 1, 1) := dk_4 (dk_at dksX5_make_0 11 rfl rfl)
theorem dX5_make_12 : decode cX5_make 12 = .ok (.if_icmp .ne 9, 3) := dk_160 0 9 (dk_at dksX5_make_0 12 rfl rfl)
theorem dX5_make_15 : decode cX5_make 15 = .ok (.iload_n 2, 1) := dk_28 (dk_at dksX5_make_0 15 rfl rfl)
theorem dX5_make_16 : decode cX5_make 16 = .ok (.newarray .short, 2) := dk_188_9 (dk_at dksX5_make_0 16 rfl rfl)
theorem dX5_make_18 : decode cX5_make 18 = .ok (.goto 17, 3) := dk_167 0 17 (dk_at dksX5_make_0 18 rfl rfl)
theorem dX5_make_21 : decode cX5_make 21 = .ok (.iload_n 1, 1) := dk_27 (dk_at dksX5_make_0 21 rfl rfl)
theorem dX5_make_22 : decode cX5_make 22 = .ok (.iconst 2, 1) := dk_5 (dk_at dksX5_make_0 22 rfl rfl)
theorem dX5_make_23 : decode cX5_make 23 = .ok (.if_icmp .ne 9, 3) := dk_160 0 9 (dk_at dksX5_make_1 0 rfl rfl)
theorem dX5_make_26 : decode cX5_make 26 = .ok (.iload_n 2, 1) := dk_28 (dk_at dksX5_make_1 3 rfl rfl)
theorem dX5_make_27 : decode cX5_make 27 = .ok (.newarray .int, 2) := dk_188_10 (dk_at dksX5_make_1 4 rfl rfl)
theorem dX5_make_29 : decode cX5_make 29 = .ok (.goto 6, 3) := dk_167 0 6 (dk_at dksX5_make_1 6 rfl rfl)
theorem dX5_make_32 : decode cX5_make 32 = .ok (.iload_n 2, 1) := dk_28 (dk_at dksX5_make_1 9 rfl rfl)
theorem dX5_make_33 : decode cX5_make 33 = .ok (.newarray .long, 2) := dk_188_11 (dk_at dksX5_make_1 10 rfl rfl)
theorem dX5_make_35 : decode cX5_make 35 = .ok (.astore_n 3, 1) := dk_78 (dk_at dksX5_make_1 12 rfl rfl)
theorem dX5_make_36 : decode cX5_make 36 = .ok (.aload_n 0, 1) := dk_42 (dk_at dksX5_make_1 13 rfl rfl)
theorem dX5_make_37 : decode cX5_make 37 = .ok (.aload_n 3, 1) := dk_45 (dk_at dksX5_make_1 14 rfl rfl)
theorem dX5_make_38 : decode cX5_make 38 = .ok (.putfield 7, 3) := dk_181 0 7 (dk_at dksX5_make_1 15 rfl rfl)
theorem dX5_make_41 : decode cX5_make 41 = .ok (.aload_n 0, 1) := dk_42 (dk_at dksX5_make_1 18 rfl rfl)
theorem dX5_make_42 : decode cX5_make 42 = .ok (.iload_n 1, 1) := dk_27 (dk_at dksX5_make_1 19 rfl rfl)
theorem dX5_make_43 : decode cX5_make 43 = .ok (.putfield 13, 3) := dk_181 0 13 (dk_at dksX5_make_1 20 rfl rfl)
theorem dX5_make_46 : decode cX5_make 46 = .ok (.return_, 1) := dk_177 (dk_at dksX5_make_1 23 rfl rfl)
abbrev cX5_set : ByteArray := prog_12_method_5_code
def yX5_set : MethodName := ⟨RX5, "set", "(IJ)V"⟩
def dkwX5_set_3 : List UInt8 := [180, 0, 7, 192, 0, 23, 27, 32, 80, 177]
abbrev dktX5_set_3 : List UInt8 := dkwX5_set_3 ++ []
def dkwX5_set_2 : List UInt8 := [180, 0, 13, 5, 160, 0, 17, 42, 180, 0, 7, 192, 0, 21, 27, 32, 136, 79, 167, 0, 13, 42]
abbrev dktX5_set_2 : List UInt8 := dkwX5_set_2 ++ dktX5_set_3
def dkwX5_set_1 : List UInt8 := [180, 0, 13, 4, 160, 0, 18, 42, 180, 0, 7, 192, 0, 19, 27, 32, 136, 147, 86, 167, 0, 35, 42]
abbrev dktX5_set_1 : List UInt8 := dkwX5_set_1 ++ dktX5_set_2
def dkwX5_set_0 : List UInt8 := [42, 180, 0, 13, 154, 0, 18, 42, 180, 0, 7, 192, 0, 17, 27, 32, 136, 145, 84, 167, 0, 58, 42]
abbrev dktX5_set_0 : List UInt8 := dkwX5_set_0 ++ dktX5_set_1
theorem dksX5_set_0 : cX5_set.data.toList.drop 0 = dktX5_set_0 := by decide +kernel
theorem dksX5_set_1 : cX5_set.data.toList.drop 23 = dktX5_set_1 := dk_seg dksX5_set_0 23 rfl rfl
theorem dksX5_set_2 : cX5_set.data.toList.drop 46 = dktX5_set_2 := dk_seg dksX5_set_1 23 rfl rfl
theorem dksX5_set_3 : cX5_set.data.toList.drop 68 = dktX5_set_3 := dk_seg dksX5_set_2 22 rfl rfl
theorem dX5_set_0 : decode cX5_set 0 = .ok (.aload_n 0, 1) := dk_42 (dk_at dksX5_set_0 0 rfl rfl)
theorem dX5_set_1 : decode cX5_set 1 = .ok (.getfield 13, 3) := dk_180 0 13 (dk_at dksX5_set_0 1 rfl rfl)
theorem dX5_set_4 : decode cX5_set 4 = .ok (.ifCond .ne 18, 3) := dk_154 0 18 (dk_at dksX5_set_0 4 rfl rfl)
theorem dX5_set_7 : decode cX5_set 7 = .ok (.aload_n 0, 1) := dk_42 (dk_at dksX5_set_0 7 rfl rfl)
theorem dX5_set_8 : decode cX5_set 8 = .ok (.getfield 7, 3) := dk_180 0 7 (dk_at dksX5_set_0 8 rfl rfl)
theorem dX5_set_11 : decode cX5_set 11 = .ok (.checkcast 17, 3) := dk_192 0 17 (dk_at dksX5_set_0 11 rfl rfl)
theorem dX5_set_14 : decode cX5_set 14 = .ok (.iload_n 1, 1) := dk_27 (dk_at dksX5_set_0 14 rfl rfl)
theorem dX5_set_15 : decode cX5_set 15 = .ok (.lload_n 2, 1) := dk_32 (dk_at dksX5_set_0 15 rfl rfl)
theorem dX5_set_16 : decode cX5_set 16 = .ok (.l2i, 1) := dk_136 (dk_at dksX5_set_0 16 rfl rfl)
theorem dX5_set_17 : decode cX5_set 17 = .ok (.i2b, 1) := dk_145 (dk_at dksX5_set_0 17 rfl rfl)
theorem dX5_set_18 : decode cX5_set 18 = .ok (.bastore, 1) := dk_84 (dk_at dksX5_set_0 18 rfl rfl)
theorem dX5_set_19 : decode cX5_set 19 = .ok (.goto 58, 3) := dk_167 0 58 (dk_at dksX5_set_0 19 rfl rfl)
theorem dX5_set_22 : decode cX5_set 22 = .ok (.aload_n 0, 1) := dk_42 (dk_at dksX5_set_0 22 rfl rfl)
theorem dX5_set_23 : decode cX5_set 23 = .ok (.getfield 13, 3) := dk_180 0 13 (dk_at dksX5_set_1 0 rfl rfl)
theorem dX5_set_26 : decode cX5_set 26 = .ok (.iconst 1, 1) := dk_4 (dk_at dksX5_set_1 3 rfl rfl)
theorem dX5_set_27 : decode cX5_set 27 = .ok (.if_icmp .ne 18, 3) := dk_160 0 18 (dk_at dksX5_set_1 4 rfl rfl)
theorem dX5_set_30 : decode cX5_set 30 = .ok (.aload_n 0, 1) := dk_42 (dk_at dksX5_set_1 7 rfl rfl)
theorem dX5_set_31 : decode cX5_set 31 = .ok (.getfield 7, 3) := dk_180 0 7 (dk_at dksX5_set_1 8 rfl rfl)
theorem dX5_set_34 : decode cX5_set 34 = .ok (.checkcast 19, 3) := dk_192 0 19 (dk_at dksX5_set_1 11 rfl rfl)
theorem dX5_set_37 : decode cX5_set 37 = .ok (.iload_n 1, 1) := dk_27 (dk_at dksX5_set_1 14 rfl rfl)
theorem dX5_set_38 : decode cX5_set 38 = .ok (.lload_n 2, 1) := dk_32 (dk_at dksX5_set_1 15 rfl rfl)
theorem dX5_set_39 : decode cX5_set 39 = .ok (.l2i, 1) := dk_136 (dk_at dksX5_set_1 16 rfl rfl)
theorem dX5_set_40 : decode cX5_set 40 = .ok (.i2s, 1) := dk_147 (dk_at dksX5_set_1 17 rfl rfl)
theorem dX5_set_41 : decode cX5_set 41 = .ok (.sastore, 1) := dk_86 (dk_at dksX5_set_1 18 rfl rfl)
theorem dX5_set_42 : decode cX5_set 42 = .ok (.goto 35, 3) := dk_167 0 35 (dk_at dksX5_set_1 19 rfl rfl)
theorem dX5_set_45 : decode cX5_set 45 = .ok (.aload_n 0, 1) := dk_42 (dk_at dksX5_set_1 22 rfl rfl)
theorem dX5_set_46 : decode cX5_set 46 = .ok (.getfield 13, 3) := dk_180 0 13 (dk_at dksX5_set_2 0 rfl rfl)
theorem dX5_set_49 : decode cX5_set 49 = .ok (.iconst 2, 1) := dk_5 (dk_at dksX5_set_2 3 rfl rfl)
theorem dX5_set_50 : decode cX5_set 50 = .ok (.if_icmp .ne 17, 3) := dk_160 0 17 (dk_at dksX5_set_2 4 rfl rfl)
theorem dX5_set_53 : decode cX5_set 53 = .ok (.aload_n 0, 1) := dk_42 (dk_at dksX5_set_2 7 rfl rfl)
theorem dX5_set_54 : decode cX5_set 54 = .ok (.getfield 7, 3) := dk_180 0 7 (dk_at dksX5_set_2 8 rfl rfl)
theorem dX5_set_57 : decode cX5_set 57 = .ok (.checkcast 21, 3) := dk_192 0 21 (dk_at dksX5_set_2 11 rfl rfl)
theorem dX5_set_60 : decode cX5_set 60 = .ok (.iload_n 1, 1) := dk_27 (dk_at dksX5_set_2 14 rfl rfl)
theorem dX5_set_61 : decode cX5_set 61 = .ok (.lload_n 2, 1) := dk_32 (dk_at dksX5_set_2 15 rfl rfl)
theorem dX5_set_62 : decode cX5_set 62 = .ok (.l2i, 1) := dk_136 (dk_at dksX5_set_2 16 rfl rfl)
theorem dX5_set_63 : decode cX5_set 63 = .ok (.iastore, 1) := dk_79 (dk_at dksX5_set_2 17 rfl rfl)
theorem dX5_set_64 : decode cX5_set 64 = .ok (.goto 13, 3) := dk_167 0 13 (dk_at dksX5_set_2 18 rfl rfl)
theorem dX5_set_67 : decode cX5_set 67 = .ok (.aload_n 0, 1) := dk_42 (dk_at dksX5_set_2 21 rfl rfl)
theorem dX5_set_68 : decode cX5_set 68 = .ok (.getfield 7, 3) := dk_180 0 7 (dk_at dksX5_set_3 0 rfl rfl)
theorem dX5_set_71 : decode cX5_set 71 = .ok (.checkcast 23, 3) := dk_192 0 23 (dk_at dksX5_set_3 3 rfl rfl)
theorem dX5_set_74 : decode cX5_set 74 = .ok (.iload_n 1, 1) := dk_27 (dk_at dksX5_set_3 6 rfl rfl)
theorem dX5_set_75 : decode cX5_set 75 = .ok (.lload_n 2, 1) := dk_32 (dk_at dksX5_set_3 7 rfl rfl)
theorem dX5_set_76 : decode cX5_set 76 = .ok (.lastore, 1) := dk_80 (dk_at dksX5_set_3 8 rfl rfl)
theorem dX5_set_77 : decode cX5_set 77 = .ok (.return_, 1) := dk_177 (dk_at dksX5_set_3 9 rfl rfl)
abbrev cX5_get : ByteArray := prog_12_method_4_code
def yX5_get : MethodName := ⟨RX5, "get", "(I)J"⟩
def dkwX5_get_3 : List UInt8 := [47, 173]
abbrev dktX5_get_3 : List UInt8 := dkwX5_get_3 ++ []
def dkwX5_get_2 : List UInt8 := [160, 0, 16, 42, 180, 0, 7, 192, 0, 21, 27, 46, 133, 167, 0, 12, 42, 180, 0, 7, 192, 0, 23, 27]
abbrev dktX5_get_2 : List UInt8 := dkwX5_get_2 ++ dktX5_get_3
def dkwX5_get_1 : List UInt8 := [4, 160, 0, 16, 42, 180, 0, 7, 192, 0, 19, 27, 53, 133, 167, 0, 33, 42, 180, 0, 13, 5]
abbrev dktX5_get_1 : List UInt8 := dkwX5_get_1 ++ dktX5_get_2
def dkwX5_get_0 : List UInt8 := [42, 180, 0, 13, 154, 0, 16, 42, 180, 0, 7, 192, 0, 17, 27, 51, 133, 167, 0, 54, 42, 180, 0, 13]
abbrev dktX5_get_0 : List UInt8 := dkwX5_get_0 ++ dktX5_get_1
theorem dksX5_get_0 : cX5_get.data.toList.drop 0 = dktX5_get_0 := by decide +kernel
theorem dksX5_get_1 : cX5_get.data.toList.drop 24 = dktX5_get_1 := dk_seg dksX5_get_0 24 rfl rfl
theorem dksX5_get_2 : cX5_get.data.toList.drop 46 = dktX5_get_2 := dk_seg dksX5_get_1 22 rfl rfl
theorem dksX5_get_3 : cX5_get.data.toList.drop 70 = dktX5_get_3 := dk_seg dksX5_get_2 24 rfl rfl
theorem dX5_get_0 : decode cX5_get 0 = .ok (.aload_n 0, 1) := dk_42 (dk_at dksX5_get_0 0 rfl rfl)
theorem dX5_get_1 : decode cX5_get 1 = .ok (.getfield 13, 3) := dk_180 0 13 (dk_at dksX5_get_0 1 rfl rfl)
theorem dX5_get_4 : decode cX5_get 4 = .ok (.ifCond .ne 16, 3) := dk_154 0 16 (dk_at dksX5_get_0 4 rfl rfl)
theorem dX5_get_7 : decode cX5_get 7 = .ok (.aload_n 0, 1) := dk_42 (dk_at dksX5_get_0 7 rfl rfl)
theorem dX5_get_8 : decode cX5_get 8 = .ok (.getfield 7, 3) := dk_180 0 7 (dk_at dksX5_get_0 8 rfl rfl)
theorem dX5_get_11 : decode cX5_get 11 = .ok (.checkcast 17, 3) := dk_192 0 17 (dk_at dksX5_get_0 11 rfl rfl)
theorem dX5_get_14 : decode cX5_get 14 = .ok (.iload_n 1, 1) := dk_27 (dk_at dksX5_get_0 14 rfl rfl)
theorem dX5_get_15 : decode cX5_get 15 = .ok (.baload, 1) := dk_51 (dk_at dksX5_get_0 15 rfl rfl)
theorem dX5_get_16 : decode cX5_get 16 = .ok (.i2l, 1) := dk_133 (dk_at dksX5_get_0 16 rfl rfl)
theorem dX5_get_17 : decode cX5_get 17 = .ok (.goto 54, 3) := dk_167 0 54 (dk_at dksX5_get_0 17 rfl rfl)
theorem dX5_get_20 : decode cX5_get 20 = .ok (.aload_n 0, 1) := dk_42 (dk_at dksX5_get_0 20 rfl rfl)
theorem dX5_get_21 : decode cX5_get 21 = .ok (.getfield 13, 3) := dk_180 0 13 (dk_at dksX5_get_0 21 rfl rfl)
theorem dX5_get_24 : decode cX5_get 24 = .ok (.iconst 1, 1) := dk_4 (dk_at dksX5_get_1 0 rfl rfl)
theorem dX5_get_25 : decode cX5_get 25 = .ok (.if_icmp .ne 16, 3) := dk_160 0 16 (dk_at dksX5_get_1 1 rfl rfl)
theorem dX5_get_28 : decode cX5_get 28 = .ok (.aload_n 0, 1) := dk_42 (dk_at dksX5_get_1 4 rfl rfl)
theorem dX5_get_29 : decode cX5_get 29 = .ok (.getfield 7, 3) := dk_180 0 7 (dk_at dksX5_get_1 5 rfl rfl)
theorem dX5_get_32 : decode cX5_get 32 = .ok (.checkcast 19, 3) := dk_192 0 19 (dk_at dksX5_get_1 8 rfl rfl)
theorem dX5_get_35 : decode cX5_get 35 = .ok (.iload_n 1, 1) := dk_27 (dk_at dksX5_get_1 11 rfl rfl)
theorem dX5_get_36 : decode cX5_get 36 = .ok (.saload, 1) := dk_53 (dk_at dksX5_get_1 12 rfl rfl)
theorem dX5_get_37 : decode cX5_get 37 = .ok (.i2l, 1) := dk_133 (dk_at dksX5_get_1 13 rfl rfl)
theorem dX5_get_38 : decode cX5_get 38 = .ok (.goto 33, 3) := dk_167 0 33 (dk_at dksX5_get_1 14 rfl rfl)
theorem dX5_get_41 : decode cX5_get 41 = .ok (.aload_n 0, 1) := dk_42 (dk_at dksX5_get_1 17 rfl rfl)
theorem dX5_get_42 : decode cX5_get 42 = .ok (.getfield 13, 3) := dk_180 0 13 (dk_at dksX5_get_1 18 rfl rfl)
theorem dX5_get_45 : decode cX5_get 45 = .ok (.iconst 2, 1) := dk_5 (dk_at dksX5_get_1 21 rfl rfl)
theorem dX5_get_46 : decode cX5_get 46 = .ok (.if_icmp .ne 16, 3) := dk_160 0 16 (dk_at dksX5_get_2 0 rfl rfl)
theorem dX5_get_49 : decode cX5_get 49 = .ok (.aload_n 0, 1) := dk_42 (dk_at dksX5_get_2 3 rfl rfl)
theorem dX5_get_50 : decode cX5_get 50 = .ok (.getfield 7, 3) := dk_180 0 7 (dk_at dksX5_get_2 4 rfl rfl)
theorem dX5_get_53 : decode cX5_get 53 = .ok (.checkcast 21, 3) := dk_192 0 21 (dk_at dksX5_get_2 7 rfl rfl)
theorem dX5_get_56 : decode cX5_get 56 = .ok (.iload_n 1, 1) := dk_27 (dk_at dksX5_get_2 10 rfl rfl)
theorem dX5_get_57 : decode cX5_get 57 = .ok (.iaload, 1) := dk_46 (dk_at dksX5_get_2 11 rfl rfl)
theorem dX5_get_58 : decode cX5_get 58 = .ok (.i2l, 1) := dk_133 (dk_at dksX5_get_2 12 rfl rfl)
theorem dX5_get_59 : decode cX5_get 59 = .ok (.goto 12, 3) := dk_167 0 12 (dk_at dksX5_get_2 13 rfl rfl)
theorem dX5_get_62 : decode cX5_get 62 = .ok (.aload_n 0, 1) := dk_42 (dk_at dksX5_get_2 16 rfl rfl)
theorem dX5_get_63 : decode cX5_get 63 = .ok (.getfield 7, 3) := dk_180 0 7 (dk_at dksX5_get_2 17 rfl rfl)
theorem dX5_get_66 : decode cX5_get 66 = .ok (.checkcast 23, 3) := dk_192 0 23 (dk_at dksX5_get_2 20 rfl rfl)
theorem dX5_get_69 : decode cX5_get 69 = .ok (.iload_n 1, 1) := dk_27 (dk_at dksX5_get_2 23 rfl rfl)
theorem dX5_get_70 : decode cX5_get 70 = .ok (.laload, 1) := dk_47 (dk_at dksX5_get_3 0 rfl rfl)
theorem dX5_get_71 : decode cX5_get 71 = .ok (.lreturn, 1) := dk_173 (dk_at dksX5_get_3 1 rfl rfl)
abbrev cX5_many : ByteArray := prog_12_method_3_code
def yX5_many : MethodName := ⟨RX5, "many", "()I"⟩
def dkwX5_many_2 : List UInt8 := [180, 0, 7, 192, 0, 21, 190, 167, 0, 11, 42, 180, 0, 7, 192, 0, 23, 190, 172]
abbrev dktX5_many_2 : List UInt8 := dkwX5_many_2 ++ []
def dkwX5_many_1 : List UInt8 := [160, 0, 14, 42, 180, 0, 7, 192, 0, 19, 190, 167, 0, 30, 42, 180, 0, 13, 5, 160, 0, 14, 42]
abbrev dktX5_many_1 : List UInt8 := dkwX5_many_1 ++ dktX5_many_2
def dkwX5_many_0 : List UInt8 := [42, 180, 0, 13, 154, 0, 14, 42, 180, 0, 7, 192, 0, 17, 190, 167, 0, 49, 42, 180, 0, 13, 4]
abbrev dktX5_many_0 : List UInt8 := dkwX5_many_0 ++ dktX5_many_1
theorem dksX5_many_0 : cX5_many.data.toList.drop 0 = dktX5_many_0 := by decide +kernel
theorem dksX5_many_1 : cX5_many.data.toList.drop 23 = dktX5_many_1 := dk_seg dksX5_many_0 23 rfl rfl
theorem dksX5_many_2 : cX5_many.data.toList.drop 46 = dktX5_many_2 := dk_seg dksX5_many_1 23 rfl rfl
theorem dX5_many_0 : decode cX5_many 0 = .ok (.aload_n 0, 1) := dk_42 (dk_at dksX5_many_0 0 rfl rfl)
theorem dX5_many_1 : decode cX5_many 1 = .ok (.getfield 13, 3) := dk_180 0 13 (dk_at dksX5_many_0 1 rfl rfl)
theorem dX5_many_4 : decode cX5_many 4 = .ok (.ifCond .ne 14, 3) := dk_154 0 14 (dk_at dksX5_many_0 4 rfl rfl)
theorem dX5_many_7 : decode cX5_many 7 = .ok (.aload_n 0, 1) := dk_42 (dk_at dksX5_many_0 7 rfl rfl)
theorem dX5_many_8 : decode cX5_many 8 = .ok (.getfield 7, 3) := dk_180 0 7 (dk_at dksX5_many_0 8 rfl rfl)
theorem dX5_many_11 : decode cX5_many 11 = .ok (.checkcast 17, 3) := dk_192 0 17 (dk_at dksX5_many_0 11 rfl rfl)
theorem dX5_many_14 : decode cX5_many 14 = .ok (.arraylength, 1) := dk_190 (dk_at dksX5_many_0 14 rfl rfl)
theorem dX5_many_15 : decode cX5_many 15 = .ok (.goto 49, 3) := dk_167 0 49 (dk_at dksX5_many_0 15 rfl rfl)
theorem dX5_many_18 : decode cX5_many 18 = .ok (.aload_n 0, 1) := dk_42 (dk_at dksX5_many_0 18 rfl rfl)
theorem dX5_many_19 : decode cX5_many 19 = .ok (.getfield 13, 3) := dk_180 0 13 (dk_at dksX5_many_0 19 rfl rfl)
theorem dX5_many_22 : decode cX5_many 22 = .ok (.iconst 1, 1) := dk_4 (dk_at dksX5_many_0 22 rfl rfl)
theorem dX5_many_23 : decode cX5_many 23 = .ok (.if_icmp .ne 14, 3) := dk_160 0 14 (dk_at dksX5_many_1 0 rfl rfl)
theorem dX5_many_26 : decode cX5_many 26 = .ok (.aload_n 0, 1) := dk_42 (dk_at dksX5_many_1 3 rfl rfl)
theorem dX5_many_27 : decode cX5_many 27 = .ok (.getfield 7, 3) := dk_180 0 7 (dk_at dksX5_many_1 4 rfl rfl)
theorem dX5_many_30 : decode cX5_many 30 = .ok (.checkcast 19, 3) := dk_192 0 19 (dk_at dksX5_many_1 7 rfl rfl)
theorem dX5_many_33 : decode cX5_many 33 = .ok (.arraylength, 1) := dk_190 (dk_at dksX5_many_1 10 rfl rfl)
theorem dX5_many_34 : decode cX5_many 34 = .ok (.goto 30, 3) := dk_167 0 30 (dk_at dksX5_many_1 11 rfl rfl)
theorem dX5_many_37 : decode cX5_many 37 = .ok (.aload_n 0, 1) := dk_42 (dk_at dksX5_many_1 14 rfl rfl)
theorem dX5_many_38 : decode cX5_many 38 = .ok (.getfield 13, 3) := dk_180 0 13 (dk_at dksX5_many_1 15 rfl rfl)
theorem dX5_many_41 : decode cX5_many 41 = .ok (.iconst 2, 1) := dk_5 (dk_at dksX5_many_1 18 rfl rfl)
theorem dX5_many_42 : decode cX5_many 42 = .ok (.if_icmp .ne 14, 3) := dk_160 0 14 (dk_at dksX5_many_1 19 rfl rfl)
theorem dX5_many_45 : decode cX5_many 45 = .ok (.aload_n 0, 1) := dk_42 (dk_at dksX5_many_1 22 rfl rfl)
theorem dX5_many_46 : decode cX5_many 46 = .ok (.getfield 7, 3) := dk_180 0 7 (dk_at dksX5_many_2 0 rfl rfl)
theorem dX5_many_49 : decode cX5_many 49 = .ok (.checkcast 21, 3) := dk_192 0 21 (dk_at dksX5_many_2 3 rfl rfl)
theorem dX5_many_52 : decode cX5_many 52 = .ok (.arraylength, 1) := dk_190 (dk_at dksX5_many_2 6 rfl rfl)
theorem dX5_many_53 : decode cX5_many 53 = .ok (.goto 11, 3) := dk_167 0 11 (dk_at dksX5_many_2 7 rfl rfl)
theorem dX5_many_56 : decode cX5_many 56 = .ok (.aload_n 0, 1) := dk_42 (dk_at dksX5_many_2 10 rfl rfl)
theorem dX5_many_57 : decode cX5_many 57 = .ok (.getfield 7, 3) := dk_180 0 7 (dk_at dksX5_many_2 11 rfl rfl)
theorem dX5_many_60 : decode cX5_many 60 = .ok (.checkcast 23, 3) := dk_192 0 23 (dk_at dksX5_many_2 14 rfl rfl)
theorem dX5_many_63 : decode cX5_many 63 = .ok (.arraylength, 1) := dk_190 (dk_at dksX5_many_2 17 rfl rfl)
theorem dX5_many_64 : decode cX5_many 64 = .ok (.ireturn, 1) := dk_172 (dk_at dksX5_many_2 18 rfl rfl)
theorem q153 : (Jvm.Cond.initialized "SwapBook$Tray") ∈ lw_all := lw_g (lw_at lw_m1 9 rfl) rfl
theorem q371 : (Jvm.Cond.instantiable "SwapBook$Tray" (2 : Nat)) ∈ lw_all := lw_g (lw_at lw_m1 227 rfl) rfl
theorem q373 : (Jvm.Cond.instanceMethod ({ cls := "SwapBook$Tray", name := "<init>", desc := "()V" } : Jvm.MethodName)) ∈ lw_all := lw_g (lw_at lw_m1 229 rfl) rfl
theorem q374 : (Jvm.Cond.code ({ cls := "SwapBook$Tray", name := "<init>", desc := "()V" } : Jvm.MethodName) prog_12_method_1_code (1 : Nat) (Option.none : Option Jvm.ClassFile.FieldType)) ∈ lw_all := lw_g (lw_at lw_m1 230 rfl) rfl
theorem q375 : (Jvm.Cond.methodLink "SwapBook$Tray" (1 : Nat) ({ cls := "java/lang/Object", name := "<init>", desc := "()V" } : Jvm.MethodName)) ∈ lw_all := lw_g (lw_at lw_m1 231 rfl) rfl
theorem q376 : (Jvm.Cond.fieldLink "SwapBook$Tray" (7 : Nat) "SwapBook$Tray" "row" "Ljava/lang/Object;") ∈ lw_all := lw_g (lw_at lw_m1 232 rfl) rfl
theorem q378 : (Jvm.Cond.fieldLink "SwapBook$Tray" (13 : Nat) "SwapBook$Tray" "sort" "I") ∈ lw_all := lw_g (lw_at lw_m1 234 rfl) rfl
theorem q380 : (Jvm.Cond.lays "SwapBook$Tray" "SwapBook$Tray" "row" "Ljava/lang/Object;") ∈ lw_all := lw_g (lw_at lw_m1 236 rfl) rfl
theorem q381 : (Jvm.Cond.soleField "SwapBook$Tray" "row") ∈ lw_all := lw_g (lw_at lw_m1 237 rfl) rfl
theorem q382 : (Jvm.Cond.lays "SwapBook$Tray" "SwapBook$Tray" "sort" "I") ∈ lw_all := lw_g (lw_at lw_m1 238 rfl) rfl
theorem q383 : (Jvm.Cond.soleField "SwapBook$Tray" "sort") ∈ lw_all := lw_g (lw_at lw_m1 239 rfl) rfl
theorem q384 : (Jvm.Cond.superclass "SwapBook$Tray" "java/lang/Object") ∈ lw_all := lw_g (lw_at lw_m2 0 rfl) rfl
theorem q548 : (Jvm.Cond.instanceMethod ({ cls := "SwapBook$Tray", name := "make", desc := "(II)V" } : Jvm.MethodName)) ∈ lw_all := lw_g (lw_at lw_m2 164 rfl) rfl
theorem q549 : (Jvm.Cond.selects "SwapBook$Tray" ({ cls := "SwapBook$Tray", name := "make", desc := "(II)V" } : Jvm.MethodName) ({ cls := "SwapBook$Tray", name := "make", desc := "(II)V" } : Jvm.MethodName)) ∈ lw_all := lw_g (lw_at lw_m2 165 rfl) rfl
theorem q550 : (Jvm.Cond.code ({ cls := "SwapBook$Tray", name := "make", desc := "(II)V" } : Jvm.MethodName) prog_12_method_2_code (4 : Nat) (Option.none : Option Jvm.ClassFile.FieldType)) ∈ lw_all := lw_g (lw_at lw_m2 166 rfl) rfl
theorem q601 : (Jvm.Cond.instanceMethod ({ cls := "SwapBook$Tray", name := "set", desc := "(IJ)V" } : Jvm.MethodName)) ∈ lw_all := lw_g (lw_at lw_m2 217 rfl) rfl
theorem q602 : (Jvm.Cond.selects "SwapBook$Tray" ({ cls := "SwapBook$Tray", name := "set", desc := "(IJ)V" } : Jvm.MethodName) ({ cls := "SwapBook$Tray", name := "set", desc := "(IJ)V" } : Jvm.MethodName)) ∈ lw_all := lw_g (lw_at lw_m2 218 rfl) rfl
theorem q603 : (Jvm.Cond.code ({ cls := "SwapBook$Tray", name := "set", desc := "(IJ)V" } : Jvm.MethodName) prog_12_method_5_code (4 : Nat) (Option.none : Option Jvm.ClassFile.FieldType)) ∈ lw_all := lw_g (lw_at lw_m2 219 rfl) rfl
theorem q604 : (Jvm.Cond.classLink "SwapBook$Tray" (17 : Nat) "[B") ∈ lw_all := lw_g (lw_at lw_m2 220 rfl) rfl
theorem q605 : (Jvm.Cond.classLink "SwapBook$Tray" (19 : Nat) "[S") ∈ lw_all := lw_g (lw_at lw_m2 221 rfl) rfl
theorem q606 : (Jvm.Cond.classLink "SwapBook$Tray" (21 : Nat) "[I") ∈ lw_all := lw_g (lw_at lw_m2 222 rfl) rfl
theorem q607 : (Jvm.Cond.classLink "SwapBook$Tray" (23 : Nat) "[J") ∈ lw_all := lw_g (lw_at lw_m2 223 rfl) rfl
theorem q617 : (Jvm.Cond.instanceMethod ({ cls := "SwapBook$Tray", name := "get", desc := "(I)J" } : Jvm.MethodName)) ∈ lw_all := lw_g (lw_at lw_m2 233 rfl) rfl
theorem q618 : (Jvm.Cond.selects "SwapBook$Tray" ({ cls := "SwapBook$Tray", name := "get", desc := "(I)J" } : Jvm.MethodName) ({ cls := "SwapBook$Tray", name := "get", desc := "(I)J" } : Jvm.MethodName)) ∈ lw_all := lw_g (lw_at lw_m2 234 rfl) rfl
theorem q619 : (Jvm.Cond.code ({ cls := "SwapBook$Tray", name := "get", desc := "(I)J" } : Jvm.MethodName) prog_12_method_4_code (2 : Nat) (Option.some Jvm.ClassFile.FieldType.long)) ∈ lw_all := lw_g (lw_at lw_m2 235 rfl) rfl
theorem q1306 : (Jvm.Cond.instanceMethod ({ cls := "SwapBook$Tray", name := "many", desc := "()I" } : Jvm.MethodName)) ∈ lw_all := lw_g (lw_at lw_m5 202 rfl) rfl
theorem q1307 : (Jvm.Cond.selects "SwapBook$Tray" ({ cls := "SwapBook$Tray", name := "many", desc := "()I" } : Jvm.MethodName) ({ cls := "SwapBook$Tray", name := "many", desc := "()I" } : Jvm.MethodName)) ∈ lw_all := lw_g (lw_at lw_m5 203 rfl) rfl
theorem q1308 : (Jvm.Cond.code ({ cls := "SwapBook$Tray", name := "many", desc := "()I" } : Jvm.MethodName) prog_12_method_3_code (1 : Nat) (Option.some Jvm.ClassFile.FieldType.int)) ∈ lw_all := lw_g (lw_at lw_m5 204 rfl) rfl
theorem in_X5 : ∀ w ∈ wsX50, w ∈ lw_all := lw_in wsX50 [380, 382] (by decide +kernel) (by decide +kernel)

/-! SwapBook$Change -/
set_option maxRecDepth 100000
def RX7 : String := "SwapBook$Change"
abbrev cX7_init : ByteArray := prog_3_method_1_code
def yX7_init : MethodName := ⟨RX7, "<init>", "(JI)V"⟩
def dkwX7_init_1 : List UInt8 := [177]
abbrev dktX7_init_1 : List UInt8 := dkwX7_init_1 ++ []
def dkwX7_init_0 : List UInt8 := [42, 183, 0, 3, 42, 2, 181, 0, 9, 42, 31, 181, 0, 15, 42, 29, 181, 0, 19, 42, 29, 181, 0, 22]
abbrev dktX7_init_0 : List UInt8 := dkwX7_init_0 ++ dktX7_init_1
theorem dksX7_init_0 : cX7_init.data.toList.drop 0 = dktX7_init_0 := by decide +kernel
theorem dksX7_init_1 : cX7_init.data.toList.drop 24 = dktX7_init_1 := dk_seg dksX7_init_0 24 rfl rfl
theorem dX7_init_0 : decode cX7_init 0 = .ok (.aload_n 0, 1) := dk_42 (dk_at dksX7_init_0 0 rfl rfl)
theorem dX7_init_1 : decode cX7_init 1 = .ok (.invokespecial 3, 3) := dk_183 0 3 (dk_at dksX7_init_0 1 rfl rfl)
theorem dX7_init_4 : decode cX7_init 4 = .ok (.aload_n 0, 1) := dk_42 (dk_at dksX7_init_0 4 rfl rfl)
theorem dX7_init_5 : decode cX7_init 5 = .ok (.iconst (-1), 1) := dk_2 (dk_at dksX7_init_0 5 rfl rfl)
theorem dX7_init_6 : decode cX7_init 6 = .ok (.putfield 9, 3) := dk_181 0 9 (dk_at dksX7_init_0 6 rfl rfl)
theorem dX7_init_9 : decode cX7_init 9 = .ok (.aload_n 0, 1) := dk_42 (dk_at dksX7_init_0 9 rfl rfl)
theorem dX7_init_10 : decode cX7_init 10 = .ok (.lload_n 1, 1) := dk_31 (dk_at dksX7_init_0 10 rfl rfl)
theorem dX7_init_11 : decode cX7_init 11 = .ok (.putfield 15, 3) := dk_181 0 15 (dk_at dksX7_init_0 11 rfl rfl)
theorem dX7_init_14 : decode cX7_init 14 = .ok (.aload_n 0, 1) := dk_42 (dk_at dksX7_init_0 14 rfl rfl)
theorem dX7_init_15 : decode cX7_init 15 = .ok (.iload_n 3, 1) := dk_29 (dk_at dksX7_init_0 15 rfl rfl)
theorem dX7_init_16 : decode cX7_init 16 = .ok (.putfield 19, 3) := dk_181 0 19 (dk_at dksX7_init_0 16 rfl rfl)
theorem dX7_init_19 : decode cX7_init 19 = .ok (.aload_n 0, 1) := dk_42 (dk_at dksX7_init_0 19 rfl rfl)
theorem dX7_init_20 : decode cX7_init 20 = .ok (.iload_n 3, 1) := dk_29 (dk_at dksX7_init_0 20 rfl rfl)
theorem dX7_init_21 : decode cX7_init 21 = .ok (.putfield 22, 3) := dk_181 0 22 (dk_at dksX7_init_0 21 rfl rfl)
theorem dX7_init_24 : decode cX7_init 24 = .ok (.return_, 1) := dk_177 (dk_at dksX7_init_1 0 rfl rfl)
abbrev cX7_minds : ByteArray := prog_3_method_4_code
def yX7_minds : MethodName := ⟨RX7, "minds", "(I)Z"⟩
theorem dX7_minds_0 : decode cX7_minds 0 = .ok (.iconst 0, 1) := by decide +kernel
theorem dX7_minds_1 : decode cX7_minds 1 = .ok (.ireturn, 1) := by decide +kernel
abbrev cX7_tells : ByteArray := prog_3_method_3_code
def yX7_tells : MethodName := ⟨RX7, "tells", "()I"⟩
theorem dX7_tells_0 : decode cX7_tells 0 = .ok (.iconst (-1), 1) := by decide +kernel
theorem dX7_tells_1 : decode cX7_tells 1 = .ok (.ireturn, 1) := by decide +kernel
theorem q165 : (Jvm.Cond.initialized "SwapBook$Change") ∈ lw_all := lw_g (lw_at lw_m1 21 rfl) rfl
theorem q800 : (Jvm.Cond.instanceMethod ({ cls := "SwapBook$Change", name := "<init>", desc := "(JI)V" } : Jvm.MethodName)) ∈ lw_all := lw_g (lw_at lw_m3 176 rfl) rfl
theorem q801 : (Jvm.Cond.code ({ cls := "SwapBook$Change", name := "<init>", desc := "(JI)V" } : Jvm.MethodName) prog_3_method_1_code (4 : Nat) (Option.none : Option Jvm.ClassFile.FieldType)) ∈ lw_all := lw_g (lw_at lw_m3 177 rfl) rfl
theorem q802 : (Jvm.Cond.methodLink "SwapBook$Change" (3 : Nat) ({ cls := "java/lang/Object", name := "<init>", desc := "()V" } : Jvm.MethodName)) ∈ lw_all := lw_g (lw_at lw_m3 178 rfl) rfl
theorem q809 : (Jvm.Cond.fieldLink "SwapBook$Change" (15 : Nat) "SwapBook$Change" "name" "J") ∈ lw_all := lw_g (lw_at lw_m3 185 rfl) rfl
theorem q811 : (Jvm.Cond.fieldLink "SwapBook$Change" (19 : Nat) "SwapBook$Change" "number" "I") ∈ lw_all := lw_g (lw_at lw_m3 187 rfl) rfl
theorem q812 : (Jvm.Cond.fieldLink "SwapBook$Change" (22 : Nat) "SwapBook$Change" "thing" "I") ∈ lw_all := lw_g (lw_at lw_m3 188 rfl) rfl
theorem q818 : (Jvm.Cond.fieldLink "SwapBook$Change" (9 : Nat) "SwapBook$Change" "of" "I") ∈ lw_all := lw_g (lw_at lw_m3 194 rfl) rfl
theorem q840 : (Jvm.Cond.soleField "SwapBook$Change" "name") ∈ lw_all := lw_g (lw_at lw_m3 216 rfl) rfl
theorem q842 : (Jvm.Cond.soleField "SwapBook$Change" "number") ∈ lw_all := lw_g (lw_at lw_m3 218 rfl) rfl
theorem q844 : (Jvm.Cond.soleField "SwapBook$Change" "thing") ∈ lw_all := lw_g (lw_at lw_m3 220 rfl) rfl
theorem q846 : (Jvm.Cond.soleField "SwapBook$Change" "of") ∈ lw_all := lw_g (lw_at lw_m3 222 rfl) rfl
theorem q848 : (Jvm.Cond.soleField "SwapBook$Change" "needs") ∈ lw_all := lw_g (lw_at lw_m3 224 rfl) rfl
theorem q850 : (Jvm.Cond.soleField "SwapBook$Change" "hangs") ∈ lw_all := lw_g (lw_at lw_m3 226 rfl) rfl
theorem q852 : (Jvm.Cond.soleField "SwapBook$Change" "level") ∈ lw_all := lw_g (lw_at lw_m3 228 rfl) rfl
theorem q854 : (Jvm.Cond.soleField "SwapBook$Change" "quarrels") ∈ lw_all := lw_g (lw_at lw_m3 230 rfl) rfl
theorem q907 : (Jvm.Cond.declares ({ cls := "SwapBook$Change", name := "kind", desc := "()I" } : Jvm.MethodName)) ∈ lw_tbl := lw_at lw_m4 43 rfl
theorem q908 : (Jvm.Cond.sameMethod "SwapBook$Change" "SwapBook$Change" "kind" "()I") ∈ lw_all := lw_g (lw_at lw_m4 44 rfl) rfl
theorem q979 : (Jvm.Cond.instanceMethod ({ cls := "SwapBook$Change", name := "minds", desc := "(I)Z" } : Jvm.MethodName)) ∈ lw_all := lw_g (lw_at lw_m4 115 rfl) rfl
theorem q980 : (Jvm.Cond.sameMethod "SwapBook$Change" "SwapBook$Change" "minds" "(I)Z") ∈ lw_all := lw_g (lw_at lw_m4 116 rfl) rfl
theorem q989 : (Jvm.Cond.code ({ cls := "SwapBook$Change", name := "minds", desc := "(I)Z" } : Jvm.MethodName) prog_3_method_4_code (2 : Nat) (Option.some Jvm.ClassFile.FieldType.boolean)) ∈ lw_all := lw_g (lw_at lw_m4 125 rfl) rfl
theorem q1104 : (Jvm.Cond.instanceMethod ({ cls := "SwapBook$Change", name := "tells", desc := "()I" } : Jvm.MethodName)) ∈ lw_all := lw_g (lw_at lw_m5 0 rfl) rfl
theorem q1105 : (Jvm.Cond.sameMethod "SwapBook$Change" "SwapBook$Change" "tells" "()I") ∈ lw_all := lw_g (lw_at lw_m5 1 rfl) rfl
theorem q1114 : (Jvm.Cond.code ({ cls := "SwapBook$Change", name := "tells", desc := "()I" } : Jvm.MethodName) prog_3_method_3_code (1 : Nat) (Option.some Jvm.ClassFile.FieldType.int)) ∈ lw_all := lw_g (lw_at lw_m5 10 rfl) rfl

/-! SwapBook$Put -/
set_option maxRecDepth 100000
def RX8 : String := "SwapBook$Put"
def TX8 : u_T := fun k => match k with
  | 0 => ("SwapBook$Change", "name", "J", true)
  | 1 => ("SwapBook$Change", "number", "I", true)
  | 2 => ("SwapBook$Change", "thing", "I", false)
  | 3 => ("SwapBook$Change", "of", "I", false)
  | 4 => ("SwapBook$Change", "needs", "I", false)
  | 5 => ("SwapBook$Change", "hangs", "I", false)
  | 6 => ("SwapBook$Change", "level", "I", false)
  | 7 => ("SwapBook$Change", "quarrels", "I", false)
  | 8 => ("SwapBook$Put", "key", "I", false)
  | _ => ("SwapBook$Put", "says", "I", false)
def tyX8 : Nat → FieldType := fun k => match k with
  | 0 => .long
  | 1 => .int
  | 2 => .int
  | 3 => .int
  | 4 => .int
  | 5 => .int
  | 6 => .int
  | 7 => .int
  | 8 => .int
  | _ => .int
abbrev wsX80 : List Cond := u_ws RX8 TX8 10
theorem nmX8 : ∀ a, a < 10 → ∀ b, b < 10 → a ≠ b → (TX8 a).2.1 ≠ (TX8 b).2.1 := by decide +kernel
theorem tyX8_ok : ∀ k, k < 10 → parseFieldDescriptor (TX8 k).2.2.1 = some (tyX8 k) := by decide +kernel
abbrev cX8_init : ByteArray := prog_6_method_1_code
def yX8_init : MethodName := ⟨RX8, "<init>", "(JI)V"⟩
def dkwX8_init_0 : List UInt8 := [42, 31, 29, 183, 0, 3, 177]
abbrev dktX8_init_0 : List UInt8 := dkwX8_init_0 ++ []
theorem dksX8_init_0 : cX8_init.data.toList.drop 0 = dktX8_init_0 := by decide +kernel
theorem dX8_init_0 : decode cX8_init 0 = .ok (.aload_n 0, 1) := dk_42 (dk_at dksX8_init_0 0 rfl rfl)
theorem dX8_init_1 : decode cX8_init 1 = .ok (.lload_n 1, 1) := dk_31 (dk_at dksX8_init_0 1 rfl rfl)
theorem dX8_init_2 : decode cX8_init 2 = .ok (.iload_n 3, 1) := dk_29 (dk_at dksX8_init_0 2 rfl rfl)
theorem dX8_init_3 : decode cX8_init 3 = .ok (.invokespecial 3, 3) := dk_183 0 3 (dk_at dksX8_init_0 3 rfl rfl)
theorem dX8_init_6 : decode cX8_init 6 = .ok (.return_, 1) := dk_177 (dk_at dksX8_init_0 6 rfl rfl)
abbrev cX8_kind : ByteArray := prog_6_method_2_code
def yX8_kind : MethodName := ⟨RX8, "kind", "()I"⟩
theorem dX8_kind_0 : decode cX8_kind 0 = .ok (.iconst 0, 1) := by decide +kernel
theorem dX8_kind_1 : decode cX8_kind 1 = .ok (.ireturn, 1) := by decide +kernel
abbrev cX8_tells : ByteArray := prog_6_method_3_code
def yX8_tells : MethodName := ⟨RX8, "tells", "()I"⟩
theorem dX8_tells_0 : decode cX8_tells 0 = .ok (.aload_n 0, 1) := by decide +kernel
theorem dX8_tells_1 : decode cX8_tells 1 = .ok (.getfield 9, 3) := by decide +kernel
theorem dX8_tells_4 : decode cX8_tells 4 = .ok (.ireturn, 1) := by decide +kernel
theorem q166 : (Jvm.Cond.initialized "SwapBook$Put") ∈ lw_all := lw_g (lw_at lw_m1 22 rfl) rfl
theorem q795 : (Jvm.Cond.instantiable "SwapBook$Put" (10 : Nat)) ∈ lw_all := lw_g (lw_at lw_m3 171 rfl) rfl
theorem q797 : (Jvm.Cond.instanceMethod ({ cls := "SwapBook$Put", name := "<init>", desc := "(JI)V" } : Jvm.MethodName)) ∈ lw_all := lw_g (lw_at lw_m3 173 rfl) rfl
theorem q798 : (Jvm.Cond.code ({ cls := "SwapBook$Put", name := "<init>", desc := "(JI)V" } : Jvm.MethodName) prog_6_method_1_code (4 : Nat) (Option.none : Option Jvm.ClassFile.FieldType)) ∈ lw_all := lw_g (lw_at lw_m3 174 rfl) rfl
theorem q799 : (Jvm.Cond.methodLink "SwapBook$Put" (3 : Nat) ({ cls := "SwapBook$Change", name := "<init>", desc := "(JI)V" } : Jvm.MethodName)) ∈ lw_all := lw_g (lw_at lw_m3 175 rfl) rfl
theorem q803 : (Jvm.Cond.fieldLink "SwapBook$Put" (9 : Nat) "SwapBook$Put" "key" "I") ∈ lw_all := lw_g (lw_at lw_m3 179 rfl) rfl
theorem q835 : (Jvm.Cond.lays "SwapBook$Put" "SwapBook$Put" "key" "I") ∈ lw_all := lw_g (lw_at lw_m3 211 rfl) rfl
theorem q836 : (Jvm.Cond.soleField "SwapBook$Put" "key") ∈ lw_all := lw_g (lw_at lw_m3 212 rfl) rfl
theorem q837 : (Jvm.Cond.lays "SwapBook$Put" "SwapBook$Put" "says" "I") ∈ lw_all := lw_g (lw_at lw_m3 213 rfl) rfl
theorem q838 : (Jvm.Cond.soleField "SwapBook$Put" "says") ∈ lw_all := lw_g (lw_at lw_m3 214 rfl) rfl
theorem q839 : (Jvm.Cond.laysFinal "SwapBook$Put" "SwapBook$Change" "name" "J") ∈ lw_all := lw_g (lw_at lw_m3 215 rfl) rfl
theorem q841 : (Jvm.Cond.laysFinal "SwapBook$Put" "SwapBook$Change" "number" "I") ∈ lw_all := lw_g (lw_at lw_m3 217 rfl) rfl
theorem q843 : (Jvm.Cond.lays "SwapBook$Put" "SwapBook$Change" "thing" "I") ∈ lw_all := lw_g (lw_at lw_m3 219 rfl) rfl
theorem q845 : (Jvm.Cond.lays "SwapBook$Put" "SwapBook$Change" "of" "I") ∈ lw_all := lw_g (lw_at lw_m3 221 rfl) rfl
theorem q847 : (Jvm.Cond.lays "SwapBook$Put" "SwapBook$Change" "needs" "I") ∈ lw_all := lw_g (lw_at lw_m3 223 rfl) rfl
theorem q849 : (Jvm.Cond.lays "SwapBook$Put" "SwapBook$Change" "hangs" "I") ∈ lw_all := lw_g (lw_at lw_m3 225 rfl) rfl
theorem q851 : (Jvm.Cond.lays "SwapBook$Put" "SwapBook$Change" "level" "I") ∈ lw_all := lw_g (lw_at lw_m3 227 rfl) rfl
theorem q853 : (Jvm.Cond.lays "SwapBook$Put" "SwapBook$Change" "quarrels" "I") ∈ lw_all := lw_g (lw_at lw_m3 229 rfl) rfl
theorem q855 : (Jvm.Cond.superclass "SwapBook$Put" "SwapBook$Change") ∈ lw_all := lw_g (lw_at lw_m3 231 rfl) rfl
theorem q912 : (Jvm.Cond.selects "SwapBook$Put" ({ cls := "SwapBook$Change", name := "kind", desc := "()I" } : Jvm.MethodName) ({ cls := "SwapBook$Put", name := "kind", desc := "()I" } : Jvm.MethodName)) ∈ lw_all := lw_g (lw_at lw_m4 48 rfl) rfl
theorem q913 : (Jvm.Cond.instanceMethod ({ cls := "SwapBook$Put", name := "kind", desc := "()I" } : Jvm.MethodName)) ∈ lw_all := lw_g (lw_at lw_m4 49 rfl) rfl
theorem q914 : (Jvm.Cond.code ({ cls := "SwapBook$Put", name := "kind", desc := "()I" } : Jvm.MethodName) prog_6_method_2_code (1 : Nat) (Option.some Jvm.ClassFile.FieldType.int)) ∈ lw_all := lw_g (lw_at lw_m4 50 rfl) rfl
theorem q984 : (Jvm.Cond.selects "SwapBook$Put" ({ cls := "SwapBook$Change", name := "minds", desc := "(I)Z" } : Jvm.MethodName) ({ cls := "SwapBook$Change", name := "minds", desc := "(I)Z" } : Jvm.MethodName)) ∈ lw_all := lw_g (lw_at lw_m4 120 rfl) rfl
theorem q1109 : (Jvm.Cond.selects "SwapBook$Put" ({ cls := "SwapBook$Change", name := "tells", desc := "()I" } : Jvm.MethodName) ({ cls := "SwapBook$Put", name := "tells", desc := "()I" } : Jvm.MethodName)) ∈ lw_all := lw_g (lw_at lw_m5 5 rfl) rfl
theorem q1110 : (Jvm.Cond.instanceMethod ({ cls := "SwapBook$Put", name := "tells", desc := "()I" } : Jvm.MethodName)) ∈ lw_all := lw_g (lw_at lw_m5 6 rfl) rfl
theorem q1111 : (Jvm.Cond.code ({ cls := "SwapBook$Put", name := "tells", desc := "()I" } : Jvm.MethodName) prog_6_method_3_code (1 : Nat) (Option.some Jvm.ClassFile.FieldType.int)) ∈ lw_all := lw_g (lw_at lw_m5 7 rfl) rfl
theorem q2215 : (Jvm.Cond.castable "SwapBook$Put" "SwapBook$Change") ∈ lw_tbl := lw_at lw_m9 151 rfl
theorem in_X8 : ∀ w ∈ wsX80, w ∈ lw_all := lw_in wsX80 [839, 841, 843, 845, 847, 849, 851, 853, 835, 837] (by decide +kernel) (by decide +kernel)

/-! SwapBook$Settle -/
set_option maxRecDepth 100000
def RX9 : String := "SwapBook$Settle"
def TX9 : u_T := fun k => match k with
  | 0 => ("SwapBook$Change", "name", "J", true)
  | 1 => ("SwapBook$Change", "number", "I", true)
  | 2 => ("SwapBook$Change", "thing", "I", false)
  | 3 => ("SwapBook$Change", "of", "I", false)
  | 4 => ("SwapBook$Change", "needs", "I", false)
  | 5 => ("SwapBook$Change", "hangs", "I", false)
  | 6 => ("SwapBook$Change", "level", "I", false)
  | 7 => ("SwapBook$Change", "quarrels", "I", false)
  | _ => ("SwapBook$Settle", "not", "I", false)
def tyX9 : Nat → FieldType := fun k => match k with
  | 0 => .long
  | 1 => .int
  | 2 => .int
  | 3 => .int
  | 4 => .int
  | 5 => .int
  | 6 => .int
  | 7 => .int
  | _ => .int
abbrev wsX90 : List Cond := u_ws RX9 TX9 9
theorem nmX9 : ∀ a, a < 9 → ∀ b, b < 9 → a ≠ b → (TX9 a).2.1 ≠ (TX9 b).2.1 := by decide +kernel
theorem tyX9_ok : ∀ k, k < 9 → parseFieldDescriptor (TX9 k).2.2.1 = some (tyX9 k) := by decide +kernel
abbrev cX9_init : ByteArray := prog_9_method_1_code
def yX9_init : MethodName := ⟨RX9, "<init>", "(JI)V"⟩
def dkwX9_init_0 : List UInt8 := [42, 31, 29, 183, 0, 3, 177]
abbrev dktX9_init_0 : List UInt8 := dkwX9_init_0 ++ []
theorem dksX9_init_0 : cX9_init.data.toList.drop 0 = dktX9_init_0 := by decide +kernel
theorem dX9_init_0 : decode cX9_init 0 = .ok (.aload_n 0, 1) := dk_42 (dk_at dksX9_init_0 0 rfl rfl)
theorem dX9_init_1 : decode cX9_init 1 = .ok (.lload_n 1, 1) := dk_31 (dk_at dksX9_init_0 1 rfl rfl)
theorem dX9_init_2 : decode cX9_init 2 = .ok (.iload_n 3, 1) := dk_29 (dk_at dksX9_init_0 2 rfl rfl)
theorem dX9_init_3 : decode cX9_init 3 = .ok (.invokespecial 3, 3) := dk_183 0 3 (dk_at dksX9_init_0 3 rfl rfl)
theorem dX9_init_6 : decode cX9_init 6 = .ok (.return_, 1) := dk_177 (dk_at dksX9_init_0 6 rfl rfl)
abbrev cX9_kind : ByteArray := prog_9_method_2_code
def yX9_kind : MethodName := ⟨RX9, "kind", "()I"⟩
theorem dX9_kind_0 : decode cX9_kind 0 = .ok (.iconst 4, 1) := by decide +kernel
theorem dX9_kind_1 : decode cX9_kind 1 = .ok (.ireturn, 1) := by decide +kernel
theorem q167 : (Jvm.Cond.initialized "SwapBook$Settle") ∈ lw_all := lw_g (lw_at lw_m1 23 rfl) rfl
theorem q816 : (Jvm.Cond.sameField "SwapBook$Settle" "SwapBook$Change" "thing" "I") ∈ lw_all := lw_g (lw_at lw_m3 192 rfl) rfl
theorem q820 : (Jvm.Cond.sameField "SwapBook$Settle" "SwapBook$Change" "of" "I") ∈ lw_all := lw_g (lw_at lw_m3 196 rfl) rfl
theorem q826 : (Jvm.Cond.sameField "SwapBook$Settle" "SwapBook$Change" "needs" "I") ∈ lw_all := lw_g (lw_at lw_m3 202 rfl) rfl
theorem q880 : (Jvm.Cond.instantiable "SwapBook$Settle" (9 : Nat)) ∈ lw_all := lw_g (lw_at lw_m4 16 rfl) rfl
theorem q882 : (Jvm.Cond.instanceMethod ({ cls := "SwapBook$Settle", name := "<init>", desc := "(JI)V" } : Jvm.MethodName)) ∈ lw_all := lw_g (lw_at lw_m4 18 rfl) rfl
theorem q883 : (Jvm.Cond.code ({ cls := "SwapBook$Settle", name := "<init>", desc := "(JI)V" } : Jvm.MethodName) prog_9_method_1_code (4 : Nat) (Option.none : Option Jvm.ClassFile.FieldType)) ∈ lw_all := lw_g (lw_at lw_m4 19 rfl) rfl
theorem q884 : (Jvm.Cond.methodLink "SwapBook$Settle" (3 : Nat) ({ cls := "SwapBook$Change", name := "<init>", desc := "(JI)V" } : Jvm.MethodName)) ∈ lw_all := lw_g (lw_at lw_m4 20 rfl) rfl
theorem q887 : (Jvm.Cond.lays "SwapBook$Settle" "SwapBook$Settle" "not" "I") ∈ lw_all := lw_g (lw_at lw_m4 23 rfl) rfl
theorem q888 : (Jvm.Cond.soleField "SwapBook$Settle" "not") ∈ lw_all := lw_g (lw_at lw_m4 24 rfl) rfl
theorem q889 : (Jvm.Cond.laysFinal "SwapBook$Settle" "SwapBook$Change" "name" "J") ∈ lw_all := lw_g (lw_at lw_m4 25 rfl) rfl
theorem q890 : (Jvm.Cond.laysFinal "SwapBook$Settle" "SwapBook$Change" "number" "I") ∈ lw_all := lw_g (lw_at lw_m4 26 rfl) rfl
theorem q891 : (Jvm.Cond.lays "SwapBook$Settle" "SwapBook$Change" "thing" "I") ∈ lw_all := lw_g (lw_at lw_m4 27 rfl) rfl
theorem q892 : (Jvm.Cond.lays "SwapBook$Settle" "SwapBook$Change" "of" "I") ∈ lw_all := lw_g (lw_at lw_m4 28 rfl) rfl
theorem q893 : (Jvm.Cond.lays "SwapBook$Settle" "SwapBook$Change" "needs" "I") ∈ lw_all := lw_g (lw_at lw_m4 29 rfl) rfl
theorem q894 : (Jvm.Cond.lays "SwapBook$Settle" "SwapBook$Change" "hangs" "I") ∈ lw_all := lw_g (lw_at lw_m4 30 rfl) rfl
theorem q895 : (Jvm.Cond.lays "SwapBook$Settle" "SwapBook$Change" "level" "I") ∈ lw_all := lw_g (lw_at lw_m4 31 rfl) rfl
theorem q896 : (Jvm.Cond.lays "SwapBook$Settle" "SwapBook$Change" "quarrels" "I") ∈ lw_all := lw_g (lw_at lw_m4 32 rfl) rfl
theorem q897 : (Jvm.Cond.superclass "SwapBook$Settle" "SwapBook$Change") ∈ lw_all := lw_g (lw_at lw_m4 33 rfl) rfl
theorem q915 : (Jvm.Cond.selects "SwapBook$Settle" ({ cls := "SwapBook$Change", name := "kind", desc := "()I" } : Jvm.MethodName) ({ cls := "SwapBook$Settle", name := "kind", desc := "()I" } : Jvm.MethodName)) ∈ lw_all := lw_g (lw_at lw_m4 51 rfl) rfl
theorem q916 : (Jvm.Cond.instanceMethod ({ cls := "SwapBook$Settle", name := "kind", desc := "()I" } : Jvm.MethodName)) ∈ lw_all := lw_g (lw_at lw_m4 52 rfl) rfl
theorem q917 : (Jvm.Cond.code ({ cls := "SwapBook$Settle", name := "kind", desc := "()I" } : Jvm.MethodName) prog_9_method_2_code (1 : Nat) (Option.some Jvm.ClassFile.FieldType.int)) ∈ lw_all := lw_g (lw_at lw_m4 53 rfl) rfl
theorem q985 : (Jvm.Cond.selects "SwapBook$Settle" ({ cls := "SwapBook$Change", name := "minds", desc := "(I)Z" } : Jvm.MethodName) ({ cls := "SwapBook$Change", name := "minds", desc := "(I)Z" } : Jvm.MethodName)) ∈ lw_all := lw_g (lw_at lw_m4 121 rfl) rfl
theorem q1112 : (Jvm.Cond.selects "SwapBook$Settle" ({ cls := "SwapBook$Change", name := "tells", desc := "()I" } : Jvm.MethodName) ({ cls := "SwapBook$Change", name := "tells", desc := "()I" } : Jvm.MethodName)) ∈ lw_all := lw_g (lw_at lw_m5 8 rfl) rfl
theorem q2216 : (Jvm.Cond.castable "SwapBook$Settle" "SwapBook$Change") ∈ lw_tbl := lw_at lw_m9 152 rfl
theorem in_X9 : ∀ w ∈ wsX90, w ∈ lw_all := lw_in wsX90 [889, 890, 891, 892, 893, 894, 895, 896, 887] (by decide +kernel) (by decide +kernel)

theorem q144 : (Jvm.Cond.initialized "SwapBookLaw") ∈ lw_all := lw_g (lw_at lw_m1 0 rfl) rfl
set_option maxRecDepth 100000
theorem q173 : (Jvm.Cond.classLink "SwapBookLaw" (7 : Nat) "SwapBook") ∈ lw_all := lw_g (lw_at lw_m1 29 rfl) rfl
theorem q175 : (Jvm.Cond.methodLink "SwapBookLaw" (9 : Nat) ({ cls := "SwapBook", name := "<init>", desc := "()V" } : Jvm.MethodName)) ∈ lw_all := lw_g (lw_at lw_m1 31 rfl) rfl
theorem q497 : (Jvm.Cond.methodLink "SwapBookLaw" (13 : Nat) ({ cls := "SwapBook", name := "status", desc := "()I" } : Jvm.MethodName)) ∈ lw_all := lw_g (lw_at lw_m2 113 rfl) rfl
theorem q501 : (Jvm.Cond.methodLink "SwapBookLaw" (18 : Nat) ({ cls := "SwapBook", name := "top", desc := "()J" } : Jvm.MethodName)) ∈ lw_all := lw_g (lw_at lw_m2 117 rfl) rfl
theorem q505 : (Jvm.Cond.methodLink "SwapBookLaw" (23 : Nat) ({ cls := "SwapBook", name := "bottom", desc := "()J" } : Jvm.MethodName)) ∈ lw_all := lw_g (lw_at lw_m2 121 rfl) rfl
theorem q509 : (Jvm.Cond.methodLink "SwapBookLaw" (27 : Nat) ({ cls := "SwapBook", name := "tray", desc := "(III)Z" } : Jvm.MethodName)) ∈ lw_all := lw_g (lw_at lw_m2 125 rfl) rfl
theorem q552 : (Jvm.Cond.methodLink "SwapBookLaw" (34 : Nat) ({ cls := "SwapBook", name := "write", desc := "(IIJ)Z" } : Jvm.MethodName)) ∈ lw_all := lw_g (lw_at lw_m2 168 rfl) rfl
theorem q608 : (Jvm.Cond.methodLink "SwapBookLaw" (39 : Nat) ({ cls := "SwapBook", name := "read", desc := "(II)J" } : Jvm.MethodName)) ∈ lw_all := lw_g (lw_at lw_m2 224 rfl) rfl
theorem q621 : (Jvm.Cond.methodLink "SwapBookLaw" (44 : Nat) ({ cls := "SwapBook", name := "pour", desc := "(IIIII)Z" } : Jvm.MethodName)) ∈ lw_all := lw_g (lw_at lw_m2 237 rfl) rfl
theorem q629 : (Jvm.Cond.methodLink "SwapBookLaw" (49 : Nat) ({ cls := "SwapBook", name := "feed", desc := "(IIIII)I" } : Jvm.MethodName)) ∈ lw_all := lw_g (lw_at lw_m3 5 rfl) rfl
theorem q637 : (Jvm.Cond.methodLink "SwapBookLaw" (54 : Nat) ({ cls := "SwapBook", name := "book", desc := "(I)I" } : Jvm.MethodName)) ∈ lw_all := lw_g (lw_at lw_m3 13 rfl) rfl
theorem q1009 : (Jvm.Cond.methodLink "SwapBookLaw" (59 : Nat) ({ cls := "SwapBook", name := "log", desc := "(I)I" } : Jvm.MethodName)) ∈ lw_all := lw_g (lw_at lw_m4 145 rfl) rfl
theorem q1080 : (Jvm.Cond.methodLink "SwapBookLaw" (63 : Nat) ({ cls := "SwapBook", name := "fault", desc := "(I)I" } : Jvm.MethodName)) ∈ lw_all := lw_g (lw_at lw_m4 216 rfl) rfl
theorem q1084 : (Jvm.Cond.methodLink "SwapBookLaw" (67 : Nat) ({ cls := "SwapBook", name := "many", desc := "(I)I" } : Jvm.MethodName)) ∈ lw_all := lw_g (lw_at lw_m4 220 rfl) rfl
theorem q1095 : (Jvm.Cond.methodLink "SwapBookLaw" (71 : Nat) ({ cls := "SwapBook", name := "change", desc := "(II)I" } : Jvm.MethodName)) ∈ lw_all := lw_g (lw_at lw_m4 231 rfl) rfl
theorem q1116 : (Jvm.Cond.methodLink "SwapBookLaw" (76 : Nat) ({ cls := "SwapBook", name := "hangs", desc := "(II)I" } : Jvm.MethodName)) ∈ lw_all := lw_g (lw_at lw_m5 12 rfl) rfl
theorem q1124 : (Jvm.Cond.methodLink "SwapBookLaw" (80 : Nat) ({ cls := "SwapBook", name := "holds", desc := "(I)I" } : Jvm.MethodName)) ∈ lw_all := lw_g (lw_at lw_m5 20 rfl) rfl
theorem q1140 : (Jvm.Cond.methodLink "SwapBookLaw" (84 : Nat) ({ cls := "SwapBook", name := "lacks", desc := "(I)I" } : Jvm.MethodName)) ∈ lw_all := lw_g (lw_at lw_m5 36 rfl) rfl
theorem q1144 : (Jvm.Cond.methodLink "SwapBookLaw" (88 : Nat) ({ cls := "SwapBook", name := "out", desc := "(II)I" } : Jvm.MethodName)) ∈ lw_all := lw_g (lw_at lw_m5 40 rfl) rfl
theorem q1152 : (Jvm.Cond.methodLink "SwapBookLaw" (92 : Nat) ({ cls := "SwapBook", name := "pick", desc := "(II)I" } : Jvm.MethodName)) ∈ lw_all := lw_g (lw_at lw_m5 48 rfl) rfl
theorem q1156 : (Jvm.Cond.methodLink "SwapBookLaw" (96 : Nat) ({ cls := "SwapBook", name := "heaviest", desc := "()I" } : Jvm.MethodName)) ∈ lw_all := lw_g (lw_at lw_m5 52 rfl) rfl
theorem q1160 : (Jvm.Cond.methodLink "SwapBookLaw" (100 : Nat) ({ cls := "SwapBook", name := "alone", desc := "()I" } : Jvm.MethodName)) ∈ lw_all := lw_g (lw_at lw_m5 56 rfl) rfl
theorem q1164 : (Jvm.Cond.methodLink "SwapBookLaw" (104 : Nat) ({ cls := "SwapBook", name := "size", desc := "(I)I" } : Jvm.MethodName)) ∈ lw_all := lw_g (lw_at lw_m5 60 rfl) rfl
theorem q1203 : (Jvm.Cond.methodLink "SwapBookLaw" (108 : Nat) ({ cls := "SwapBook", name := "thing", desc := "(II)I" } : Jvm.MethodName)) ∈ lw_all := lw_g (lw_at lw_m5 99 rfl) rfl
theorem q1207 : (Jvm.Cond.methodLink "SwapBookLaw" (112 : Nat) ({ cls := "SwapBook", name := "says", desc := "(II)I" } : Jvm.MethodName)) ∈ lw_all := lw_g (lw_at lw_m5 103 rfl) rfl
theorem q1219 : (Jvm.Cond.methodLink "SwapBookLaw" (116 : Nat) ({ cls := "SwapBook", name := "key", desc := "(II)I" } : Jvm.MethodName)) ∈ lw_all := lw_g (lw_at lw_m5 115 rfl) rfl
theorem q1223 : (Jvm.Cond.methodLink "SwapBookLaw" (120 : Nat) ({ cls := "SwapBook", name := "place", desc := "(II)I" } : Jvm.MethodName)) ∈ lw_all := lw_g (lw_at lw_m5 119 rfl) rfl
theorem q1227 : (Jvm.Cond.methodLink "SwapBookLaw" (124 : Nat) ({ cls := "SwapBook", name := "like", desc := "(II)I" } : Jvm.MethodName)) ∈ lw_all := lw_g (lw_at lw_m5 123 rfl) rfl
theorem q1245 : (Jvm.Cond.methodLink "SwapBookLaw" (128 : Nat) ({ cls := "SwapBook", name := "apart", desc := "(II)I" } : Jvm.MethodName)) ∈ lw_all := lw_g (lw_at lw_m5 141 rfl) rfl
theorem q1249 : (Jvm.Cond.methodLink "SwapBookLaw" (132 : Nat) ({ cls := "SwapBook", name := "quarrels", desc := "(I)I" } : Jvm.MethodName)) ∈ lw_all := lw_g (lw_at lw_m5 145 rfl) rfl
theorem q1253 : (Jvm.Cond.methodLink "SwapBookLaw" (136 : Nat) ({ cls := "SwapBook", name := "with", desc := "(II)I" } : Jvm.MethodName)) ∈ lw_all := lw_g (lw_at lw_m5 149 rfl) rfl
theorem q1257 : (Jvm.Cond.methodLink "SwapBookLaw" (140 : Nat) ({ cls := "SwapBook", name := "leastOut", desc := "(I)I" } : Jvm.MethodName)) ∈ lw_all := lw_g (lw_at lw_m5 153 rfl) rfl
theorem q1269 : (Jvm.Cond.methodLink "SwapBookLaw" (144 : Nat) ({ cls := "SwapBook", name := "mostQuiet", desc := "()I" } : Jvm.MethodName)) ∈ lw_all := lw_g (lw_at lw_m5 165 rfl) rfl
theorem q1273 : (Jvm.Cond.methodLink "SwapBookLaw" (148 : Nat) ({ cls := "SwapBook", name := "orders", desc := "(I)J" } : Jvm.MethodName)) ∈ lw_all := lw_g (lw_at lw_m5 169 rfl) rfl
theorem q1285 : (Jvm.Cond.methodLink "SwapBookLaw" (153 : Nat) ({ cls := "SwapBook", name := "ahead", desc := "(III)Z" } : Jvm.MethodName)) ∈ lw_all := lw_g (lw_at lw_m5 181 rfl) rfl
theorem q1293 : (Jvm.Cond.methodLink "SwapBookLaw" (157 : Nat) ({ cls := "SwapBook", name := "ordered", desc := "(IJ)I" } : Jvm.MethodName)) ∈ lw_all := lw_g (lw_at lw_m5 189 rfl) rfl
theorem q1297 : (Jvm.Cond.methodLink "SwapBookLaw" (162 : Nat) ({ cls := "SwapBook", name := "order", desc := "(II)Z" } : Jvm.MethodName)) ∈ lw_all := lw_g (lw_at lw_m5 193 rfl) rfl
theorem q1309 : (Jvm.Cond.methodLink "SwapBookLaw" (167 : Nat) ({ cls := "SwapBook", name := "number", desc := "()J" } : Jvm.MethodName)) ∈ lw_all := lw_g (lw_at lw_m5 205 rfl) rfl
theorem q1317 : (Jvm.Cond.methodLink "SwapBookLaw" (171 : Nat) ({ cls := "SwapBook", name := "orderAt", desc := "(I)I" } : Jvm.MethodName)) ∈ lw_all := lw_g (lw_at lw_m5 213 rfl) rfl
theorem q1321 : (Jvm.Cond.methodLink "SwapBookLaw" (175 : Nat) ({ cls := "SwapBook", name := "acts", desc := "(I)I" } : Jvm.MethodName)) ∈ lw_all := lw_g (lw_at lw_m5 217 rfl) rfl
theorem q1325 : (Jvm.Cond.methodLink "SwapBookLaw" (179 : Nat) ({ cls := "SwapBook", name := "swap", desc := "(I)Z" } : Jvm.MethodName)) ∈ lw_all := lw_g (lw_at lw_m5 221 rfl) rfl
theorem q1337 : (Jvm.Cond.methodLink "SwapBookLaw" (184 : Nat) ({ cls := "SwapBook", name := "forward", desc := "(I)I" } : Jvm.MethodName)) ∈ lw_all := lw_g (lw_at lw_m5 233 rfl) rfl
theorem q1341 : (Jvm.Cond.methodLink "SwapBookLaw" (188 : Nat) ({ cls := "SwapBook", name := "swaps", desc := "()I" } : Jvm.MethodName)) ∈ lw_all := lw_g (lw_at lw_m5 237 rfl) rfl
theorem q1345 : (Jvm.Cond.methodLink "SwapBookLaw" (192 : Nat) ({ cls := "SwapBook", name := "has", desc := "(I)I" } : Jvm.MethodName)) ∈ lw_all := lw_g (lw_at lw_m6 1 rfl) rfl
theorem q1353 : (Jvm.Cond.methodLink "SwapBookLaw" (196 : Nat) ({ cls := "SwapBook", name := "give", desc := "(II)Z" } : Jvm.MethodName)) ∈ lw_all := lw_g (lw_at lw_m6 9 rfl) rfl
theorem q1357 : (Jvm.Cond.methodLink "SwapBookLaw" (200 : Nat) ({ cls := "SwapBook", name := "sail", desc := "(I)I" } : Jvm.MethodName)) ∈ lw_all := lw_g (lw_at lw_m6 13 rfl) rfl
theorem q1398 : (Jvm.Cond.methodLink "SwapBookLaw" (204 : Nat) ({ cls := "SwapBook", name := "sailed", desc := "(I)I" } : Jvm.MethodName)) ∈ lw_all := lw_g (lw_at lw_m6 54 rfl) rfl
theorem q1402 : (Jvm.Cond.methodLink "SwapBookLaw" (208 : Nat) ({ cls := "SwapBook", name := "agreed", desc := "(II)I" } : Jvm.MethodName)) ∈ lw_all := lw_g (lw_at lw_m6 58 rfl) rfl
theorem q1407 : (Jvm.Cond.methodLink "SwapBookLaw" (212 : Nat) ({ cls := "SwapBook", name := "seal", desc := "(II)I" } : Jvm.MethodName)) ∈ lw_all := lw_g (lw_at lw_m6 63 rfl) rfl
theorem q1411 : (Jvm.Cond.methodLink "SwapBookLaw" (216 : Nat) ({ cls := "SwapBook", name := "open", desc := "(I)I" } : Jvm.MethodName)) ∈ lw_all := lw_g (lw_at lw_m6 67 rfl) rfl
theorem q1416 : (Jvm.Cond.methodLink "SwapBookLaw" (220 : Nat) ({ cls := "SwapBook", name := "mark", desc := "()I" } : Jvm.MethodName)) ∈ lw_all := lw_g (lw_at lw_m6 72 rfl) rfl
theorem q1446 : (Jvm.Cond.methodLink "SwapBookLaw" (224 : Nat) ({ cls := "SwapBook", name := "back", desc := "()I" } : Jvm.MethodName)) ∈ lw_all := lw_g (lw_at lw_m6 102 rfl) rfl
theorem q1450 : (Jvm.Cond.classLink "SwapBookLaw" (10 : Nat) "SwapBookModel") ∈ lw_all := lw_g (lw_at lw_m6 106 rfl) rfl
theorem q1452 : (Jvm.Cond.methodLink "SwapBookLaw" (12 : Nat) ({ cls := "SwapBookModel", name := "<init>", desc := "()V" } : Jvm.MethodName)) ∈ lw_all := lw_g (lw_at lw_m6 108 rfl) rfl
theorem q1599 : (Jvm.Cond.methodLink "SwapBookLaw" (17 : Nat) ({ cls := "SwapBookModel", name := "status", desc := "()I" } : Jvm.MethodName)) ∈ lw_all := lw_g (lw_at lw_m7 15 rfl) rfl
theorem q1603 : (Jvm.Cond.methodLink "SwapBookLaw" (22 : Nat) ({ cls := "SwapBookModel", name := "top", desc := "()J" } : Jvm.MethodName)) ∈ lw_all := lw_g (lw_at lw_m7 19 rfl) rfl
theorem q1607 : (Jvm.Cond.methodLink "SwapBookLaw" (26 : Nat) ({ cls := "SwapBookModel", name := "bottom", desc := "()J" } : Jvm.MethodName)) ∈ lw_all := lw_g (lw_at lw_m7 23 rfl) rfl
theorem q1611 : (Jvm.Cond.methodLink "SwapBookLaw" (31 : Nat) ({ cls := "SwapBookModel", name := "tray", desc := "(III)Z" } : Jvm.MethodName)) ∈ lw_all := lw_g (lw_at lw_m7 27 rfl) rfl
theorem q1619 : (Jvm.Cond.methodLink "SwapBookLaw" (38 : Nat) ({ cls := "SwapBookModel", name := "write", desc := "(IIJ)Z" } : Jvm.MethodName)) ∈ lw_all := lw_g (lw_at lw_m7 35 rfl) rfl
theorem q1634 : (Jvm.Cond.methodLink "SwapBookLaw" (43 : Nat) ({ cls := "SwapBookModel", name := "read", desc := "(II)J" } : Jvm.MethodName)) ∈ lw_all := lw_g (lw_at lw_m7 50 rfl) rfl
theorem q1639 : (Jvm.Cond.methodLink "SwapBookLaw" (48 : Nat) ({ cls := "SwapBookModel", name := "pour", desc := "(IIIII)Z" } : Jvm.MethodName)) ∈ lw_all := lw_g (lw_at lw_m7 55 rfl) rfl
theorem q1643 : (Jvm.Cond.methodLink "SwapBookLaw" (53 : Nat) ({ cls := "SwapBookModel", name := "feed", desc := "(IIIII)I" } : Jvm.MethodName)) ∈ lw_all := lw_g (lw_at lw_m7 59 rfl) rfl
theorem q1651 : (Jvm.Cond.methodLink "SwapBookLaw" (66 : Nat) ({ cls := "SwapBookModel", name := "fault", desc := "(I)I" } : Jvm.MethodName)) ∈ lw_all := lw_g (lw_at lw_m7 67 rfl) rfl
theorem q1655 : (Jvm.Cond.methodLink "SwapBookLaw" (58 : Nat) ({ cls := "SwapBookModel", name := "book", desc := "(I)I" } : Jvm.MethodName)) ∈ lw_all := lw_g (lw_at lw_m7 71 rfl) rfl
theorem q1844 : (Jvm.Cond.methodLink "SwapBookLaw" (70 : Nat) ({ cls := "SwapBookModel", name := "many", desc := "(I)I" } : Jvm.MethodName)) ∈ lw_all := lw_g (lw_at lw_m8 20 rfl) rfl
theorem q1853 : (Jvm.Cond.methodLink "SwapBookLaw" (75 : Nat) ({ cls := "SwapBookModel", name := "change", desc := "(II)I" } : Jvm.MethodName)) ∈ lw_all := lw_g (lw_at lw_m8 29 rfl) rfl
theorem q1869 : (Jvm.Cond.methodLink "SwapBookLaw" (79 : Nat) ({ cls := "SwapBookModel", name := "hangs", desc := "(II)I" } : Jvm.MethodName)) ∈ lw_all := lw_g (lw_at lw_m8 45 rfl) rfl
theorem q1878 : (Jvm.Cond.methodLink "SwapBookLaw" (83 : Nat) ({ cls := "SwapBookModel", name := "holds", desc := "(I)I" } : Jvm.MethodName)) ∈ lw_all := lw_g (lw_at lw_m8 54 rfl) rfl
theorem q1890 : (Jvm.Cond.methodLink "SwapBookLaw" (87 : Nat) ({ cls := "SwapBookModel", name := "lacks", desc := "(I)I" } : Jvm.MethodName)) ∈ lw_all := lw_g (lw_at lw_m8 66 rfl) rfl
theorem q1894 : (Jvm.Cond.methodLink "SwapBookLaw" (91 : Nat) ({ cls := "SwapBookModel", name := "out", desc := "(II)I" } : Jvm.MethodName)) ∈ lw_all := lw_g (lw_at lw_m8 70 rfl) rfl
theorem q1898 : (Jvm.Cond.methodLink "SwapBookLaw" (95 : Nat) ({ cls := "SwapBookModel", name := "pick", desc := "(II)I" } : Jvm.MethodName)) ∈ lw_all := lw_g (lw_at lw_m8 74 rfl) rfl
theorem q1902 : (Jvm.Cond.methodLink "SwapBookLaw" (99 : Nat) ({ cls := "SwapBookModel", name := "heaviest", desc := "()I" } : Jvm.MethodName)) ∈ lw_all := lw_g (lw_at lw_m8 78 rfl) rfl
theorem q1909 : (Jvm.Cond.methodLink "SwapBookLaw" (103 : Nat) ({ cls := "SwapBookModel", name := "alone", desc := "()I" } : Jvm.MethodName)) ∈ lw_all := lw_g (lw_at lw_m8 85 rfl) rfl
theorem q1913 : (Jvm.Cond.methodLink "SwapBookLaw" (107 : Nat) ({ cls := "SwapBookModel", name := "size", desc := "(I)I" } : Jvm.MethodName)) ∈ lw_all := lw_g (lw_at lw_m8 89 rfl) rfl
theorem q1953 : (Jvm.Cond.methodLink "SwapBookLaw" (111 : Nat) ({ cls := "SwapBookModel", name := "thing", desc := "(II)I" } : Jvm.MethodName)) ∈ lw_all := lw_g (lw_at lw_m8 129 rfl) rfl
theorem q1957 : (Jvm.Cond.methodLink "SwapBookLaw" (115 : Nat) ({ cls := "SwapBookModel", name := "says", desc := "(II)I" } : Jvm.MethodName)) ∈ lw_all := lw_g (lw_at lw_m8 133 rfl) rfl
theorem q1965 : (Jvm.Cond.methodLink "SwapBookLaw" (119 : Nat) ({ cls := "SwapBookModel", name := "key", desc := "(II)I" } : Jvm.MethodName)) ∈ lw_all := lw_g (lw_at lw_m8 141 rfl) rfl
theorem q1969 : (Jvm.Cond.methodLink "SwapBookLaw" (123 : Nat) ({ cls := "SwapBookModel", name := "place", desc := "(II)I" } : Jvm.MethodName)) ∈ lw_all := lw_g (lw_at lw_m8 145 rfl) rfl
theorem q1977 : (Jvm.Cond.methodLink "SwapBookLaw" (127 : Nat) ({ cls := "SwapBookModel", name := "like", desc := "(II)I" } : Jvm.MethodName)) ∈ lw_all := lw_g (lw_at lw_m8 153 rfl) rfl
theorem q1985 : (Jvm.Cond.methodLink "SwapBookLaw" (131 : Nat) ({ cls := "SwapBookModel", name := "apart", desc := "(II)I" } : Jvm.MethodName)) ∈ lw_all := lw_g (lw_at lw_m8 161 rfl) rfl
theorem q1989 : (Jvm.Cond.methodLink "SwapBookLaw" (135 : Nat) ({ cls := "SwapBookModel", name := "quarrels", desc := "(I)I" } : Jvm.MethodName)) ∈ lw_all := lw_g (lw_at lw_m8 165 rfl) rfl
theorem q1997 : (Jvm.Cond.methodLink "SwapBookLaw" (139 : Nat) ({ cls := "SwapBookModel", name := "with", desc := "(II)I" } : Jvm.MethodName)) ∈ lw_all := lw_g (lw_at lw_m8 173 rfl) rfl
theorem q2001 : (Jvm.Cond.methodLink "SwapBookLaw" (143 : Nat) ({ cls := "SwapBookModel", name := "leastOut", desc := "(I)I" } : Jvm.MethodName)) ∈ lw_all := lw_g (lw_at lw_m8 177 rfl) rfl
theorem q2009 : (Jvm.Cond.methodLink "SwapBookLaw" (147 : Nat) ({ cls := "SwapBookModel", name := "mostQuiet", desc := "()I" } : Jvm.MethodName)) ∈ lw_all := lw_g (lw_at lw_m8 185 rfl) rfl
theorem q2013 : (Jvm.Cond.methodLink "SwapBookLaw" (152 : Nat) ({ cls := "SwapBookModel", name := "orders", desc := "(I)J" } : Jvm.MethodName)) ∈ lw_all := lw_g (lw_at lw_m8 189 rfl) rfl
theorem q2025 : (Jvm.Cond.methodLink "SwapBookLaw" (156 : Nat) ({ cls := "SwapBookModel", name := "ahead", desc := "(III)Z" } : Jvm.MethodName)) ∈ lw_all := lw_g (lw_at lw_m8 201 rfl) rfl
theorem q2036 : (Jvm.Cond.methodLink "SwapBookLaw" (161 : Nat) ({ cls := "SwapBookModel", name := "ordered", desc := "(IJ)I" } : Jvm.MethodName)) ∈ lw_all := lw_g (lw_at lw_m8 212 rfl) rfl
theorem q2040 : (Jvm.Cond.methodLink "SwapBookLaw" (166 : Nat) ({ cls := "SwapBookModel", name := "order", desc := "(II)Z" } : Jvm.MethodName)) ∈ lw_all := lw_g (lw_at lw_m8 216 rfl) rfl
theorem q2053 : (Jvm.Cond.methodLink "SwapBookLaw" (170 : Nat) ({ cls := "SwapBookModel", name := "number", desc := "()J" } : Jvm.MethodName)) ∈ lw_all := lw_g (lw_at lw_m8 229 rfl) rfl
theorem q2061 : (Jvm.Cond.methodLink "SwapBookLaw" (174 : Nat) ({ cls := "SwapBookModel", name := "orderAt", desc := "(I)I" } : Jvm.MethodName)) ∈ lw_all := lw_g (lw_at lw_m8 237 rfl) rfl
theorem q2065 : (Jvm.Cond.methodLink "SwapBookLaw" (178 : Nat) ({ cls := "SwapBookModel", name := "acts", desc := "(I)I" } : Jvm.MethodName)) ∈ lw_all := lw_g (lw_at lw_m9 1 rfl) rfl
theorem q2069 : (Jvm.Cond.methodLink "SwapBookLaw" (183 : Nat) ({ cls := "SwapBookModel", name := "swap", desc := "(I)Z" } : Jvm.MethodName)) ∈ lw_all := lw_g (lw_at lw_m9 5 rfl) rfl
theorem q2077 : (Jvm.Cond.methodLink "SwapBookLaw" (187 : Nat) ({ cls := "SwapBookModel", name := "forward", desc := "(I)I" } : Jvm.MethodName)) ∈ lw_all := lw_g (lw_at lw_m9 13 rfl) rfl
theorem q2081 : (Jvm.Cond.methodLink "SwapBookLaw" (191 : Nat) ({ cls := "SwapBookModel", name := "swaps", desc := "()I" } : Jvm.MethodName)) ∈ lw_all := lw_g (lw_at lw_m9 17 rfl) rfl
theorem q2085 : (Jvm.Cond.methodLink "SwapBookLaw" (195 : Nat) ({ cls := "SwapBookModel", name := "has", desc := "(I)I" } : Jvm.MethodName)) ∈ lw_all := lw_g (lw_at lw_m9 21 rfl) rfl
theorem q2093 : (Jvm.Cond.methodLink "SwapBookLaw" (199 : Nat) ({ cls := "SwapBookModel", name := "give", desc := "(II)Z" } : Jvm.MethodName)) ∈ lw_all := lw_g (lw_at lw_m9 29 rfl) rfl
theorem q2097 : (Jvm.Cond.methodLink "SwapBookLaw" (62 : Nat) ({ cls := "SwapBookModel", name := "log", desc := "(I)I" } : Jvm.MethodName)) ∈ lw_all := lw_g (lw_at lw_m9 33 rfl) rfl
theorem q2121 : (Jvm.Cond.methodLink "SwapBookLaw" (203 : Nat) ({ cls := "SwapBookModel", name := "sail", desc := "(I)I" } : Jvm.MethodName)) ∈ lw_all := lw_g (lw_at lw_m9 57 rfl) rfl
theorem q2174 : (Jvm.Cond.methodLink "SwapBookLaw" (207 : Nat) ({ cls := "SwapBookModel", name := "sailed", desc := "(I)I" } : Jvm.MethodName)) ∈ lw_all := lw_g (lw_at lw_m9 110 rfl) rfl
theorem q2179 : (Jvm.Cond.methodLink "SwapBookLaw" (211 : Nat) ({ cls := "SwapBookModel", name := "agreed", desc := "(II)I" } : Jvm.MethodName)) ∈ lw_all := lw_g (lw_at lw_m9 115 rfl) rfl
theorem q2184 : (Jvm.Cond.methodLink "SwapBookLaw" (215 : Nat) ({ cls := "SwapBookModel", name := "seal", desc := "(II)I" } : Jvm.MethodName)) ∈ lw_all := lw_g (lw_at lw_m9 120 rfl) rfl
theorem q2190 : (Jvm.Cond.methodLink "SwapBookLaw" (219 : Nat) ({ cls := "SwapBookModel", name := "open", desc := "(I)I" } : Jvm.MethodName)) ∈ lw_all := lw_g (lw_at lw_m9 126 rfl) rfl
theorem q2195 : (Jvm.Cond.methodLink "SwapBookLaw" (223 : Nat) ({ cls := "SwapBookModel", name := "mark", desc := "()I" } : Jvm.MethodName)) ∈ lw_all := lw_g (lw_at lw_m9 131 rfl) rfl
theorem q2203 : (Jvm.Cond.methodLink "SwapBookLaw" (227 : Nat) ({ cls := "SwapBookModel", name := "back", desc := "()I" } : Jvm.MethodName)) ∈ lw_all := lw_g (lw_at lw_m9 139 rfl) rfl
theorem q2207 : (Jvm.Cond.constantLong "SwapBookLaw" (32 : Nat) (4294967295 : Int64)) ∈ lw_all := lw_g (lw_at lw_m9 143 rfl) rfl

theorem q160 : (Jvm.Cond.initialized "java/lang/System") ∈ lw_all := lw_g (lw_at lw_m1 16 rfl) rfl
set_option maxRecDepth 100000
theorem q627 : (Jvm.Cond.static ({ cls := "java/lang/System", name := "arraycopy", desc := "(Ljava/lang/Object;ILjava/lang/Object;II)V" } : Jvm.MethodName)) ∈ lw_all := lw_g (lw_at lw_m3 3 rfl) rfl
theorem q628 : (Jvm.Cond.native ({ cls := "java/lang/System", name := "arraycopy", desc := "(Ljava/lang/Object;ILjava/lang/Object;II)V" } : Jvm.MethodName)) ∈ lw_all := lw_g (lw_at lw_m3 4 rfl) rfl

theorem q182 : (Jvm.Cond.arrayOver (Jvm.ClassFile.FieldType.object "SwapBook$Tray")) ∈ lw_tbl := lw_at lw_m1 38 rfl
set_option maxRecDepth 100000
theorem q337 : (Jvm.Cond.arrayClass Jvm.ClassFile.FieldType.byte) ∈ lw_all := lw_g (lw_at lw_m1 193 rfl) rfl
theorem q338 : (Jvm.Cond.arrayClass Jvm.ClassFile.FieldType.int) ∈ lw_all := lw_g (lw_at lw_m1 194 rfl) rfl
theorem q346 : (Jvm.Cond.arrayOver (Jvm.ClassFile.FieldType.object "SwapBook$Change")) ∈ lw_tbl := lw_at lw_m1 202 rfl
theorem q367 : (Jvm.Cond.arrayClass Jvm.ClassFile.FieldType.long) ∈ lw_all := lw_g (lw_at lw_m1 223 rfl) rfl
theorem q370 : (Jvm.Cond.arrayOver (Jvm.ClassFile.FieldType.object "SwapBook$Kept")) ∈ lw_tbl := lw_at lw_m1 226 rfl
theorem q551 : (Jvm.Cond.arrayClass Jvm.ClassFile.FieldType.short) ∈ lw_all := lw_g (lw_at lw_m2 167 rfl) rfl
theorem q1018 : (Jvm.Cond.arrayOver (Jvm.ClassFile.FieldType.object "SwapBook$Step")) ∈ lw_tbl := lw_at lw_m4 154 rfl
