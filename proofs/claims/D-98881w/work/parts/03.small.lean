/-! java/lang/Throwable -/
set_option maxRecDepth 100000
def RJ0 : String := "java/lang/Throwable"
def TJ0 : u_T := fun k => match k with
  | 0 => ("java/lang/Throwable", "cause", "Ljava/lang/Throwable;", false)
  | 1 => ("java/lang/Throwable", "stackTrace", "[Ljava/lang/StackTraceElement;", false)
  | 2 => ("java/lang/Throwable", "suppressedExceptions", "Ljava/util/List;", false)
  | 3 => ("java/lang/Throwable", "detailMessage", "Ljava/lang/String;", false)
  | _ => ("java/lang/Throwable", "backtrace", "Ljava/lang/Object;", false)
def tyJ0 : Nat → FieldType := fun k => match k with
  | 0 => .object "java/lang/Throwable"
  | 1 => .array (.object "java/lang/StackTraceElement")
  | 2 => .object "java/util/List"
  | 3 => .object "java/lang/String"
  | _ => .object "java/lang/Object"
abbrev wsJ00 : List Cond := u_ws RJ0 TJ0 5
theorem nmJ0 : ∀ a, a < 5 → ∀ b, b < 5 → a ≠ b → (TJ0 a).2.1 ≠ (TJ0 b).2.1 := by decide +kernel
theorem tyJ0_ok : ∀ k, k < 5 → parseFieldDescriptor (TJ0 k).2.2.1 = some (tyJ0 k) := by decide +kernel
abbrev cJ0_init : ByteArray := prog_27_method_1_code
def yJ0_init : MethodName := ⟨RJ0, "<init>", "()V"⟩
def dkwJ0_init_1 : List UInt8 := [182, 0, 27, 87, 177]
abbrev dktJ0_init_1 : List UInt8 := dkwJ0_init_1 ++ []
def dkwJ0_init_0 : List UInt8 := [42, 183, 0, 1, 42, 42, 181, 0, 7, 42, 178, 0, 13, 181, 0, 17, 42, 178, 0, 20, 181, 0, 24, 42]
abbrev dktJ0_init_0 : List UInt8 := dkwJ0_init_0 ++ dktJ0_init_1
theorem dksJ0_init_0 : cJ0_init.data.toList.drop 0 = dktJ0_init_0 := by decide +kernel
theorem dksJ0_init_1 : cJ0_init.data.toList.drop 24 = dktJ0_init_1 := dk_seg dksJ0_init_0 24 rfl rfl
theorem dJ0_init_0 : decode cJ0_init 0 = .ok (.aload_n 0, 1) := dk_42 (dk_at dksJ0_init_0 0 rfl rfl)
theorem dJ0_init_1 : decode cJ0_init 1 = .ok (.invokespecial 1, 3) := dk_183 0 1 (dk_at dksJ0_init_0 1 rfl rfl)
theorem dJ0_init_4 : decode cJ0_init 4 = .ok (.aload_n 0, 1) := dk_42 (dk_at dksJ0_init_0 4 rfl rfl)
theorem dJ0_init_5 : decode cJ0_init 5 = .ok (.aload_n 0, 1) := dk_42 (dk_at dksJ0_init_0 5 rfl rfl)
theorem dJ0_init_6 : decode cJ0_init 6 = .ok (.putfield 7, 3) := dk_181 0 7 (dk_at dksJ0_init_0 6 rfl rfl)
theorem dJ0_init_9 : decode cJ0_init 9 = .ok (.aload_n 0, 1) := dk_42 (dk_at dksJ0_init_0 9 rfl rfl)
theorem dJ0_init_10 : decode cJ0_init 10 = .ok (.getstatic 13, 3) := dk_178 0 13 (dk_at dksJ0_init_0 10 rfl rfl)
theorem dJ0_init_13 : decode cJ0_init 13 = .ok (.putfield 17, 3) := dk_181 0 17 (dk_at dksJ0_init_0 13 rfl rfl)
theorem dJ0_init_16 : decode cJ0_init 16 = .ok (.aload_n 0, 1) := dk_42 (dk_at dksJ0_init_0 16 rfl rfl)
theorem dJ0_init_17 : decode cJ0_init 17 = .ok (.getstatic 20, 3) := dk_178 0 20 (dk_at dksJ0_init_0 17 rfl rfl)
theorem dJ0_init_20 : decode cJ0_init 20 = .ok (.putfield 24, 3) := dk_181 0 24 (dk_at dksJ0_init_0 20 rfl rfl)
theorem dJ0_init_23 : decode cJ0_init 23 = .ok (.aload_n 0, 1) := dk_42 (dk_at dksJ0_init_0 23 rfl rfl)
theorem dJ0_init_24 : decode cJ0_init 24 = .ok (.invokevirtual 27, 3) := dk_182 0 27 (dk_at dksJ0_init_1 0 rfl rfl)
theorem dJ0_init_27 : decode cJ0_init 27 = .ok (.pop, 1) := dk_87 (dk_at dksJ0_init_1 3 rfl rfl)
theorem dJ0_init_28 : decode cJ0_init 28 = .ok (.return_, 1) := dk_177 (dk_at dksJ0_init_1 4 rfl rfl)
abbrev cJ0_init_2 : ByteArray := prog_27_method_5_code
def yJ0_init_2 : MethodName := ⟨RJ0, "<init>", "(Ljava/lang/String;Ljava/lang/Throwable;ZZ)V"⟩
def dkwJ0_init_2_2 : List UInt8 := [44, 181, 0, 7, 29, 154, 0, 8, 42, 1, 181, 0, 24, 177]
abbrev dktJ0_init_2_2 : List UInt8 := dkwJ0_init_2_2 ++ []
def dkwJ0_init_2_1 : List UInt8 := [21, 4, 153, 0, 11, 42, 182, 0, 27, 87, 167, 0, 8, 42, 1, 181, 0, 17, 42, 43, 181, 0, 31, 42]
abbrev dktJ0_init_2_1 : List UInt8 := dkwJ0_init_2_1 ++ dktJ0_init_2_2
def dkwJ0_init_2_0 : List UInt8 := [42, 183, 0, 1, 42, 42, 181, 0, 7, 42, 178, 0, 13, 181, 0, 17, 42, 178, 0, 20, 181, 0, 24]
abbrev dktJ0_init_2_0 : List UInt8 := dkwJ0_init_2_0 ++ dktJ0_init_2_1
theorem dksJ0_init_2_0 : cJ0_init_2.data.toList.drop 0 = dktJ0_init_2_0 := by decide +kernel
theorem dksJ0_init_2_1 : cJ0_init_2.data.toList.drop 23 = dktJ0_init_2_1 := dk_seg dksJ0_init_2_0 23 rfl rfl
theorem dksJ0_init_2_2 : cJ0_init_2.data.toList.drop 47 = dktJ0_init_2_2 := dk_seg dksJ0_init_2_1 24 rfl rfl
theorem dJ0_init_2_0 : decode cJ0_init_2 0 = .ok (.aload_n 0, 1) := dk_42 (dk_at dksJ0_init_2_0 0 rfl rfl)
theorem dJ0_init_2_1 : decode cJ0_init_2 1 = .ok (.invokespecial 1, 3) := dk_183 0 1 (dk_at dksJ0_init_2_0 1 rfl rfl)
theorem dJ0_init_2_4 : decode cJ0_init_2 4 = .ok (.aload_n 0, 1) := dk_42 (dk_at dksJ0_init_2_0 4 rfl rfl)
theorem dJ0_init_2_5 : decode cJ0_init_2 5 = .ok (.aload_n 0, 1) := dk_42 (dk_at dksJ0_init_2_0 5 rfl rfl)
theorem dJ0_init_2_6 : decode cJ0_init_2 6 = .ok (.putfield 7, 3) := dk_181 0 7 (dk_at dksJ0_init_2_0 6 rfl rfl)
theorem dJ0_init_2_9 : decode cJ0_init_2 9 = .ok (.aload_n 0, 1) := dk_42 (dk_at dksJ0_init_2_0 9 rfl rfl)
theorem dJ0_init_2_10 : decode cJ0_init_2 10 = .ok (.getstatic 13, 3) := dk_178 0 13 (dk_at dksJ0_init_2_0 10 rfl rfl)
theorem dJ0_init_2_13 : decode cJ0_init_2 13 = .ok (.putfield 17, 3) := dk_181 0 17 (dk_at dksJ0_init_2_0 13 rfl rfl)
theorem dJ0_init_2_16 : decode cJ0_init_2 16 = .ok (.aload_n 0, 1) := dk_42 (dk_at dksJ0_init_2_0 16 rfl rfl)
theorem dJ0_init_2_17 : decode cJ0_init_2 17 = .ok (.getstatic 20, 3) := dk_178 0 20 (dk_at dksJ0_init_2_0 17 rfl rfl)
theorem dJ0_init_2_20 : decode cJ0_init_2 20 = .ok (.putfield 24, 3) := dk_181 0 24 (dk_at dksJ0_init_2_0 20 rfl rfl)
theorem dJ0_init_2_23 : decode cJ0_init_2 23 = .ok (.iload 4, 2) := dk_21 4 (dk_at dksJ0_init_2_1 0 rfl rfl)
theorem dJ0_init_2_25 : decode cJ0_init_2 25 = .ok (.ifCond .eq 11, 3) := dk_153 0 11 (dk_at dksJ0_init_2_1 2 rfl rfl)
theorem dJ0_init_2_28 : decode cJ0_init_2 28 = .ok (.aload_n 0, 1) := dk_42 (dk_at dksJ0_init_2_1 5 rfl rfl)
theorem dJ0_init_2_29 : decode cJ0_init_2 29 = .ok (.invokevirtual 27, 3) := dk_182 0 27 (dk_at dksJ0_init_2_1 6 rfl rfl)
theorem dJ0_init_2_32 : decode cJ0_init_2 32 = .ok (.pop, 1) := dk_87 (dk_at dksJ0_init_2_1 9 rfl rfl)
theorem dJ0_init_2_33 : decode cJ0_init_2 33 = .ok (.goto 8, 3) := dk_167 0 8 (dk_at dksJ0_init_2_1 10 rfl rfl)
theorem dJ0_init_2_36 : decode cJ0_init_2 36 = .ok (.aload_n 0, 1) := dk_42 (dk_at dksJ0_init_2_1 13 rfl rfl)
theorem dJ0_init_2_37 : decode cJ0_init_2 37 = .ok (.aconst_null, 1) := dk_1 (dk_at dksJ0_init_2_1 14 rfl rfl)
theorem dJ0_init_2_38 : decode cJ0_init_2 38 = .ok (.putfield 17, 3) := dk_181 0 17 (dk_at dksJ0_init_2_1 15 rfl rfl)
theorem dJ0_init_2_41 : decode cJ0_init_2 41 = .ok (.aload_n 0, 1) := dk_42 (dk_at dksJ0_init_2_1 18 rfl rfl)
theorem dJ0_init_2_42 : decode cJ0_init_2 42 = .ok (.aload_n 1, 1) := dk_43 (dk_at dksJ0_init_2_1 19 rfl rfl)
theorem dJ0_init_2_43 : decode cJ0_init_2 43 = .ok (.putfield 31, 3) := dk_181 0 31 (dk_at dksJ0_init_2_1 20 rfl rfl)
theorem dJ0_init_2_46 : decode cJ0_init_2 46 = .ok (.aload_n 0, 1) := dk_42 (dk_at dksJ0_init_2_1 23 rfl rfl)
theorem dJ0_init_2_47 : decode cJ0_init_2 47 = .ok (.aload_n 2, 1) := dk_44 (dk_at dksJ0_init_2_2 0 rfl rfl)
theorem dJ0_init_2_48 : decode cJ0_init_2 48 = .ok (.putfield 7, 3) := dk_181 0 7 (dk_at dksJ0_init_2_2 1 rfl rfl)
theorem dJ0_init_2_51 : decode cJ0_init_2 51 = .ok (.iload_n 3, 1) := dk_29 (dk_at dksJ0_init_2_2 4 rfl rfl)
theorem dJ0_init_2_52 : decode cJ0_init_2 52 = .ok (.ifCond .ne 8, 3) := dk_154 0 8 (dk_at dksJ0_init_2_2 5 rfl rfl)
theorem dJ0_init_2_55 : decode cJ0_init_2 55 = .ok (.aload_n 0, 1) := dk_42 (dk_at dksJ0_init_2_2 8 rfl rfl)
theorem dJ0_init_2_56 : decode cJ0_init_2 56 = .ok (.aconst_null, 1) := dk_1 (dk_at dksJ0_init_2_2 9 rfl rfl)
theorem dJ0_init_2_57 : decode cJ0_init_2 57 = .ok (.putfield 24, 3) := dk_181 0 24 (dk_at dksJ0_init_2_2 10 rfl rfl)
theorem dJ0_init_2_60 : decode cJ0_init_2 60 = .ok (.return_, 1) := dk_177 (dk_at dksJ0_init_2_2 13 rfl rfl)
abbrev cJ0_init_3 : ByteArray := prog_27_method_2_code
def yJ0_init_3 : MethodName := ⟨RJ0, "<init>", "(Ljava/lang/String;)V"⟩
def dkwJ0_init_3_1 : List UInt8 := [182, 0, 27, 87, 42, 43, 181, 0, 31, 177]
abbrev dktJ0_init_3_1 : List UInt8 := dkwJ0_init_3_1 ++ []
def dkwJ0_init_3_0 : List UInt8 := [42, 183, 0, 1, 42, 42, 181, 0, 7, 42, 178, 0, 13, 181, 0, 17, 42, 178, 0, 20, 181, 0, 24, 42]
abbrev dktJ0_init_3_0 : List UInt8 := dkwJ0_init_3_0 ++ dktJ0_init_3_1
theorem dksJ0_init_3_0 : cJ0_init_3.data.toList.drop 0 = dktJ0_init_3_0 := by decide +kernel
theorem dksJ0_init_3_1 : cJ0_init_3.data.toList.drop 24 = dktJ0_init_3_1 := dk_seg dksJ0_init_3_0 24 rfl rfl
theorem dJ0_init_3_0 : decode cJ0_init_3 0 = .ok (.aload_n 0, 1) := dk_42 (dk_at dksJ0_init_3_0 0 rfl rfl)
theorem dJ0_init_3_1 : decode cJ0_init_3 1 = .ok (.invokespecial 1, 3) := dk_183 0 1 (dk_at dksJ0_init_3_0 1 rfl rfl)
theorem dJ0_init_3_4 : decode cJ0_init_3 4 = .ok (.aload_n 0, 1) := dk_42 (dk_at dksJ0_init_3_0 4 rfl rfl)
theorem dJ0_init_3_5 : decode cJ0_init_3 5 = .ok (.aload_n 0, 1) := dk_42 (dk_at dksJ0_init_3_0 5 rfl rfl)
theorem dJ0_init_3_6 : decode cJ0_init_3 6 = .ok (.putfield 7, 3) := dk_181 0 7 (dk_at dksJ0_init_3_0 6 rfl rfl)
theorem dJ0_init_3_9 : decode cJ0_init_3 9 = .ok (.aload_n 0, 1) := dk_42 (dk_at dksJ0_init_3_0 9 rfl rfl)
theorem dJ0_init_3_10 : decode cJ0_init_3 10 = .ok (.getstatic 13, 3) := dk_178 0 13 (dk_at dksJ0_init_3_0 10 rfl rfl)
theorem dJ0_init_3_13 : decode cJ0_init_3 13 = .ok (.putfield 17, 3) := dk_181 0 17 (dk_at dksJ0_init_3_0 13 rfl rfl)
theorem dJ0_init_3_16 : decode cJ0_init_3 16 = .ok (.aload_n 0, 1) := dk_42 (dk_at dksJ0_init_3_0 16 rfl rfl)
theorem dJ0_init_3_17 : decode cJ0_init_3 17 = .ok (.getstatic 20, 3) := dk_178 0 20 (dk_at dksJ0_init_3_0 17 rfl rfl)
theorem dJ0_init_3_20 : decode cJ0_init_3 20 = .ok (.putfield 24, 3) := dk_181 0 24 (dk_at dksJ0_init_3_0 20 rfl rfl)
theorem dJ0_init_3_23 : decode cJ0_init_3 23 = .ok (.aload_n 0, 1) := dk_42 (dk_at dksJ0_init_3_0 23 rfl rfl)
theorem dJ0_init_3_24 : decode cJ0_init_3 24 = .ok (.invokevirtual 27, 3) := dk_182 0 27 (dk_at dksJ0_init_3_1 0 rfl rfl)
theorem dJ0_init_3_27 : decode cJ0_init_3 27 = .ok (.pop, 1) := dk_87 (dk_at dksJ0_init_3_1 3 rfl rfl)
theorem dJ0_init_3_28 : decode cJ0_init_3 28 = .ok (.aload_n 0, 1) := dk_42 (dk_at dksJ0_init_3_1 4 rfl rfl)
theorem dJ0_init_3_29 : decode cJ0_init_3 29 = .ok (.aload_n 1, 1) := dk_43 (dk_at dksJ0_init_3_1 5 rfl rfl)
theorem dJ0_init_3_30 : decode cJ0_init_3 30 = .ok (.putfield 31, 3) := dk_181 0 31 (dk_at dksJ0_init_3_1 6 rfl rfl)
theorem dJ0_init_3_33 : decode cJ0_init_3 33 = .ok (.return_, 1) := dk_177 (dk_at dksJ0_init_3_1 9 rfl rfl)
theorem q178 : (Jvm.Cond.initialized "java/lang/Throwable") ∈ lw_all := lw_g (lw_at lw_m1 4 rfl) rfl
theorem q221 : (Jvm.Cond.declares ({ cls := "java/lang/Throwable", name := "<init>", desc := "()V" } : Jvm.MethodName)) ∈ lw_tbl := lw_at lw_m1 47 rfl
theorem q222 : (Jvm.Cond.declares ({ cls := "java/lang/Throwable", name := "<init>", desc := "(Ljava/lang/String;)V" } : Jvm.MethodName)) ∈ lw_tbl := lw_at lw_m1 48 rfl
theorem q226 : (Jvm.Cond.lays "java/lang/Throwable" "java/lang/Throwable" "cause" "Ljava/lang/Throwable;") ∈ lw_all := lw_g (lw_at lw_m1 52 rfl) rfl
theorem q228 : (Jvm.Cond.lays "java/lang/Throwable" "java/lang/Throwable" "stackTrace" "[Ljava/lang/StackTraceElement;") ∈ lw_all := lw_g (lw_at lw_m1 54 rfl) rfl
theorem q230 : (Jvm.Cond.lays "java/lang/Throwable" "java/lang/Throwable" "suppressedExceptions" "Ljava/util/List;") ∈ lw_all := lw_g (lw_at lw_m1 56 rfl) rfl
theorem q232 : (Jvm.Cond.lays "java/lang/Throwable" "java/lang/Throwable" "detailMessage" "Ljava/lang/String;") ∈ lw_all := lw_g (lw_at lw_m1 58 rfl) rfl
theorem q234 : (Jvm.Cond.lays "java/lang/Throwable" "java/lang/Throwable" "backtrace" "Ljava/lang/Object;") ∈ lw_all := lw_g (lw_at lw_m1 60 rfl) rfl
theorem q235 : (Jvm.Cond.fieldLink "java/lang/Throwable" (198 : Nat) "java/lang/Throwable" "backtrace" "Ljava/lang/Object;") ∈ lw_all := lw_g (lw_at lw_m1 61 rfl) rfl
theorem q236 : (Jvm.Cond.superclass "java/lang/Throwable" "java/lang/Object") ∈ lw_all := lw_g (lw_at lw_m1 62 rfl) rfl
theorem q237 : (Jvm.Cond.instanceMethod ({ cls := "java/lang/Throwable", name := "<init>", desc := "()V" } : Jvm.MethodName)) ∈ lw_all := lw_g (lw_at lw_m1 63 rfl) rfl
theorem q238 : (Jvm.Cond.code ({ cls := "java/lang/Throwable", name := "<init>", desc := "()V" } : Jvm.MethodName) prog_27_method_1_code (1 : Nat) (Option.none : Option Jvm.ClassFile.FieldType)) ∈ lw_all := lw_g (lw_at lw_m1 64 rfl) rfl
theorem q239 : (Jvm.Cond.methodLink "java/lang/Throwable" (1 : Nat) ({ cls := "java/lang/Object", name := "<init>", desc := "()V" } : Jvm.MethodName)) ∈ lw_all := lw_g (lw_at lw_m1 65 rfl) rfl
theorem q240 : (Jvm.Cond.fieldLink "java/lang/Throwable" (13 : Nat) "java/lang/Throwable" "UNASSIGNED_STACK" "[Ljava/lang/StackTraceElement;") ∈ lw_all := lw_g (lw_at lw_m1 66 rfl) rfl
theorem q241 : (Jvm.Cond.laysStatic "java/lang/Throwable" "UNASSIGNED_STACK" "[Ljava/lang/StackTraceElement;") ∈ lw_tbl := lw_at lw_m1 67 rfl
theorem q242 : (Jvm.Cond.fieldLink "java/lang/Throwable" (20 : Nat) "java/lang/Throwable" "SUPPRESSED_SENTINEL" "Ljava/util/List;") ∈ lw_all := lw_g (lw_at lw_m1 68 rfl) rfl
theorem q243 : (Jvm.Cond.laysStatic "java/lang/Throwable" "SUPPRESSED_SENTINEL" "Ljava/util/List;") ∈ lw_tbl := lw_at lw_m1 69 rfl
theorem q244 : (Jvm.Cond.methodLink "java/lang/Throwable" (27 : Nat) ({ cls := "java/lang/Throwable", name := "fillInStackTrace", desc := "()Ljava/lang/Throwable;" } : Jvm.MethodName)) ∈ lw_all := lw_g (lw_at lw_m1 70 rfl) rfl
theorem q245 : (Jvm.Cond.instanceMethod ({ cls := "java/lang/Throwable", name := "fillInStackTrace", desc := "()Ljava/lang/Throwable;" } : Jvm.MethodName)) ∈ lw_all := lw_g (lw_at lw_m1 71 rfl) rfl
theorem q246 : (Jvm.Cond.sameMethod "java/lang/Throwable" "java/lang/Throwable" "fillInStackTrace" "()Ljava/lang/Throwable;") ∈ lw_all := lw_g (lw_at lw_m1 72 rfl) rfl
theorem q259 : (Jvm.Cond.declares ({ cls := "java/lang/Throwable", name := "fillInStackTrace", desc := "()Ljava/lang/Throwable;" } : Jvm.MethodName)) ∈ lw_tbl := lw_at lw_m1 85 rfl
theorem q263 : (Jvm.Cond.codeSync ({ cls := "java/lang/Throwable", name := "fillInStackTrace", desc := "()Ljava/lang/Throwable;" } : Jvm.MethodName) prog_27_method_18_code (1 : Nat) (Option.some (Jvm.ClassFile.FieldType.object "java/lang/Throwable"))) ∈ lw_all := lw_g (lw_at lw_m1 89 rfl) rfl
theorem q264 : (Jvm.Cond.methodLink "java/lang/Throwable" (202 : Nat) ({ cls := "java/lang/Throwable", name := "fillInStackTrace", desc := "(I)Ljava/lang/Throwable;" } : Jvm.MethodName)) ∈ lw_all := lw_g (lw_at lw_m1 90 rfl) rfl
theorem q265 : (Jvm.Cond.privateMethod ({ cls := "java/lang/Throwable", name := "fillInStackTrace", desc := "(I)Ljava/lang/Throwable;" } : Jvm.MethodName)) ∈ lw_tbl := lw_at lw_m1 91 rfl
theorem q266 : (Jvm.Cond.instanceMethod ({ cls := "java/lang/Throwable", name := "fillInStackTrace", desc := "(I)Ljava/lang/Throwable;" } : Jvm.MethodName)) ∈ lw_all := lw_g (lw_at lw_m1 92 rfl) rfl
theorem q267 : (Jvm.Cond.instantiable "java/lang/Throwable" (6 : Nat)) ∈ lw_all := lw_g (lw_at lw_m1 93 rfl) rfl
theorem q268 : (Jvm.Cond.native ({ cls := "java/lang/Throwable", name := "fillInStackTrace", desc := "(I)Ljava/lang/Throwable;" } : Jvm.MethodName)) ∈ lw_all := lw_g (lw_at lw_m1 94 rfl) rfl
theorem q279 : (Jvm.Cond.instanceMethod ({ cls := "java/lang/Throwable", name := "<init>", desc := "(Ljava/lang/String;Ljava/lang/Throwable;ZZ)V" } : Jvm.MethodName)) ∈ lw_all := lw_g (lw_at lw_m1 105 rfl) rfl
theorem q280 : (Jvm.Cond.code ({ cls := "java/lang/Throwable", name := "<init>", desc := "(Ljava/lang/String;Ljava/lang/Throwable;ZZ)V" } : Jvm.MethodName) prog_27_method_5_code (5 : Nat) (Option.none : Option Jvm.ClassFile.FieldType)) ∈ lw_all := lw_g (lw_at lw_m1 106 rfl) rfl
theorem q285 : (Jvm.Cond.fieldLink "java/lang/Throwable" (198 : Nat) "java/lang/Throwable" "backtrace" "Ljava/lang/Object;") ∈ lw_all := lw_g (lw_at lw_m1 111 rfl) rfl
theorem q286 : (Jvm.Cond.fieldLink "java/lang/Throwable" (31 : Nat) "java/lang/Throwable" "detailMessage" "Ljava/lang/String;") ∈ lw_all := lw_g (lw_at lw_m1 112 rfl) rfl
theorem q287 : (Jvm.Cond.fieldLink "java/lang/Throwable" (7 : Nat) "java/lang/Throwable" "cause" "Ljava/lang/Throwable;") ∈ lw_all := lw_g (lw_at lw_m1 113 rfl) rfl
theorem q288 : (Jvm.Cond.fieldLink "java/lang/Throwable" (17 : Nat) "java/lang/Throwable" "stackTrace" "[Ljava/lang/StackTraceElement;") ∈ lw_all := lw_g (lw_at lw_m1 114 rfl) rfl
theorem q289 : (Jvm.Cond.fieldLink "java/lang/Throwable" (24 : Nat) "java/lang/Throwable" "suppressedExceptions" "Ljava/util/List;") ∈ lw_all := lw_g (lw_at lw_m1 115 rfl) rfl
theorem q294 : (Jvm.Cond.soleField "java/lang/Throwable" "backtrace") ∈ lw_all := lw_g (lw_at lw_m1 120 rfl) rfl
theorem q295 : (Jvm.Cond.soleField "java/lang/Throwable" "detailMessage") ∈ lw_all := lw_g (lw_at lw_m1 121 rfl) rfl
theorem q296 : (Jvm.Cond.soleField "java/lang/Throwable" "cause") ∈ lw_all := lw_g (lw_at lw_m1 122 rfl) rfl
theorem q297 : (Jvm.Cond.soleField "java/lang/Throwable" "stackTrace") ∈ lw_all := lw_g (lw_at lw_m1 123 rfl) rfl
theorem q299 : (Jvm.Cond.soleField "java/lang/Throwable" "depth") ∈ lw_all := lw_g (lw_at lw_m1 125 rfl) rfl
theorem q300 : (Jvm.Cond.soleField "java/lang/Throwable" "suppressedExceptions") ∈ lw_all := lw_g (lw_at lw_m1 126 rfl) rfl
theorem q633 : (Jvm.Cond.instanceMethod ({ cls := "java/lang/Throwable", name := "<init>", desc := "(Ljava/lang/String;)V" } : Jvm.MethodName)) ∈ lw_all := lw_g (lw_at lw_m2 219 rfl) rfl
theorem q634 : (Jvm.Cond.code ({ cls := "java/lang/Throwable", name := "<init>", desc := "(Ljava/lang/String;)V" } : Jvm.MethodName) prog_27_method_2_code (2 : Nat) (Option.none : Option Jvm.ClassFile.FieldType)) ∈ lw_all := lw_g (lw_at lw_m2 220 rfl) rfl
theorem q2455 : (Jvm.Cond.sameMethod "java/lang/Throwable" "java/lang/Throwable" "fillInStackTrace" "(I)Ljava/lang/Throwable;") ∈ lw_all := lw_g (lw_at lw_m10 121 rfl) rfl
theorem in_J0 : ∀ w ∈ wsJ00, w ∈ lw_all := lw_in wsJ00 [226, 228, 230, 232, 234] (by decide +kernel) (by decide +kernel)
/-! java/lang/Exception -/
set_option maxRecDepth 100000
def RJ1 : String := "java/lang/Exception"
abbrev cJ1_init : ByteArray := prog_17_method_5_code
def yJ1_init : MethodName := ⟨RJ1, "<init>", "(Ljava/lang/String;Ljava/lang/Throwable;ZZ)V"⟩
def dkwJ1_init_0 : List UInt8 := [42, 43, 44, 29, 21, 4, 183, 0, 16, 177]
abbrev dktJ1_init_0 : List UInt8 := dkwJ1_init_0 ++ []
theorem dksJ1_init_0 : cJ1_init.data.toList.drop 0 = dktJ1_init_0 := by decide +kernel
theorem dJ1_init_0 : decode cJ1_init 0 = .ok (.aload_n 0, 1) := dk_42 (dk_at dksJ1_init_0 0 rfl rfl)
theorem dJ1_init_1 : decode cJ1_init 1 = .ok (.aload_n 1, 1) := dk_43 (dk_at dksJ1_init_0 1 rfl rfl)
theorem dJ1_init_2 : decode cJ1_init 2 = .ok (.aload_n 2, 1) := dk_44 (dk_at dksJ1_init_0 2 rfl rfl)
theorem dJ1_init_3 : decode cJ1_init 3 = .ok (.iload_n 3, 1) := dk_29 (dk_at dksJ1_init_0 3 rfl rfl)
theorem dJ1_init_4 : decode cJ1_init 4 = .ok (.iload 4, 2) := dk_21 4 (dk_at dksJ1_init_0 4 rfl rfl)
theorem dJ1_init_6 : decode cJ1_init 6 = .ok (.invokespecial 16, 3) := dk_183 0 16 (dk_at dksJ1_init_0 6 rfl rfl)
theorem dJ1_init_9 : decode cJ1_init 9 = .ok (.return_, 1) := dk_177 (dk_at dksJ1_init_0 9 rfl rfl)
abbrev cJ1_init_2 : ByteArray := prog_17_method_2_code
def yJ1_init_2 : MethodName := ⟨RJ1, "<init>", "(Ljava/lang/String;)V"⟩
def dkwJ1_init_2_0 : List UInt8 := [42, 43, 183, 0, 7, 177]
abbrev dktJ1_init_2_0 : List UInt8 := dkwJ1_init_2_0 ++ []
theorem dksJ1_init_2_0 : cJ1_init_2.data.toList.drop 0 = dktJ1_init_2_0 := by decide +kernel
theorem dJ1_init_2_0 : decode cJ1_init_2 0 = .ok (.aload_n 0, 1) := dk_42 (dk_at dksJ1_init_2_0 0 rfl rfl)
theorem dJ1_init_2_1 : decode cJ1_init_2 1 = .ok (.aload_n 1, 1) := dk_43 (dk_at dksJ1_init_2_0 1 rfl rfl)
theorem dJ1_init_2_2 : decode cJ1_init_2 2 = .ok (.invokespecial 7, 3) := dk_183 0 7 (dk_at dksJ1_init_2_0 2 rfl rfl)
theorem dJ1_init_2_5 : decode cJ1_init_2 5 = .ok (.return_, 1) := dk_177 (dk_at dksJ1_init_2_0 5 rfl rfl)
abbrev cJ1_init_3 : ByteArray := prog_17_method_1_code
def yJ1_init_3 : MethodName := ⟨RJ1, "<init>", "()V"⟩
theorem dJ1_init_3_0 : decode cJ1_init_3 0 = .ok (.aload_n 0, 1) := by decide +kernel
theorem dJ1_init_3_1 : decode cJ1_init_3 1 = .ok (.invokespecial 1, 3) := by decide +kernel
theorem dJ1_init_3_4 : decode cJ1_init_3 4 = .ok (.return_, 1) := by decide +kernel
theorem q179 : (Jvm.Cond.initialized "java/lang/Exception") ∈ lw_all := lw_g (lw_at lw_m1 5 rfl) rfl
theorem q219 : (Jvm.Cond.declares ({ cls := "java/lang/Exception", name := "<init>", desc := "()V" } : Jvm.MethodName)) ∈ lw_tbl := lw_at lw_m1 45 rfl
theorem q220 : (Jvm.Cond.declares ({ cls := "java/lang/Exception", name := "<init>", desc := "(Ljava/lang/String;)V" } : Jvm.MethodName)) ∈ lw_tbl := lw_at lw_m1 46 rfl
theorem q262 : (Jvm.Cond.superclass "java/lang/Exception" "java/lang/Throwable") ∈ lw_all := lw_g (lw_at lw_m1 88 rfl) rfl
theorem q276 : (Jvm.Cond.instanceMethod ({ cls := "java/lang/Exception", name := "<init>", desc := "(Ljava/lang/String;Ljava/lang/Throwable;ZZ)V" } : Jvm.MethodName)) ∈ lw_all := lw_g (lw_at lw_m1 102 rfl) rfl
theorem q277 : (Jvm.Cond.code ({ cls := "java/lang/Exception", name := "<init>", desc := "(Ljava/lang/String;Ljava/lang/Throwable;ZZ)V" } : Jvm.MethodName) prog_17_method_5_code (5 : Nat) (Option.none : Option Jvm.ClassFile.FieldType)) ∈ lw_all := lw_g (lw_at lw_m1 103 rfl) rfl
theorem q278 : (Jvm.Cond.methodLink "java/lang/Exception" (16 : Nat) ({ cls := "java/lang/Throwable", name := "<init>", desc := "(Ljava/lang/String;Ljava/lang/Throwable;ZZ)V" } : Jvm.MethodName)) ∈ lw_all := lw_g (lw_at lw_m1 104 rfl) rfl
theorem q630 : (Jvm.Cond.instanceMethod ({ cls := "java/lang/Exception", name := "<init>", desc := "(Ljava/lang/String;)V" } : Jvm.MethodName)) ∈ lw_all := lw_g (lw_at lw_m2 216 rfl) rfl
theorem q631 : (Jvm.Cond.code ({ cls := "java/lang/Exception", name := "<init>", desc := "(Ljava/lang/String;)V" } : Jvm.MethodName) prog_17_method_2_code (2 : Nat) (Option.none : Option Jvm.ClassFile.FieldType)) ∈ lw_all := lw_g (lw_at lw_m2 217 rfl) rfl
theorem q632 : (Jvm.Cond.methodLink "java/lang/Exception" (7 : Nat) ({ cls := "java/lang/Throwable", name := "<init>", desc := "(Ljava/lang/String;)V" } : Jvm.MethodName)) ∈ lw_all := lw_g (lw_at lw_m2 218 rfl) rfl
theorem q673 : (Jvm.Cond.instanceMethod ({ cls := "java/lang/Exception", name := "<init>", desc := "()V" } : Jvm.MethodName)) ∈ lw_all := lw_g (lw_at lw_m3 19 rfl) rfl
theorem q674 : (Jvm.Cond.code ({ cls := "java/lang/Exception", name := "<init>", desc := "()V" } : Jvm.MethodName) prog_17_method_1_code (1 : Nat) (Option.none : Option Jvm.ClassFile.FieldType)) ∈ lw_all := lw_g (lw_at lw_m3 20 rfl) rfl
theorem q675 : (Jvm.Cond.methodLink "java/lang/Exception" (1 : Nat) ({ cls := "java/lang/Throwable", name := "<init>", desc := "()V" } : Jvm.MethodName)) ∈ lw_all := lw_g (lw_at lw_m3 21 rfl) rfl
/-! jdk/internal/util/Preconditions -/
set_option maxRecDepth 100000
def RJ10 : String := "jdk/internal/util/Preconditions"
abbrev cJ10_checkIndex : ByteArray := prog_28_method_11_code
def yJ10_checkIndex : MethodName := ⟨RJ10, "checkIndex", "(IILjava/util/function/BiFunction;)I"⟩
def dkwJ10_checkIndex_0 : List UInt8 := [26, 155, 0, 8, 26, 27, 161, 0, 10, 44, 26, 27, 184, 0, 95, 191, 26, 172]
abbrev dktJ10_checkIndex_0 : List UInt8 := dkwJ10_checkIndex_0 ++ []
theorem dksJ10_checkIndex_0 : cJ10_checkIndex.data.toList.drop 0 = dktJ10_checkIndex_0 := by decide +kernel
theorem dJ10_checkIndex_0 : decode cJ10_checkIndex 0 = .ok (.iload_n 0, 1) := dk_26 (dk_at dksJ10_checkIndex_0 0 rfl rfl)
theorem dJ10_checkIndex_1 : decode cJ10_checkIndex 1 = .ok (.ifCond .lt 8, 3) := dk_155 0 8 (dk_at dksJ10_checkIndex_0 1 rfl rfl)
theorem dJ10_checkIndex_4 : decode cJ10_checkIndex 4 = .ok (.iload_n 0, 1) := dk_26 (dk_at dksJ10_checkIndex_0 4 rfl rfl)
theorem dJ10_checkIndex_5 : decode cJ10_checkIndex 5 = .ok (.iload_n 1, 1) := dk_27 (dk_at dksJ10_checkIndex_0 5 rfl rfl)
theorem dJ10_checkIndex_6 : decode cJ10_checkIndex 6 = .ok (.if_icmp .lt 10, 3) := dk_161 0 10 (dk_at dksJ10_checkIndex_0 6 rfl rfl)
theorem dJ10_checkIndex_9 : decode cJ10_checkIndex 9 = .ok (.aload_n 2, 1) := dk_44 (dk_at dksJ10_checkIndex_0 9 rfl rfl)
theorem dJ10_checkIndex_10 : decode cJ10_checkIndex 10 = .ok (.iload_n 0, 1) := dk_26 (dk_at dksJ10_checkIndex_0 10 rfl rfl)
theorem dJ10_checkIndex_11 : decode cJ10_checkIndex 11 = .ok (.iload_n 1, 1) := dk_27 (dk_at dksJ10_checkIndex_0 11 rfl rfl)
theorem dJ10_checkIndex_12 : decode cJ10_checkIndex 12 = .ok (.invokestatic 95, 3) := dk_184 0 95 (dk_at dksJ10_checkIndex_0 12 rfl rfl)
theorem dJ10_checkIndex_15 : decode cJ10_checkIndex 15 = .ok (.athrow, 1) := dk_191 (dk_at dksJ10_checkIndex_0 15 rfl rfl)
theorem dJ10_checkIndex_16 : decode cJ10_checkIndex 16 = .ok (.iload_n 0, 1) := dk_26 (dk_at dksJ10_checkIndex_0 16 rfl rfl)
theorem dJ10_checkIndex_17 : decode cJ10_checkIndex 17 = .ok (.ireturn, 1) := dk_172 (dk_at dksJ10_checkIndex_0 17 rfl rfl)
theorem q196 : (Jvm.Cond.initialized "jdk/internal/util/Preconditions") ∈ lw_all := lw_g (lw_at lw_m1 22 rfl) rfl
theorem q814 : (Jvm.Cond.laysStatic "jdk/internal/util/Preconditions" "SIOOBE_FORMATTER" "Ljava/util/function/BiFunction;") ∈ lw_tbl := lw_at lw_m3 160 rfl
theorem q816 : (Jvm.Cond.static ({ cls := "jdk/internal/util/Preconditions", name := "checkIndex", desc := "(IILjava/util/function/BiFunction;)I" } : Jvm.MethodName)) ∈ lw_all := lw_g (lw_at lw_m3 162 rfl) rfl
theorem q817 : (Jvm.Cond.code ({ cls := "jdk/internal/util/Preconditions", name := "checkIndex", desc := "(IILjava/util/function/BiFunction;)I" } : Jvm.MethodName) prog_28_method_11_code (3 : Nat) (Option.some Jvm.ClassFile.FieldType.int)) ∈ lw_all := lw_g (lw_at lw_m3 163 rfl) rfl
/-! java/lang/StringUTF16 -/
set_option maxRecDepth 100000
def RJ11 : String := "java/lang/StringUTF16"
abbrev cJ11_charAt : ByteArray := prog_25_method_83_code
def yJ11_charAt : MethodName := ⟨RJ11, "charAt", "([BI)C"⟩
def dkwJ11_charAt_0 : List UInt8 := [27, 42, 184, 0, 67, 42, 27, 184, 0, 71, 172]
abbrev dktJ11_charAt_0 : List UInt8 := dkwJ11_charAt_0 ++ []
theorem dksJ11_charAt_0 : cJ11_charAt.data.toList.drop 0 = dktJ11_charAt_0 := by decide +kernel
theorem dJ11_charAt_0 : decode cJ11_charAt 0 = .ok (.iload_n 1, 1) := dk_27 (dk_at dksJ11_charAt_0 0 rfl rfl)
theorem dJ11_charAt_1 : decode cJ11_charAt 1 = .ok (.aload_n 0, 1) := dk_42 (dk_at dksJ11_charAt_0 1 rfl rfl)
theorem dJ11_charAt_2 : decode cJ11_charAt 2 = .ok (.invokestatic 67, 3) := dk_184 0 67 (dk_at dksJ11_charAt_0 2 rfl rfl)
theorem dJ11_charAt_5 : decode cJ11_charAt 5 = .ok (.aload_n 0, 1) := dk_42 (dk_at dksJ11_charAt_0 5 rfl rfl)
theorem dJ11_charAt_6 : decode cJ11_charAt 6 = .ok (.iload_n 1, 1) := dk_27 (dk_at dksJ11_charAt_0 6 rfl rfl)
theorem dJ11_charAt_7 : decode cJ11_charAt 7 = .ok (.invokestatic 71, 3) := dk_184 0 71 (dk_at dksJ11_charAt_0 7 rfl rfl)
theorem dJ11_charAt_10 : decode cJ11_charAt 10 = .ok (.ireturn, 1) := dk_172 (dk_at dksJ11_charAt_0 10 rfl rfl)
abbrev cJ11_checkIndex : ByteArray := prog_25_method_91_code
def yJ11_checkIndex : MethodName := ⟨RJ11, "checkIndex", "(I[B)V"⟩
def dkwJ11_checkIndex_0 : List UInt8 := [26, 43, 184, 0, 48, 184, 1, 158, 177]
abbrev dktJ11_checkIndex_0 : List UInt8 := dkwJ11_checkIndex_0 ++ []
theorem dksJ11_checkIndex_0 : cJ11_checkIndex.data.toList.drop 0 = dktJ11_checkIndex_0 := by decide +kernel
theorem dJ11_checkIndex_0 : decode cJ11_checkIndex 0 = .ok (.iload_n 0, 1) := dk_26 (dk_at dksJ11_checkIndex_0 0 rfl rfl)
theorem dJ11_checkIndex_1 : decode cJ11_checkIndex 1 = .ok (.aload_n 1, 1) := dk_43 (dk_at dksJ11_checkIndex_0 1 rfl rfl)
theorem dJ11_checkIndex_2 : decode cJ11_checkIndex 2 = .ok (.invokestatic 48, 3) := dk_184 0 48 (dk_at dksJ11_checkIndex_0 2 rfl rfl)
theorem dJ11_checkIndex_5 : decode cJ11_checkIndex 5 = .ok (.invokestatic 414, 3) := dk_184 1 158 (dk_at dksJ11_checkIndex_0 5 rfl rfl)
theorem dJ11_checkIndex_8 : decode cJ11_checkIndex 8 = .ok (.return_, 1) := dk_177 (dk_at dksJ11_checkIndex_0 8 rfl rfl)
abbrev cJ11_length : ByteArray := prog_25_method_6_code
def yJ11_length : MethodName := ⟨RJ11, "length", "([B)I"⟩
def dkwJ11_length_0 : List UInt8 := [42, 190, 4, 122, 172]
abbrev dktJ11_length_0 : List UInt8 := dkwJ11_length_0 ++ []
theorem dksJ11_length_0 : cJ11_length.data.toList.drop 0 = dktJ11_length_0 := by decide +kernel
theorem dJ11_length_0 : decode cJ11_length 0 = .ok (.aload_n 0, 1) := dk_42 (dk_at dksJ11_length_0 0 rfl rfl)
theorem dJ11_length_1 : decode cJ11_length 1 = .ok (.arraylength, 1) := dk_190 (dk_at dksJ11_length_0 1 rfl rfl)
theorem dJ11_length_2 : decode cJ11_length 2 = .ok (.iconst 1, 1) := dk_4 (dk_at dksJ11_length_0 2 rfl rfl)
theorem dJ11_length_3 : decode cJ11_length 3 = .ok (.ishr, 1) := dk_122 (dk_at dksJ11_length_0 3 rfl rfl)
theorem dJ11_length_4 : decode cJ11_length 4 = .ok (.ireturn, 1) := dk_172 (dk_at dksJ11_length_0 4 rfl rfl)
abbrev cJ11_getChar : ByteArray := prog_25_method_5_code
def yJ11_getChar : MethodName := ⟨RJ11, "getChar", "([BI)C"⟩
def dkwJ11_getChar_2 : List UInt8 := [51, 17, 0, 255, 126, 178, 0, 63, 120, 128, 146, 172]
abbrev dktJ11_getChar_2 : List UInt8 := dkwJ11_getChar_2 ++ []
def dkwJ11_getChar_1 : List UInt8 := [183, 0, 56, 191, 27, 4, 120, 60, 42, 27, 132, 1, 1, 51, 17, 0, 255, 126, 178, 0, 59, 120, 42, 27]
abbrev dktJ11_getChar_1 : List UInt8 := dkwJ11_getChar_1 ++ dktJ11_getChar_2
def dkwJ11_getChar_0 : List UInt8 := [178, 0, 44, 154, 0, 25, 27, 155, 0, 11, 27, 42, 184, 0, 48, 161, 0, 13, 187, 0, 52, 89, 18, 54]
abbrev dktJ11_getChar_0 : List UInt8 := dkwJ11_getChar_0 ++ dktJ11_getChar_1
theorem dksJ11_getChar_0 : cJ11_getChar.data.toList.drop 0 = dktJ11_getChar_0 := by decide +kernel
theorem dksJ11_getChar_1 : cJ11_getChar.data.toList.drop 24 = dktJ11_getChar_1 := dk_seg dksJ11_getChar_0 24 rfl rfl
theorem dksJ11_getChar_2 : cJ11_getChar.data.toList.drop 48 = dktJ11_getChar_2 := dk_seg dksJ11_getChar_1 24 rfl rfl
theorem dJ11_getChar_0 : decode cJ11_getChar 0 = .ok (.getstatic 44, 3) := dk_178 0 44 (dk_at dksJ11_getChar_0 0 rfl rfl)
theorem dJ11_getChar_3 : decode cJ11_getChar 3 = .ok (.ifCond .ne 25, 3) := dk_154 0 25 (dk_at dksJ11_getChar_0 3 rfl rfl)
theorem dJ11_getChar_6 : decode cJ11_getChar 6 = .ok (.iload_n 1, 1) := dk_27 (dk_at dksJ11_getChar_0 6 rfl rfl)
theorem dJ11_getChar_7 : decode cJ11_getChar 7 = .ok (.ifCond .lt 11, 3) := dk_155 0 11 (dk_at dksJ11_getChar_0 7 rfl rfl)
theorem dJ11_getChar_10 : decode cJ11_getChar 10 = .ok (.iload_n 1, 1) := dk_27 (dk_at dksJ11_getChar_0 10 rfl rfl)
theorem dJ11_getChar_11 : decode cJ11_getChar 11 = .ok (.aload_n 0, 1) := dk_42 (dk_at dksJ11_getChar_0 11 rfl rfl)
theorem dJ11_getChar_12 : decode cJ11_getChar 12 = .ok (.invokestatic 48, 3) := dk_184 0 48 (dk_at dksJ11_getChar_0 12 rfl rfl)
theorem dJ11_getChar_15 : decode cJ11_getChar 15 = .ok (.if_icmp .lt 13, 3) := dk_161 0 13 (dk_at dksJ11_getChar_0 15 rfl rfl)
theorem dJ11_getChar_18 : decode cJ11_getChar 18 = .ok (.new 52, 3) := dk_187 0 52 (dk_at dksJ11_getChar_0 18 rfl rfl)
theorem dJ11_getChar_21 : decode cJ11_getChar 21 = .ok (.dup, 1) := dk_89 (dk_at dksJ11_getChar_0 21 rfl rfl)
theorem dJ11_getChar_22 : decode cJ11_getChar 22 = .ok (.ldc 54, 2) := dk_18 54 (dk_at dksJ11_getChar_0 22 rfl rfl)
theorem dJ11_getChar_24 : decode cJ11_getChar 24 = .ok (.invokespecial 56, 3) := dk_183 0 56 (dk_at dksJ11_getChar_1 0 rfl rfl)
theorem dJ11_getChar_27 : decode cJ11_getChar 27 = .ok (.athrow, 1) := dk_191 (dk_at dksJ11_getChar_1 3 rfl rfl)
theorem dJ11_getChar_28 : decode cJ11_getChar 28 = .ok (.iload_n 1, 1) := dk_27 (dk_at dksJ11_getChar_1 4 rfl rfl)
theorem dJ11_getChar_29 : decode cJ11_getChar 29 = .ok (.iconst 1, 1) := dk_4 (dk_at dksJ11_getChar_1 5 rfl rfl)
theorem dJ11_getChar_30 : decode cJ11_getChar 30 = .ok (.ishl, 1) := dk_120 (dk_at dksJ11_getChar_1 6 rfl rfl)
theorem dJ11_getChar_31 : decode cJ11_getChar 31 = .ok (.istore_n 1, 1) := dk_60 (dk_at dksJ11_getChar_1 7 rfl rfl)
theorem dJ11_getChar_32 : decode cJ11_getChar 32 = .ok (.aload_n 0, 1) := dk_42 (dk_at dksJ11_getChar_1 8 rfl rfl)
theorem dJ11_getChar_33 : decode cJ11_getChar 33 = .ok (.iload_n 1, 1) := dk_27 (dk_at dksJ11_getChar_1 9 rfl rfl)
theorem dJ11_getChar_34 : decode cJ11_getChar 34 = .ok (.iinc 1 1, 3) := dk_132 1 1 (dk_at dksJ11_getChar_1 10 rfl rfl)
theorem dJ11_getChar_37 : decode cJ11_getChar 37 = .ok (.baload, 1) := dk_51 (dk_at dksJ11_getChar_1 13 rfl rfl)
theorem dJ11_getChar_38 : decode cJ11_getChar 38 = .ok (.sipush 255, 3) := dk_17 0 255 (dk_at dksJ11_getChar_1 14 rfl rfl)
theorem dJ11_getChar_41 : decode cJ11_getChar 41 = .ok (.iand, 1) := dk_126 (dk_at dksJ11_getChar_1 17 rfl rfl)
theorem dJ11_getChar_42 : decode cJ11_getChar 42 = .ok (.getstatic 59, 3) := dk_178 0 59 (dk_at dksJ11_getChar_1 18 rfl rfl)
theorem dJ11_getChar_45 : decode cJ11_getChar 45 = .ok (.ishl, 1) := dk_120 (dk_at dksJ11_getChar_1 21 rfl rfl)
theorem dJ11_getChar_46 : decode cJ11_getChar 46 = .ok (.aload_n 0, 1) := dk_42 (dk_at dksJ11_getChar_1 22 rfl rfl)
theorem dJ11_getChar_47 : decode cJ11_getChar 47 = .ok (.iload_n 1, 1) := dk_27 (dk_at dksJ11_getChar_1 23 rfl rfl)
theorem dJ11_getChar_48 : decode cJ11_getChar 48 = .ok (.baload, 1) := dk_51 (dk_at dksJ11_getChar_2 0 rfl rfl)
theorem dJ11_getChar_49 : decode cJ11_getChar 49 = .ok (.sipush 255, 3) := dk_17 0 255 (dk_at dksJ11_getChar_2 1 rfl rfl)
theorem dJ11_getChar_52 : decode cJ11_getChar 52 = .ok (.iand, 1) := dk_126 (dk_at dksJ11_getChar_2 4 rfl rfl)
theorem dJ11_getChar_53 : decode cJ11_getChar 53 = .ok (.getstatic 63, 3) := dk_178 0 63 (dk_at dksJ11_getChar_2 5 rfl rfl)
theorem dJ11_getChar_56 : decode cJ11_getChar 56 = .ok (.ishl, 1) := dk_120 (dk_at dksJ11_getChar_2 8 rfl rfl)
theorem dJ11_getChar_57 : decode cJ11_getChar 57 = .ok (.ior, 1) := dk_128 (dk_at dksJ11_getChar_2 9 rfl rfl)
theorem dJ11_getChar_58 : decode cJ11_getChar 58 = .ok (.i2c, 1) := dk_146 (dk_at dksJ11_getChar_2 10 rfl rfl)
theorem dJ11_getChar_59 : decode cJ11_getChar 59 = .ok (.ireturn, 1) := dk_172 (dk_at dksJ11_getChar_2 11 rfl rfl)
theorem q197 : (Jvm.Cond.initialized "java/lang/StringUTF16") ∈ lw_all := lw_g (lw_at lw_m1 23 rfl) rfl
theorem q819 : (Jvm.Cond.static ({ cls := "java/lang/StringUTF16", name := "charAt", desc := "([BI)C" } : Jvm.MethodName)) ∈ lw_all := lw_g (lw_at lw_m3 165 rfl) rfl
theorem q820 : (Jvm.Cond.code ({ cls := "java/lang/StringUTF16", name := "charAt", desc := "([BI)C" } : Jvm.MethodName) prog_25_method_83_code (2 : Nat) (Option.some Jvm.ClassFile.FieldType.char)) ∈ lw_all := lw_g (lw_at lw_m3 166 rfl) rfl
theorem q821 : (Jvm.Cond.methodLink "java/lang/StringUTF16" (67 : Nat) ({ cls := "java/lang/StringUTF16", name := "checkIndex", desc := "(I[B)V" } : Jvm.MethodName)) ∈ lw_all := lw_g (lw_at lw_m3 167 rfl) rfl
theorem q822 : (Jvm.Cond.static ({ cls := "java/lang/StringUTF16", name := "checkIndex", desc := "(I[B)V" } : Jvm.MethodName)) ∈ lw_all := lw_g (lw_at lw_m3 168 rfl) rfl
theorem q823 : (Jvm.Cond.code ({ cls := "java/lang/StringUTF16", name := "checkIndex", desc := "(I[B)V" } : Jvm.MethodName) prog_25_method_91_code (2 : Nat) (Option.none : Option Jvm.ClassFile.FieldType)) ∈ lw_all := lw_g (lw_at lw_m3 169 rfl) rfl
theorem q824 : (Jvm.Cond.methodLink "java/lang/StringUTF16" (48 : Nat) ({ cls := "java/lang/StringUTF16", name := "length", desc := "([B)I" } : Jvm.MethodName)) ∈ lw_all := lw_g (lw_at lw_m3 170 rfl) rfl
theorem q825 : (Jvm.Cond.static ({ cls := "java/lang/StringUTF16", name := "length", desc := "([B)I" } : Jvm.MethodName)) ∈ lw_all := lw_g (lw_at lw_m3 171 rfl) rfl
theorem q826 : (Jvm.Cond.code ({ cls := "java/lang/StringUTF16", name := "length", desc := "([B)I" } : Jvm.MethodName) prog_25_method_6_code (1 : Nat) (Option.some Jvm.ClassFile.FieldType.int)) ∈ lw_all := lw_g (lw_at lw_m3 172 rfl) rfl
theorem q827 : (Jvm.Cond.methodLink "java/lang/StringUTF16" (414 : Nat) ({ cls := "java/lang/String", name := "checkIndex", desc := "(II)V" } : Jvm.MethodName)) ∈ lw_all := lw_g (lw_at lw_m3 173 rfl) rfl
theorem q828 : (Jvm.Cond.methodLink "java/lang/StringUTF16" (71 : Nat) ({ cls := "java/lang/StringUTF16", name := "getChar", desc := "([BI)C" } : Jvm.MethodName)) ∈ lw_all := lw_g (lw_at lw_m3 174 rfl) rfl
theorem q829 : (Jvm.Cond.static ({ cls := "java/lang/StringUTF16", name := "getChar", desc := "([BI)C" } : Jvm.MethodName)) ∈ lw_all := lw_g (lw_at lw_m3 175 rfl) rfl
theorem q830 : (Jvm.Cond.code ({ cls := "java/lang/StringUTF16", name := "getChar", desc := "([BI)C" } : Jvm.MethodName) prog_25_method_5_code (2 : Nat) (Option.some Jvm.ClassFile.FieldType.char)) ∈ lw_all := lw_g (lw_at lw_m3 176 rfl) rfl
theorem q831 : (Jvm.Cond.fieldLink "java/lang/StringUTF16" (44 : Nat) "java/lang/StringUTF16" "$assertionsDisabled" "Z") ∈ lw_all := lw_g (lw_at lw_m3 177 rfl) rfl
theorem q832 : (Jvm.Cond.laysStatic "java/lang/StringUTF16" "$assertionsDisabled" "Z") ∈ lw_tbl := lw_at lw_m3 178 rfl
theorem q833 : (Jvm.Cond.fieldLink "java/lang/StringUTF16" (59 : Nat) "java/lang/StringUTF16" "HI_BYTE_SHIFT" "I") ∈ lw_all := lw_g (lw_at lw_m3 179 rfl) rfl
theorem q834 : (Jvm.Cond.laysStatic "java/lang/StringUTF16" "HI_BYTE_SHIFT" "I") ∈ lw_tbl := lw_at lw_m3 180 rfl
theorem q835 : (Jvm.Cond.fieldLink "java/lang/StringUTF16" (63 : Nat) "java/lang/StringUTF16" "LO_BYTE_SHIFT" "I") ∈ lw_all := lw_g (lw_at lw_m3 181 rfl) rfl
theorem q836 : (Jvm.Cond.laysStatic "java/lang/StringUTF16" "LO_BYTE_SHIFT" "I") ∈ lw_tbl := lw_at lw_m3 182 rfl
/-! java/lang/Object -/
set_option maxRecDepth 100000
def RJ12 : String := "java/lang/Object"
abbrev cJ12_init : ByteArray := object_method_1_code
def yJ12_init : MethodName := ⟨RJ12, "<init>", "()V"⟩
theorem dJ12_init_0 : decode cJ12_init 0 = .ok (.return_, 1) := by decide +kernel
theorem q208 : (Jvm.Cond.instanceMethod ({ cls := "java/lang/Object", name := "<init>", desc := "()V" } : Jvm.MethodName)) ∈ lw_all := lw_g (lw_at lw_m1 34 rfl) rfl
theorem q209 : (Jvm.Cond.code ({ cls := "java/lang/Object", name := "<init>", desc := "()V" } : Jvm.MethodName) object_method_1_code (1 : Nat) (Option.none : Option Jvm.ClassFile.FieldType)) ∈ lw_all := lw_g (lw_at lw_m1 35 rfl) rfl
/-! java/lang/RuntimeException -/
set_option maxRecDepth 100000
def RJ2 : String := "java/lang/RuntimeException"
abbrev cJ2_init : ByteArray := prog_22_method_5_code
def yJ2_init : MethodName := ⟨RJ2, "<init>", "(Ljava/lang/String;Ljava/lang/Throwable;ZZ)V"⟩
def dkwJ2_init_0 : List UInt8 := [42, 43, 44, 29, 21, 4, 183, 0, 16, 177]
abbrev dktJ2_init_0 : List UInt8 := dkwJ2_init_0 ++ []
theorem dksJ2_init_0 : cJ2_init.data.toList.drop 0 = dktJ2_init_0 := by decide +kernel
theorem dJ2_init_0 : decode cJ2_init 0 = .ok (.aload_n 0, 1) := dk_42 (dk_at dksJ2_init_0 0 rfl rfl)
theorem dJ2_init_1 : decode cJ2_init 1 = .ok (.aload_n 1, 1) := dk_43 (dk_at dksJ2_init_0 1 rfl rfl)
theorem dJ2_init_2 : decode cJ2_init 2 = .ok (.aload_n 2, 1) := dk_44 (dk_at dksJ2_init_0 2 rfl rfl)
theorem dJ2_init_3 : decode cJ2_init 3 = .ok (.iload_n 3, 1) := dk_29 (dk_at dksJ2_init_0 3 rfl rfl)
theorem dJ2_init_4 : decode cJ2_init 4 = .ok (.iload 4, 2) := dk_21 4 (dk_at dksJ2_init_0 4 rfl rfl)
theorem dJ2_init_6 : decode cJ2_init 6 = .ok (.invokespecial 16, 3) := dk_183 0 16 (dk_at dksJ2_init_0 6 rfl rfl)
theorem dJ2_init_9 : decode cJ2_init 9 = .ok (.return_, 1) := dk_177 (dk_at dksJ2_init_0 9 rfl rfl)
abbrev cJ2_init_2 : ByteArray := prog_22_method_2_code
def yJ2_init_2 : MethodName := ⟨RJ2, "<init>", "(Ljava/lang/String;)V"⟩
def dkwJ2_init_2_0 : List UInt8 := [42, 43, 183, 0, 7, 177]
abbrev dktJ2_init_2_0 : List UInt8 := dkwJ2_init_2_0 ++ []
theorem dksJ2_init_2_0 : cJ2_init_2.data.toList.drop 0 = dktJ2_init_2_0 := by decide +kernel
theorem dJ2_init_2_0 : decode cJ2_init_2 0 = .ok (.aload_n 0, 1) := dk_42 (dk_at dksJ2_init_2_0 0 rfl rfl)
theorem dJ2_init_2_1 : decode cJ2_init_2 1 = .ok (.aload_n 1, 1) := dk_43 (dk_at dksJ2_init_2_0 1 rfl rfl)
theorem dJ2_init_2_2 : decode cJ2_init_2 2 = .ok (.invokespecial 7, 3) := dk_183 0 7 (dk_at dksJ2_init_2_0 2 rfl rfl)
theorem dJ2_init_2_5 : decode cJ2_init_2 5 = .ok (.return_, 1) := dk_177 (dk_at dksJ2_init_2_0 5 rfl rfl)
abbrev cJ2_init_3 : ByteArray := prog_22_method_1_code
def yJ2_init_3 : MethodName := ⟨RJ2, "<init>", "()V"⟩
theorem dJ2_init_3_0 : decode cJ2_init_3 0 = .ok (.aload_n 0, 1) := by decide +kernel
theorem dJ2_init_3_1 : decode cJ2_init_3 1 = .ok (.invokespecial 1, 3) := by decide +kernel
theorem dJ2_init_3_4 : decode cJ2_init_3 4 = .ok (.return_, 1) := by decide +kernel
theorem q180 : (Jvm.Cond.initialized "java/lang/RuntimeException") ∈ lw_all := lw_g (lw_at lw_m1 6 rfl) rfl
theorem q217 : (Jvm.Cond.declares ({ cls := "java/lang/RuntimeException", name := "<init>", desc := "()V" } : Jvm.MethodName)) ∈ lw_tbl := lw_at lw_m1 43 rfl
theorem q218 : (Jvm.Cond.declares ({ cls := "java/lang/RuntimeException", name := "<init>", desc := "(Ljava/lang/String;)V" } : Jvm.MethodName)) ∈ lw_tbl := lw_at lw_m1 44 rfl
theorem q258 : (Jvm.Cond.sameMethod "java/lang/RuntimeException" "java/lang/Throwable" "fillInStackTrace" "()Ljava/lang/Throwable;") ∈ lw_all := lw_g (lw_at lw_m1 84 rfl) rfl
theorem q261 : (Jvm.Cond.superclass "java/lang/RuntimeException" "java/lang/Exception") ∈ lw_all := lw_g (lw_at lw_m1 87 rfl) rfl
theorem q273 : (Jvm.Cond.instanceMethod ({ cls := "java/lang/RuntimeException", name := "<init>", desc := "(Ljava/lang/String;Ljava/lang/Throwable;ZZ)V" } : Jvm.MethodName)) ∈ lw_all := lw_g (lw_at lw_m1 99 rfl) rfl
theorem q274 : (Jvm.Cond.code ({ cls := "java/lang/RuntimeException", name := "<init>", desc := "(Ljava/lang/String;Ljava/lang/Throwable;ZZ)V" } : Jvm.MethodName) prog_22_method_5_code (5 : Nat) (Option.none : Option Jvm.ClassFile.FieldType)) ∈ lw_all := lw_g (lw_at lw_m1 100 rfl) rfl
theorem q275 : (Jvm.Cond.methodLink "java/lang/RuntimeException" (16 : Nat) ({ cls := "java/lang/Exception", name := "<init>", desc := "(Ljava/lang/String;Ljava/lang/Throwable;ZZ)V" } : Jvm.MethodName)) ∈ lw_all := lw_g (lw_at lw_m1 101 rfl) rfl
theorem q627 : (Jvm.Cond.instanceMethod ({ cls := "java/lang/RuntimeException", name := "<init>", desc := "(Ljava/lang/String;)V" } : Jvm.MethodName)) ∈ lw_all := lw_g (lw_at lw_m2 213 rfl) rfl
theorem q628 : (Jvm.Cond.code ({ cls := "java/lang/RuntimeException", name := "<init>", desc := "(Ljava/lang/String;)V" } : Jvm.MethodName) prog_22_method_2_code (2 : Nat) (Option.none : Option Jvm.ClassFile.FieldType)) ∈ lw_all := lw_g (lw_at lw_m2 214 rfl) rfl
theorem q629 : (Jvm.Cond.methodLink "java/lang/RuntimeException" (7 : Nat) ({ cls := "java/lang/Exception", name := "<init>", desc := "(Ljava/lang/String;)V" } : Jvm.MethodName)) ∈ lw_all := lw_g (lw_at lw_m2 215 rfl) rfl
theorem q670 : (Jvm.Cond.instanceMethod ({ cls := "java/lang/RuntimeException", name := "<init>", desc := "()V" } : Jvm.MethodName)) ∈ lw_all := lw_g (lw_at lw_m3 16 rfl) rfl
theorem q671 : (Jvm.Cond.code ({ cls := "java/lang/RuntimeException", name := "<init>", desc := "()V" } : Jvm.MethodName) prog_22_method_1_code (1 : Nat) (Option.none : Option Jvm.ClassFile.FieldType)) ∈ lw_all := lw_g (lw_at lw_m3 17 rfl) rfl
theorem q672 : (Jvm.Cond.methodLink "java/lang/RuntimeException" (1 : Nat) ({ cls := "java/lang/Exception", name := "<init>", desc := "()V" } : Jvm.MethodName)) ∈ lw_all := lw_g (lw_at lw_m3 18 rfl) rfl
theorem q690 : (Jvm.Cond.castable "java/lang/RuntimeException" "java/lang/Throwable") ∈ lw_tbl := lw_at lw_m3 36 rfl
/-! java/lang/NegativeArraySizeException -/
set_option maxRecDepth 100000
def RJ3 : String := "java/lang/NegativeArraySizeException"
def TJ3 : u_T := fun k => match k with
  | 0 => ("java/lang/Throwable", "backtrace", "Ljava/lang/Object;", false)
  | 1 => ("java/lang/Throwable", "detailMessage", "Ljava/lang/String;", false)
  | 2 => ("java/lang/Throwable", "cause", "Ljava/lang/Throwable;", false)
  | 3 => ("java/lang/Throwable", "stackTrace", "[Ljava/lang/StackTraceElement;", false)
  | 4 => ("java/lang/Throwable", "depth", "I", false)
  | _ => ("java/lang/Throwable", "suppressedExceptions", "Ljava/util/List;", false)
def tyJ3 : Nat → FieldType := fun k => match k with
  | 0 => .object "java/lang/Object"
  | 1 => .object "java/lang/String"
  | 2 => .object "java/lang/Throwable"
  | 3 => .array (.object "java/lang/StackTraceElement")
  | 4 => .int
  | _ => .object "java/util/List"
abbrev wsJ30 : List Cond := u_ws RJ3 TJ3 6
theorem nmJ3 : ∀ a, a < 6 → ∀ b, b < 6 → a ≠ b → (TJ3 a).2.1 ≠ (TJ3 b).2.1 := by decide +kernel
theorem tyJ3_ok : ∀ k, k < 6 → parseFieldDescriptor (TJ3 k).2.2.1 = some (tyJ3 k) := by decide +kernel
abbrev cJ3_init : ByteArray := prog_20_method_2_code
def yJ3_init : MethodName := ⟨RJ3, "<init>", "(Ljava/lang/String;)V"⟩
def dkwJ3_init_0 : List UInt8 := [42, 43, 183, 0, 7, 177]
abbrev dktJ3_init_0 : List UInt8 := dkwJ3_init_0 ++ []
theorem dksJ3_init_0 : cJ3_init.data.toList.drop 0 = dktJ3_init_0 := by decide +kernel
theorem dJ3_init_0 : decode cJ3_init 0 = .ok (.aload_n 0, 1) := dk_42 (dk_at dksJ3_init_0 0 rfl rfl)
theorem dJ3_init_1 : decode cJ3_init 1 = .ok (.aload_n 1, 1) := dk_43 (dk_at dksJ3_init_0 1 rfl rfl)
theorem dJ3_init_2 : decode cJ3_init 2 = .ok (.invokespecial 7, 3) := dk_183 0 7 (dk_at dksJ3_init_0 2 rfl rfl)
theorem dJ3_init_5 : decode cJ3_init 5 = .ok (.return_, 1) := dk_177 (dk_at dksJ3_init_0 5 rfl rfl)
theorem q188 : (Jvm.Cond.initialized "java/lang/NegativeArraySizeException") ∈ lw_all := lw_g (lw_at lw_m1 14 rfl) rfl
theorem q248 : (Jvm.Cond.selects "java/lang/NegativeArraySizeException" ({ cls := "java/lang/Throwable", name := "fillInStackTrace", desc := "()Ljava/lang/Throwable;" } : Jvm.MethodName) ({ cls := "java/lang/Throwable", name := "fillInStackTrace", desc := "()Ljava/lang/Throwable;" } : Jvm.MethodName)) ∈ lw_all := lw_g (lw_at lw_m1 74 rfl) rfl
theorem q623 : (Jvm.Cond.instantiable "java/lang/NegativeArraySizeException" (6 : Nat)) ∈ lw_all := lw_g (lw_at lw_m2 209 rfl) rfl
theorem q624 : (Jvm.Cond.instanceMethod ({ cls := "java/lang/NegativeArraySizeException", name := "<init>", desc := "(Ljava/lang/String;)V" } : Jvm.MethodName)) ∈ lw_all := lw_g (lw_at lw_m2 210 rfl) rfl
theorem q625 : (Jvm.Cond.code ({ cls := "java/lang/NegativeArraySizeException", name := "<init>", desc := "(Ljava/lang/String;)V" } : Jvm.MethodName) prog_20_method_2_code (2 : Nat) (Option.none : Option Jvm.ClassFile.FieldType)) ∈ lw_all := lw_g (lw_at lw_m2 211 rfl) rfl
theorem q626 : (Jvm.Cond.methodLink "java/lang/NegativeArraySizeException" (7 : Nat) ({ cls := "java/lang/RuntimeException", name := "<init>", desc := "(Ljava/lang/String;)V" } : Jvm.MethodName)) ∈ lw_all := lw_g (lw_at lw_m2 212 rfl) rfl
theorem q635 : (Jvm.Cond.lays "java/lang/NegativeArraySizeException" "java/lang/Throwable" "backtrace" "Ljava/lang/Object;") ∈ lw_all := lw_g (lw_at lw_m2 221 rfl) rfl
theorem q636 : (Jvm.Cond.lays "java/lang/NegativeArraySizeException" "java/lang/Throwable" "detailMessage" "Ljava/lang/String;") ∈ lw_all := lw_g (lw_at lw_m2 222 rfl) rfl
theorem q637 : (Jvm.Cond.lays "java/lang/NegativeArraySizeException" "java/lang/Throwable" "cause" "Ljava/lang/Throwable;") ∈ lw_all := lw_g (lw_at lw_m2 223 rfl) rfl
theorem q638 : (Jvm.Cond.lays "java/lang/NegativeArraySizeException" "java/lang/Throwable" "stackTrace" "[Ljava/lang/StackTraceElement;") ∈ lw_all := lw_g (lw_at lw_m2 224 rfl) rfl
theorem q639 : (Jvm.Cond.lays "java/lang/NegativeArraySizeException" "java/lang/Throwable" "depth" "I") ∈ lw_all := lw_g (lw_at lw_m2 225 rfl) rfl
theorem q640 : (Jvm.Cond.lays "java/lang/NegativeArraySizeException" "java/lang/Throwable" "suppressedExceptions" "Ljava/util/List;") ∈ lw_all := lw_g (lw_at lw_m2 226 rfl) rfl
theorem q641 : (Jvm.Cond.superclass "java/lang/NegativeArraySizeException" "java/lang/RuntimeException") ∈ lw_all := lw_g (lw_at lw_m2 227 rfl) rfl
theorem q642 : (Jvm.Cond.castable "java/lang/NegativeArraySizeException" "java/lang/NegativeArraySizeException") ∈ lw_tbl := lw_at lw_m2 228 rfl
theorem q643 : (Jvm.Cond.selects "java/lang/NegativeArraySizeException" ({ cls := "java/lang/Throwable", name := "fillInStackTrace", desc := "(I)Ljava/lang/Throwable;" } : Jvm.MethodName) ({ cls := "java/lang/Throwable", name := "fillInStackTrace", desc := "(I)Ljava/lang/Throwable;" } : Jvm.MethodName)) ∈ lw_all := lw_g (lw_at lw_m2 229 rfl) rfl
theorem in_J3 : ∀ w ∈ wsJ30, w ∈ lw_all := lw_in wsJ30 [635, 636, 637, 638, 639, 640] (by decide +kernel) (by decide +kernel)
/-! java/lang/String -/
set_option maxRecDepth 100000
def RJ4 : String := "java/lang/String"
def TJ4 : u_T := fun k => match k with
  | 0 => ("java/lang/String", "value", "[B", true)
  | _ => ("java/lang/String", "coder", "B", true)
def tyJ4 : Nat → FieldType := fun k => match k with
  | 0 => .array .byte
  | _ => .byte
abbrev wsJ40 : List Cond := u_ws RJ4 TJ4 2
theorem nmJ4 : ∀ a, a < 2 → ∀ b, b < 2 → a ≠ b → (TJ4 a).2.1 ≠ (TJ4 b).2.1 := by decide +kernel
theorem tyJ4_ok : ∀ k, k < 2 → parseFieldDescriptor (TJ4 k).2.2.1 = some (tyJ4 k) := by decide +kernel
abbrev cJ4_length : ByteArray := prog_23_method_54_code
def yJ4_length : MethodName := ⟨RJ4, "length", "()I"⟩
def dkwJ4_length_0 : List UInt8 := [42, 180, 0, 9, 190, 42, 182, 1, 79, 122, 172]
abbrev dktJ4_length_0 : List UInt8 := dkwJ4_length_0 ++ []
theorem dksJ4_length_0 : cJ4_length.data.toList.drop 0 = dktJ4_length_0 := by decide +kernel
theorem dJ4_length_0 : decode cJ4_length 0 = .ok (.aload_n 0, 1) := dk_42 (dk_at dksJ4_length_0 0 rfl rfl)
theorem dJ4_length_1 : decode cJ4_length 1 = .ok (.getfield 9, 3) := dk_180 0 9 (dk_at dksJ4_length_0 1 rfl rfl)
theorem dJ4_length_4 : decode cJ4_length 4 = .ok (.arraylength, 1) := dk_190 (dk_at dksJ4_length_0 4 rfl rfl)
theorem dJ4_length_5 : decode cJ4_length 5 = .ok (.aload_n 0, 1) := dk_42 (dk_at dksJ4_length_0 5 rfl rfl)
theorem dJ4_length_6 : decode cJ4_length 6 = .ok (.invokevirtual 335, 3) := dk_182 1 79 (dk_at dksJ4_length_0 6 rfl rfl)
theorem dJ4_length_9 : decode cJ4_length 9 = .ok (.ishr, 1) := dk_122 (dk_at dksJ4_length_0 9 rfl rfl)
theorem dJ4_length_10 : decode cJ4_length 10 = .ok (.ireturn, 1) := dk_172 (dk_at dksJ4_length_0 10 rfl rfl)
abbrev cJ4_coder : ByteArray := prog_23_method_152_code
def yJ4_coder : MethodName := ⟨RJ4, "coder", "()B"⟩
def dkwJ4_coder_0 : List UInt8 := [178, 0, 38, 153, 0, 10, 42, 180, 0, 15, 167, 0, 4, 4, 172]
abbrev dktJ4_coder_0 : List UInt8 := dkwJ4_coder_0 ++ []
theorem dksJ4_coder_0 : cJ4_coder.data.toList.drop 0 = dktJ4_coder_0 := by decide +kernel
theorem dJ4_coder_0 : decode cJ4_coder 0 = .ok (.getstatic 38, 3) := dk_178 0 38 (dk_at dksJ4_coder_0 0 rfl rfl)
theorem dJ4_coder_3 : decode cJ4_coder 3 = .ok (.ifCond .eq 10, 3) := dk_153 0 10 (dk_at dksJ4_coder_0 3 rfl rfl)
theorem dJ4_coder_6 : decode cJ4_coder 6 = .ok (.aload_n 0, 1) := dk_42 (dk_at dksJ4_coder_0 6 rfl rfl)
theorem dJ4_coder_7 : decode cJ4_coder 7 = .ok (.getfield 15, 3) := dk_180 0 15 (dk_at dksJ4_coder_0 7 rfl rfl)
theorem dJ4_coder_10 : decode cJ4_coder 10 = .ok (.goto 4, 3) := dk_167 0 4 (dk_at dksJ4_coder_0 10 rfl rfl)
theorem dJ4_coder_13 : decode cJ4_coder 13 = .ok (.iconst 1, 1) := dk_4 (dk_at dksJ4_coder_0 13 rfl rfl)
theorem dJ4_coder_14 : decode cJ4_coder 14 = .ok (.ireturn, 1) := dk_172 (dk_at dksJ4_coder_0 14 rfl rfl)
abbrev cJ4_charAt : ByteArray := prog_23_method_56_code
def yJ4_charAt : MethodName := ⟨RJ4, "charAt", "(I)C"⟩
def dkwJ4_charAt_1 : List UInt8 := [172]
abbrev dktJ4_charAt_1 : List UInt8 := dkwJ4_charAt_1 ++ []
def dkwJ4_charAt_0 : List UInt8 := [42, 182, 1, 236, 153, 0, 12, 42, 180, 0, 9, 27, 184, 1, 239, 172, 42, 180, 0, 9, 27, 184, 1, 242]
abbrev dktJ4_charAt_0 : List UInt8 := dkwJ4_charAt_0 ++ dktJ4_charAt_1
theorem dksJ4_charAt_0 : cJ4_charAt.data.toList.drop 0 = dktJ4_charAt_0 := by decide +kernel
theorem dksJ4_charAt_1 : cJ4_charAt.data.toList.drop 24 = dktJ4_charAt_1 := dk_seg dksJ4_charAt_0 24 rfl rfl
theorem dJ4_charAt_0 : decode cJ4_charAt 0 = .ok (.aload_n 0, 1) := dk_42 (dk_at dksJ4_charAt_0 0 rfl rfl)
theorem dJ4_charAt_1 : decode cJ4_charAt 1 = .ok (.invokevirtual 492, 3) := dk_182 1 236 (dk_at dksJ4_charAt_0 1 rfl rfl)
theorem dJ4_charAt_4 : decode cJ4_charAt 4 = .ok (.ifCond .eq 12, 3) := dk_153 0 12 (dk_at dksJ4_charAt_0 4 rfl rfl)
theorem dJ4_charAt_7 : decode cJ4_charAt 7 = .ok (.aload_n 0, 1) := dk_42 (dk_at dksJ4_charAt_0 7 rfl rfl)
theorem dJ4_charAt_8 : decode cJ4_charAt 8 = .ok (.getfield 9, 3) := dk_180 0 9 (dk_at dksJ4_charAt_0 8 rfl rfl)
theorem dJ4_charAt_11 : decode cJ4_charAt 11 = .ok (.iload_n 1, 1) := dk_27 (dk_at dksJ4_charAt_0 11 rfl rfl)
theorem dJ4_charAt_12 : decode cJ4_charAt 12 = .ok (.invokestatic 495, 3) := dk_184 1 239 (dk_at dksJ4_charAt_0 12 rfl rfl)
theorem dJ4_charAt_15 : decode cJ4_charAt 15 = .ok (.ireturn, 1) := dk_172 (dk_at dksJ4_charAt_0 15 rfl rfl)
theorem dJ4_charAt_16 : decode cJ4_charAt 16 = .ok (.aload_n 0, 1) := dk_42 (dk_at dksJ4_charAt_0 16 rfl rfl)
theorem dJ4_charAt_17 : decode cJ4_charAt 17 = .ok (.getfield 9, 3) := dk_180 0 9 (dk_at dksJ4_charAt_0 17 rfl rfl)
theorem dJ4_charAt_20 : decode cJ4_charAt 20 = .ok (.iload_n 1, 1) := dk_27 (dk_at dksJ4_charAt_0 20 rfl rfl)
theorem dJ4_charAt_21 : decode cJ4_charAt 21 = .ok (.invokestatic 498, 3) := dk_184 1 242 (dk_at dksJ4_charAt_0 21 rfl rfl)
theorem dJ4_charAt_24 : decode cJ4_charAt 24 = .ok (.ireturn, 1) := dk_172 (dk_at dksJ4_charAt_1 0 rfl rfl)
abbrev cJ4_isLatin1 : ByteArray := prog_23_method_154_code
def yJ4_isLatin1 : MethodName := ⟨RJ4, "isLatin1", "()Z"⟩
def dkwJ4_isLatin1_0 : List UInt8 := [178, 0, 38, 153, 0, 14, 42, 180, 0, 15, 154, 0, 7, 4, 167, 0, 4, 3, 172]
abbrev dktJ4_isLatin1_0 : List UInt8 := dkwJ4_isLatin1_0 ++ []
theorem dksJ4_isLatin1_0 : cJ4_isLatin1.data.toList.drop 0 = dktJ4_isLatin1_0 := by decide +kernel
theorem dJ4_isLatin1_0 : decode cJ4_isLatin1 0 = .ok (.getstatic 38, 3) := dk_178 0 38 (dk_at dksJ4_isLatin1_0 0 rfl rfl)
theorem dJ4_isLatin1_3 : decode cJ4_isLatin1 3 = .ok (.ifCond .eq 14, 3) := dk_153 0 14 (dk_at dksJ4_isLatin1_0 3 rfl rfl)
theorem dJ4_isLatin1_6 : decode cJ4_isLatin1 6 = .ok (.aload_n 0, 1) := dk_42 (dk_at dksJ4_isLatin1_0 6 rfl rfl)
theorem dJ4_isLatin1_7 : decode cJ4_isLatin1 7 = .ok (.getfield 15, 3) := dk_180 0 15 (dk_at dksJ4_isLatin1_0 7 rfl rfl)
theorem dJ4_isLatin1_10 : decode cJ4_isLatin1 10 = .ok (.ifCond .ne 7, 3) := dk_154 0 7 (dk_at dksJ4_isLatin1_0 10 rfl rfl)
theorem dJ4_isLatin1_13 : decode cJ4_isLatin1 13 = .ok (.iconst 1, 1) := dk_4 (dk_at dksJ4_isLatin1_0 13 rfl rfl)
theorem dJ4_isLatin1_14 : decode cJ4_isLatin1 14 = .ok (.goto 4, 3) := dk_167 0 4 (dk_at dksJ4_isLatin1_0 14 rfl rfl)
theorem dJ4_isLatin1_17 : decode cJ4_isLatin1 17 = .ok (.iconst 0, 1) := dk_3 (dk_at dksJ4_isLatin1_0 17 rfl rfl)
theorem dJ4_isLatin1_18 : decode cJ4_isLatin1 18 = .ok (.ireturn, 1) := dk_172 (dk_at dksJ4_isLatin1_0 18 rfl rfl)
abbrev cJ4_checkIndex : ByteArray := prog_23_method_155_code
def yJ4_checkIndex : MethodName := ⟨RJ4, "checkIndex", "(II)V"⟩
def dkwJ4_checkIndex_0 : List UInt8 := [26, 27, 178, 4, 29, 184, 4, 35, 87, 177]
abbrev dktJ4_checkIndex_0 : List UInt8 := dkwJ4_checkIndex_0 ++ []
theorem dksJ4_checkIndex_0 : cJ4_checkIndex.data.toList.drop 0 = dktJ4_checkIndex_0 := by decide +kernel
theorem dJ4_checkIndex_0 : decode cJ4_checkIndex 0 = .ok (.iload_n 0, 1) := dk_26 (dk_at dksJ4_checkIndex_0 0 rfl rfl)
theorem dJ4_checkIndex_1 : decode cJ4_checkIndex 1 = .ok (.iload_n 1, 1) := dk_27 (dk_at dksJ4_checkIndex_0 1 rfl rfl)
theorem dJ4_checkIndex_2 : decode cJ4_checkIndex 2 = .ok (.getstatic 1053, 3) := dk_178 4 29 (dk_at dksJ4_checkIndex_0 2 rfl rfl)
theorem dJ4_checkIndex_5 : decode cJ4_checkIndex 5 = .ok (.invokestatic 1059, 3) := dk_184 4 35 (dk_at dksJ4_checkIndex_0 5 rfl rfl)
theorem dJ4_checkIndex_8 : decode cJ4_checkIndex 8 = .ok (.pop, 1) := dk_87 (dk_at dksJ4_checkIndex_0 8 rfl rfl)
theorem dJ4_checkIndex_9 : decode cJ4_checkIndex 9 = .ok (.return_, 1) := dk_177 (dk_at dksJ4_checkIndex_0 9 rfl rfl)
theorem q189 : (Jvm.Cond.initialized "java/lang/String") ∈ lw_all := lw_g (lw_at lw_m1 15 rfl) rfl
theorem q644 : (Jvm.Cond.instantiable "java/lang/String" (4 : Nat)) ∈ lw_all := lw_g (lw_at lw_m2 230 rfl) rfl
theorem q645 : (Jvm.Cond.laysFinal "java/lang/String" "java/lang/String" "value" "[B") ∈ lw_all := lw_g (lw_at lw_m2 231 rfl) rfl
theorem q646 : (Jvm.Cond.soleField "java/lang/String" "value") ∈ lw_all := lw_g (lw_at lw_m2 232 rfl) rfl
theorem q647 : (Jvm.Cond.laysFinal "java/lang/String" "java/lang/String" "coder" "B") ∈ lw_all := lw_g (lw_at lw_m2 233 rfl) rfl
theorem q648 : (Jvm.Cond.soleField "java/lang/String" "coder") ∈ lw_all := lw_g (lw_at lw_m2 234 rfl) rfl
theorem q790 : (Jvm.Cond.instanceMethod ({ cls := "java/lang/String", name := "length", desc := "()I" } : Jvm.MethodName)) ∈ lw_all := lw_g (lw_at lw_m3 136 rfl) rfl
theorem q791 : (Jvm.Cond.selects "java/lang/String" ({ cls := "java/lang/String", name := "length", desc := "()I" } : Jvm.MethodName) ({ cls := "java/lang/String", name := "length", desc := "()I" } : Jvm.MethodName)) ∈ lw_all := lw_g (lw_at lw_m3 137 rfl) rfl
theorem q792 : (Jvm.Cond.code ({ cls := "java/lang/String", name := "length", desc := "()I" } : Jvm.MethodName) prog_23_method_54_code (1 : Nat) (Option.some Jvm.ClassFile.FieldType.int)) ∈ lw_all := lw_g (lw_at lw_m3 138 rfl) rfl
theorem q793 : (Jvm.Cond.methodLink "java/lang/String" (335 : Nat) ({ cls := "java/lang/String", name := "coder", desc := "()B" } : Jvm.MethodName)) ∈ lw_all := lw_g (lw_at lw_m3 139 rfl) rfl
theorem q794 : (Jvm.Cond.instanceMethod ({ cls := "java/lang/String", name := "coder", desc := "()B" } : Jvm.MethodName)) ∈ lw_all := lw_g (lw_at lw_m3 140 rfl) rfl
theorem q795 : (Jvm.Cond.selects "java/lang/String" ({ cls := "java/lang/String", name := "coder", desc := "()B" } : Jvm.MethodName) ({ cls := "java/lang/String", name := "coder", desc := "()B" } : Jvm.MethodName)) ∈ lw_all := lw_g (lw_at lw_m3 141 rfl) rfl
theorem q796 : (Jvm.Cond.code ({ cls := "java/lang/String", name := "coder", desc := "()B" } : Jvm.MethodName) prog_23_method_152_code (1 : Nat) (Option.some Jvm.ClassFile.FieldType.byte)) ∈ lw_all := lw_g (lw_at lw_m3 142 rfl) rfl
theorem q797 : (Jvm.Cond.fieldLink "java/lang/String" (38 : Nat) "java/lang/String" "COMPACT_STRINGS" "Z") ∈ lw_all := lw_g (lw_at lw_m3 143 rfl) rfl
theorem q798 : (Jvm.Cond.laysStatic "java/lang/String" "COMPACT_STRINGS" "Z") ∈ lw_tbl := lw_at lw_m3 144 rfl
theorem q800 : (Jvm.Cond.instanceMethod ({ cls := "java/lang/String", name := "charAt", desc := "(I)C" } : Jvm.MethodName)) ∈ lw_all := lw_g (lw_at lw_m3 146 rfl) rfl
theorem q801 : (Jvm.Cond.selects "java/lang/String" ({ cls := "java/lang/String", name := "charAt", desc := "(I)C" } : Jvm.MethodName) ({ cls := "java/lang/String", name := "charAt", desc := "(I)C" } : Jvm.MethodName)) ∈ lw_all := lw_g (lw_at lw_m3 147 rfl) rfl
theorem q802 : (Jvm.Cond.code ({ cls := "java/lang/String", name := "charAt", desc := "(I)C" } : Jvm.MethodName) prog_23_method_56_code (2 : Nat) (Option.some Jvm.ClassFile.FieldType.char)) ∈ lw_all := lw_g (lw_at lw_m3 148 rfl) rfl
theorem q803 : (Jvm.Cond.methodLink "java/lang/String" (492 : Nat) ({ cls := "java/lang/String", name := "isLatin1", desc := "()Z" } : Jvm.MethodName)) ∈ lw_all := lw_g (lw_at lw_m3 149 rfl) rfl
theorem q804 : (Jvm.Cond.instanceMethod ({ cls := "java/lang/String", name := "isLatin1", desc := "()Z" } : Jvm.MethodName)) ∈ lw_all := lw_g (lw_at lw_m3 150 rfl) rfl
theorem q805 : (Jvm.Cond.selects "java/lang/String" ({ cls := "java/lang/String", name := "isLatin1", desc := "()Z" } : Jvm.MethodName) ({ cls := "java/lang/String", name := "isLatin1", desc := "()Z" } : Jvm.MethodName)) ∈ lw_all := lw_g (lw_at lw_m3 151 rfl) rfl
theorem q806 : (Jvm.Cond.code ({ cls := "java/lang/String", name := "isLatin1", desc := "()Z" } : Jvm.MethodName) prog_23_method_154_code (1 : Nat) (Option.some Jvm.ClassFile.FieldType.boolean)) ∈ lw_all := lw_g (lw_at lw_m3 152 rfl) rfl
theorem q807 : (Jvm.Cond.methodLink "java/lang/String" (495 : Nat) ({ cls := "java/lang/StringLatin1", name := "charAt", desc := "([BI)C" } : Jvm.MethodName)) ∈ lw_all := lw_g (lw_at lw_m3 153 rfl) rfl
theorem q811 : (Jvm.Cond.static ({ cls := "java/lang/String", name := "checkIndex", desc := "(II)V" } : Jvm.MethodName)) ∈ lw_all := lw_g (lw_at lw_m3 157 rfl) rfl
theorem q812 : (Jvm.Cond.code ({ cls := "java/lang/String", name := "checkIndex", desc := "(II)V" } : Jvm.MethodName) prog_23_method_155_code (2 : Nat) (Option.none : Option Jvm.ClassFile.FieldType)) ∈ lw_all := lw_g (lw_at lw_m3 158 rfl) rfl
theorem q813 : (Jvm.Cond.fieldLink "java/lang/String" (1053 : Nat) "jdk/internal/util/Preconditions" "SIOOBE_FORMATTER" "Ljava/util/function/BiFunction;") ∈ lw_all := lw_g (lw_at lw_m3 159 rfl) rfl
theorem q815 : (Jvm.Cond.methodLink "java/lang/String" (1059 : Nat) ({ cls := "jdk/internal/util/Preconditions", name := "checkIndex", desc := "(IILjava/util/function/BiFunction;)I" } : Jvm.MethodName)) ∈ lw_all := lw_g (lw_at lw_m3 161 rfl) rfl
theorem q818 : (Jvm.Cond.methodLink "java/lang/String" (498 : Nat) ({ cls := "java/lang/StringUTF16", name := "charAt", desc := "([BI)C" } : Jvm.MethodName)) ∈ lw_all := lw_g (lw_at lw_m3 164 rfl) rfl
theorem q2462 : (Jvm.Cond.fieldLink "java/lang/String" (9 : Nat) "java/lang/String" "value" "[B") ∈ lw_all := lw_g (lw_at lw_m10 128 rfl) rfl
theorem q2463 : (Jvm.Cond.fieldLink "java/lang/String" (15 : Nat) "java/lang/String" "coder" "B") ∈ lw_all := lw_g (lw_at lw_m10 129 rfl) rfl
theorem in_J4 : ∀ w ∈ wsJ40, w ∈ lw_all := lw_in wsJ40 [645, 647] (by decide +kernel) (by decide +kernel)
/-! java/lang/NullPointerException -/
set_option maxRecDepth 100000
def RJ5 : String := "java/lang/NullPointerException"
def TJ5 : u_T := fun k => match k with
  | 0 => ("java/lang/Throwable", "backtrace", "Ljava/lang/Object;", false)
  | 1 => ("java/lang/Throwable", "detailMessage", "Ljava/lang/String;", false)
  | 2 => ("java/lang/Throwable", "cause", "Ljava/lang/Throwable;", false)
  | 3 => ("java/lang/Throwable", "stackTrace", "[Ljava/lang/StackTraceElement;", false)
  | 4 => ("java/lang/Throwable", "depth", "I", false)
  | 5 => ("java/lang/Throwable", "suppressedExceptions", "Ljava/util/List;", false)
  | 6 => ("java/lang/NullPointerException", "extendedMessageState", "I", false)
  | _ => ("java/lang/NullPointerException", "extendedMessage", "Ljava/lang/String;", false)
def tyJ5 : Nat → FieldType := fun k => match k with
  | 0 => .object "java/lang/Object"
  | 1 => .object "java/lang/String"
  | 2 => .object "java/lang/Throwable"
  | 3 => .array (.object "java/lang/StackTraceElement")
  | 4 => .int
  | 5 => .object "java/util/List"
  | 6 => .int
  | _ => .object "java/lang/String"
abbrev wsJ50 : List Cond := u_ws RJ5 TJ5 8
theorem nmJ5 : ∀ a, a < 8 → ∀ b, b < 8 → a ≠ b → (TJ5 a).2.1 ≠ (TJ5 b).2.1 := by decide +kernel
theorem tyJ5_ok : ∀ k, k < 8 → parseFieldDescriptor (TJ5 k).2.2.1 = some (tyJ5 k) := by decide +kernel
abbrev cJ5_init : ByteArray := prog_21_method_1_code
def yJ5_init : MethodName := ⟨RJ5, "<init>", "()V"⟩
theorem dJ5_init_0 : decode cJ5_init 0 = .ok (.aload_n 0, 1) := by decide +kernel
theorem dJ5_init_1 : decode cJ5_init 1 = .ok (.invokespecial 1, 3) := by decide +kernel
theorem dJ5_init_4 : decode cJ5_init 4 = .ok (.return_, 1) := by decide +kernel
theorem q190 : (Jvm.Cond.initialized "java/lang/NullPointerException") ∈ lw_all := lw_g (lw_at lw_m1 16 rfl) rfl
theorem q249 : (Jvm.Cond.selects "java/lang/NullPointerException" ({ cls := "java/lang/Throwable", name := "fillInStackTrace", desc := "()Ljava/lang/Throwable;" } : Jvm.MethodName) ({ cls := "java/lang/NullPointerException", name := "fillInStackTrace", desc := "()Ljava/lang/Throwable;" } : Jvm.MethodName)) ∈ lw_all := lw_g (lw_at lw_m1 75 rfl) rfl
theorem q250 : (Jvm.Cond.instanceMethod ({ cls := "java/lang/NullPointerException", name := "fillInStackTrace", desc := "()Ljava/lang/Throwable;" } : Jvm.MethodName)) ∈ lw_all := lw_g (lw_at lw_m1 76 rfl) rfl
theorem q251 : (Jvm.Cond.codeSync ({ cls := "java/lang/NullPointerException", name := "fillInStackTrace", desc := "()Ljava/lang/Throwable;" } : Jvm.MethodName) prog_21_method_3_code (1 : Nat) (Option.some (Jvm.ClassFile.FieldType.object "java/lang/Throwable"))) ∈ lw_all := lw_g (lw_at lw_m1 77 rfl) rfl
theorem q252 : (Jvm.Cond.methodLink "java/lang/NullPointerException" (16 : Nat) ({ cls := "java/lang/NullPointerException", name := "getExtendedNPEMessage", desc := "()Ljava/lang/String;" } : Jvm.MethodName)) ∈ lw_all := lw_g (lw_at lw_m1 78 rfl) rfl
theorem q253 : (Jvm.Cond.privateMethod ({ cls := "java/lang/NullPointerException", name := "getExtendedNPEMessage", desc := "()Ljava/lang/String;" } : Jvm.MethodName)) ∈ lw_tbl := lw_at lw_m1 79 rfl
theorem q254 : (Jvm.Cond.instanceMethod ({ cls := "java/lang/NullPointerException", name := "getExtendedNPEMessage", desc := "()Ljava/lang/String;" } : Jvm.MethodName)) ∈ lw_all := lw_g (lw_at lw_m1 80 rfl) rfl
theorem q255 : (Jvm.Cond.instantiable "java/lang/NullPointerException" (8 : Nat)) ∈ lw_all := lw_g (lw_at lw_m1 81 rfl) rfl
theorem q256 : (Jvm.Cond.native ({ cls := "java/lang/NullPointerException", name := "getExtendedNPEMessage", desc := "()Ljava/lang/String;" } : Jvm.MethodName)) ∈ lw_all := lw_g (lw_at lw_m1 82 rfl) rfl
theorem q257 : (Jvm.Cond.methodLink "java/lang/NullPointerException" (24 : Nat) ({ cls := "java/lang/RuntimeException", name := "fillInStackTrace", desc := "()Ljava/lang/Throwable;" } : Jvm.MethodName)) ∈ lw_all := lw_g (lw_at lw_m1 83 rfl) rfl
theorem q260 : (Jvm.Cond.superclass "java/lang/NullPointerException" "java/lang/RuntimeException") ∈ lw_all := lw_g (lw_at lw_m1 86 rfl) rfl
theorem q667 : (Jvm.Cond.instanceMethod ({ cls := "java/lang/NullPointerException", name := "<init>", desc := "()V" } : Jvm.MethodName)) ∈ lw_all := lw_g (lw_at lw_m3 13 rfl) rfl
theorem q668 : (Jvm.Cond.code ({ cls := "java/lang/NullPointerException", name := "<init>", desc := "()V" } : Jvm.MethodName) prog_21_method_1_code (1 : Nat) (Option.none : Option Jvm.ClassFile.FieldType)) ∈ lw_all := lw_g (lw_at lw_m3 14 rfl) rfl
theorem q669 : (Jvm.Cond.methodLink "java/lang/NullPointerException" (1 : Nat) ({ cls := "java/lang/RuntimeException", name := "<init>", desc := "()V" } : Jvm.MethodName)) ∈ lw_all := lw_g (lw_at lw_m3 15 rfl) rfl
theorem q676 : (Jvm.Cond.fieldLink "java/lang/NullPointerException" (10 : Nat) "java/lang/NullPointerException" "extendedMessageState" "I") ∈ lw_all := lw_g (lw_at lw_m3 22 rfl) rfl
theorem q677 : (Jvm.Cond.fieldLink "java/lang/NullPointerException" (20 : Nat) "java/lang/NullPointerException" "extendedMessage" "Ljava/lang/String;") ∈ lw_all := lw_g (lw_at lw_m3 23 rfl) rfl
theorem q678 : (Jvm.Cond.lays "java/lang/NullPointerException" "java/lang/NullPointerException" "extendedMessageState" "I") ∈ lw_all := lw_g (lw_at lw_m3 24 rfl) rfl
theorem q679 : (Jvm.Cond.soleField "java/lang/NullPointerException" "extendedMessageState") ∈ lw_all := lw_g (lw_at lw_m3 25 rfl) rfl
theorem q680 : (Jvm.Cond.lays "java/lang/NullPointerException" "java/lang/NullPointerException" "extendedMessage" "Ljava/lang/String;") ∈ lw_all := lw_g (lw_at lw_m3 26 rfl) rfl
theorem q681 : (Jvm.Cond.soleField "java/lang/NullPointerException" "extendedMessage") ∈ lw_all := lw_g (lw_at lw_m3 27 rfl) rfl
theorem q682 : (Jvm.Cond.lays "java/lang/NullPointerException" "java/lang/Throwable" "backtrace" "Ljava/lang/Object;") ∈ lw_all := lw_g (lw_at lw_m3 28 rfl) rfl
theorem q683 : (Jvm.Cond.lays "java/lang/NullPointerException" "java/lang/Throwable" "detailMessage" "Ljava/lang/String;") ∈ lw_all := lw_g (lw_at lw_m3 29 rfl) rfl
theorem q684 : (Jvm.Cond.lays "java/lang/NullPointerException" "java/lang/Throwable" "cause" "Ljava/lang/Throwable;") ∈ lw_all := lw_g (lw_at lw_m3 30 rfl) rfl
theorem q685 : (Jvm.Cond.lays "java/lang/NullPointerException" "java/lang/Throwable" "stackTrace" "[Ljava/lang/StackTraceElement;") ∈ lw_all := lw_g (lw_at lw_m3 31 rfl) rfl
theorem q686 : (Jvm.Cond.lays "java/lang/NullPointerException" "java/lang/Throwable" "depth" "I") ∈ lw_all := lw_g (lw_at lw_m3 32 rfl) rfl
theorem q687 : (Jvm.Cond.lays "java/lang/NullPointerException" "java/lang/Throwable" "suppressedExceptions" "Ljava/util/List;") ∈ lw_all := lw_g (lw_at lw_m3 33 rfl) rfl
theorem q688 : (Jvm.Cond.castable "java/lang/NullPointerException" "java/lang/NullPointerException") ∈ lw_tbl := lw_at lw_m3 34 rfl
theorem q689 : (Jvm.Cond.selects "java/lang/NullPointerException" ({ cls := "java/lang/Throwable", name := "fillInStackTrace", desc := "(I)Ljava/lang/Throwable;" } : Jvm.MethodName) ({ cls := "java/lang/Throwable", name := "fillInStackTrace", desc := "(I)Ljava/lang/Throwable;" } : Jvm.MethodName)) ∈ lw_all := lw_g (lw_at lw_m3 35 rfl) rfl
theorem in_J5 : ∀ w ∈ wsJ50, w ∈ lw_all := lw_in wsJ50 [682, 683, 684, 685, 686, 687, 678, 680] (by decide +kernel) (by decide +kernel)
/-! java/lang/IndexOutOfBoundsException -/
set_option maxRecDepth 100000
def RJ6 : String := "java/lang/IndexOutOfBoundsException"
abbrev cJ6_init : ByteArray := prog_18_method_2_code
def yJ6_init : MethodName := ⟨RJ6, "<init>", "(Ljava/lang/String;)V"⟩
def dkwJ6_init_0 : List UInt8 := [42, 43, 183, 0, 7, 177]
abbrev dktJ6_init_0 : List UInt8 := dkwJ6_init_0 ++ []
theorem dksJ6_init_0 : cJ6_init.data.toList.drop 0 = dktJ6_init_0 := by decide +kernel
theorem dJ6_init_0 : decode cJ6_init 0 = .ok (.aload_n 0, 1) := dk_42 (dk_at dksJ6_init_0 0 rfl rfl)
theorem dJ6_init_1 : decode cJ6_init 1 = .ok (.aload_n 1, 1) := dk_43 (dk_at dksJ6_init_0 1 rfl rfl)
theorem dJ6_init_2 : decode cJ6_init 2 = .ok (.invokespecial 7, 3) := dk_183 0 7 (dk_at dksJ6_init_0 2 rfl rfl)
theorem dJ6_init_5 : decode cJ6_init 5 = .ok (.return_, 1) := dk_177 (dk_at dksJ6_init_0 5 rfl rfl)
theorem q191 : (Jvm.Cond.initialized "java/lang/IndexOutOfBoundsException") ∈ lw_all := lw_g (lw_at lw_m1 17 rfl) rfl
theorem q696 : (Jvm.Cond.instanceMethod ({ cls := "java/lang/IndexOutOfBoundsException", name := "<init>", desc := "(Ljava/lang/String;)V" } : Jvm.MethodName)) ∈ lw_all := lw_g (lw_at lw_m3 42 rfl) rfl
theorem q697 : (Jvm.Cond.code ({ cls := "java/lang/IndexOutOfBoundsException", name := "<init>", desc := "(Ljava/lang/String;)V" } : Jvm.MethodName) prog_18_method_2_code (2 : Nat) (Option.none : Option Jvm.ClassFile.FieldType)) ∈ lw_all := lw_g (lw_at lw_m3 43 rfl) rfl
theorem q698 : (Jvm.Cond.methodLink "java/lang/IndexOutOfBoundsException" (7 : Nat) ({ cls := "java/lang/RuntimeException", name := "<init>", desc := "(Ljava/lang/String;)V" } : Jvm.MethodName)) ∈ lw_all := lw_g (lw_at lw_m3 44 rfl) rfl
theorem q707 : (Jvm.Cond.declares ({ cls := "java/lang/IndexOutOfBoundsException", name := "<init>", desc := "()V" } : Jvm.MethodName)) ∈ lw_tbl := lw_at lw_m3 53 rfl
theorem q708 : (Jvm.Cond.declares ({ cls := "java/lang/IndexOutOfBoundsException", name := "<init>", desc := "(Ljava/lang/String;)V" } : Jvm.MethodName)) ∈ lw_tbl := lw_at lw_m3 54 rfl
/-! java/lang/ArrayIndexOutOfBoundsException -/
set_option maxRecDepth 100000
def RJ7 : String := "java/lang/ArrayIndexOutOfBoundsException"
def TJ7 : u_T := fun k => match k with
  | 0 => ("java/lang/Throwable", "backtrace", "Ljava/lang/Object;", false)
  | 1 => ("java/lang/Throwable", "detailMessage", "Ljava/lang/String;", false)
  | 2 => ("java/lang/Throwable", "cause", "Ljava/lang/Throwable;", false)
  | 3 => ("java/lang/Throwable", "stackTrace", "[Ljava/lang/StackTraceElement;", false)
  | 4 => ("java/lang/Throwable", "depth", "I", false)
  | _ => ("java/lang/Throwable", "suppressedExceptions", "Ljava/util/List;", false)
def tyJ7 : Nat → FieldType := fun k => match k with
  | 0 => .object "java/lang/Object"
  | 1 => .object "java/lang/String"
  | 2 => .object "java/lang/Throwable"
  | 3 => .array (.object "java/lang/StackTraceElement")
  | 4 => .int
  | _ => .object "java/util/List"
abbrev wsJ70 : List Cond := u_ws RJ7 TJ7 6
theorem nmJ7 : ∀ a, a < 6 → ∀ b, b < 6 → a ≠ b → (TJ7 a).2.1 ≠ (TJ7 b).2.1 := by decide +kernel
theorem tyJ7_ok : ∀ k, k < 6 → parseFieldDescriptor (TJ7 k).2.2.1 = some (tyJ7 k) := by decide +kernel
abbrev cJ7_init : ByteArray := prog_16_method_2_code
def yJ7_init : MethodName := ⟨RJ7, "<init>", "(Ljava/lang/String;)V"⟩
def dkwJ7_init_0 : List UInt8 := [42, 43, 183, 0, 7, 177]
abbrev dktJ7_init_0 : List UInt8 := dkwJ7_init_0 ++ []
theorem dksJ7_init_0 : cJ7_init.data.toList.drop 0 = dktJ7_init_0 := by decide +kernel
theorem dJ7_init_0 : decode cJ7_init 0 = .ok (.aload_n 0, 1) := dk_42 (dk_at dksJ7_init_0 0 rfl rfl)
theorem dJ7_init_1 : decode cJ7_init 1 = .ok (.aload_n 1, 1) := dk_43 (dk_at dksJ7_init_0 1 rfl rfl)
theorem dJ7_init_2 : decode cJ7_init 2 = .ok (.invokespecial 7, 3) := dk_183 0 7 (dk_at dksJ7_init_0 2 rfl rfl)
theorem dJ7_init_5 : decode cJ7_init 5 = .ok (.return_, 1) := dk_177 (dk_at dksJ7_init_0 5 rfl rfl)
theorem q192 : (Jvm.Cond.initialized "java/lang/ArrayIndexOutOfBoundsException") ∈ lw_all := lw_g (lw_at lw_m1 18 rfl) rfl
theorem q247 : (Jvm.Cond.selects "java/lang/ArrayIndexOutOfBoundsException" ({ cls := "java/lang/Throwable", name := "fillInStackTrace", desc := "()Ljava/lang/Throwable;" } : Jvm.MethodName) ({ cls := "java/lang/Throwable", name := "fillInStackTrace", desc := "()Ljava/lang/Throwable;" } : Jvm.MethodName)) ∈ lw_all := lw_g (lw_at lw_m1 73 rfl) rfl
theorem q692 : (Jvm.Cond.instantiable "java/lang/ArrayIndexOutOfBoundsException" (6 : Nat)) ∈ lw_all := lw_g (lw_at lw_m3 38 rfl) rfl
theorem q693 : (Jvm.Cond.instanceMethod ({ cls := "java/lang/ArrayIndexOutOfBoundsException", name := "<init>", desc := "(Ljava/lang/String;)V" } : Jvm.MethodName)) ∈ lw_all := lw_g (lw_at lw_m3 39 rfl) rfl
theorem q694 : (Jvm.Cond.code ({ cls := "java/lang/ArrayIndexOutOfBoundsException", name := "<init>", desc := "(Ljava/lang/String;)V" } : Jvm.MethodName) prog_16_method_2_code (2 : Nat) (Option.none : Option Jvm.ClassFile.FieldType)) ∈ lw_all := lw_g (lw_at lw_m3 40 rfl) rfl
theorem q695 : (Jvm.Cond.methodLink "java/lang/ArrayIndexOutOfBoundsException" (7 : Nat) ({ cls := "java/lang/IndexOutOfBoundsException", name := "<init>", desc := "(Ljava/lang/String;)V" } : Jvm.MethodName)) ∈ lw_all := lw_g (lw_at lw_m3 41 rfl) rfl
theorem q699 : (Jvm.Cond.lays "java/lang/ArrayIndexOutOfBoundsException" "java/lang/Throwable" "backtrace" "Ljava/lang/Object;") ∈ lw_all := lw_g (lw_at lw_m3 45 rfl) rfl
theorem q700 : (Jvm.Cond.lays "java/lang/ArrayIndexOutOfBoundsException" "java/lang/Throwable" "detailMessage" "Ljava/lang/String;") ∈ lw_all := lw_g (lw_at lw_m3 46 rfl) rfl
theorem q701 : (Jvm.Cond.lays "java/lang/ArrayIndexOutOfBoundsException" "java/lang/Throwable" "cause" "Ljava/lang/Throwable;") ∈ lw_all := lw_g (lw_at lw_m3 47 rfl) rfl
theorem q702 : (Jvm.Cond.lays "java/lang/ArrayIndexOutOfBoundsException" "java/lang/Throwable" "stackTrace" "[Ljava/lang/StackTraceElement;") ∈ lw_all := lw_g (lw_at lw_m3 48 rfl) rfl
theorem q703 : (Jvm.Cond.lays "java/lang/ArrayIndexOutOfBoundsException" "java/lang/Throwable" "depth" "I") ∈ lw_all := lw_g (lw_at lw_m3 49 rfl) rfl
theorem q704 : (Jvm.Cond.lays "java/lang/ArrayIndexOutOfBoundsException" "java/lang/Throwable" "suppressedExceptions" "Ljava/util/List;") ∈ lw_all := lw_g (lw_at lw_m3 50 rfl) rfl
theorem q705 : (Jvm.Cond.superclass "java/lang/ArrayIndexOutOfBoundsException" "java/lang/IndexOutOfBoundsException") ∈ lw_all := lw_g (lw_at lw_m3 51 rfl) rfl
theorem q706 : (Jvm.Cond.castable "java/lang/ArrayIndexOutOfBoundsException" "java/lang/ArrayIndexOutOfBoundsException") ∈ lw_tbl := lw_at lw_m3 52 rfl
theorem q709 : (Jvm.Cond.selects "java/lang/ArrayIndexOutOfBoundsException" ({ cls := "java/lang/Throwable", name := "fillInStackTrace", desc := "(I)Ljava/lang/Throwable;" } : Jvm.MethodName) ({ cls := "java/lang/Throwable", name := "fillInStackTrace", desc := "(I)Ljava/lang/Throwable;" } : Jvm.MethodName)) ∈ lw_all := lw_g (lw_at lw_m3 55 rfl) rfl
theorem q2461 : (Jvm.Cond.castable "java/lang/ArrayIndexOutOfBoundsException" "java/lang/IndexOutOfBoundsException") ∈ lw_tbl := lw_at lw_m10 127 rfl
theorem in_J7 : ∀ w ∈ wsJ70, w ∈ lw_all := lw_in wsJ70 [699, 700, 701, 702, 703, 704] (by decide +kernel) (by decide +kernel)
/-! java/lang/Math -/
set_option maxRecDepth 100000
def RJ8 : String := "java/lang/Math"
abbrev cJ8_min : ByteArray := prog_19_method_69_code
def yJ8_min : MethodName := ⟨RJ8, "min", "(II)I"⟩
def dkwJ8_min_0 : List UInt8 := [26, 27, 163, 0, 7, 26, 167, 0, 4, 27, 172]
abbrev dktJ8_min_0 : List UInt8 := dkwJ8_min_0 ++ []
theorem dksJ8_min_0 : cJ8_min.data.toList.drop 0 = dktJ8_min_0 := by decide +kernel
theorem dJ8_min_0 : decode cJ8_min 0 = .ok (.iload_n 0, 1) := dk_26 (dk_at dksJ8_min_0 0 rfl rfl)
theorem dJ8_min_1 : decode cJ8_min 1 = .ok (.iload_n 1, 1) := dk_27 (dk_at dksJ8_min_0 1 rfl rfl)
theorem dJ8_min_2 : decode cJ8_min 2 = .ok (.if_icmp .gt 7, 3) := dk_163 0 7 (dk_at dksJ8_min_0 2 rfl rfl)
theorem dJ8_min_5 : decode cJ8_min 5 = .ok (.iload_n 0, 1) := dk_26 (dk_at dksJ8_min_0 5 rfl rfl)
theorem dJ8_min_6 : decode cJ8_min 6 = .ok (.goto 4, 3) := dk_167 0 4 (dk_at dksJ8_min_0 6 rfl rfl)
theorem dJ8_min_9 : decode cJ8_min 9 = .ok (.iload_n 1, 1) := dk_27 (dk_at dksJ8_min_0 9 rfl rfl)
theorem dJ8_min_10 : decode cJ8_min 10 = .ok (.ireturn, 1) := dk_172 (dk_at dksJ8_min_0 10 rfl rfl)
abbrev cJ8_max : ByteArray := prog_19_method_65_code
def yJ8_max : MethodName := ⟨RJ8, "max", "(II)I"⟩
def dkwJ8_max_0 : List UInt8 := [26, 27, 161, 0, 7, 26, 167, 0, 4, 27, 172]
abbrev dktJ8_max_0 : List UInt8 := dkwJ8_max_0 ++ []
theorem dksJ8_max_0 : cJ8_max.data.toList.drop 0 = dktJ8_max_0 := by decide +kernel
theorem dJ8_max_0 : decode cJ8_max 0 = .ok (.iload_n 0, 1) := dk_26 (dk_at dksJ8_max_0 0 rfl rfl)
theorem dJ8_max_1 : decode cJ8_max 1 = .ok (.iload_n 1, 1) := dk_27 (dk_at dksJ8_max_0 1 rfl rfl)
theorem dJ8_max_2 : decode cJ8_max 2 = .ok (.if_icmp .lt 7, 3) := dk_161 0 7 (dk_at dksJ8_max_0 2 rfl rfl)
theorem dJ8_max_5 : decode cJ8_max 5 = .ok (.iload_n 0, 1) := dk_26 (dk_at dksJ8_max_0 5 rfl rfl)
theorem dJ8_max_6 : decode cJ8_max 6 = .ok (.goto 4, 3) := dk_167 0 4 (dk_at dksJ8_max_0 6 rfl rfl)
theorem dJ8_max_9 : decode cJ8_max 9 = .ok (.iload_n 1, 1) := dk_27 (dk_at dksJ8_max_0 9 rfl rfl)
theorem dJ8_max_10 : decode cJ8_max 10 = .ok (.ireturn, 1) := dk_172 (dk_at dksJ8_max_0 10 rfl rfl)
abbrev cJ8_abs : ByteArray := prog_19_method_61_code
def yJ8_abs : MethodName := ⟨RJ8, "abs", "(J)J"⟩
def dkwJ8_abs_0 : List UInt8 := [30, 9, 148, 156, 0, 8, 30, 117, 167, 0, 4, 30, 173]
abbrev dktJ8_abs_0 : List UInt8 := dkwJ8_abs_0 ++ []
theorem dksJ8_abs_0 : cJ8_abs.data.toList.drop 0 = dktJ8_abs_0 := by decide +kernel
theorem dJ8_abs_0 : decode cJ8_abs 0 = .ok (.lload_n 0, 1) := dk_30 (dk_at dksJ8_abs_0 0 rfl rfl)
theorem dJ8_abs_1 : decode cJ8_abs 1 = .ok (.lconst 0, 1) := dk_9 (dk_at dksJ8_abs_0 1 rfl rfl)
theorem dJ8_abs_2 : decode cJ8_abs 2 = .ok (.lcmp, 1) := dk_148 (dk_at dksJ8_abs_0 2 rfl rfl)
theorem dJ8_abs_3 : decode cJ8_abs 3 = .ok (.ifCond .ge 8, 3) := dk_156 0 8 (dk_at dksJ8_abs_0 3 rfl rfl)
theorem dJ8_abs_6 : decode cJ8_abs 6 = .ok (.lload_n 0, 1) := dk_30 (dk_at dksJ8_abs_0 6 rfl rfl)
theorem dJ8_abs_7 : decode cJ8_abs 7 = .ok (.lneg, 1) := dk_117 (dk_at dksJ8_abs_0 7 rfl rfl)
theorem dJ8_abs_8 : decode cJ8_abs 8 = .ok (.goto 4, 3) := dk_167 0 4 (dk_at dksJ8_abs_0 8 rfl rfl)
theorem dJ8_abs_11 : decode cJ8_abs 11 = .ok (.lload_n 0, 1) := dk_30 (dk_at dksJ8_abs_0 11 rfl rfl)
theorem dJ8_abs_12 : decode cJ8_abs 12 = .ok (.lreturn, 1) := dk_173 (dk_at dksJ8_abs_0 12 rfl rfl)
theorem q194 : (Jvm.Cond.initialized "java/lang/Math") ∈ lw_all := lw_g (lw_at lw_m1 20 rfl) rfl
theorem q783 : (Jvm.Cond.static ({ cls := "java/lang/Math", name := "min", desc := "(II)I" } : Jvm.MethodName)) ∈ lw_all := lw_g (lw_at lw_m3 129 rfl) rfl
theorem q784 : (Jvm.Cond.code ({ cls := "java/lang/Math", name := "min", desc := "(II)I" } : Jvm.MethodName) prog_19_method_69_code (2 : Nat) (Option.some Jvm.ClassFile.FieldType.int)) ∈ lw_all := lw_g (lw_at lw_m3 130 rfl) rfl
theorem q1192 : (Jvm.Cond.static ({ cls := "java/lang/Math", name := "max", desc := "(II)I" } : Jvm.MethodName)) ∈ lw_all := lw_g (lw_at lw_m5 58 rfl) rfl
theorem q1193 : (Jvm.Cond.code ({ cls := "java/lang/Math", name := "max", desc := "(II)I" } : Jvm.MethodName) prog_19_method_65_code (2 : Nat) (Option.some Jvm.ClassFile.FieldType.int)) ∈ lw_all := lw_g (lw_at lw_m5 59 rfl) rfl
theorem q2387 : (Jvm.Cond.static ({ cls := "java/lang/Math", name := "abs", desc := "(J)J" } : Jvm.MethodName)) ∈ lw_all := lw_g (lw_at lw_m10 53 rfl) rfl
theorem q2388 : (Jvm.Cond.code ({ cls := "java/lang/Math", name := "abs", desc := "(J)J" } : Jvm.MethodName) prog_19_method_61_code (2 : Nat) (Option.some Jvm.ClassFile.FieldType.long)) ∈ lw_all := lw_g (lw_at lw_m10 54 rfl) rfl
/-! java/lang/StringLatin1 -/
set_option maxRecDepth 100000
def RJ9 : String := "java/lang/StringLatin1"
abbrev cJ9_charAt : ByteArray := prog_24_method_2_code
def yJ9_charAt : MethodName := ⟨RJ9, "charAt", "([BI)C"⟩
def dkwJ9_charAt_0 : List UInt8 := [27, 42, 190, 184, 0, 9, 42, 27, 51, 17, 0, 255, 126, 146, 172]
abbrev dktJ9_charAt_0 : List UInt8 := dkwJ9_charAt_0 ++ []
theorem dksJ9_charAt_0 : cJ9_charAt.data.toList.drop 0 = dktJ9_charAt_0 := by decide +kernel
theorem dJ9_charAt_0 : decode cJ9_charAt 0 = .ok (.iload_n 1, 1) := dk_27 (dk_at dksJ9_charAt_0 0 rfl rfl)
theorem dJ9_charAt_1 : decode cJ9_charAt 1 = .ok (.aload_n 0, 1) := dk_42 (dk_at dksJ9_charAt_0 1 rfl rfl)
theorem dJ9_charAt_2 : decode cJ9_charAt 2 = .ok (.arraylength, 1) := dk_190 (dk_at dksJ9_charAt_0 2 rfl rfl)
theorem dJ9_charAt_3 : decode cJ9_charAt 3 = .ok (.invokestatic 9, 3) := dk_184 0 9 (dk_at dksJ9_charAt_0 3 rfl rfl)
theorem dJ9_charAt_6 : decode cJ9_charAt 6 = .ok (.aload_n 0, 1) := dk_42 (dk_at dksJ9_charAt_0 6 rfl rfl)
theorem dJ9_charAt_7 : decode cJ9_charAt 7 = .ok (.iload_n 1, 1) := dk_27 (dk_at dksJ9_charAt_0 7 rfl rfl)
theorem dJ9_charAt_8 : decode cJ9_charAt 8 = .ok (.baload, 1) := dk_51 (dk_at dksJ9_charAt_0 8 rfl rfl)
theorem dJ9_charAt_9 : decode cJ9_charAt 9 = .ok (.sipush 255, 3) := dk_17 0 255 (dk_at dksJ9_charAt_0 9 rfl rfl)
theorem dJ9_charAt_12 : decode cJ9_charAt 12 = .ok (.iand, 1) := dk_126 (dk_at dksJ9_charAt_0 12 rfl rfl)
theorem dJ9_charAt_13 : decode cJ9_charAt 13 = .ok (.i2c, 1) := dk_146 (dk_at dksJ9_charAt_0 13 rfl rfl)
theorem dJ9_charAt_14 : decode cJ9_charAt 14 = .ok (.ireturn, 1) := dk_172 (dk_at dksJ9_charAt_0 14 rfl rfl)
theorem q195 : (Jvm.Cond.initialized "java/lang/StringLatin1") ∈ lw_all := lw_g (lw_at lw_m1 21 rfl) rfl
theorem q808 : (Jvm.Cond.static ({ cls := "java/lang/StringLatin1", name := "charAt", desc := "([BI)C" } : Jvm.MethodName)) ∈ lw_all := lw_g (lw_at lw_m3 154 rfl) rfl
theorem q809 : (Jvm.Cond.code ({ cls := "java/lang/StringLatin1", name := "charAt", desc := "([BI)C" } : Jvm.MethodName) prog_24_method_2_code (2 : Nat) (Option.some Jvm.ClassFile.FieldType.char)) ∈ lw_all := lw_g (lw_at lw_m3 155 rfl) rfl
theorem q810 : (Jvm.Cond.methodLink "java/lang/StringLatin1" (9 : Nat) ({ cls := "java/lang/String", name := "checkIndex", desc := "(II)V" } : Jvm.MethodName)) ∈ lw_all := lw_g (lw_at lw_m3 156 rfl) rfl
/-! HairProvince$Scan -/
set_option maxRecDepth 100000
def RX1 : String := "HairProvince$Scan"
abbrev cX1_init : ByteArray := prog_8_method_1_code
def yX1_init : MethodName := ⟨RX1, "<init>", "([BLjava/lang/String;Ljava/lang/String;LHairProvince$Wrong;)V"⟩
def dkwX1_init_1 : List UInt8 := [181, 0, 22, 177]
abbrev dktX1_init_1 : List UInt8 := dkwX1_init_1 ++ []
def dkwX1_init_0 : List UInt8 := [42, 183, 0, 3, 42, 43, 181, 0, 9, 42, 44, 181, 0, 15, 42, 45, 181, 0, 19, 42, 25, 4]
abbrev dktX1_init_0 : List UInt8 := dkwX1_init_0 ++ dktX1_init_1
theorem dksX1_init_0 : cX1_init.data.toList.drop 0 = dktX1_init_0 := by decide +kernel
theorem dksX1_init_1 : cX1_init.data.toList.drop 22 = dktX1_init_1 := dk_seg dksX1_init_0 22 rfl rfl
theorem dX1_init_0 : decode cX1_init 0 = .ok (.aload_n 0, 1) := dk_42 (dk_at dksX1_init_0 0 rfl rfl)
theorem dX1_init_1 : decode cX1_init 1 = .ok (.invokespecial 3, 3) := dk_183 0 3 (dk_at dksX1_init_0 1 rfl rfl)
theorem dX1_init_4 : decode cX1_init 4 = .ok (.aload_n 0, 1) := dk_42 (dk_at dksX1_init_0 4 rfl rfl)
theorem dX1_init_5 : decode cX1_init 5 = .ok (.aload_n 1, 1) := dk_43 (dk_at dksX1_init_0 5 rfl rfl)
theorem dX1_init_6 : decode cX1_init 6 = .ok (.putfield 9, 3) := dk_181 0 9 (dk_at dksX1_init_0 6 rfl rfl)
theorem dX1_init_9 : decode cX1_init 9 = .ok (.aload_n 0, 1) := dk_42 (dk_at dksX1_init_0 9 rfl rfl)
theorem dX1_init_10 : decode cX1_init 10 = .ok (.aload_n 2, 1) := dk_44 (dk_at dksX1_init_0 10 rfl rfl)
theorem dX1_init_11 : decode cX1_init 11 = .ok (.putfield 15, 3) := dk_181 0 15 (dk_at dksX1_init_0 11 rfl rfl)
theorem dX1_init_14 : decode cX1_init 14 = .ok (.aload_n 0, 1) := dk_42 (dk_at dksX1_init_0 14 rfl rfl)
theorem dX1_init_15 : decode cX1_init 15 = .ok (.aload_n 3, 1) := dk_45 (dk_at dksX1_init_0 15 rfl rfl)
theorem dX1_init_16 : decode cX1_init 16 = .ok (.putfield 19, 3) := dk_181 0 19 (dk_at dksX1_init_0 16 rfl rfl)
theorem dX1_init_19 : decode cX1_init 19 = .ok (.aload_n 0, 1) := dk_42 (dk_at dksX1_init_0 19 rfl rfl)
theorem dX1_init_20 : decode cX1_init 20 = .ok (.aload 4, 2) := dk_25 4 (dk_at dksX1_init_0 20 rfl rfl)
theorem dX1_init_22 : decode cX1_init 22 = .ok (.putfield 22, 3) := dk_181 0 22 (dk_at dksX1_init_1 0 rfl rfl)
theorem dX1_init_25 : decode cX1_init 25 = .ok (.return_, 1) := dk_177 (dk_at dksX1_init_1 3 rfl rfl)
abbrev cX1_begin : ByteArray := prog_8_method_2_code
def yX1_begin : MethodName := ⟨RX1, "begin", "(I)V"⟩
def dkwX1_begin_0 : List UInt8 := [42, 27, 181, 0, 26, 42, 3, 181, 0, 30, 42, 182, 0, 33, 177]
abbrev dktX1_begin_0 : List UInt8 := dkwX1_begin_0 ++ []
theorem dksX1_begin_0 : cX1_begin.data.toList.drop 0 = dktX1_begin_0 := by decide +kernel
theorem dX1_begin_0 : decode cX1_begin 0 = .ok (.aload_n 0, 1) := dk_42 (dk_at dksX1_begin_0 0 rfl rfl)
theorem dX1_begin_1 : decode cX1_begin 1 = .ok (.iload_n 1, 1) := dk_27 (dk_at dksX1_begin_0 1 rfl rfl)
theorem dX1_begin_2 : decode cX1_begin 2 = .ok (.putfield 26, 3) := dk_181 0 26 (dk_at dksX1_begin_0 2 rfl rfl)
theorem dX1_begin_5 : decode cX1_begin 5 = .ok (.aload_n 0, 1) := dk_42 (dk_at dksX1_begin_0 5 rfl rfl)
theorem dX1_begin_6 : decode cX1_begin 6 = .ok (.iconst 0, 1) := dk_3 (dk_at dksX1_begin_0 6 rfl rfl)
theorem dX1_begin_7 : decode cX1_begin 7 = .ok (.putfield 30, 3) := dk_181 0 30 (dk_at dksX1_begin_0 7 rfl rfl)
theorem dX1_begin_10 : decode cX1_begin 10 = .ok (.aload_n 0, 1) := dk_42 (dk_at dksX1_begin_0 10 rfl rfl)
theorem dX1_begin_11 : decode cX1_begin 11 = .ok (.invokevirtual 33, 3) := dk_182 0 33 (dk_at dksX1_begin_0 11 rfl rfl)
theorem dX1_begin_14 : decode cX1_begin 14 = .ok (.return_, 1) := dk_177 (dk_at dksX1_begin_0 14 rfl rfl)
abbrev cX1_next : ByteArray := prog_8_method_7_code
def yX1_next : MethodName := ⟨RX1, "next", "()V"⟩
def dkwX1_next_10 : List UInt8 := [181, 0, 56, 177]
abbrev dktX1_next_10 : List UInt8 := dkwX1_next_10 ++ []
def dkwX1_next_9 : List UInt8 := [89, 180, 0, 30, 4, 96, 181, 0, 30, 42, 42, 27, 182, 0, 73, 153, 0, 7, 7, 167, 0, 4, 4]
abbrev dktX1_next_9 : List UInt8 := dkwX1_next_9 ++ dktX1_next_10
def dkwX1_next_8 : List UInt8 := [180, 0, 30, 42, 180, 0, 50, 100, 7, 164, 0, 7, 4, 167, 0, 4, 6, 181, 0, 56, 167, 0, 30, 42]
abbrev dktX1_next_8 : List UInt8 := dkwX1_next_8 ++ dktX1_next_9
def dkwX1_next_7 : List UInt8 := [100, 184, 0, 67, 181, 0, 53, 42, 89, 180, 0, 30, 4, 96, 181, 0, 30, 167, 255, 204, 42, 42]
abbrev dktX1_next_7 : List UInt8 := dkwX1_next_7 ++ dktX1_next_8
def dkwX1_next_6 : List UInt8 := [153, 0, 44, 42, 18, 66, 16, 10, 42, 180, 0, 53, 104, 42, 42, 180, 0, 30, 182, 0, 46, 96, 16, 48]
abbrev dktX1_next_6 : List UInt8 := dkwX1_next_6 ++ dktX1_next_7
def dkwX1_next_5 : List UInt8 := [184, 0, 63, 153, 0, 88, 42, 3, 181, 0, 53, 42, 42, 180, 0, 30, 182, 0, 46, 184, 0, 63]
abbrev dktX1_next_5 : List UInt8 := dkwX1_next_5 ++ dktX1_next_6
def dkwX1_next_4 : List UInt8 := [42, 89, 180, 0, 30, 4, 96, 181, 0, 30, 167, 255, 232, 42, 5, 181, 0, 56, 167, 0, 122, 27]
abbrev dktX1_next_4 : List UInt8 := dkwX1_next_4 ++ dktX1_next_5
def dkwX1_next_3 : List UInt8 := [167, 0, 164, 27, 184, 0, 59, 153, 0, 38, 42, 42, 180, 0, 30, 182, 0, 46, 184, 0, 59, 153, 0, 16]
abbrev dktX1_next_3 : List UInt8 := dkwX1_next_3 ++ dktX1_next_4
def dkwX1_next_2 : List UInt8 := [42, 42, 180, 0, 30, 182, 0, 46, 60, 42, 27, 181, 0, 53, 27, 2, 160, 0, 11, 42, 3, 181, 0, 56]
abbrev dktX1_next_2 : List UInt8 := dkwX1_next_2 ++ dktX1_next_3
def dkwX1_next_1 : List UInt8 := [160, 0, 16, 42, 89, 180, 0, 30, 4, 96, 181, 0, 30, 167, 255, 220, 42, 42, 180, 0, 30, 181, 0, 50]
abbrev dktX1_next_1 : List UInt8 := dkwX1_next_1 ++ dktX1_next_2
def dkwX1_next_0 : List UInt8 := [42, 42, 180, 0, 30, 182, 0, 46, 16, 32, 159, 0, 16, 42, 42, 180, 0, 30, 182, 0, 46, 16, 10]
abbrev dktX1_next_0 : List UInt8 := dkwX1_next_0 ++ dktX1_next_1
theorem dksX1_next_0 : cX1_next.data.toList.drop 0 = dktX1_next_0 := by decide +kernel
theorem dksX1_next_1 : cX1_next.data.toList.drop 23 = dktX1_next_1 := dk_seg dksX1_next_0 23 rfl rfl
theorem dksX1_next_2 : cX1_next.data.toList.drop 47 = dktX1_next_2 := dk_seg dksX1_next_1 24 rfl rfl
theorem dksX1_next_3 : cX1_next.data.toList.drop 71 = dktX1_next_3 := dk_seg dksX1_next_2 24 rfl rfl
theorem dksX1_next_4 : cX1_next.data.toList.drop 95 = dktX1_next_4 := dk_seg dksX1_next_3 24 rfl rfl
theorem dksX1_next_5 : cX1_next.data.toList.drop 117 = dktX1_next_5 := dk_seg dksX1_next_4 22 rfl rfl
theorem dksX1_next_6 : cX1_next.data.toList.drop 139 = dktX1_next_6 := dk_seg dksX1_next_5 22 rfl rfl
theorem dksX1_next_7 : cX1_next.data.toList.drop 163 = dktX1_next_7 := dk_seg dksX1_next_6 24 rfl rfl
theorem dksX1_next_8 : cX1_next.data.toList.drop 185 = dktX1_next_8 := dk_seg dksX1_next_7 22 rfl rfl
theorem dksX1_next_9 : cX1_next.data.toList.drop 209 = dktX1_next_9 := dk_seg dksX1_next_8 24 rfl rfl
theorem dksX1_next_10 : cX1_next.data.toList.drop 232 = dktX1_next_10 := dk_seg dksX1_next_9 23 rfl rfl
theorem dX1_next_0 : decode cX1_next 0 = .ok (.aload_n 0, 1) := dk_42 (dk_at dksX1_next_0 0 rfl rfl)
theorem dX1_next_1 : decode cX1_next 1 = .ok (.aload_n 0, 1) := dk_42 (dk_at dksX1_next_0 1 rfl rfl)
theorem dX1_next_2 : decode cX1_next 2 = .ok (.getfield 30, 3) := dk_180 0 30 (dk_at dksX1_next_0 2 rfl rfl)
theorem dX1_next_5 : decode cX1_next 5 = .ok (.invokevirtual 46, 3) := dk_182 0 46 (dk_at dksX1_next_0 5 rfl rfl)
theorem dX1_next_8 : decode cX1_next 8 = .ok (.bipush 32, 2) := dk_16 32 (dk_at dksX1_next_0 8 rfl rfl)
theorem dX1_next_10 : decode cX1_next 10 = .ok (.if_icmp .eq 16, 3) := dk_159 0 16 (dk_at dksX1_next_0 10 rfl rfl)
theorem dX1_next_13 : decode cX1_next 13 = .ok (.aload_n 0, 1) := dk_42 (dk_at dksX1_next_0 13 rfl rfl)
theorem dX1_next_14 : decode cX1_next 14 = .ok (.aload_n 0, 1) := dk_42 (dk_at dksX1_next_0 14 rfl rfl)
theorem dX1_next_15 : decode cX1_next 15 = .ok (.getfield 30, 3) := dk_180 0 30 (dk_at dksX1_next_0 15 rfl rfl)
theorem dX1_next_18 : decode cX1_next 18 = .ok (.invokevirtual 46, 3) := dk_182 0 46 (dk_at dksX1_next_0 18 rfl rfl)
theorem dX1_next_21 : decode cX1_next 21 = .ok (.bipush 10, 2) := dk_16 10 (dk_at dksX1_next_0 21 rfl rfl)
theorem dX1_next_23 : decode cX1_next 23 = .ok (.if_icmp .ne 16, 3) := dk_160 0 16 (dk_at dksX1_next_1 0 rfl rfl)
theorem dX1_next_26 : decode cX1_next 26 = .ok (.aload_n 0, 1) := dk_42 (dk_at dksX1_next_1 3 rfl rfl)
theorem dX1_next_27 : decode cX1_next 27 = .ok (.dup, 1) := dk_89 (dk_at dksX1_next_1 4 rfl rfl)
theorem dX1_next_28 : decode cX1_next 28 = .ok (.getfield 30, 3) := dk_180 0 30 (dk_at dksX1_next_1 5 rfl rfl)
theorem dX1_next_31 : decode cX1_next 31 = .ok (.iconst 1, 1) := dk_4 (dk_at dksX1_next_1 8 rfl rfl)
theorem dX1_next_32 : decode cX1_next 32 = .ok (.iadd, 1) := dk_96 (dk_at dksX1_next_1 9 rfl rfl)
theorem dX1_next_33 : decode cX1_next 33 = .ok (.putfield 30, 3) := dk_181 0 30 (dk_at dksX1_next_1 10 rfl rfl)
theorem dX1_next_36 : decode cX1_next 36 = .ok (.goto (-36), 3) := dk_167 255 220 (dk_at dksX1_next_1 13 rfl rfl)
theorem dX1_next_39 : decode cX1_next 39 = .ok (.aload_n 0, 1) := dk_42 (dk_at dksX1_next_1 16 rfl rfl)
theorem dX1_next_40 : decode cX1_next 40 = .ok (.aload_n 0, 1) := dk_42 (dk_at dksX1_next_1 17 rfl rfl)
theorem dX1_next_41 : decode cX1_next 41 = .ok (.getfield 30, 3) := dk_180 0 30 (dk_at dksX1_next_1 18 rfl rfl)
theorem dX1_next_44 : decode cX1_next 44 = .ok (.putfield 50, 3) := dk_181 0 50 (dk_at dksX1_next_1 21 rfl rfl)
theorem dX1_next_47 : decode cX1_next 47 = .ok (.aload_n 0, 1) := dk_42 (dk_at dksX1_next_2 0 rfl rfl)
theorem dX1_next_48 : decode cX1_next 48 = .ok (.aload_n 0, 1) := dk_42 (dk_at dksX1_next_2 1 rfl rfl)
theorem dX1_next_49 : decode cX1_next 49 = .ok (.getfield 30, 3) := dk_180 0 30 (dk_at dksX1_next_2 2 rfl rfl)
theorem dX1_next_52 : decode cX1_next 52 = .ok (.invokevirtual 46, 3) := dk_182 0 46 (dk_at dksX1_next_2 5 rfl rfl)
theorem dX1_next_55 : decode cX1_next 55 = .ok (.istore_n 1, 1) := dk_60 (dk_at dksX1_next_2 8 rfl rfl)
theorem dX1_next_56 : decode cX1_next 56 = .ok (.aload_n 0, 1) := dk_42 (dk_at dksX1_next_2 9 rfl rfl)
theorem dX1_next_57 : decode cX1_next 57 = .ok (.iload_n 1, 1) := dk_27 (dk_at dksX1_next_2 10 rfl rfl)
theorem dX1_next_58 : decode cX1_next 58 = .ok (.putfield 53, 3) := dk_181 0 53 (dk_at dksX1_next_2 11 rfl rfl)
theorem dX1_next_61 : decode cX1_next 61 = .ok (.iload_n 1, 1) := dk_27 (dk_at dksX1_next_2 14 rfl rfl)
theorem dX1_next_62 : decode cX1_next 62 = .ok (.iconst (-1), 1) := dk_2 (dk_at dksX1_next_2 15 rfl rfl)
theorem dX1_next_63 : decode cX1_next 63 = .ok (.if_icmp .ne 11, 3) := dk_160 0 11 (dk_at dksX1_next_2 16 rfl rfl)
theorem dX1_next_66 : decode cX1_next 66 = .ok (.aload_n 0, 1) := dk_42 (dk_at dksX1_next_2 19 rfl rfl)
theorem dX1_next_67 : decode cX1_next 67 = .ok (.iconst 0, 1) := dk_3 (dk_at dksX1_next_2 20 rfl rfl)
theorem dX1_next_68 : decode cX1_next 68 = .ok (.putfield 56, 3) := dk_181 0 56 (dk_at dksX1_next_2 21 rfl rfl)
theorem dX1_next_71 : decode cX1_next 71 = .ok (.goto 164, 3) := dk_167 0 164 (dk_at dksX1_next_3 0 rfl rfl)
theorem dX1_next_74 : decode cX1_next 74 = .ok (.iload_n 1, 1) := dk_27 (dk_at dksX1_next_3 3 rfl rfl)
theorem dX1_next_75 : decode cX1_next 75 = .ok (.invokestatic 59, 3) := dk_184 0 59 (dk_at dksX1_next_3 4 rfl rfl)
theorem dX1_next_78 : decode cX1_next 78 = .ok (.ifCond .eq 38, 3) := dk_153 0 38 (dk_at dksX1_next_3 7 rfl rfl)
theorem dX1_next_81 : decode cX1_next 81 = .ok (.aload_n 0, 1) := dk_42 (dk_at dksX1_next_3 10 rfl rfl)
theorem dX1_next_82 : decode cX1_next 82 = .ok (.aload_n 0, 1) := dk_42 (dk_at dksX1_next_3 11 rfl rfl)
theorem dX1_next_83 : decode cX1_next 83 = .ok (.getfield 30, 3) := dk_180 0 30 (dk_at dksX1_next_3 12 rfl rfl)
theorem dX1_next_86 : decode cX1_next 86 = .ok (.invokevirtual 46, 3) := dk_182 0 46 (dk_at dksX1_next_3 15 rfl rfl)
theorem dX1_next_89 : decode cX1_next 89 = .ok (.invokestatic 59, 3) := dk_184 0 59 (dk_at dksX1_next_3 18 rfl rfl)
theorem dX1_next_92 : decode cX1_next 92 = .ok (.ifCond .eq 16, 3) := dk_153 0 16 (dk_at dksX1_next_3 21 rfl rfl)
theorem dX1_next_95 : decode cX1_next 95 = .ok (.aload_n 0, 1) := dk_42 (dk_at dksX1_next_4 0 rfl rfl)
theorem dX1_next_96 : decode cX1_next 96 = .ok (.dup, 1) := dk_89 (dk_at dksX1_next_4 1 rfl rfl)
theorem dX1_next_97 : decode cX1_next 97 = .ok (.getfield 30, 3) := dk_180 0 30 (dk_at dksX1_next_4 2 rfl rfl)
theorem dX1_next_100 : decode cX1_next 100 = .ok (.iconst 1, 1) := dk_4 (dk_at dksX1_next_4 5 rfl rfl)
theorem dX1_next_101 : decode cX1_next 101 = .ok (.iadd, 1) := dk_96 (dk_at dksX1_next_4 6 rfl rfl)
theorem dX1_next_102 : decode cX1_next 102 = .ok (.putfield 30, 3) := dk_181 0 30 (dk_at dksX1_next_4 7 rfl rfl)
theorem dX1_next_105 : decode cX1_next 105 = .ok (.goto (-24), 3) := dk_167 255 232 (dk_at dksX1_next_4 10 rfl rfl)
theorem dX1_next_108 : decode cX1_next 108 = .ok (.aload_n 0, 1) := dk_42 (dk_at dksX1_next_4 13 rfl rfl)
theorem dX1_next_109 : decode cX1_next 109 = .ok (.iconst 2, 1) := dk_5 (dk_at dksX1_next_4 14 rfl rfl)
theorem dX1_next_110 : decode cX1_next 110 = .ok (.putfield 56, 3) := dk_181 0 56 (dk_at dksX1_next_4 15 rfl rfl)
theorem dX1_next_113 : decode cX1_next 113 = .ok (.goto 122, 3) := dk_167 0 122 (dk_at dksX1_next_4 18 rfl rfl)
theorem dX1_next_116 : decode cX1_next 116 = .ok (.iload_n 1, 1) := dk_27 (dk_at dksX1_next_4 21 rfl rfl)
theorem dX1_next_117 : decode cX1_next 117 = .ok (.invokestatic 63, 3) := dk_184 0 63 (dk_at dksX1_next_5 0 rfl rfl)
theorem dX1_next_120 : decode cX1_next 120 = .ok (.ifCond .eq 88, 3) := dk_153 0 88 (dk_at dksX1_next_5 3 rfl rfl)
theorem dX1_next_123 : decode cX1_next 123 = .ok (.aload_n 0, 1) := dk_42 (dk_at dksX1_next_5 6 rfl rfl)
theorem dX1_next_124 : decode cX1_next 124 = .ok (.iconst 0, 1) := dk_3 (dk_at dksX1_next_5 7 rfl rfl)
theorem dX1_next_125 : decode cX1_next 125 = .ok (.putfield 53, 3) := dk_181 0 53 (dk_at dksX1_next_5 8 rfl rfl)
theorem dX1_next_128 : decode cX1_next 128 = .ok (.aload_n 0, 1) := dk_42 (dk_at dksX1_next_5 11 rfl rfl)
theorem dX1_next_129 : decode cX1_next 129 = .ok (.aload_n 0, 1) := dk_42 (dk_at dksX1_next_5 12 rfl rfl)
theorem dX1_next_130 : decode cX1_next 130 = .ok (.getfield 30, 3) := dk_180 0 30 (dk_at dksX1_next_5 13 rfl rfl)
theorem dX1_next_133 : decode cX1_next 133 = .ok (.invokevirtual 46, 3) := dk_182 0 46 (dk_at dksX1_next_5 16 rfl rfl)
theorem dX1_next_136 : decode cX1_next 136 = .ok (.invokestatic 63, 3) := dk_184 0 63 (dk_at dksX1_next_5 19 rfl rfl)
theorem dX1_next_139 : decode cX1_next 139 = .ok (.ifCond .eq 44, 3) := dk_153 0 44 (dk_at dksX1_next_6 0 rfl rfl)
theorem dX1_next_142 : decode cX1_next 142 = .ok (.aload_n 0, 1) := dk_42 (dk_at dksX1_next_6 3 rfl rfl)
theorem dX1_next_143 : decode cX1_next 143 = .ok (.ldc 66, 2) := dk_18 66 (dk_at dksX1_next_6 4 rfl rfl)
theorem dX1_next_145 : decode cX1_next 145 = .ok (.bipush 10, 2) := dk_16 10 (dk_at dksX1_next_6 6 rfl rfl)
theorem dX1_next_147 : decode cX1_next 147 = .ok (.aload_n 0, 1) := dk_42 (dk_at dksX1_next_6 8 rfl rfl)
theorem dX1_next_148 : decode cX1_next 148 = .ok (.getfield 53, 3) := dk_180 0 53 (dk_at dksX1_next_6 9 rfl rfl)
theorem dX1_next_151 : decode cX1_next 151 = .ok (.imul, 1) := dk_104 (dk_at dksX1_next_6 12 rfl rfl)
theorem dX1_next_152 : decode cX1_next 152 = .ok (.aload_n 0, 1) := dk_42 (dk_at dksX1_next_6 13 rfl rfl)
theorem dX1_next_153 : decode cX1_next 153 = .ok (.aload_n 0, 1) := dk_42 (dk_at dksX1_next_6 14 rfl rfl)
theorem dX1_next_154 : decode cX1_next 154 = .ok (.getfield 30, 3) := dk_180 0 30 (dk_at dksX1_next_6 15 rfl rfl)
theorem dX1_next_157 : decode cX1_next 157 = .ok (.invokevirtual 46, 3) := dk_182 0 46 (dk_at dksX1_next_6 18 rfl rfl)
theorem dX1_next_160 : decode cX1_next 160 = .ok (.iadd, 1) := dk_96 (dk_at dksX1_next_6 21 rfl rfl)
theorem dX1_next_161 : decode cX1_next 161 = .ok (.bipush 48, 2) := dk_16 48 (dk_at dksX1_next_6 22 rfl rfl)
theorem dX1_next_163 : decode cX1_next 163 = .ok (.isub, 1) := dk_100 (dk_at dksX1_next_7 0 rfl rfl)
theorem dX1_next_164 : decode cX1_next 164 = .ok (.invokestatic 67, 3) := dk_184 0 67 (dk_at dksX1_next_7 1 rfl rfl)
theorem dX1_next_167 : decode cX1_next 167 = .ok (.putfield 53, 3) := dk_181 0 53 (dk_at dksX1_next_7 4 rfl rfl)
theorem dX1_next_170 : decode cX1_next 170 = .ok (.aload_n 0, 1) := dk_42 (dk_at dksX1_next_7 7 rfl rfl)
theorem dX1_next_171 : decode cX1_next 171 = .ok (.dup, 1) := dk_89 (dk_at dksX1_next_7 8 rfl rfl)
theorem dX1_next_172 : decode cX1_next 172 = .ok (.getfield 30, 3) := dk_180 0 30 (dk_at dksX1_next_7 9 rfl rfl)
theorem dX1_next_175 : decode cX1_next 175 = .ok (.iconst 1, 1) := dk_4 (dk_at dksX1_next_7 12 rfl rfl)
theorem dX1_next_176 : decode cX1_next 176 = .ok (.iadd, 1) := dk_96 (dk_at dksX1_next_7 13 rfl rfl)
theorem dX1_next_177 : decode cX1_next 177 = .ok (.putfield 30, 3) := dk_181 0 30 (dk_at dksX1_next_7 14 rfl rfl)
theorem dX1_next_180 : decode cX1_next 180 = .ok (.goto (-52), 3) := dk_167 255 204 (dk_at dksX1_next_7 17 rfl rfl)
theorem dX1_next_183 : decode cX1_next 183 = .ok (.aload_n 0, 1) := dk_42 (dk_at dksX1_next_7 20 rfl rfl)
theorem dX1_next_184 : decode cX1_next 184 = .ok (.aload_n 0, 1) := dk_42 (dk_at dksX1_next_7 21 rfl rfl)
theorem dX1_next_185 : decode cX1_next 185 = .ok (.getfield 30, 3) := dk_180 0 30 (dk_at dksX1_next_8 0 rfl rfl)
theorem dX1_next_188 : decode cX1_next 188 = .ok (.aload_n 0, 1) := dk_42 (dk_at dksX1_next_8 3 rfl rfl)
theorem dX1_next_189 : decode cX1_next 189 = .ok (.getfield 50, 3) := dk_180 0 50 (dk_at dksX1_next_8 4 rfl rfl)
theorem dX1_next_192 : decode cX1_next 192 = .ok (.isub, 1) := dk_100 (dk_at dksX1_next_8 7 rfl rfl)
theorem dX1_next_193 : decode cX1_next 193 = .ok (.iconst 4, 1) := dk_7 (dk_at dksX1_next_8 8 rfl rfl)
theorem dX1_next_194 : decode cX1_next 194 = .ok (.if_icmp .le 7, 3) := dk_164 0 7 (dk_at dksX1_next_8 9 rfl rfl)
theorem dX1_next_197 : decode cX1_next 197 = .ok (.iconst 1, 1) := dk_4 (dk_at dksX1_next_8 12 rfl rfl)
theorem dX1_next_198 : decode cX1_next 198 = .ok (.goto 4, 3) := dk_167 0 4 (dk_at dksX1_next_8 13 rfl rfl)
theorem dX1_next_201 : decode cX1_next 201 = .ok (.iconst 3, 1) := dk_6 (dk_at dksX1_next_8 16 rfl rfl)
theorem dX1_next_202 : decode cX1_next 202 = .ok (.putfield 56, 3) := dk_181 0 56 (dk_at dksX1_next_8 17 rfl rfl)
theorem dX1_next_205 : decode cX1_next 205 = .ok (.goto 30, 3) := dk_167 0 30 (dk_at dksX1_next_8 20 rfl rfl)
theorem dX1_next_208 : decode cX1_next 208 = .ok (.aload_n 0, 1) := dk_42 (dk_at dksX1_next_8 23 rfl rfl)
theorem dX1_next_209 : decode cX1_next 209 = .ok (.dup, 1) := dk_89 (dk_at dksX1_next_9 0 rfl rfl)
theorem dX1_next_210 : decode cX1_next 210 = .ok (.getfield 30, 3) := dk_180 0 30 (dk_at dksX1_next_9 1 rfl rfl)
theorem dX1_next_213 : decode cX1_next 213 = .ok (.iconst 1, 1) := dk_4 (dk_at dksX1_next_9 4 rfl rfl)
theorem dX1_next_214 : decode cX1_next 214 = .ok (.iadd, 1) := dk_96 (dk_at dksX1_next_9 5 rfl rfl)
theorem dX1_next_215 : decode cX1_next 215 = .ok (.putfield 30, 3) := dk_181 0 30 (dk_at dksX1_next_9 6 rfl rfl)
theorem dX1_next_218 : decode cX1_next 218 = .ok (.aload_n 0, 1) := dk_42 (dk_at dksX1_next_9 9 rfl rfl)
theorem dX1_next_219 : decode cX1_next 219 = .ok (.aload_n 0, 1) := dk_42 (dk_at dksX1_next_9 10 rfl rfl)
theorem dX1_next_220 : decode cX1_next 220 = .ok (.iload_n 1, 1) := dk_27 (dk_at dksX1_next_9 11 rfl rfl)
theorem dX1_next_221 : decode cX1_next 221 = .ok (.invokevirtual 73, 3) := dk_182 0 73 (dk_at dksX1_next_9 12 rfl rfl)
theorem dX1_next_224 : decode cX1_next 224 = .ok (.ifCond .eq 7, 3) := dk_153 0 7 (dk_at dksX1_next_9 15 rfl rfl)
theorem dX1_next_227 : decode cX1_next 227 = .ok (.iconst 4, 1) := dk_7 (dk_at dksX1_next_9 18 rfl rfl)
theorem dX1_next_228 : decode cX1_next 228 = .ok (.goto 4, 3) := dk_167 0 4 (dk_at dksX1_next_9 19 rfl rfl)
theorem dX1_next_231 : decode cX1_next 231 = .ok (.iconst 1, 1) := dk_4 (dk_at dksX1_next_9 22 rfl rfl)
theorem dX1_next_232 : decode cX1_next 232 = .ok (.putfield 56, 3) := dk_181 0 56 (dk_at dksX1_next_10 0 rfl rfl)
theorem dX1_next_235 : decode cX1_next 235 = .ok (.return_, 1) := dk_177 (dk_at dksX1_next_10 3 rfl rfl)
abbrev cX1_at : ByteArray := prog_8_method_3_code
def yX1_at : MethodName := ⟨RX1, "at", "(I)I"⟩
def dkwX1_at_0 : List UInt8 := [27, 42, 180, 0, 26, 162, 0, 16, 42, 180, 0, 9, 27, 51, 17, 0, 255, 126, 167, 0, 4, 2, 172]
abbrev dktX1_at_0 : List UInt8 := dkwX1_at_0 ++ []
theorem dksX1_at_0 : cX1_at.data.toList.drop 0 = dktX1_at_0 := by decide +kernel
theorem dX1_at_0 : decode cX1_at 0 = .ok (.iload_n 1, 1) := dk_27 (dk_at dksX1_at_0 0 rfl rfl)
theorem dX1_at_1 : decode cX1_at 1 = .ok (.aload_n 0, 1) := dk_42 (dk_at dksX1_at_0 1 rfl rfl)
theorem dX1_at_2 : decode cX1_at 2 = .ok (.getfield 26, 3) := dk_180 0 26 (dk_at dksX1_at_0 2 rfl rfl)
theorem dX1_at_5 : decode cX1_at 5 = .ok (.if_icmp .ge 16, 3) := dk_162 0 16 (dk_at dksX1_at_0 5 rfl rfl)
theorem dX1_at_8 : decode cX1_at 8 = .ok (.aload_n 0, 1) := dk_42 (dk_at dksX1_at_0 8 rfl rfl)
theorem dX1_at_9 : decode cX1_at 9 = .ok (.getfield 9, 3) := dk_180 0 9 (dk_at dksX1_at_0 9 rfl rfl)
theorem dX1_at_12 : decode cX1_at 12 = .ok (.iload_n 1, 1) := dk_27 (dk_at dksX1_at_0 12 rfl rfl)
theorem dX1_at_13 : decode cX1_at 13 = .ok (.baload, 1) := dk_51 (dk_at dksX1_at_0 13 rfl rfl)
theorem dX1_at_14 : decode cX1_at 14 = .ok (.sipush 255, 3) := dk_17 0 255 (dk_at dksX1_at_0 14 rfl rfl)
theorem dX1_at_17 : decode cX1_at 17 = .ok (.iand, 1) := dk_126 (dk_at dksX1_at_0 17 rfl rfl)
theorem dX1_at_18 : decode cX1_at 18 = .ok (.goto 4, 3) := dk_167 0 4 (dk_at dksX1_at_0 18 rfl rfl)
theorem dX1_at_21 : decode cX1_at 21 = .ok (.iconst (-1), 1) := dk_2 (dk_at dksX1_at_0 21 rfl rfl)
theorem dX1_at_22 : decode cX1_at 22 = .ok (.ireturn, 1) := dk_172 (dk_at dksX1_at_0 22 rfl rfl)
abbrev cX1_isSmall : ByteArray := prog_8_method_5_code
def yX1_isSmall : MethodName := ⟨RX1, "isSmall", "(I)Z"⟩
def dkwX1_isSmall_0 : List UInt8 := [26, 16, 97, 161, 0, 13, 26, 16, 122, 163, 0, 7, 4, 167, 0, 4, 3, 172]
abbrev dktX1_isSmall_0 : List UInt8 := dkwX1_isSmall_0 ++ []
theorem dksX1_isSmall_0 : cX1_isSmall.data.toList.drop 0 = dktX1_isSmall_0 := by decide +kernel
theorem dX1_isSmall_0 : decode cX1_isSmall 0 = .ok (.iload_n 0, 1) := dk_26 (dk_at dksX1_isSmall_0 0 rfl rfl)
theorem dX1_isSmall_1 : decode cX1_isSmall 1 = .ok (.bipush 97, 2) := dk_16 97 (dk_at dksX1_isSmall_0 1 rfl rfl)
theorem dX1_isSmall_3 : decode cX1_isSmall 3 = .ok (.if_icmp .lt 13, 3) := dk_161 0 13 (dk_at dksX1_isSmall_0 3 rfl rfl)
theorem dX1_isSmall_6 : decode cX1_isSmall 6 = .ok (.iload_n 0, 1) := dk_26 (dk_at dksX1_isSmall_0 6 rfl rfl)
theorem dX1_isSmall_7 : decode cX1_isSmall 7 = .ok (.bipush 122, 2) := dk_16 122 (dk_at dksX1_isSmall_0 7 rfl rfl)
theorem dX1_isSmall_9 : decode cX1_isSmall 9 = .ok (.if_icmp .gt 7, 3) := dk_163 0 7 (dk_at dksX1_isSmall_0 9 rfl rfl)
theorem dX1_isSmall_12 : decode cX1_isSmall 12 = .ok (.iconst 1, 1) := dk_4 (dk_at dksX1_isSmall_0 12 rfl rfl)
theorem dX1_isSmall_13 : decode cX1_isSmall 13 = .ok (.goto 4, 3) := dk_167 0 4 (dk_at dksX1_isSmall_0 13 rfl rfl)
theorem dX1_isSmall_16 : decode cX1_isSmall 16 = .ok (.iconst 0, 1) := dk_3 (dk_at dksX1_isSmall_0 16 rfl rfl)
theorem dX1_isSmall_17 : decode cX1_isSmall 17 = .ok (.ireturn, 1) := dk_172 (dk_at dksX1_isSmall_0 17 rfl rfl)
abbrev cX1_isDigit : ByteArray := prog_8_method_4_code
def yX1_isDigit : MethodName := ⟨RX1, "isDigit", "(I)Z"⟩
def dkwX1_isDigit_0 : List UInt8 := [26, 16, 48, 161, 0, 13, 26, 16, 57, 163, 0, 7, 4, 167, 0, 4, 3, 172]
abbrev dktX1_isDigit_0 : List UInt8 := dkwX1_isDigit_0 ++ []
theorem dksX1_isDigit_0 : cX1_isDigit.data.toList.drop 0 = dktX1_isDigit_0 := by decide +kernel
theorem dX1_isDigit_0 : decode cX1_isDigit 0 = .ok (.iload_n 0, 1) := dk_26 (dk_at dksX1_isDigit_0 0 rfl rfl)
theorem dX1_isDigit_1 : decode cX1_isDigit 1 = .ok (.bipush 48, 2) := dk_16 48 (dk_at dksX1_isDigit_0 1 rfl rfl)
theorem dX1_isDigit_3 : decode cX1_isDigit 3 = .ok (.if_icmp .lt 13, 3) := dk_161 0 13 (dk_at dksX1_isDigit_0 3 rfl rfl)
theorem dX1_isDigit_6 : decode cX1_isDigit 6 = .ok (.iload_n 0, 1) := dk_26 (dk_at dksX1_isDigit_0 6 rfl rfl)
theorem dX1_isDigit_7 : decode cX1_isDigit 7 = .ok (.bipush 57, 2) := dk_16 57 (dk_at dksX1_isDigit_0 7 rfl rfl)
theorem dX1_isDigit_9 : decode cX1_isDigit 9 = .ok (.if_icmp .gt 7, 3) := dk_163 0 7 (dk_at dksX1_isDigit_0 9 rfl rfl)
theorem dX1_isDigit_12 : decode cX1_isDigit 12 = .ok (.iconst 1, 1) := dk_4 (dk_at dksX1_isDigit_0 12 rfl rfl)
theorem dX1_isDigit_13 : decode cX1_isDigit 13 = .ok (.goto 4, 3) := dk_167 0 4 (dk_at dksX1_isDigit_0 13 rfl rfl)
theorem dX1_isDigit_16 : decode cX1_isDigit 16 = .ok (.iconst 0, 1) := dk_3 (dk_at dksX1_isDigit_0 16 rfl rfl)
theorem dX1_isDigit_17 : decode cX1_isDigit 17 = .ok (.ireturn, 1) := dk_172 (dk_at dksX1_isDigit_0 17 rfl rfl)
abbrev cX1_isSign : ByteArray := prog_8_method_6_code
def yX1_isSign : MethodName := ⟨RX1, "isSign", "(I)Z"⟩
def dkwX1_isSign_1 : List UInt8 := [160, 0, 5, 4, 172, 132, 2, 1, 167, 255, 228, 3, 172]
abbrev dktX1_isSign_1 : List UInt8 := dkwX1_isSign_1 ++ []
def dkwX1_isSign_0 : List UInt8 := [3, 61, 28, 42, 180, 0, 19, 182, 0, 36, 162, 0, 23, 42, 180, 0, 19, 28, 182, 0, 42, 27]
abbrev dktX1_isSign_0 : List UInt8 := dkwX1_isSign_0 ++ dktX1_isSign_1
theorem dksX1_isSign_0 : cX1_isSign.data.toList.drop 0 = dktX1_isSign_0 := by decide +kernel
theorem dksX1_isSign_1 : cX1_isSign.data.toList.drop 22 = dktX1_isSign_1 := dk_seg dksX1_isSign_0 22 rfl rfl
theorem dX1_isSign_0 : decode cX1_isSign 0 = .ok (.iconst 0, 1) := dk_3 (dk_at dksX1_isSign_0 0 rfl rfl)
theorem dX1_isSign_1 : decode cX1_isSign 1 = .ok (.istore_n 2, 1) := dk_61 (dk_at dksX1_isSign_0 1 rfl rfl)
theorem dX1_isSign_2 : decode cX1_isSign 2 = .ok (.iload_n 2, 1) := dk_28 (dk_at dksX1_isSign_0 2 rfl rfl)
theorem dX1_isSign_3 : decode cX1_isSign 3 = .ok (.aload_n 0, 1) := dk_42 (dk_at dksX1_isSign_0 3 rfl rfl)
theorem dX1_isSign_4 : decode cX1_isSign 4 = .ok (.getfield 19, 3) := dk_180 0 19 (dk_at dksX1_isSign_0 4 rfl rfl)
theorem dX1_isSign_7 : decode cX1_isSign 7 = .ok (.invokevirtual 36, 3) := dk_182 0 36 (dk_at dksX1_isSign_0 7 rfl rfl)
theorem dX1_isSign_10 : decode cX1_isSign 10 = .ok (.if_icmp .ge 23, 3) := dk_162 0 23 (dk_at dksX1_isSign_0 10 rfl rfl)
theorem dX1_isSign_13 : decode cX1_isSign 13 = .ok (.aload_n 0, 1) := dk_42 (dk_at dksX1_isSign_0 13 rfl rfl)
theorem dX1_isSign_14 : decode cX1_isSign 14 = .ok (.getfield 19, 3) := dk_180 0 19 (dk_at dksX1_isSign_0 14 rfl rfl)
theorem dX1_isSign_17 : decode cX1_isSign 17 = .ok (.iload_n 2, 1) := dk_28 (dk_at dksX1_isSign_0 17 rfl rfl)
theorem dX1_isSign_18 : decode cX1_isSign 18 = .ok (.invokevirtual 42, 3) := dk_182 0 42 (dk_at dksX1_isSign_0 18 rfl rfl)
theorem dX1_isSign_21 : decode cX1_isSign 21 = .ok (.iload_n 1, 1) := dk_27 (dk_at dksX1_isSign_0 21 rfl rfl)
theorem dX1_isSign_22 : decode cX1_isSign 22 = .ok (.if_icmp .ne 5, 3) := dk_160 0 5 (dk_at dksX1_isSign_1 0 rfl rfl)
theorem dX1_isSign_25 : decode cX1_isSign 25 = .ok (.iconst 1, 1) := dk_4 (dk_at dksX1_isSign_1 3 rfl rfl)
theorem dX1_isSign_26 : decode cX1_isSign 26 = .ok (.ireturn, 1) := dk_172 (dk_at dksX1_isSign_1 4 rfl rfl)
theorem dX1_isSign_27 : decode cX1_isSign 27 = .ok (.iinc 2 1, 3) := dk_132 2 1 (dk_at dksX1_isSign_1 5 rfl rfl)
theorem dX1_isSign_30 : decode cX1_isSign 30 = .ok (.goto (-28), 3) := dk_167 255 228 (dk_at dksX1_isSign_1 8 rfl rfl)
theorem dX1_isSign_33 : decode cX1_isSign 33 = .ok (.iconst 0, 1) := dk_3 (dk_at dksX1_isSign_1 11 rfl rfl)
theorem dX1_isSign_34 : decode cX1_isSign 34 = .ok (.ireturn, 1) := dk_172 (dk_at dksX1_isSign_1 12 rfl rfl)
abbrev cX1_key : ByteArray := prog_8_method_10_code
def yX1_key : MethodName := ⟨RX1, "key", "()I"⟩
def dkwX1_key_0 : List UInt8 := [42, 42, 180, 0, 15, 182, 0, 86, 172]
abbrev dktX1_key_0 : List UInt8 := dkwX1_key_0 ++ []
theorem dksX1_key_0 : cX1_key.data.toList.drop 0 = dktX1_key_0 := by decide +kernel
theorem dX1_key_0 : decode cX1_key 0 = .ok (.aload_n 0, 1) := dk_42 (dk_at dksX1_key_0 0 rfl rfl)
theorem dX1_key_1 : decode cX1_key 1 = .ok (.aload_n 0, 1) := dk_42 (dk_at dksX1_key_0 1 rfl rfl)
theorem dX1_key_2 : decode cX1_key 2 = .ok (.getfield 15, 3) := dk_180 0 15 (dk_at dksX1_key_0 2 rfl rfl)
theorem dX1_key_5 : decode cX1_key 5 = .ok (.invokevirtual 86, 3) := dk_182 0 86 (dk_at dksX1_key_0 5 rfl rfl)
theorem dX1_key_8 : decode cX1_key 8 = .ok (.ireturn, 1) := dk_172 (dk_at dksX1_key_0 8 rfl rfl)
abbrev cX1_in : ByteArray := prog_8_method_11_code
def yX1_in : MethodName := ⟨RX1, "in", "(Ljava/lang/String;)I"⟩
def dkwX1_in_2 : List UInt8 := [182, 0, 90, 153, 0, 5, 28, 172, 132, 2, 1, 21, 4, 4, 96, 62, 167, 255, 207, 2, 172]
abbrev dktX1_in_2 : List UInt8 := dkwX1_in_2 ++ []
def dkwX1_in_1 : List UInt8 := [54, 4, 43, 21, 4, 182, 0, 42, 16, 32, 159, 0, 9, 132, 4, 1, 167, 255, 242, 42, 43, 29, 21, 4]
abbrev dktX1_in_1 : List UInt8 := dkwX1_in_1 ++ dktX1_in_2
def dkwX1_in_0 : List UInt8 := [42, 180, 0, 56, 5, 159, 0, 5, 2, 172, 3, 61, 4, 62, 29, 43, 182, 0, 36, 162, 0, 47, 29]
abbrev dktX1_in_0 : List UInt8 := dkwX1_in_0 ++ dktX1_in_1
theorem dksX1_in_0 : cX1_in.data.toList.drop 0 = dktX1_in_0 := by decide +kernel
theorem dksX1_in_1 : cX1_in.data.toList.drop 23 = dktX1_in_1 := dk_seg dksX1_in_0 23 rfl rfl
theorem dksX1_in_2 : cX1_in.data.toList.drop 47 = dktX1_in_2 := dk_seg dksX1_in_1 24 rfl rfl
theorem dX1_in_0 : decode cX1_in 0 = .ok (.aload_n 0, 1) := dk_42 (dk_at dksX1_in_0 0 rfl rfl)
theorem dX1_in_1 : decode cX1_in 1 = .ok (.getfield 56, 3) := dk_180 0 56 (dk_at dksX1_in_0 1 rfl rfl)
theorem dX1_in_4 : decode cX1_in 4 = .ok (.iconst 2, 1) := dk_5 (dk_at dksX1_in_0 4 rfl rfl)
theorem dX1_in_5 : decode cX1_in 5 = .ok (.if_icmp .eq 5, 3) := dk_159 0 5 (dk_at dksX1_in_0 5 rfl rfl)
theorem dX1_in_8 : decode cX1_in 8 = .ok (.iconst (-1), 1) := dk_2 (dk_at dksX1_in_0 8 rfl rfl)
theorem dX1_in_9 : decode cX1_in 9 = .ok (.ireturn, 1) := dk_172 (dk_at dksX1_in_0 9 rfl rfl)
theorem dX1_in_10 : decode cX1_in 10 = .ok (.iconst 0, 1) := dk_3 (dk_at dksX1_in_0 10 rfl rfl)
theorem dX1_in_11 : decode cX1_in 11 = .ok (.istore_n 2, 1) := dk_61 (dk_at dksX1_in_0 11 rfl rfl)
theorem dX1_in_12 : decode cX1_in 12 = .ok (.iconst 1, 1) := dk_4 (dk_at dksX1_in_0 12 rfl rfl)
theorem dX1_in_13 : decode cX1_in 13 = .ok (.istore_n 3, 1) := dk_62 (dk_at dksX1_in_0 13 rfl rfl)
theorem dX1_in_14 : decode cX1_in 14 = .ok (.iload_n 3, 1) := dk_29 (dk_at dksX1_in_0 14 rfl rfl)
theorem dX1_in_15 : decode cX1_in 15 = .ok (.aload_n 1, 1) := dk_43 (dk_at dksX1_in_0 15 rfl rfl)
theorem dX1_in_16 : decode cX1_in 16 = .ok (.invokevirtual 36, 3) := dk_182 0 36 (dk_at dksX1_in_0 16 rfl rfl)
theorem dX1_in_19 : decode cX1_in 19 = .ok (.if_icmp .ge 47, 3) := dk_162 0 47 (dk_at dksX1_in_0 19 rfl rfl)
theorem dX1_in_22 : decode cX1_in 22 = .ok (.iload_n 3, 1) := dk_29 (dk_at dksX1_in_0 22 rfl rfl)
theorem dX1_in_23 : decode cX1_in 23 = .ok (.istore 4, 2) := dk_54 4 (dk_at dksX1_in_1 0 rfl rfl)
theorem dX1_in_25 : decode cX1_in 25 = .ok (.aload_n 1, 1) := dk_43 (dk_at dksX1_in_1 2 rfl rfl)
theorem dX1_in_26 : decode cX1_in 26 = .ok (.iload 4, 2) := dk_21 4 (dk_at dksX1_in_1 3 rfl rfl)
theorem dX1_in_28 : decode cX1_in 28 = .ok (.invokevirtual 42, 3) := dk_182 0 42 (dk_at dksX1_in_1 5 rfl rfl)
theorem dX1_in_31 : decode cX1_in 31 = .ok (.bipush 32, 2) := dk_16 32 (dk_at dksX1_in_1 8 rfl rfl)
theorem dX1_in_33 : decode cX1_in 33 = .ok (.if_icmp .eq 9, 3) := dk_159 0 9 (dk_at dksX1_in_1 10 rfl rfl)
theorem dX1_in_36 : decode cX1_in 36 = .ok (.iinc 4 1, 3) := dk_132 4 1 (dk_at dksX1_in_1 13 rfl rfl)
theorem dX1_in_39 : decode cX1_in 39 = .ok (.goto (-14), 3) := dk_167 255 242 (dk_at dksX1_in_1 16 rfl rfl)
theorem dX1_in_42 : decode cX1_in 42 = .ok (.aload_n 0, 1) := dk_42 (dk_at dksX1_in_1 19 rfl rfl)
theorem dX1_in_43 : decode cX1_in 43 = .ok (.aload_n 1, 1) := dk_43 (dk_at dksX1_in_1 20 rfl rfl)
theorem dX1_in_44 : decode cX1_in 44 = .ok (.iload_n 3, 1) := dk_29 (dk_at dksX1_in_1 21 rfl rfl)
theorem dX1_in_45 : decode cX1_in 45 = .ok (.iload 4, 2) := dk_21 4 (dk_at dksX1_in_1 22 rfl rfl)
theorem dX1_in_47 : decode cX1_in 47 = .ok (.invokevirtual 90, 3) := dk_182 0 90 (dk_at dksX1_in_2 0 rfl rfl)
theorem dX1_in_50 : decode cX1_in 50 = .ok (.ifCond .eq 5, 3) := dk_153 0 5 (dk_at dksX1_in_2 3 rfl rfl)
theorem dX1_in_53 : decode cX1_in 53 = .ok (.iload_n 2, 1) := dk_28 (dk_at dksX1_in_2 6 rfl rfl)
theorem dX1_in_54 : decode cX1_in 54 = .ok (.ireturn, 1) := dk_172 (dk_at dksX1_in_2 7 rfl rfl)
theorem dX1_in_55 : decode cX1_in 55 = .ok (.iinc 2 1, 3) := dk_132 2 1 (dk_at dksX1_in_2 8 rfl rfl)
theorem dX1_in_58 : decode cX1_in 58 = .ok (.iload 4, 2) := dk_21 4 (dk_at dksX1_in_2 11 rfl rfl)
theorem dX1_in_60 : decode cX1_in 60 = .ok (.iconst 1, 1) := dk_4 (dk_at dksX1_in_2 13 rfl rfl)
theorem dX1_in_61 : decode cX1_in 61 = .ok (.iadd, 1) := dk_96 (dk_at dksX1_in_2 14 rfl rfl)
theorem dX1_in_62 : decode cX1_in 62 = .ok (.istore_n 3, 1) := dk_62 (dk_at dksX1_in_2 15 rfl rfl)
theorem dX1_in_63 : decode cX1_in 63 = .ok (.goto (-49), 3) := dk_167 255 207 (dk_at dksX1_in_2 16 rfl rfl)
theorem dX1_in_66 : decode cX1_in 66 = .ok (.iconst (-1), 1) := dk_2 (dk_at dksX1_in_2 19 rfl rfl)
theorem dX1_in_67 : decode cX1_in 67 = .ok (.ireturn, 1) := dk_172 (dk_at dksX1_in_2 20 rfl rfl)
abbrev cX1_isWord : ByteArray := prog_8_method_12_code
def yX1_isWord : MethodName := ⟨RX1, "isWord", "(Ljava/lang/String;II)Z"⟩
def dkwX1_isWord_2 : List UInt8 := [159, 0, 5, 3, 172, 132, 4, 1, 167, 255, 223, 4, 172]
abbrev dktX1_isWord_2 : List UInt8 := dkwX1_isWord_2 ++ []
def dkwX1_isWord_1 : List UInt8 := [162, 0, 33, 43, 21, 4, 182, 0, 42, 42, 42, 180, 0, 50, 21, 4, 96, 28, 100, 182, 0, 46]
abbrev dktX1_isWord_1 : List UInt8 := dkwX1_isWord_1 ++ dktX1_isWord_2
def dkwX1_isWord_0 : List UInt8 := [29, 28, 100, 42, 180, 0, 30, 42, 180, 0, 50, 100, 159, 0, 5, 3, 172, 28, 54, 4, 21, 4, 29]
abbrev dktX1_isWord_0 : List UInt8 := dkwX1_isWord_0 ++ dktX1_isWord_1
theorem dksX1_isWord_0 : cX1_isWord.data.toList.drop 0 = dktX1_isWord_0 := by decide +kernel
theorem dksX1_isWord_1 : cX1_isWord.data.toList.drop 23 = dktX1_isWord_1 := dk_seg dksX1_isWord_0 23 rfl rfl
theorem dksX1_isWord_2 : cX1_isWord.data.toList.drop 45 = dktX1_isWord_2 := dk_seg dksX1_isWord_1 22 rfl rfl
theorem dX1_isWord_0 : decode cX1_isWord 0 = .ok (.iload_n 3, 1) := dk_29 (dk_at dksX1_isWord_0 0 rfl rfl)
theorem dX1_isWord_1 : decode cX1_isWord 1 = .ok (.iload_n 2, 1) := dk_28 (dk_at dksX1_isWord_0 1 rfl rfl)
theorem dX1_isWord_2 : decode cX1_isWord 2 = .ok (.isub, 1) := dk_100 (dk_at dksX1_isWord_0 2 rfl rfl)
theorem dX1_isWord_3 : decode cX1_isWord 3 = .ok (.aload_n 0, 1) := dk_42 (dk_at dksX1_isWord_0 3 rfl rfl)
theorem dX1_isWord_4 : decode cX1_isWord 4 = .ok (.getfield 30, 3) := dk_180 0 30 (dk_at dksX1_isWord_0 4 rfl rfl)
theorem dX1_isWord_7 : decode cX1_isWord 7 = .ok (.aload_n 0, 1) := dk_42 (dk_at dksX1_isWord_0 7 rfl rfl)
theorem dX1_isWord_8 : decode cX1_isWord 8 = .ok (.getfield 50, 3) := dk_180 0 50 (dk_at dksX1_isWord_0 8 rfl rfl)
theorem dX1_isWord_11 : decode cX1_isWord 11 = .ok (.isub, 1) := dk_100 (dk_at dksX1_isWord_0 11 rfl rfl)
theorem dX1_isWord_12 : decode cX1_isWord 12 = .ok (.if_icmp .eq 5, 3) := dk_159 0 5 (dk_at dksX1_isWord_0 12 rfl rfl)
theorem dX1_isWord_15 : decode cX1_isWord 15 = .ok (.iconst 0, 1) := dk_3 (dk_at dksX1_isWord_0 15 rfl rfl)
theorem dX1_isWord_16 : decode cX1_isWord 16 = .ok (.ireturn, 1) := dk_172 (dk_at dksX1_isWord_0 16 rfl rfl)
theorem dX1_isWord_17 : decode cX1_isWord 17 = .ok (.iload_n 2, 1) := dk_28 (dk_at dksX1_isWord_0 17 rfl rfl)
theorem dX1_isWord_18 : decode cX1_isWord 18 = .ok (.istore 4, 2) := dk_54 4 (dk_at dksX1_isWord_0 18 rfl rfl)
theorem dX1_isWord_20 : decode cX1_isWord 20 = .ok (.iload 4, 2) := dk_21 4 (dk_at dksX1_isWord_0 20 rfl rfl)
theorem dX1_isWord_22 : decode cX1_isWord 22 = .ok (.iload_n 3, 1) := dk_29 (dk_at dksX1_isWord_0 22 rfl rfl)
theorem dX1_isWord_23 : decode cX1_isWord 23 = .ok (.if_icmp .ge 33, 3) := dk_162 0 33 (dk_at dksX1_isWord_1 0 rfl rfl)
theorem dX1_isWord_26 : decode cX1_isWord 26 = .ok (.aload_n 1, 1) := dk_43 (dk_at dksX1_isWord_1 3 rfl rfl)
theorem dX1_isWord_27 : decode cX1_isWord 27 = .ok (.iload 4, 2) := dk_21 4 (dk_at dksX1_isWord_1 4 rfl rfl)
theorem dX1_isWord_29 : decode cX1_isWord 29 = .ok (.invokevirtual 42, 3) := dk_182 0 42 (dk_at dksX1_isWord_1 6 rfl rfl)
theorem dX1_isWord_32 : decode cX1_isWord 32 = .ok (.aload_n 0, 1) := dk_42 (dk_at dksX1_isWord_1 9 rfl rfl)
theorem dX1_isWord_33 : decode cX1_isWord 33 = .ok (.aload_n 0, 1) := dk_42 (dk_at dksX1_isWord_1 10 rfl rfl)
theorem dX1_isWord_34 : decode cX1_isWord 34 = .ok (.getfield 50, 3) := dk_180 0 50 (dk_at dksX1_isWord_1 11 rfl rfl)
theorem dX1_isWord_37 : decode cX1_isWord 37 = .ok (.iload 4, 2) := dk_21 4 (dk_at dksX1_isWord_1 14 rfl rfl)
theorem dX1_isWord_39 : decode cX1_isWord 39 = .ok (.iadd, 1) := dk_96 (dk_at dksX1_isWord_1 16 rfl rfl)
theorem dX1_isWord_40 : decode cX1_isWord 40 = .ok (.iload_n 2, 1) := dk_28 (dk_at dksX1_isWord_1 17 rfl rfl)
theorem dX1_isWord_41 : decode cX1_isWord 41 = .ok (.isub, 1) := dk_100 (dk_at dksX1_isWord_1 18 rfl rfl)
theorem dX1_isWord_42 : decode cX1_isWord 42 = .ok (.invokevirtual 46, 3) := dk_182 0 46 (dk_at dksX1_isWord_1 19 rfl rfl)
theorem dX1_isWord_45 : decode cX1_isWord 45 = .ok (.if_icmp .eq 5, 3) := dk_159 0 5 (dk_at dksX1_isWord_2 0 rfl rfl)
theorem dX1_isWord_48 : decode cX1_isWord 48 = .ok (.iconst 0, 1) := dk_3 (dk_at dksX1_isWord_2 3 rfl rfl)
theorem dX1_isWord_49 : decode cX1_isWord 49 = .ok (.ireturn, 1) := dk_172 (dk_at dksX1_isWord_2 4 rfl rfl)
theorem dX1_isWord_50 : decode cX1_isWord 50 = .ok (.iinc 4 1, 3) := dk_132 4 1 (dk_at dksX1_isWord_2 5 rfl rfl)
theorem dX1_isWord_53 : decode cX1_isWord 53 = .ok (.goto (-33), 3) := dk_167 255 223 (dk_at dksX1_isWord_2 8 rfl rfl)
theorem dX1_isWord_56 : decode cX1_isWord 56 = .ok (.iconst 1, 1) := dk_4 (dk_at dksX1_isWord_2 11 rfl rfl)
theorem dX1_isWord_57 : decode cX1_isWord 57 = .ok (.ireturn, 1) := dk_172 (dk_at dksX1_isWord_2 12 rfl rfl)
abbrev cX1_need : ByteArray := prog_8_method_9_code
def yX1_need : MethodName := ⟨RX1, "need", "(Z)V"⟩
def dkwX1_need_0 : List UInt8 := [27, 154, 0, 9, 42, 5, 182, 0, 82, 191, 177]
abbrev dktX1_need_0 : List UInt8 := dkwX1_need_0 ++ []
theorem dksX1_need_0 : cX1_need.data.toList.drop 0 = dktX1_need_0 := by decide +kernel
theorem dX1_need_0 : decode cX1_need 0 = .ok (.iload_n 1, 1) := dk_27 (dk_at dksX1_need_0 0 rfl rfl)
theorem dX1_need_1 : decode cX1_need 1 = .ok (.ifCond .ne 9, 3) := dk_154 0 9 (dk_at dksX1_need_0 1 rfl rfl)
theorem dX1_need_4 : decode cX1_need 4 = .ok (.aload_n 0, 1) := dk_42 (dk_at dksX1_need_0 4 rfl rfl)
theorem dX1_need_5 : decode cX1_need 5 = .ok (.iconst 2, 1) := dk_5 (dk_at dksX1_need_0 5 rfl rfl)
theorem dX1_need_6 : decode cX1_need 6 = .ok (.invokevirtual 82, 3) := dk_182 0 82 (dk_at dksX1_need_0 6 rfl rfl)
theorem dX1_need_9 : decode cX1_need 9 = .ok (.athrow, 1) := dk_191 (dk_at dksX1_need_0 9 rfl rfl)
theorem dX1_need_10 : decode cX1_need 10 = .ok (.return_, 1) := dk_177 (dk_at dksX1_need_0 10 rfl rfl)
abbrev cX1_fail : ByteArray := prog_8_method_8_code
def yX1_fail : MethodName := ⟨RX1, "fail", "(I)LHairProvince$Wrong;"⟩
def dkwX1_fail_1 : List UInt8 := [176]
abbrev dktX1_fail_1 : List UInt8 := dkwX1_fail_1 ++ []
def dkwX1_fail_0 : List UInt8 := [42, 180, 0, 22, 42, 180, 0, 56, 4, 160, 0, 7, 4, 167, 0, 4, 27, 42, 180, 0, 50, 182, 0, 76]
abbrev dktX1_fail_0 : List UInt8 := dkwX1_fail_0 ++ dktX1_fail_1
theorem dksX1_fail_0 : cX1_fail.data.toList.drop 0 = dktX1_fail_0 := by decide +kernel
theorem dksX1_fail_1 : cX1_fail.data.toList.drop 24 = dktX1_fail_1 := dk_seg dksX1_fail_0 24 rfl rfl
theorem dX1_fail_0 : decode cX1_fail 0 = .ok (.aload_n 0, 1) := dk_42 (dk_at dksX1_fail_0 0 rfl rfl)
theorem dX1_fail_1 : decode cX1_fail 1 = .ok (.getfield 22, 3) := dk_180 0 22 (dk_at dksX1_fail_0 1 rfl rfl)
theorem dX1_fail_4 : decode cX1_fail 4 = .ok (.aload_n 0, 1) := dk_42 (dk_at dksX1_fail_0 4 rfl rfl)
theorem dX1_fail_5 : decode cX1_fail 5 = .ok (.getfield 56, 3) := dk_180 0 56 (dk_at dksX1_fail_0 5 rfl rfl)
theorem dX1_fail_8 : decode cX1_fail 8 = .ok (.iconst 1, 1) := dk_4 (dk_at dksX1_fail_0 8 rfl rfl)
theorem dX1_fail_9 : decode cX1_fail 9 = .ok (.if_icmp .ne 7, 3) := dk_160 0 7 (dk_at dksX1_fail_0 9 rfl rfl)
theorem dX1_fail_12 : decode cX1_fail 12 = .ok (.iconst 1, 1) := dk_4 (dk_at dksX1_fail_0 12 rfl rfl)
theorem dX1_fail_13 : decode cX1_fail 13 = .ok (.goto 4, 3) := dk_167 0 4 (dk_at dksX1_fail_0 13 rfl rfl)
theorem dX1_fail_16 : decode cX1_fail 16 = .ok (.iload_n 1, 1) := dk_27 (dk_at dksX1_fail_0 16 rfl rfl)
theorem dX1_fail_17 : decode cX1_fail 17 = .ok (.aload_n 0, 1) := dk_42 (dk_at dksX1_fail_0 17 rfl rfl)
theorem dX1_fail_18 : decode cX1_fail 18 = .ok (.getfield 50, 3) := dk_180 0 50 (dk_at dksX1_fail_0 18 rfl rfl)
theorem dX1_fail_21 : decode cX1_fail 21 = .ok (.invokevirtual 76, 3) := dk_182 0 76 (dk_at dksX1_fail_0 21 rfl rfl)
theorem dX1_fail_24 : decode cX1_fail 24 = .ok (.areturn, 1) := dk_176 (dk_at dksX1_fail_1 0 rfl rfl)
abbrev cX1_passed : ByteArray := prog_8_method_16_code
def yX1_passed : MethodName := ⟨RX1, "passed", "(II)I"⟩
def dkwX1_passed_0 : List UInt8 := [42, 27, 28, 182, 0, 100, 62, 42, 182, 0, 33, 29, 172]
abbrev dktX1_passed_0 : List UInt8 := dkwX1_passed_0 ++ []
theorem dksX1_passed_0 : cX1_passed.data.toList.drop 0 = dktX1_passed_0 := by decide +kernel
theorem dX1_passed_0 : decode cX1_passed 0 = .ok (.aload_n 0, 1) := dk_42 (dk_at dksX1_passed_0 0 rfl rfl)
theorem dX1_passed_1 : decode cX1_passed 1 = .ok (.iload_n 1, 1) := dk_27 (dk_at dksX1_passed_0 1 rfl rfl)
theorem dX1_passed_2 : decode cX1_passed 2 = .ok (.iload_n 2, 1) := dk_28 (dk_at dksX1_passed_0 2 rfl rfl)
theorem dX1_passed_3 : decode cX1_passed 3 = .ok (.invokevirtual 100, 3) := dk_182 0 100 (dk_at dksX1_passed_0 3 rfl rfl)
theorem dX1_passed_6 : decode cX1_passed 6 = .ok (.istore_n 3, 1) := dk_62 (dk_at dksX1_passed_0 6 rfl rfl)
theorem dX1_passed_7 : decode cX1_passed 7 = .ok (.aload_n 0, 1) := dk_42 (dk_at dksX1_passed_0 7 rfl rfl)
theorem dX1_passed_8 : decode cX1_passed 8 = .ok (.invokevirtual 33, 3) := dk_182 0 33 (dk_at dksX1_passed_0 8 rfl rfl)
theorem dX1_passed_11 : decode cX1_passed 11 = .ok (.iload_n 3, 1) := dk_29 (dk_at dksX1_passed_0 11 rfl rfl)
theorem dX1_passed_12 : decode cX1_passed 12 = .ok (.ireturn, 1) := dk_172 (dk_at dksX1_passed_0 12 rfl rfl)
abbrev cX1_number : ByteArray := prog_8_method_15_code
def yX1_number : MethodName := ⟨RX1, "number", "(II)I"⟩
def dkwX1_number_1 : List UInt8 := [161, 0, 11, 42, 180, 0, 53, 28, 164, 0, 9, 42, 7, 182, 0, 82, 191, 42, 180, 0, 53, 172]
abbrev dktX1_number_1 : List UInt8 := dkwX1_number_1 ++ []
def dkwX1_number_0 : List UInt8 := [42, 42, 180, 0, 56, 6, 160, 0, 7, 4, 167, 0, 4, 3, 182, 0, 96, 42, 180, 0, 53, 27]
abbrev dktX1_number_0 : List UInt8 := dkwX1_number_0 ++ dktX1_number_1
theorem dksX1_number_0 : cX1_number.data.toList.drop 0 = dktX1_number_0 := by decide +kernel
theorem dksX1_number_1 : cX1_number.data.toList.drop 22 = dktX1_number_1 := dk_seg dksX1_number_0 22 rfl rfl
theorem dX1_number_0 : decode cX1_number 0 = .ok (.aload_n 0, 1) := dk_42 (dk_at dksX1_number_0 0 rfl rfl)
theorem dX1_number_1 : decode cX1_number 1 = .ok (.aload_n 0, 1) := dk_42 (dk_at dksX1_number_0 1 rfl rfl)
theorem dX1_number_2 : decode cX1_number 2 = .ok (.getfield 56, 3) := dk_180 0 56 (dk_at dksX1_number_0 2 rfl rfl)
theorem dX1_number_5 : decode cX1_number 5 = .ok (.iconst 3, 1) := dk_6 (dk_at dksX1_number_0 5 rfl rfl)
theorem dX1_number_6 : decode cX1_number 6 = .ok (.if_icmp .ne 7, 3) := dk_160 0 7 (dk_at dksX1_number_0 6 rfl rfl)
theorem dX1_number_9 : decode cX1_number 9 = .ok (.iconst 1, 1) := dk_4 (dk_at dksX1_number_0 9 rfl rfl)
theorem dX1_number_10 : decode cX1_number 10 = .ok (.goto 4, 3) := dk_167 0 4 (dk_at dksX1_number_0 10 rfl rfl)
theorem dX1_number_13 : decode cX1_number 13 = .ok (.iconst 0, 1) := dk_3 (dk_at dksX1_number_0 13 rfl rfl)
theorem dX1_number_14 : decode cX1_number 14 = .ok (.invokevirtual 96, 3) := dk_182 0 96 (dk_at dksX1_number_0 14 rfl rfl)
theorem dX1_number_17 : decode cX1_number 17 = .ok (.aload_n 0, 1) := dk_42 (dk_at dksX1_number_0 17 rfl rfl)
theorem dX1_number_18 : decode cX1_number 18 = .ok (.getfield 53, 3) := dk_180 0 53 (dk_at dksX1_number_0 18 rfl rfl)
theorem dX1_number_21 : decode cX1_number 21 = .ok (.iload_n 1, 1) := dk_27 (dk_at dksX1_number_0 21 rfl rfl)
theorem dX1_number_22 : decode cX1_number 22 = .ok (.if_icmp .lt 11, 3) := dk_161 0 11 (dk_at dksX1_number_1 0 rfl rfl)
theorem dX1_number_25 : decode cX1_number 25 = .ok (.aload_n 0, 1) := dk_42 (dk_at dksX1_number_1 3 rfl rfl)
theorem dX1_number_26 : decode cX1_number 26 = .ok (.getfield 53, 3) := dk_180 0 53 (dk_at dksX1_number_1 4 rfl rfl)
theorem dX1_number_29 : decode cX1_number 29 = .ok (.iload_n 2, 1) := dk_28 (dk_at dksX1_number_1 7 rfl rfl)
theorem dX1_number_30 : decode cX1_number 30 = .ok (.if_icmp .le 9, 3) := dk_164 0 9 (dk_at dksX1_number_1 8 rfl rfl)
theorem dX1_number_33 : decode cX1_number 33 = .ok (.aload_n 0, 1) := dk_42 (dk_at dksX1_number_1 11 rfl rfl)
theorem dX1_number_34 : decode cX1_number 34 = .ok (.iconst 4, 1) := dk_7 (dk_at dksX1_number_1 12 rfl rfl)
theorem dX1_number_35 : decode cX1_number 35 = .ok (.invokevirtual 82, 3) := dk_182 0 82 (dk_at dksX1_number_1 13 rfl rfl)
theorem dX1_number_38 : decode cX1_number 38 = .ok (.athrow, 1) := dk_191 (dk_at dksX1_number_1 16 rfl rfl)
theorem dX1_number_39 : decode cX1_number 39 = .ok (.aload_n 0, 1) := dk_42 (dk_at dksX1_number_1 17 rfl rfl)
theorem dX1_number_40 : decode cX1_number 40 = .ok (.getfield 53, 3) := dk_180 0 53 (dk_at dksX1_number_1 18 rfl rfl)
theorem dX1_number_43 : decode cX1_number 43 = .ok (.ireturn, 1) := dk_172 (dk_at dksX1_number_1 21 rfl rfl)
abbrev cX1_name : ByteArray := prog_8_method_14_code
def yX1_name : MethodName := ⟨RX1, "name", "()J"⟩
def dkwX1_name_3 : List UInt8 := [167, 255, 233, 31, 173]
abbrev dktX1_name_3 : List UInt8 := dkwX1_name_3 ++ []
def dkwX1_name_2 : List UInt8 := [29, 42, 180, 0, 30, 162, 0, 21, 31, 16, 8, 121, 42, 29, 182, 0, 46, 133, 129, 64, 132, 3, 1]
abbrev dktX1_name_2 : List UInt8 := dkwX1_name_2 ++ dktX1_name_3
def dkwX1_name_1 : List UInt8 := [18, 94, 182, 0, 86, 2, 160, 0, 7, 4, 167, 0, 4, 3, 182, 0, 96, 9, 64, 42, 180, 0, 50, 62]
abbrev dktX1_name_1 : List UInt8 := dkwX1_name_1 ++ dktX1_name_2
def dkwX1_name_0 : List UInt8 := [42, 42, 180, 0, 56, 5, 160, 0, 31, 42, 180, 0, 30, 42, 180, 0, 50, 100, 16, 8, 163, 0, 17, 42]
abbrev dktX1_name_0 : List UInt8 := dkwX1_name_0 ++ dktX1_name_1
theorem dksX1_name_0 : cX1_name.data.toList.drop 0 = dktX1_name_0 := by decide +kernel
theorem dksX1_name_1 : cX1_name.data.toList.drop 24 = dktX1_name_1 := dk_seg dksX1_name_0 24 rfl rfl
theorem dksX1_name_2 : cX1_name.data.toList.drop 48 = dktX1_name_2 := dk_seg dksX1_name_1 24 rfl rfl
theorem dksX1_name_3 : cX1_name.data.toList.drop 71 = dktX1_name_3 := dk_seg dksX1_name_2 23 rfl rfl
theorem dX1_name_0 : decode cX1_name 0 = .ok (.aload_n 0, 1) := dk_42 (dk_at dksX1_name_0 0 rfl rfl)
theorem dX1_name_1 : decode cX1_name 1 = .ok (.aload_n 0, 1) := dk_42 (dk_at dksX1_name_0 1 rfl rfl)
theorem dX1_name_2 : decode cX1_name 2 = .ok (.getfield 56, 3) := dk_180 0 56 (dk_at dksX1_name_0 2 rfl rfl)
theorem dX1_name_5 : decode cX1_name 5 = .ok (.iconst 2, 1) := dk_5 (dk_at dksX1_name_0 5 rfl rfl)
theorem dX1_name_6 : decode cX1_name 6 = .ok (.if_icmp .ne 31, 3) := dk_160 0 31 (dk_at dksX1_name_0 6 rfl rfl)
theorem dX1_name_9 : decode cX1_name 9 = .ok (.aload_n 0, 1) := dk_42 (dk_at dksX1_name_0 9 rfl rfl)
theorem dX1_name_10 : decode cX1_name 10 = .ok (.getfield 30, 3) := dk_180 0 30 (dk_at dksX1_name_0 10 rfl rfl)
theorem dX1_name_13 : decode cX1_name 13 = .ok (.aload_n 0, 1) := dk_42 (dk_at dksX1_name_0 13 rfl rfl)
theorem dX1_name_14 : decode cX1_name 14 = .ok (.getfield 50, 3) := dk_180 0 50 (dk_at dksX1_name_0 14 rfl rfl)
theorem dX1_name_17 : decode cX1_name 17 = .ok (.isub, 1) := dk_100 (dk_at dksX1_name_0 17 rfl rfl)
theorem dX1_name_18 : decode cX1_name 18 = .ok (.bipush 8, 2) := dk_16 8 (dk_at dksX1_name_0 18 rfl rfl)
theorem dX1_name_20 : decode cX1_name 20 = .ok (.if_icmp .gt 17, 3) := dk_163 0 17 (dk_at dksX1_name_0 20 rfl rfl)
theorem dX1_name_23 : decode cX1_name 23 = .ok (.aload_n 0, 1) := dk_42 (dk_at dksX1_name_0 23 rfl rfl)
theorem dX1_name_24 : decode cX1_name 24 = .ok (.ldc 94, 2) := dk_18 94 (dk_at dksX1_name_1 0 rfl rfl)
theorem dX1_name_26 : decode cX1_name 26 = .ok (.invokevirtual 86, 3) := dk_182 0 86 (dk_at dksX1_name_1 2 rfl rfl)
theorem dX1_name_29 : decode cX1_name 29 = .ok (.iconst (-1), 1) := dk_2 (dk_at dksX1_name_1 5 rfl rfl)
theorem dX1_name_30 : decode cX1_name 30 = .ok (.if_icmp .ne 7, 3) := dk_160 0 7 (dk_at dksX1_name_1 6 rfl rfl)
theorem dX1_name_33 : decode cX1_name 33 = .ok (.iconst 1, 1) := dk_4 (dk_at dksX1_name_1 9 rfl rfl)
theorem dX1_name_34 : decode cX1_name 34 = .ok (.goto 4, 3) := dk_167 0 4 (dk_at dksX1_name_1 10 rfl rfl)
theorem dX1_name_37 : decode cX1_name 37 = .ok (.iconst 0, 1) := dk_3 (dk_at dksX1_name_1 13 rfl rfl)
theorem dX1_name_38 : decode cX1_name 38 = .ok (.invokevirtual 96, 3) := dk_182 0 96 (dk_at dksX1_name_1 14 rfl rfl)
theorem dX1_name_41 : decode cX1_name 41 = .ok (.lconst 0, 1) := dk_9 (dk_at dksX1_name_1 17 rfl rfl)
theorem dX1_name_42 : decode cX1_name 42 = .ok (.lstore_n 1, 1) := dk_64 (dk_at dksX1_name_1 18 rfl rfl)
theorem dX1_name_43 : decode cX1_name 43 = .ok (.aload_n 0, 1) := dk_42 (dk_at dksX1_name_1 19 rfl rfl)
theorem dX1_name_44 : decode cX1_name 44 = .ok (.getfield 50, 3) := dk_180 0 50 (dk_at dksX1_name_1 20 rfl rfl)
theorem dX1_name_47 : decode cX1_name 47 = .ok (.istore_n 3, 1) := dk_62 (dk_at dksX1_name_1 23 rfl rfl)
theorem dX1_name_48 : decode cX1_name 48 = .ok (.iload_n 3, 1) := dk_29 (dk_at dksX1_name_2 0 rfl rfl)
theorem dX1_name_49 : decode cX1_name 49 = .ok (.aload_n 0, 1) := dk_42 (dk_at dksX1_name_2 1 rfl rfl)
theorem dX1_name_50 : decode cX1_name 50 = .ok (.getfield 30, 3) := dk_180 0 30 (dk_at dksX1_name_2 2 rfl rfl)
theorem dX1_name_53 : decode cX1_name 53 = .ok (.if_icmp .ge 21, 3) := dk_162 0 21 (dk_at dksX1_name_2 5 rfl rfl)
theorem dX1_name_56 : decode cX1_name 56 = .ok (.lload_n 1, 1) := dk_31 (dk_at dksX1_name_2 8 rfl rfl)
theorem dX1_name_57 : decode cX1_name 57 = .ok (.bipush 8, 2) := dk_16 8 (dk_at dksX1_name_2 9 rfl rfl)
theorem dX1_name_59 : decode cX1_name 59 = .ok (.lshl, 1) := dk_121 (dk_at dksX1_name_2 11 rfl rfl)
theorem dX1_name_60 : decode cX1_name 60 = .ok (.aload_n 0, 1) := dk_42 (dk_at dksX1_name_2 12 rfl rfl)
theorem dX1_name_61 : decode cX1_name 61 = .ok (.iload_n 3, 1) := dk_29 (dk_at dksX1_name_2 13 rfl rfl)
theorem dX1_name_62 : decode cX1_name 62 = .ok (.invokevirtual 46, 3) := dk_182 0 46 (dk_at dksX1_name_2 14 rfl rfl)
theorem dX1_name_65 : decode cX1_name 65 = .ok (.i2l, 1) := dk_133 (dk_at dksX1_name_2 17 rfl rfl)
theorem dX1_name_66 : decode cX1_name 66 = .ok (.lor, 1) := dk_129 (dk_at dksX1_name_2 18 rfl rfl)
theorem dX1_name_67 : decode cX1_name 67 = .ok (.lstore_n 1, 1) := dk_64 (dk_at dksX1_name_2 19 rfl rfl)
theorem dX1_name_68 : decode cX1_name 68 = .ok (.iinc 3 1, 3) := dk_132 3 1 (dk_at dksX1_name_2 20 rfl rfl)
theorem dX1_name_71 : decode cX1_name 71 = .ok (.goto (-23), 3) := dk_167 255 233 (dk_at dksX1_name_3 0 rfl rfl)
theorem dX1_name_74 : decode cX1_name 74 = .ok (.lload_n 1, 1) := dk_31 (dk_at dksX1_name_3 3 rfl rfl)
theorem dX1_name_75 : decode cX1_name 75 = .ok (.lreturn, 1) := dk_173 (dk_at dksX1_name_3 4 rfl rfl)
abbrev cX1_closes : ByteArray := prog_8_method_17_code
def yX1_closes : MethodName := ⟨RX1, "closes", "()V"⟩
def dkwX1_closes_0 : List UInt8 := [42, 42, 16, 59, 182, 0, 103, 182, 0, 96, 42, 182, 0, 33, 177]
abbrev dktX1_closes_0 : List UInt8 := dkwX1_closes_0 ++ []
theorem dksX1_closes_0 : cX1_closes.data.toList.drop 0 = dktX1_closes_0 := by decide +kernel
theorem dX1_closes_0 : decode cX1_closes 0 = .ok (.aload_n 0, 1) := dk_42 (dk_at dksX1_closes_0 0 rfl rfl)
theorem dX1_closes_1 : decode cX1_closes 1 = .ok (.aload_n 0, 1) := dk_42 (dk_at dksX1_closes_0 1 rfl rfl)
theorem dX1_closes_2 : decode cX1_closes 2 = .ok (.bipush 59, 2) := dk_16 59 (dk_at dksX1_closes_0 2 rfl rfl)
theorem dX1_closes_4 : decode cX1_closes 4 = .ok (.invokevirtual 103, 3) := dk_182 0 103 (dk_at dksX1_closes_0 4 rfl rfl)
theorem dX1_closes_7 : decode cX1_closes 7 = .ok (.invokevirtual 96, 3) := dk_182 0 96 (dk_at dksX1_closes_0 7 rfl rfl)
theorem dX1_closes_10 : decode cX1_closes 10 = .ok (.aload_n 0, 1) := dk_42 (dk_at dksX1_closes_0 10 rfl rfl)
theorem dX1_closes_11 : decode cX1_closes 11 = .ok (.invokevirtual 33, 3) := dk_182 0 33 (dk_at dksX1_closes_0 11 rfl rfl)
theorem dX1_closes_14 : decode cX1_closes 14 = .ok (.return_, 1) := dk_177 (dk_at dksX1_closes_0 14 rfl rfl)
abbrev cX1_is : ByteArray := prog_8_method_13_code
def yX1_is : MethodName := ⟨RX1, "is", "(I)Z"⟩
def dkwX1_is_0 : List UInt8 := [42, 180, 0, 56, 7, 160, 0, 15, 42, 180, 0, 53, 27, 160, 0, 7, 4, 167, 0, 4, 3, 172]
abbrev dktX1_is_0 : List UInt8 := dkwX1_is_0 ++ []
theorem dksX1_is_0 : cX1_is.data.toList.drop 0 = dktX1_is_0 := by decide +kernel
theorem dX1_is_0 : decode cX1_is 0 = .ok (.aload_n 0, 1) := dk_42 (dk_at dksX1_is_0 0 rfl rfl)
theorem dX1_is_1 : decode cX1_is 1 = .ok (.getfield 56, 3) := dk_180 0 56 (dk_at dksX1_is_0 1 rfl rfl)
theorem dX1_is_4 : decode cX1_is 4 = .ok (.iconst 4, 1) := dk_7 (dk_at dksX1_is_0 4 rfl rfl)
theorem dX1_is_5 : decode cX1_is 5 = .ok (.if_icmp .ne 15, 3) := dk_160 0 15 (dk_at dksX1_is_0 5 rfl rfl)
theorem dX1_is_8 : decode cX1_is 8 = .ok (.aload_n 0, 1) := dk_42 (dk_at dksX1_is_0 8 rfl rfl)
theorem dX1_is_9 : decode cX1_is 9 = .ok (.getfield 53, 3) := dk_180 0 53 (dk_at dksX1_is_0 9 rfl rfl)
theorem dX1_is_12 : decode cX1_is 12 = .ok (.iload_n 1, 1) := dk_27 (dk_at dksX1_is_0 12 rfl rfl)
theorem dX1_is_13 : decode cX1_is 13 = .ok (.if_icmp .ne 7, 3) := dk_160 0 7 (dk_at dksX1_is_0 13 rfl rfl)
theorem dX1_is_16 : decode cX1_is 16 = .ok (.iconst 1, 1) := dk_4 (dk_at dksX1_is_0 16 rfl rfl)
theorem dX1_is_17 : decode cX1_is 17 = .ok (.goto 4, 3) := dk_167 0 4 (dk_at dksX1_is_0 17 rfl rfl)
theorem dX1_is_20 : decode cX1_is 20 = .ok (.iconst 0, 1) := dk_3 (dk_at dksX1_is_0 20 rfl rfl)
theorem dX1_is_21 : decode cX1_is 21 = .ok (.ireturn, 1) := dk_172 (dk_at dksX1_is_0 21 rfl rfl)
theorem q176 : (Jvm.Cond.initialized "HairProvince$Scan") ∈ lw_all := lw_g (lw_at lw_m1 2 rfl) rfl
theorem q308 : (Jvm.Cond.instanceMethod ({ cls := "HairProvince$Scan", name := "<init>", desc := "([BLjava/lang/String;Ljava/lang/String;LHairProvince$Wrong;)V" } : Jvm.MethodName)) ∈ lw_all := lw_g (lw_at lw_m1 134 rfl) rfl
theorem q309 : (Jvm.Cond.code ({ cls := "HairProvince$Scan", name := "<init>", desc := "([BLjava/lang/String;Ljava/lang/String;LHairProvince$Wrong;)V" } : Jvm.MethodName) prog_8_method_1_code (5 : Nat) (Option.none : Option Jvm.ClassFile.FieldType)) ∈ lw_all := lw_g (lw_at lw_m1 135 rfl) rfl
theorem q310 : (Jvm.Cond.methodLink "HairProvince$Scan" (3 : Nat) ({ cls := "java/lang/Object", name := "<init>", desc := "()V" } : Jvm.MethodName)) ∈ lw_all := lw_g (lw_at lw_m1 136 rfl) rfl
theorem q330 : (Jvm.Cond.fieldLink "HairProvince$Scan" (9 : Nat) "HairProvince$Scan" "tape" "[B") ∈ lw_all := lw_g (lw_at lw_m1 156 rfl) rfl
theorem q333 : (Jvm.Cond.fieldLink "HairProvince$Scan" (26 : Nat) "HairProvince$Scan" "size" "I") ∈ lw_all := lw_g (lw_at lw_m1 159 rfl) rfl
theorem q334 : (Jvm.Cond.fieldLink "HairProvince$Scan" (56 : Nat) "HairProvince$Scan" "sort" "I") ∈ lw_all := lw_g (lw_at lw_m1 160 rfl) rfl
theorem q337 : (Jvm.Cond.fieldLink "HairProvince$Scan" (50 : Nat) "HairProvince$Scan" "from" "I") ∈ lw_all := lw_g (lw_at lw_m1 163 rfl) rfl
theorem q338 : (Jvm.Cond.fieldLink "HairProvince$Scan" (30 : Nat) "HairProvince$Scan" "end" "I") ∈ lw_all := lw_g (lw_at lw_m1 164 rfl) rfl
theorem q339 : (Jvm.Cond.fieldLink "HairProvince$Scan" (53 : Nat) "HairProvince$Scan" "value" "I") ∈ lw_all := lw_g (lw_at lw_m1 165 rfl) rfl
theorem q342 : (Jvm.Cond.fieldLink "HairProvince$Scan" (15 : Nat) "HairProvince$Scan" "keys" "Ljava/lang/String;") ∈ lw_all := lw_g (lw_at lw_m1 168 rfl) rfl
theorem q343 : (Jvm.Cond.fieldLink "HairProvince$Scan" (19 : Nat) "HairProvince$Scan" "signs" "Ljava/lang/String;") ∈ lw_all := lw_g (lw_at lw_m1 169 rfl) rfl
theorem q344 : (Jvm.Cond.fieldLink "HairProvince$Scan" (22 : Nat) "HairProvince$Scan" "wrong" "LHairProvince$Wrong;") ∈ lw_all := lw_g (lw_at lw_m1 170 rfl) rfl
theorem q364 : (Jvm.Cond.soleField "HairProvince$Scan" "tape") ∈ lw_all := lw_g (lw_at lw_m1 190 rfl) rfl
theorem q366 : (Jvm.Cond.soleField "HairProvince$Scan" "size") ∈ lw_all := lw_g (lw_at lw_m1 192 rfl) rfl
theorem q368 : (Jvm.Cond.soleField "HairProvince$Scan" "sort") ∈ lw_all := lw_g (lw_at lw_m1 194 rfl) rfl
theorem q370 : (Jvm.Cond.soleField "HairProvince$Scan" "from") ∈ lw_all := lw_g (lw_at lw_m1 196 rfl) rfl
theorem q372 : (Jvm.Cond.soleField "HairProvince$Scan" "end") ∈ lw_all := lw_g (lw_at lw_m1 198 rfl) rfl
theorem q374 : (Jvm.Cond.soleField "HairProvince$Scan" "value") ∈ lw_all := lw_g (lw_at lw_m1 200 rfl) rfl
theorem q376 : (Jvm.Cond.soleField "HairProvince$Scan" "keys") ∈ lw_all := lw_g (lw_at lw_m1 202 rfl) rfl
theorem q378 : (Jvm.Cond.soleField "HairProvince$Scan" "signs") ∈ lw_all := lw_g (lw_at lw_m1 204 rfl) rfl
theorem q380 : (Jvm.Cond.soleField "HairProvince$Scan" "wrong") ∈ lw_all := lw_g (lw_at lw_m1 206 rfl) rfl
theorem q762 : (Jvm.Cond.declares ({ cls := "HairProvince$Scan", name := "begin", desc := "(I)V" } : Jvm.MethodName)) ∈ lw_tbl := lw_at lw_m3 108 rfl
theorem q764 : (Jvm.Cond.instanceMethod ({ cls := "HairProvince$Scan", name := "begin", desc := "(I)V" } : Jvm.MethodName)) ∈ lw_all := lw_g (lw_at lw_m3 110 rfl) rfl
theorem q765 : (Jvm.Cond.code ({ cls := "HairProvince$Scan", name := "begin", desc := "(I)V" } : Jvm.MethodName) prog_8_method_2_code (2 : Nat) (Option.none : Option Jvm.ClassFile.FieldType)) ∈ lw_all := lw_g (lw_at lw_m3 111 rfl) rfl
theorem q766 : (Jvm.Cond.methodLink "HairProvince$Scan" (33 : Nat) ({ cls := "HairProvince$Scan", name := "next", desc := "()V" } : Jvm.MethodName)) ∈ lw_all := lw_g (lw_at lw_m3 112 rfl) rfl
theorem q767 : (Jvm.Cond.instanceMethod ({ cls := "HairProvince$Scan", name := "next", desc := "()V" } : Jvm.MethodName)) ∈ lw_all := lw_g (lw_at lw_m3 113 rfl) rfl
theorem q768 : (Jvm.Cond.sameMethod "HairProvince$Scan" "HairProvince$Scan" "next" "()V") ∈ lw_all := lw_g (lw_at lw_m3 114 rfl) rfl
theorem q770 : (Jvm.Cond.code ({ cls := "HairProvince$Scan", name := "next", desc := "()V" } : Jvm.MethodName) prog_8_method_7_code (2 : Nat) (Option.none : Option Jvm.ClassFile.FieldType)) ∈ lw_all := lw_g (lw_at lw_m3 116 rfl) rfl
theorem q771 : (Jvm.Cond.methodLink "HairProvince$Scan" (46 : Nat) ({ cls := "HairProvince$Scan", name := "at", desc := "(I)I" } : Jvm.MethodName)) ∈ lw_all := lw_g (lw_at lw_m3 117 rfl) rfl
theorem q772 : (Jvm.Cond.privateMethod ({ cls := "HairProvince$Scan", name := "at", desc := "(I)I" } : Jvm.MethodName)) ∈ lw_tbl := lw_at lw_m3 118 rfl
theorem q773 : (Jvm.Cond.instanceMethod ({ cls := "HairProvince$Scan", name := "at", desc := "(I)I" } : Jvm.MethodName)) ∈ lw_all := lw_g (lw_at lw_m3 119 rfl) rfl
theorem q774 : (Jvm.Cond.code ({ cls := "HairProvince$Scan", name := "at", desc := "(I)I" } : Jvm.MethodName) prog_8_method_3_code (2 : Nat) (Option.some Jvm.ClassFile.FieldType.int)) ∈ lw_all := lw_g (lw_at lw_m3 120 rfl) rfl
theorem q775 : (Jvm.Cond.methodLink "HairProvince$Scan" (59 : Nat) ({ cls := "HairProvince$Scan", name := "isSmall", desc := "(I)Z" } : Jvm.MethodName)) ∈ lw_all := lw_g (lw_at lw_m3 121 rfl) rfl
theorem q776 : (Jvm.Cond.static ({ cls := "HairProvince$Scan", name := "isSmall", desc := "(I)Z" } : Jvm.MethodName)) ∈ lw_all := lw_g (lw_at lw_m3 122 rfl) rfl
theorem q777 : (Jvm.Cond.code ({ cls := "HairProvince$Scan", name := "isSmall", desc := "(I)Z" } : Jvm.MethodName) prog_8_method_5_code (1 : Nat) (Option.some Jvm.ClassFile.FieldType.boolean)) ∈ lw_all := lw_g (lw_at lw_m3 123 rfl) rfl
theorem q778 : (Jvm.Cond.methodLink "HairProvince$Scan" (63 : Nat) ({ cls := "HairProvince$Scan", name := "isDigit", desc := "(I)Z" } : Jvm.MethodName)) ∈ lw_all := lw_g (lw_at lw_m3 124 rfl) rfl
theorem q779 : (Jvm.Cond.static ({ cls := "HairProvince$Scan", name := "isDigit", desc := "(I)Z" } : Jvm.MethodName)) ∈ lw_all := lw_g (lw_at lw_m3 125 rfl) rfl
theorem q780 : (Jvm.Cond.code ({ cls := "HairProvince$Scan", name := "isDigit", desc := "(I)Z" } : Jvm.MethodName) prog_8_method_4_code (1 : Nat) (Option.some Jvm.ClassFile.FieldType.boolean)) ∈ lw_all := lw_g (lw_at lw_m3 126 rfl) rfl
theorem q781 : (Jvm.Cond.constant "HairProvince$Scan" (66 : Nat) (100000 : Int32)) ∈ lw_all := lw_g (lw_at lw_m3 127 rfl) rfl
theorem q782 : (Jvm.Cond.methodLink "HairProvince$Scan" (67 : Nat) ({ cls := "java/lang/Math", name := "min", desc := "(II)I" } : Jvm.MethodName)) ∈ lw_all := lw_g (lw_at lw_m3 128 rfl) rfl
theorem q785 : (Jvm.Cond.methodLink "HairProvince$Scan" (73 : Nat) ({ cls := "HairProvince$Scan", name := "isSign", desc := "(I)Z" } : Jvm.MethodName)) ∈ lw_all := lw_g (lw_at lw_m3 131 rfl) rfl
theorem q786 : (Jvm.Cond.privateMethod ({ cls := "HairProvince$Scan", name := "isSign", desc := "(I)Z" } : Jvm.MethodName)) ∈ lw_tbl := lw_at lw_m3 132 rfl
theorem q787 : (Jvm.Cond.instanceMethod ({ cls := "HairProvince$Scan", name := "isSign", desc := "(I)Z" } : Jvm.MethodName)) ∈ lw_all := lw_g (lw_at lw_m3 133 rfl) rfl
theorem q788 : (Jvm.Cond.code ({ cls := "HairProvince$Scan", name := "isSign", desc := "(I)Z" } : Jvm.MethodName) prog_8_method_6_code (3 : Nat) (Option.some Jvm.ClassFile.FieldType.boolean)) ∈ lw_all := lw_g (lw_at lw_m3 134 rfl) rfl
theorem q789 : (Jvm.Cond.methodLink "HairProvince$Scan" (36 : Nat) ({ cls := "java/lang/String", name := "length", desc := "()I" } : Jvm.MethodName)) ∈ lw_all := lw_g (lw_at lw_m3 135 rfl) rfl
theorem q799 : (Jvm.Cond.methodLink "HairProvince$Scan" (42 : Nat) ({ cls := "java/lang/String", name := "charAt", desc := "(I)C" } : Jvm.MethodName)) ∈ lw_all := lw_g (lw_at lw_m3 145 rfl) rfl
theorem q843 : (Jvm.Cond.declares ({ cls := "HairProvince$Scan", name := "key", desc := "()I" } : Jvm.MethodName)) ∈ lw_tbl := lw_at lw_m3 189 rfl
theorem q845 : (Jvm.Cond.instanceMethod ({ cls := "HairProvince$Scan", name := "key", desc := "()I" } : Jvm.MethodName)) ∈ lw_all := lw_g (lw_at lw_m3 191 rfl) rfl
theorem q846 : (Jvm.Cond.code ({ cls := "HairProvince$Scan", name := "key", desc := "()I" } : Jvm.MethodName) prog_8_method_10_code (1 : Nat) (Option.some Jvm.ClassFile.FieldType.int)) ∈ lw_all := lw_g (lw_at lw_m3 192 rfl) rfl
theorem q847 : (Jvm.Cond.methodLink "HairProvince$Scan" (86 : Nat) ({ cls := "HairProvince$Scan", name := "in", desc := "(Ljava/lang/String;)I" } : Jvm.MethodName)) ∈ lw_all := lw_g (lw_at lw_m3 193 rfl) rfl
theorem q848 : (Jvm.Cond.instanceMethod ({ cls := "HairProvince$Scan", name := "in", desc := "(Ljava/lang/String;)I" } : Jvm.MethodName)) ∈ lw_all := lw_g (lw_at lw_m3 194 rfl) rfl
theorem q849 : (Jvm.Cond.sameMethod "HairProvince$Scan" "HairProvince$Scan" "in" "(Ljava/lang/String;)I") ∈ lw_all := lw_g (lw_at lw_m3 195 rfl) rfl
theorem q851 : (Jvm.Cond.code ({ cls := "HairProvince$Scan", name := "in", desc := "(Ljava/lang/String;)I" } : Jvm.MethodName) prog_8_method_11_code (5 : Nat) (Option.some Jvm.ClassFile.FieldType.int)) ∈ lw_all := lw_g (lw_at lw_m3 197 rfl) rfl
theorem q852 : (Jvm.Cond.methodLink "HairProvince$Scan" (90 : Nat) ({ cls := "HairProvince$Scan", name := "isWord", desc := "(Ljava/lang/String;II)Z" } : Jvm.MethodName)) ∈ lw_all := lw_g (lw_at lw_m3 198 rfl) rfl
theorem q853 : (Jvm.Cond.privateMethod ({ cls := "HairProvince$Scan", name := "isWord", desc := "(Ljava/lang/String;II)Z" } : Jvm.MethodName)) ∈ lw_tbl := lw_at lw_m3 199 rfl
theorem q854 : (Jvm.Cond.instanceMethod ({ cls := "HairProvince$Scan", name := "isWord", desc := "(Ljava/lang/String;II)Z" } : Jvm.MethodName)) ∈ lw_all := lw_g (lw_at lw_m3 200 rfl) rfl
theorem q855 : (Jvm.Cond.code ({ cls := "HairProvince$Scan", name := "isWord", desc := "(Ljava/lang/String;II)Z" } : Jvm.MethodName) prog_8_method_12_code (5 : Nat) (Option.some Jvm.ClassFile.FieldType.boolean)) ∈ lw_all := lw_g (lw_at lw_m3 201 rfl) rfl
theorem q858 : (Jvm.Cond.declares ({ cls := "HairProvince$Scan", name := "need", desc := "(Z)V" } : Jvm.MethodName)) ∈ lw_tbl := lw_at lw_m3 204 rfl
theorem q860 : (Jvm.Cond.instanceMethod ({ cls := "HairProvince$Scan", name := "need", desc := "(Z)V" } : Jvm.MethodName)) ∈ lw_all := lw_g (lw_at lw_m3 206 rfl) rfl
theorem q861 : (Jvm.Cond.code ({ cls := "HairProvince$Scan", name := "need", desc := "(Z)V" } : Jvm.MethodName) prog_8_method_9_code (2 : Nat) (Option.none : Option Jvm.ClassFile.FieldType)) ∈ lw_all := lw_g (lw_at lw_m3 207 rfl) rfl
theorem q862 : (Jvm.Cond.methodLink "HairProvince$Scan" (82 : Nat) ({ cls := "HairProvince$Scan", name := "fail", desc := "(I)LHairProvince$Wrong;" } : Jvm.MethodName)) ∈ lw_all := lw_g (lw_at lw_m3 208 rfl) rfl
theorem q863 : (Jvm.Cond.instanceMethod ({ cls := "HairProvince$Scan", name := "fail", desc := "(I)LHairProvince$Wrong;" } : Jvm.MethodName)) ∈ lw_all := lw_g (lw_at lw_m3 209 rfl) rfl
theorem q864 : (Jvm.Cond.sameMethod "HairProvince$Scan" "HairProvince$Scan" "fail" "(I)LHairProvince$Wrong;") ∈ lw_all := lw_g (lw_at lw_m3 210 rfl) rfl
theorem q866 : (Jvm.Cond.code ({ cls := "HairProvince$Scan", name := "fail", desc := "(I)LHairProvince$Wrong;" } : Jvm.MethodName) prog_8_method_8_code (2 : Nat) (Option.some (Jvm.ClassFile.FieldType.object "HairProvince$Wrong"))) ∈ lw_all := lw_g (lw_at lw_m3 212 rfl) rfl
theorem q867 : (Jvm.Cond.methodLink "HairProvince$Scan" (76 : Nat) ({ cls := "HairProvince$Wrong", name := "of", desc := "(II)LHairProvince$Wrong;" } : Jvm.MethodName)) ∈ lw_all := lw_g (lw_at lw_m3 213 rfl) rfl
theorem q876 : (Jvm.Cond.declares ({ cls := "HairProvince$Scan", name := "fail", desc := "(I)LHairProvince$Wrong;" } : Jvm.MethodName)) ∈ lw_tbl := lw_at lw_m3 222 rfl
theorem q884 : (Jvm.Cond.declares ({ cls := "HairProvince$Scan", name := "next", desc := "()V" } : Jvm.MethodName)) ∈ lw_tbl := lw_at lw_m3 230 rfl
theorem q888 : (Jvm.Cond.declares ({ cls := "HairProvince$Scan", name := "passed", desc := "(II)I" } : Jvm.MethodName)) ∈ lw_tbl := lw_at lw_m3 234 rfl
theorem q890 : (Jvm.Cond.instanceMethod ({ cls := "HairProvince$Scan", name := "passed", desc := "(II)I" } : Jvm.MethodName)) ∈ lw_all := lw_g (lw_at lw_m3 236 rfl) rfl
theorem q891 : (Jvm.Cond.code ({ cls := "HairProvince$Scan", name := "passed", desc := "(II)I" } : Jvm.MethodName) prog_8_method_16_code (4 : Nat) (Option.some Jvm.ClassFile.FieldType.int)) ∈ lw_all := lw_g (lw_at lw_m3 237 rfl) rfl
theorem q892 : (Jvm.Cond.methodLink "HairProvince$Scan" (100 : Nat) ({ cls := "HairProvince$Scan", name := "number", desc := "(II)I" } : Jvm.MethodName)) ∈ lw_all := lw_g (lw_at lw_m3 238 rfl) rfl
theorem q893 : (Jvm.Cond.instanceMethod ({ cls := "HairProvince$Scan", name := "number", desc := "(II)I" } : Jvm.MethodName)) ∈ lw_all := lw_g (lw_at lw_m3 239 rfl) rfl
theorem q894 : (Jvm.Cond.sameMethod "HairProvince$Scan" "HairProvince$Scan" "number" "(II)I") ∈ lw_all := lw_g (lw_at lw_m4 0 rfl) rfl
theorem q896 : (Jvm.Cond.code ({ cls := "HairProvince$Scan", name := "number", desc := "(II)I" } : Jvm.MethodName) prog_8_method_15_code (3 : Nat) (Option.some Jvm.ClassFile.FieldType.int)) ∈ lw_all := lw_g (lw_at lw_m4 2 rfl) rfl
theorem q897 : (Jvm.Cond.methodLink "HairProvince$Scan" (96 : Nat) ({ cls := "HairProvince$Scan", name := "need", desc := "(Z)V" } : Jvm.MethodName)) ∈ lw_all := lw_g (lw_at lw_m4 3 rfl) rfl
theorem q906 : (Jvm.Cond.declares ({ cls := "HairProvince$Scan", name := "name", desc := "()J" } : Jvm.MethodName)) ∈ lw_tbl := lw_at lw_m4 12 rfl
theorem q908 : (Jvm.Cond.instanceMethod ({ cls := "HairProvince$Scan", name := "name", desc := "()J" } : Jvm.MethodName)) ∈ lw_all := lw_g (lw_at lw_m4 14 rfl) rfl
theorem q909 : (Jvm.Cond.code ({ cls := "HairProvince$Scan", name := "name", desc := "()J" } : Jvm.MethodName) prog_8_method_14_code (4 : Nat) (Option.some Jvm.ClassFile.FieldType.long)) ∈ lw_all := lw_g (lw_at lw_m4 15 rfl) rfl
theorem q910 : (Jvm.Cond.stringRef "HairProvince$Scan" (94 : Nat) " heard odds word person dinner halves grows grey temper barber keeps every day keep say cut any when loop stop end to by knows hair ") ∈ lw_tbl := lw_at lw_m4 16 rfl
theorem q1009 : (Jvm.Cond.declares ({ cls := "HairProvince$Scan", name := "closes", desc := "()V" } : Jvm.MethodName)) ∈ lw_tbl := lw_at lw_m4 115 rfl
theorem q1011 : (Jvm.Cond.instanceMethod ({ cls := "HairProvince$Scan", name := "closes", desc := "()V" } : Jvm.MethodName)) ∈ lw_all := lw_g (lw_at lw_m4 117 rfl) rfl
theorem q1012 : (Jvm.Cond.code ({ cls := "HairProvince$Scan", name := "closes", desc := "()V" } : Jvm.MethodName) prog_8_method_17_code (1 : Nat) (Option.none : Option Jvm.ClassFile.FieldType)) ∈ lw_all := lw_g (lw_at lw_m4 118 rfl) rfl
theorem q1013 : (Jvm.Cond.methodLink "HairProvince$Scan" (103 : Nat) ({ cls := "HairProvince$Scan", name := "is", desc := "(I)Z" } : Jvm.MethodName)) ∈ lw_all := lw_g (lw_at lw_m4 119 rfl) rfl
theorem q1014 : (Jvm.Cond.instanceMethod ({ cls := "HairProvince$Scan", name := "is", desc := "(I)Z" } : Jvm.MethodName)) ∈ lw_all := lw_g (lw_at lw_m4 120 rfl) rfl
theorem q1015 : (Jvm.Cond.sameMethod "HairProvince$Scan" "HairProvince$Scan" "is" "(I)Z") ∈ lw_all := lw_g (lw_at lw_m4 121 rfl) rfl
theorem q1017 : (Jvm.Cond.code ({ cls := "HairProvince$Scan", name := "is", desc := "(I)Z" } : Jvm.MethodName) prog_8_method_13_code (2 : Nat) (Option.some Jvm.ClassFile.FieldType.boolean)) ∈ lw_all := lw_g (lw_at lw_m4 123 rfl) rfl
theorem q1088 : (Jvm.Cond.declares ({ cls := "HairProvince$Scan", name := "is", desc := "(I)Z" } : Jvm.MethodName)) ∈ lw_tbl := lw_at lw_m4 194 rfl
theorem q2456 : (Jvm.Cond.sameMethod "HairProvince$Scan" "HairProvince$Scan" "at" "(I)I") ∈ lw_all := lw_g (lw_at lw_m10 122 rfl) rfl
theorem q2457 : (Jvm.Cond.sameMethod "HairProvince$Scan" "HairProvince$Scan" "isSign" "(I)Z") ∈ lw_all := lw_g (lw_at lw_m10 123 rfl) rfl
theorem q2458 : (Jvm.Cond.sameMethod "HairProvince$Scan" "HairProvince$Scan" "isWord" "(Ljava/lang/String;II)Z") ∈ lw_all := lw_g (lw_at lw_m10 124 rfl) rfl
theorem q2459 : (Jvm.Cond.sameMethod "HairProvince$Scan" "HairProvince$Scan" "need" "(Z)V") ∈ lw_all := lw_g (lw_at lw_m10 125 rfl) rfl
/-! HairProvince$Reader -/
set_option maxRecDepth 100000
def RX2 : String := "HairProvince$Reader"
def TX2 : u_T := fun k => match k with
  | 0 => ("HairProvince$Scan", "tape", "[B", true)
  | 1 => ("HairProvince$Scan", "size", "I", false)
  | 2 => ("HairProvince$Scan", "sort", "I", false)
  | 3 => ("HairProvince$Scan", "from", "I", false)
  | 4 => ("HairProvince$Scan", "end", "I", false)
  | 5 => ("HairProvince$Scan", "value", "I", false)
  | 6 => ("HairProvince$Scan", "keys", "Ljava/lang/String;", true)
  | 7 => ("HairProvince$Scan", "signs", "Ljava/lang/String;", true)
  | 8 => ("HairProvince$Scan", "wrong", "LHairProvince$Wrong;", true)
  | 9 => ("HairProvince$Reader", "taped", "I", false)
  | 10 => ("HairProvince$Reader", "stepMany", "I", false)
  | 11 => ("HairProvince$Reader", "counted", "I", false)
  | 12 => ("HairProvince$Reader", "open", "I", false)
  | 13 => ("HairProvince$Reader", "told", "I", false)
  | 14 => ("HairProvince$Reader", "saying", "LHairProvince$Saying;", true)
  | 15 => ("HairProvince$Reader", "province", "LHairProvince$Province;", false)
  | 16 => ("HairProvince$Reader", "steps", "[LHairProvince$Step;", false)
  | _ => ("HairProvince$Reader", "opened", "[I", true)
def tyX2 : Nat → FieldType := fun k => match k with
  | 0 => .array .byte
  | 1 => .int
  | 2 => .int
  | 3 => .int
  | 4 => .int
  | 5 => .int
  | 6 => .object "java/lang/String"
  | 7 => .object "java/lang/String"
  | 8 => .object "HairProvince$Wrong"
  | 9 => .int
  | 10 => .int
  | 11 => .int
  | 12 => .int
  | 13 => .int
  | 14 => .object "HairProvince$Saying"
  | 15 => .object "HairProvince$Province"
  | 16 => .array (.object "HairProvince$Step")
  | _ => .array .int
abbrev wsX20 : List Cond := u_ws RX2 TX2 18
set_option maxRecDepth 100000 in
theorem nmX2 : ∀ a, a < 18 → ∀ b, b < 18 → a ≠ b → (TX2 a).2.1 ≠ (TX2 b).2.1 := by decide +kernel
set_option maxRecDepth 100000 in
theorem tyX2_ok : ∀ k, k < 18 → parseFieldDescriptor (TX2 k).2.2.1 = some (tyX2 k) := by decide +kernel
abbrev cX2_init : ByteArray := prog_6_method_1_code
def yX2_init : MethodName := ⟨RX2, "<init>", "(LHairProvince$Wrong;)V"⟩
def dkwX2_init_1 : List UInt8 := [181, 0, 18, 42, 6, 188, 10, 181, 0, 24, 177]
abbrev dktX2_init_1 : List UInt8 := dkwX2_init_1 ++ []
def dkwX2_init_0 : List UInt8 := [42, 17, 3, 132, 188, 8, 18, 3, 18, 5, 43, 183, 0, 7, 42, 187, 0, 13, 89, 183, 0, 15]
abbrev dktX2_init_0 : List UInt8 := dkwX2_init_0 ++ dktX2_init_1
theorem dksX2_init_0 : cX2_init.data.toList.drop 0 = dktX2_init_0 := by decide +kernel
theorem dksX2_init_1 : cX2_init.data.toList.drop 22 = dktX2_init_1 := dk_seg dksX2_init_0 22 rfl rfl
theorem dX2_init_0 : decode cX2_init 0 = .ok (.aload_n 0, 1) := dk_42 (dk_at dksX2_init_0 0 rfl rfl)
theorem dX2_init_1 : decode cX2_init 1 = .ok (.sipush 900, 3) := dk_17 3 132 (dk_at dksX2_init_0 1 rfl rfl)
theorem dX2_init_4 : decode cX2_init 4 = .ok (.newarray .byte, 2) := dk_188_8 (dk_at dksX2_init_0 4 rfl rfl)
theorem dX2_init_6 : decode cX2_init 6 = .ok (.ldc 3, 2) := dk_18 3 (dk_at dksX2_init_0 6 rfl rfl)
theorem dX2_init_8 : decode cX2_init 8 = .ok (.ldc 5, 2) := dk_18 5 (dk_at dksX2_init_0 8 rfl rfl)
theorem dX2_init_10 : decode cX2_init 10 = .ok (.aload_n 1, 1) := dk_43 (dk_at dksX2_init_0 10 rfl rfl)
theorem dX2_init_11 : decode cX2_init 11 = .ok (.invokespecial 7, 3) := dk_183 0 7 (dk_at dksX2_init_0 11 rfl rfl)
theorem dX2_init_14 : decode cX2_init 14 = .ok (.aload_n 0, 1) := dk_42 (dk_at dksX2_init_0 14 rfl rfl)
theorem dX2_init_15 : decode cX2_init 15 = .ok (.new 13, 3) := dk_187 0 13 (dk_at dksX2_init_0 15 rfl rfl)
theorem dX2_init_18 : decode cX2_init 18 = .ok (.dup, 1) := dk_89 (dk_at dksX2_init_0 18 rfl rfl)
theorem dX2_init_19 : decode cX2_init 19 = .ok (.invokespecial 15, 3) := dk_183 0 15 (dk_at dksX2_init_0 19 rfl rfl)
theorem dX2_init_22 : decode cX2_init 22 = .ok (.putfield 18, 3) := dk_181 0 18 (dk_at dksX2_init_1 0 rfl rfl)
theorem dX2_init_25 : decode cX2_init 25 = .ok (.aload_n 0, 1) := dk_42 (dk_at dksX2_init_1 3 rfl rfl)
theorem dX2_init_26 : decode cX2_init 26 = .ok (.iconst 3, 1) := dk_6 (dk_at dksX2_init_1 4 rfl rfl)
theorem dX2_init_27 : decode cX2_init 27 = .ok (.newarray .int, 2) := dk_188_10 (dk_at dksX2_init_1 5 rfl rfl)
theorem dX2_init_29 : decode cX2_init 29 = .ok (.putfield 24, 3) := dk_181 0 24 (dk_at dksX2_init_1 7 rfl rfl)
theorem dX2_init_32 : decode cX2_init 32 = .ok (.return_, 1) := dk_177 (dk_at dksX2_init_1 10 rfl rfl)
abbrev cX2_empty : ByteArray := prog_6_method_8_code
def yX2_empty : MethodName := ⟨RX2, "empty", "()LHairProvince$Province;"⟩
def dkwX2_empty_0 : List UInt8 := [187, 0, 52, 89, 42, 180, 0, 18, 183, 0, 64, 176]
abbrev dktX2_empty_0 : List UInt8 := dkwX2_empty_0 ++ []
theorem dksX2_empty_0 : cX2_empty.data.toList.drop 0 = dktX2_empty_0 := by decide +kernel
theorem dX2_empty_0 : decode cX2_empty 0 = .ok (.new 52, 3) := dk_187 0 52 (dk_at dksX2_empty_0 0 rfl rfl)
theorem dX2_empty_3 : decode cX2_empty 3 = .ok (.dup, 1) := dk_89 (dk_at dksX2_empty_0 3 rfl rfl)
theorem dX2_empty_4 : decode cX2_empty 4 = .ok (.aload_n 0, 1) := dk_42 (dk_at dksX2_empty_0 4 rfl rfl)
theorem dX2_empty_5 : decode cX2_empty 5 = .ok (.getfield 18, 3) := dk_180 0 18 (dk_at dksX2_empty_0 5 rfl rfl)
theorem dX2_empty_8 : decode cX2_empty 8 = .ok (.invokespecial 64, 3) := dk_183 0 64 (dk_at dksX2_empty_0 8 rfl rfl)
theorem dX2_empty_11 : decode cX2_empty 11 = .ok (.areturn, 1) := dk_176 (dk_at dksX2_empty_0 11 rfl rfl)
abbrev cX2_province : ByteArray := prog_6_method_9_code
def yX2_province : MethodName := ⟨RX2, "province", "(I)LHairProvince$Province;"⟩
def dkwX2_province_1 : List UInt8 := [153, 0, 14, 42, 182, 0, 82, 42, 182, 0, 85, 167, 255, 241, 42, 180, 0, 43, 176]
abbrev dktX2_province_1 : List UInt8 := dkwX2_province_1 ++ []
def dkwX2_province_0 : List UInt8 := [42, 42, 182, 0, 67, 181, 0, 43, 42, 3, 181, 0, 71, 42, 27, 182, 0, 75, 42, 180, 0, 79]
abbrev dktX2_province_0 : List UInt8 := dkwX2_province_0 ++ dktX2_province_1
theorem dksX2_province_0 : cX2_province.data.toList.drop 0 = dktX2_province_0 := by decide +kernel
theorem dksX2_province_1 : cX2_province.data.toList.drop 22 = dktX2_province_1 := dk_seg dksX2_province_0 22 rfl rfl
theorem dX2_province_0 : decode cX2_province 0 = .ok (.aload_n 0, 1) := dk_42 (dk_at dksX2_province_0 0 rfl rfl)
theorem dX2_province_1 : decode cX2_province 1 = .ok (.aload_n 0, 1) := dk_42 (dk_at dksX2_province_0 1 rfl rfl)
theorem dX2_province_2 : decode cX2_province 2 = .ok (.invokevirtual 67, 3) := dk_182 0 67 (dk_at dksX2_province_0 2 rfl rfl)
theorem dX2_province_5 : decode cX2_province 5 = .ok (.putfield 43, 3) := dk_181 0 43 (dk_at dksX2_province_0 5 rfl rfl)
theorem dX2_province_8 : decode cX2_province 8 = .ok (.aload_n 0, 1) := dk_42 (dk_at dksX2_province_0 8 rfl rfl)
theorem dX2_province_9 : decode cX2_province 9 = .ok (.iconst 0, 1) := dk_3 (dk_at dksX2_province_0 9 rfl rfl)
theorem dX2_province_10 : decode cX2_province 10 = .ok (.putfield 71, 3) := dk_181 0 71 (dk_at dksX2_province_0 10 rfl rfl)
theorem dX2_province_13 : decode cX2_province 13 = .ok (.aload_n 0, 1) := dk_42 (dk_at dksX2_province_0 13 rfl rfl)
theorem dX2_province_14 : decode cX2_province 14 = .ok (.iload_n 1, 1) := dk_27 (dk_at dksX2_province_0 14 rfl rfl)
theorem dX2_province_15 : decode cX2_province 15 = .ok (.invokevirtual 75, 3) := dk_182 0 75 (dk_at dksX2_province_0 15 rfl rfl)
theorem dX2_province_18 : decode cX2_province 18 = .ok (.aload_n 0, 1) := dk_42 (dk_at dksX2_province_0 18 rfl rfl)
theorem dX2_province_19 : decode cX2_province 19 = .ok (.getfield 79, 3) := dk_180 0 79 (dk_at dksX2_province_0 19 rfl rfl)
theorem dX2_province_22 : decode cX2_province 22 = .ok (.ifCond .eq 14, 3) := dk_153 0 14 (dk_at dksX2_province_1 0 rfl rfl)
theorem dX2_province_25 : decode cX2_province 25 = .ok (.aload_n 0, 1) := dk_42 (dk_at dksX2_province_1 3 rfl rfl)
theorem dX2_province_26 : decode cX2_province 26 = .ok (.invokevirtual 82, 3) := dk_182 0 82 (dk_at dksX2_province_1 4 rfl rfl)
theorem dX2_province_29 : decode cX2_province 29 = .ok (.aload_n 0, 1) := dk_42 (dk_at dksX2_province_1 7 rfl rfl)
theorem dX2_province_30 : decode cX2_province 30 = .ok (.invokevirtual 85, 3) := dk_182 0 85 (dk_at dksX2_province_1 8 rfl rfl)
theorem dX2_province_33 : decode cX2_province 33 = .ok (.goto (-15), 3) := dk_167 255 241 (dk_at dksX2_province_1 11 rfl rfl)
theorem dX2_province_36 : decode cX2_province 36 = .ok (.aload_n 0, 1) := dk_42 (dk_at dksX2_province_1 14 rfl rfl)
theorem dX2_province_37 : decode cX2_province 37 = .ok (.getfield 43, 3) := dk_180 0 43 (dk_at dksX2_province_1 15 rfl rfl)
theorem dX2_province_40 : decode cX2_province 40 = .ok (.areturn, 1) := dk_176 (dk_at dksX2_province_1 18 rfl rfl)
abbrev cX2_part : ByteArray := prog_6_method_11_code
def yX2_part : MethodName := ⟨RX2, "part", "()V"⟩
def dkwX2_part_8 : List UInt8 := [42, 182, 0, 137, 167, 0, 7, 42, 182, 0, 140, 177]
abbrev dktX2_part_8 : List UInt8 := dkwX2_part_8 ++ []
def dkwX2_part_7 : List UInt8 := [182, 0, 126, 167, 0, 32, 42, 187, 0, 130, 89, 42, 182, 0, 120, 183, 0, 132, 182, 0, 133, 167, 0, 14]
abbrev dktX2_part_7 : List UInt8 := dkwX2_part_7 ++ dktX2_part_8
def dkwX2_part_6 : List UInt8 := [16, 16, 182, 0, 108, 181, 0, 115, 167, 0, 50, 42, 187, 0, 118, 89, 42, 182, 0, 120, 183, 0, 123]
abbrev dktX2_part_6 : List UInt8 := dkwX2_part_6 ++ dktX2_part_7
def dkwX2_part_5 : List UInt8 := [42, 180, 0, 43, 42, 3, 16, 99, 182, 0, 108, 181, 0, 112, 167, 0, 67, 42, 180, 0, 43, 42, 3]
abbrev dktX2_part_5 : List UInt8 := dkwX2_part_5 ++ dktX2_part_6
def dkwX2_part_4 : List UInt8 := [170, 0, 0, 0, 0, 0, 112, 0, 0, 0, 0, 0, 0, 0, 4, 0, 0, 0, 35, 0, 0, 0, 52, 0, 0, 0, 69, 0, 0, 0, 87, 0, 0, 0, 105]
abbrev dktX2_part_4 : List UInt8 := dkwX2_part_4 ++ dktX2_part_5
def dkwX2_part_3 : List UInt8 := [191, 42, 182, 0, 36, 27]
abbrev dktX2_part_3 : List UInt8 := dkwX2_part_3 ++ dktX2_part_4
def dkwX2_part_2 : List UInt8 := [180, 0, 71, 4, 27, 120, 128, 181, 0, 71, 42, 27, 182, 0, 104, 153, 0, 10, 42, 16, 6, 182, 0, 39]
abbrev dktX2_part_2 : List UInt8 := dkwX2_part_2 ++ dktX2_part_3
def dkwX2_part_1 : List UInt8 := [180, 0, 71, 27, 184, 0, 100, 153, 0, 9, 42, 8, 182, 0, 39, 191, 27, 4, 163, 0, 15, 42, 89]
abbrev dktX2_part_1 : List UInt8 := dkwX2_part_1 ++ dktX2_part_2
def dkwX2_part_0 : List UInt8 := [42, 182, 0, 28, 60, 42, 27, 155, 0, 12, 27, 8, 163, 0, 7, 4, 167, 0, 4, 3, 182, 0, 32, 42]
abbrev dktX2_part_0 : List UInt8 := dkwX2_part_0 ++ dktX2_part_1
theorem dksX2_part_0 : cX2_part.data.toList.drop 0 = dktX2_part_0 := by decide +kernel
theorem dksX2_part_1 : cX2_part.data.toList.drop 24 = dktX2_part_1 := dk_seg dksX2_part_0 24 rfl rfl
theorem dksX2_part_2 : cX2_part.data.toList.drop 47 = dktX2_part_2 := dk_seg dksX2_part_1 23 rfl rfl
theorem dksX2_part_3 : cX2_part.data.toList.drop 71 = dktX2_part_3 := dk_seg dksX2_part_2 24 rfl rfl
theorem dksX2_part_4 : cX2_part.data.toList.drop 77 = dktX2_part_4 := dk_seg dksX2_part_3 6 rfl rfl
theorem dksX2_part_5 : cX2_part.data.toList.drop 112 = dktX2_part_5 := dk_seg dksX2_part_4 35 rfl rfl
theorem dksX2_part_6 : cX2_part.data.toList.drop 135 = dktX2_part_6 := dk_seg dksX2_part_5 23 rfl rfl
theorem dksX2_part_7 : cX2_part.data.toList.drop 158 = dktX2_part_7 := dk_seg dksX2_part_6 23 rfl rfl
theorem dksX2_part_8 : cX2_part.data.toList.drop 182 = dktX2_part_8 := dk_seg dksX2_part_7 24 rfl rfl
theorem dX2_part_0 : decode cX2_part 0 = .ok (.aload_n 0, 1) := dk_42 (dk_at dksX2_part_0 0 rfl rfl)
theorem dX2_part_1 : decode cX2_part 1 = .ok (.invokevirtual 28, 3) := dk_182 0 28 (dk_at dksX2_part_0 1 rfl rfl)
theorem dX2_part_4 : decode cX2_part 4 = .ok (.istore_n 1, 1) := dk_60 (dk_at dksX2_part_0 4 rfl rfl)
theorem dX2_part_5 : decode cX2_part 5 = .ok (.aload_n 0, 1) := dk_42 (dk_at dksX2_part_0 5 rfl rfl)
theorem dX2_part_6 : decode cX2_part 6 = .ok (.iload_n 1, 1) := dk_27 (dk_at dksX2_part_0 6 rfl rfl)
theorem dX2_part_7 : decode cX2_part 7 = .ok (.ifCond .lt 12, 3) := dk_155 0 12 (dk_at dksX2_part_0 7 rfl rfl)
theorem dX2_part_10 : decode cX2_part 10 = .ok (.iload_n 1, 1) := dk_27 (dk_at dksX2_part_0 10 rfl rfl)
theorem dX2_part_11 : decode cX2_part 11 = .ok (.iconst 5, 1) := dk_8 (dk_at dksX2_part_0 11 rfl rfl)
theorem dX2_part_12 : decode cX2_part 12 = .ok (.if_icmp .gt 7, 3) := dk_163 0 7 (dk_at dksX2_part_0 12 rfl rfl)
theorem dX2_part_15 : decode cX2_part 15 = .ok (.iconst 1, 1) := dk_4 (dk_at dksX2_part_0 15 rfl rfl)
theorem dX2_part_16 : decode cX2_part 16 = .ok (.goto 4, 3) := dk_167 0 4 (dk_at dksX2_part_0 16 rfl rfl)
theorem dX2_part_19 : decode cX2_part 19 = .ok (.iconst 0, 1) := dk_3 (dk_at dksX2_part_0 19 rfl rfl)
theorem dX2_part_20 : decode cX2_part 20 = .ok (.invokevirtual 32, 3) := dk_182 0 32 (dk_at dksX2_part_0 20 rfl rfl)
theorem dX2_part_23 : decode cX2_part 23 = .ok (.aload_n 0, 1) := dk_42 (dk_at dksX2_part_0 23 rfl rfl)
theorem dX2_part_24 : decode cX2_part 24 = .ok (.getfield 71, 3) := dk_180 0 71 (dk_at dksX2_part_1 0 rfl rfl)
theorem dX2_part_27 : decode cX2_part 27 = .ok (.iload_n 1, 1) := dk_27 (dk_at dksX2_part_1 3 rfl rfl)
theorem dX2_part_28 : decode cX2_part 28 = .ok (.invokestatic 100, 3) := dk_184 0 100 (dk_at dksX2_part_1 4 rfl rfl)
theorem dX2_part_31 : decode cX2_part 31 = .ok (.ifCond .eq 9, 3) := dk_153 0 9 (dk_at dksX2_part_1 7 rfl rfl)
theorem dX2_part_34 : decode cX2_part 34 = .ok (.aload_n 0, 1) := dk_42 (dk_at dksX2_part_1 10 rfl rfl)
theorem dX2_part_35 : decode cX2_part 35 = .ok (.iconst 5, 1) := dk_8 (dk_at dksX2_part_1 11 rfl rfl)
theorem dX2_part_36 : decode cX2_part 36 = .ok (.invokevirtual 39, 3) := dk_182 0 39 (dk_at dksX2_part_1 12 rfl rfl)
theorem dX2_part_39 : decode cX2_part 39 = .ok (.athrow, 1) := dk_191 (dk_at dksX2_part_1 15 rfl rfl)
theorem dX2_part_40 : decode cX2_part 40 = .ok (.iload_n 1, 1) := dk_27 (dk_at dksX2_part_1 16 rfl rfl)
theorem dX2_part_41 : decode cX2_part 41 = .ok (.iconst 1, 1) := dk_4 (dk_at dksX2_part_1 17 rfl rfl)
theorem dX2_part_42 : decode cX2_part 42 = .ok (.if_icmp .gt 15, 3) := dk_163 0 15 (dk_at dksX2_part_1 18 rfl rfl)
theorem dX2_part_45 : decode cX2_part 45 = .ok (.aload_n 0, 1) := dk_42 (dk_at dksX2_part_1 21 rfl rfl)
theorem dX2_part_46 : decode cX2_part 46 = .ok (.dup, 1) := dk_89 (dk_at dksX2_part_1 22 rfl rfl)
theorem dX2_part_47 : decode cX2_part 47 = .ok (.getfield 71, 3) := dk_180 0 71 (dk_at dksX2_part_2 0 rfl rfl)
theorem dX2_part_50 : decode cX2_part 50 = .ok (.iconst 1, 1) := dk_4 (dk_at dksX2_part_2 3 rfl rfl)
theorem dX2_part_51 : decode cX2_part 51 = .ok (.iload_n 1, 1) := dk_27 (dk_at dksX2_part_2 4 rfl rfl)
theorem dX2_part_52 : decode cX2_part 52 = .ok (.ishl, 1) := dk_120 (dk_at dksX2_part_2 5 rfl rfl)
theorem dX2_part_53 : decode cX2_part 53 = .ok (.ior, 1) := dk_128 (dk_at dksX2_part_2 6 rfl rfl)
theorem dX2_part_54 : decode cX2_part 54 = .ok (.putfield 71, 3) := dk_181 0 71 (dk_at dksX2_part_2 7 rfl rfl)
theorem dX2_part_57 : decode cX2_part 57 = .ok (.aload_n 0, 1) := dk_42 (dk_at dksX2_part_2 10 rfl rfl)
theorem dX2_part_58 : decode cX2_part 58 = .ok (.iload_n 1, 1) := dk_27 (dk_at dksX2_part_2 11 rfl rfl)
theorem dX2_part_59 : decode cX2_part 59 = .ok (.invokevirtual 104, 3) := dk_182 0 104 (dk_at dksX2_part_2 12 rfl rfl)
theorem dX2_part_62 : decode cX2_part 62 = .ok (.ifCond .eq 10, 3) := dk_153 0 10 (dk_at dksX2_part_2 15 rfl rfl)
theorem dX2_part_65 : decode cX2_part 65 = .ok (.aload_n 0, 1) := dk_42 (dk_at dksX2_part_2 18 rfl rfl)
theorem dX2_part_66 : decode cX2_part 66 = .ok (.bipush 6, 2) := dk_16 6 (dk_at dksX2_part_2 19 rfl rfl)
theorem dX2_part_68 : decode cX2_part 68 = .ok (.invokevirtual 39, 3) := dk_182 0 39 (dk_at dksX2_part_2 21 rfl rfl)
theorem dX2_part_71 : decode cX2_part 71 = .ok (.athrow, 1) := dk_191 (dk_at dksX2_part_3 0 rfl rfl)
theorem dX2_part_72 : decode cX2_part 72 = .ok (.aload_n 0, 1) := dk_42 (dk_at dksX2_part_3 1 rfl rfl)
theorem dX2_part_73 : decode cX2_part 73 = .ok (.invokevirtual 36, 3) := dk_182 0 36 (dk_at dksX2_part_3 2 rfl rfl)
theorem dX2_part_76 : decode cX2_part 76 = .ok (.iload_n 1, 1) := dk_27 (dk_at dksX2_part_3 5 rfl rfl)
theorem dX2_part_77 : decode cX2_part 77 = .ok (.tableswitch 112 0 4 #[35, 52, 69, 87, 105], 35) := by decide +kernel
theorem dX2_part_112 : decode cX2_part 112 = .ok (.aload_n 0, 1) := dk_42 (dk_at dksX2_part_5 0 rfl rfl)
theorem dX2_part_113 : decode cX2_part 113 = .ok (.getfield 43, 3) := dk_180 0 43 (dk_at dksX2_part_5 1 rfl rfl)
theorem dX2_part_116 : decode cX2_part 116 = .ok (.aload_n 0, 1) := dk_42 (dk_at dksX2_part_5 4 rfl rfl)
theorem dX2_part_117 : decode cX2_part 117 = .ok (.iconst 0, 1) := dk_3 (dk_at dksX2_part_5 5 rfl rfl)
theorem dX2_part_118 : decode cX2_part 118 = .ok (.bipush 99, 2) := dk_16 99 (dk_at dksX2_part_5 6 rfl rfl)
theorem dX2_part_120 : decode cX2_part 120 = .ok (.invokevirtual 108, 3) := dk_182 0 108 (dk_at dksX2_part_5 8 rfl rfl)
theorem dX2_part_123 : decode cX2_part 123 = .ok (.putfield 112, 3) := dk_181 0 112 (dk_at dksX2_part_5 11 rfl rfl)
theorem dX2_part_126 : decode cX2_part 126 = .ok (.goto 67, 3) := dk_167 0 67 (dk_at dksX2_part_5 14 rfl rfl)
theorem dX2_part_129 : decode cX2_part 129 = .ok (.aload_n 0, 1) := dk_42 (dk_at dksX2_part_5 17 rfl rfl)
theorem dX2_part_130 : decode cX2_part 130 = .ok (.getfield 43, 3) := dk_180 0 43 (dk_at dksX2_part_5 18 rfl rfl)
theorem dX2_part_133 : decode cX2_part 133 = .ok (.aload_n 0, 1) := dk_42 (dk_at dksX2_part_5 21 rfl rfl)
theorem dX2_part_134 : decode cX2_part 134 = .ok (.iconst 0, 1) := dk_3 (dk_at dksX2_part_5 22 rfl rfl)
theorem dX2_part_135 : decode cX2_part 135 = .ok (.bipush 16, 2) := dk_16 16 (dk_at dksX2_part_6 0 rfl rfl)
theorem dX2_part_137 : decode cX2_part 137 = .ok (.invokevirtual 108, 3) := dk_182 0 108 (dk_at dksX2_part_6 2 rfl rfl)
theorem dX2_part_140 : decode cX2_part 140 = .ok (.putfield 115, 3) := dk_181 0 115 (dk_at dksX2_part_6 5 rfl rfl)
theorem dX2_part_143 : decode cX2_part 143 = .ok (.goto 50, 3) := dk_167 0 50 (dk_at dksX2_part_6 8 rfl rfl)
theorem dX2_part_146 : decode cX2_part 146 = .ok (.aload_n 0, 1) := dk_42 (dk_at dksX2_part_6 11 rfl rfl)
theorem dX2_part_147 : decode cX2_part 147 = .ok (.new 118, 3) := dk_187 0 118 (dk_at dksX2_part_6 12 rfl rfl)
theorem dX2_part_150 : decode cX2_part 150 = .ok (.dup, 1) := dk_89 (dk_at dksX2_part_6 15 rfl rfl)
theorem dX2_part_151 : decode cX2_part 151 = .ok (.aload_n 0, 1) := dk_42 (dk_at dksX2_part_6 16 rfl rfl)
theorem dX2_part_152 : decode cX2_part 152 = .ok (.invokevirtual 120, 3) := dk_182 0 120 (dk_at dksX2_part_6 17 rfl rfl)
theorem dX2_part_155 : decode cX2_part 155 = .ok (.invokespecial 123, 3) := dk_183 0 123 (dk_at dksX2_part_6 20 rfl rfl)
theorem dX2_part_158 : decode cX2_part 158 = .ok (.invokevirtual 126, 3) := dk_182 0 126 (dk_at dksX2_part_7 0 rfl rfl)
theorem dX2_part_161 : decode cX2_part 161 = .ok (.goto 32, 3) := dk_167 0 32 (dk_at dksX2_part_7 3 rfl rfl)
theorem dX2_part_164 : decode cX2_part 164 = .ok (.aload_n 0, 1) := dk_42 (dk_at dksX2_part_7 6 rfl rfl)
theorem dX2_part_165 : decode cX2_part 165 = .ok (.new 130, 3) := dk_187 0 130 (dk_at dksX2_part_7 7 rfl rfl)
theorem dX2_part_168 : decode cX2_part 168 = .ok (.dup, 1) := dk_89 (dk_at dksX2_part_7 10 rfl rfl)
theorem dX2_part_169 : decode cX2_part 169 = .ok (.aload_n 0, 1) := dk_42 (dk_at dksX2_part_7 11 rfl rfl)
theorem dX2_part_170 : decode cX2_part 170 = .ok (.invokevirtual 120, 3) := dk_182 0 120 (dk_at dksX2_part_7 12 rfl rfl)
theorem dX2_part_173 : decode cX2_part 173 = .ok (.invokespecial 132, 3) := dk_183 0 132 (dk_at dksX2_part_7 15 rfl rfl)
theorem dX2_part_176 : decode cX2_part 176 = .ok (.invokevirtual 133, 3) := dk_182 0 133 (dk_at dksX2_part_7 18 rfl rfl)
theorem dX2_part_179 : decode cX2_part 179 = .ok (.goto 14, 3) := dk_167 0 14 (dk_at dksX2_part_7 21 rfl rfl)
theorem dX2_part_182 : decode cX2_part 182 = .ok (.aload_n 0, 1) := dk_42 (dk_at dksX2_part_8 0 rfl rfl)
theorem dX2_part_183 : decode cX2_part 183 = .ok (.invokevirtual 137, 3) := dk_182 0 137 (dk_at dksX2_part_8 1 rfl rfl)
theorem dX2_part_186 : decode cX2_part 186 = .ok (.goto 7, 3) := dk_167 0 7 (dk_at dksX2_part_8 4 rfl rfl)
theorem dX2_part_189 : decode cX2_part 189 = .ok (.aload_n 0, 1) := dk_42 (dk_at dksX2_part_8 7 rfl rfl)
theorem dX2_part_190 : decode cX2_part 190 = .ok (.invokevirtual 140, 3) := dk_182 0 140 (dk_at dksX2_part_8 8 rfl rfl)
theorem dX2_part_193 : decode cX2_part 193 = .ok (.return_, 1) := dk_177 (dk_at dksX2_part_8 11 rfl rfl)
abbrev cX2_isFullOf : ByteArray := prog_6_method_10_code
def yX2_isFullOf : MethodName := ⟨RX2, "isFullOf", "(I)Z"⟩
def dkwX2_isFullOf_5 : List UInt8 := [167, 0, 4, 3, 172, 3, 172]
abbrev dktX2_isFullOf_5 : List UInt8 := dkwX2_isFullOf_5 ++ []
def dkwX2_isFullOf_4 : List UInt8 := [160, 0, 7, 4, 167, 0, 4, 3, 172, 42, 180, 0, 43, 180, 0, 97, 16, 6, 160, 0, 7, 4]
abbrev dktX2_isFullOf_4 : List UInt8 := dkwX2_isFullOf_4 ++ dktX2_isFullOf_5
def dkwX2_isFullOf_3 : List UInt8 := [180, 0, 91, 16, 6, 160, 0, 7, 4, 167, 0, 4, 3, 172, 42, 180, 0, 43, 180, 0, 94, 16, 6]
abbrev dktX2_isFullOf_3 : List UInt8 := dkwX2_isFullOf_3 ++ dktX2_isFullOf_4
def dkwX2_isFullOf_2 : List UInt8 := [42, 180, 0, 43, 180, 0, 88, 16, 8, 160, 0, 7, 4, 167, 0, 4, 3, 172, 42, 180, 0, 43]
abbrev dktX2_isFullOf_2 : List UInt8 := dkwX2_isFullOf_2 ++ dktX2_isFullOf_3
def dkwX2_isFullOf_1 : List UInt8 := [170, 0, 0, 0, 0, 0, 103, 0, 0, 0, 2, 0, 0, 0, 5, 0, 0, 0, 31, 0, 0, 0, 49, 0, 0, 0, 67, 0, 0, 0, 85]
abbrev dktX2_isFullOf_1 : List UInt8 := dkwX2_isFullOf_1 ++ dktX2_isFullOf_2
def dkwX2_isFullOf_0 : List UInt8 := [27]
abbrev dktX2_isFullOf_0 : List UInt8 := dkwX2_isFullOf_0 ++ dktX2_isFullOf_1
theorem dksX2_isFullOf_0 : cX2_isFullOf.data.toList.drop 0 = dktX2_isFullOf_0 := by decide +kernel
theorem dksX2_isFullOf_1 : cX2_isFullOf.data.toList.drop 1 = dktX2_isFullOf_1 := dk_seg dksX2_isFullOf_0 1 rfl rfl
theorem dksX2_isFullOf_2 : cX2_isFullOf.data.toList.drop 32 = dktX2_isFullOf_2 := dk_seg dksX2_isFullOf_1 31 rfl rfl
theorem dksX2_isFullOf_3 : cX2_isFullOf.data.toList.drop 54 = dktX2_isFullOf_3 := dk_seg dksX2_isFullOf_2 22 rfl rfl
theorem dksX2_isFullOf_4 : cX2_isFullOf.data.toList.drop 77 = dktX2_isFullOf_4 := dk_seg dksX2_isFullOf_3 23 rfl rfl
theorem dksX2_isFullOf_5 : cX2_isFullOf.data.toList.drop 99 = dktX2_isFullOf_5 := dk_seg dksX2_isFullOf_4 22 rfl rfl
theorem dX2_isFullOf_0 : decode cX2_isFullOf 0 = .ok (.iload_n 1, 1) := dk_27 (dk_at dksX2_isFullOf_0 0 rfl rfl)
theorem dX2_isFullOf_1 : decode cX2_isFullOf 1 = .ok (.tableswitch 103 2 5 #[31, 49, 67, 85], 31) := by decide +kernel
theorem dX2_isFullOf_32 : decode cX2_isFullOf 32 = .ok (.aload_n 0, 1) := dk_42 (dk_at dksX2_isFullOf_2 0 rfl rfl)
theorem dX2_isFullOf_33 : decode cX2_isFullOf 33 = .ok (.getfield 43, 3) := dk_180 0 43 (dk_at dksX2_isFullOf_2 1 rfl rfl)
theorem dX2_isFullOf_36 : decode cX2_isFullOf 36 = .ok (.getfield 88, 3) := dk_180 0 88 (dk_at dksX2_isFullOf_2 4 rfl rfl)
theorem dX2_isFullOf_39 : decode cX2_isFullOf 39 = .ok (.bipush 8, 2) := dk_16 8 (dk_at dksX2_isFullOf_2 7 rfl rfl)
theorem dX2_isFullOf_41 : decode cX2_isFullOf 41 = .ok (.if_icmp .ne 7, 3) := dk_160 0 7 (dk_at dksX2_isFullOf_2 9 rfl rfl)
theorem dX2_isFullOf_44 : decode cX2_isFullOf 44 = .ok (.iconst 1, 1) := dk_4 (dk_at dksX2_isFullOf_2 12 rfl rfl)
theorem dX2_isFullOf_45 : decode cX2_isFullOf 45 = .ok (.goto 4, 3) := dk_167 0 4 (dk_at dksX2_isFullOf_2 13 rfl rfl)
theorem dX2_isFullOf_48 : decode cX2_isFullOf 48 = .ok (.iconst 0, 1) := dk_3 (dk_at dksX2_isFullOf_2 16 rfl rfl)
theorem dX2_isFullOf_49 : decode cX2_isFullOf 49 = .ok (.ireturn, 1) := dk_172 (dk_at dksX2_isFullOf_2 17 rfl rfl)
theorem dX2_isFullOf_50 : decode cX2_isFullOf 50 = .ok (.aload_n 0, 1) := dk_42 (dk_at dksX2_isFullOf_2 18 rfl rfl)
theorem dX2_isFullOf_51 : decode cX2_isFullOf 51 = .ok (.getfield 43, 3) := dk_180 0 43 (dk_at dksX2_isFullOf_2 19 rfl rfl)
theorem dX2_isFullOf_54 : decode cX2_isFullOf 54 = .ok (.getfield 91, 3) := dk_180 0 91 (dk_at dksX2_isFullOf_3 0 rfl rfl)
theorem dX2_isFullOf_57 : decode cX2_isFullOf 57 = .ok (.bipush 6, 2) := dk_16 6 (dk_at dksX2_isFullOf_3 3 rfl rfl)
theorem dX2_isFullOf_59 : decode cX2_isFullOf 59 = .ok (.if_icmp .ne 7, 3) := dk_160 0 7 (dk_at dksX2_isFullOf_3 5 rfl rfl)
theorem dX2_isFullOf_62 : decode cX2_isFullOf 62 = .ok (.iconst 1, 1) := dk_4 (dk_at dksX2_isFullOf_3 8 rfl rfl)
theorem dX2_isFullOf_63 : decode cX2_isFullOf 63 = .ok (.goto 4, 3) := dk_167 0 4 (dk_at dksX2_isFullOf_3 9 rfl rfl)
theorem dX2_isFullOf_66 : decode cX2_isFullOf 66 = .ok (.iconst 0, 1) := dk_3 (dk_at dksX2_isFullOf_3 12 rfl rfl)
theorem dX2_isFullOf_67 : decode cX2_isFullOf 67 = .ok (.ireturn, 1) := dk_172 (dk_at dksX2_isFullOf_3 13 rfl rfl)
theorem dX2_isFullOf_68 : decode cX2_isFullOf 68 = .ok (.aload_n 0, 1) := dk_42 (dk_at dksX2_isFullOf_3 14 rfl rfl)
theorem dX2_isFullOf_69 : decode cX2_isFullOf 69 = .ok (.getfield 43, 3) := dk_180 0 43 (dk_at dksX2_isFullOf_3 15 rfl rfl)
theorem dX2_isFullOf_72 : decode cX2_isFullOf 72 = .ok (.getfield 94, 3) := dk_180 0 94 (dk_at dksX2_isFullOf_3 18 rfl rfl)
theorem dX2_isFullOf_75 : decode cX2_isFullOf 75 = .ok (.bipush 6, 2) := dk_16 6 (dk_at dksX2_isFullOf_3 21 rfl rfl)
theorem dX2_isFullOf_77 : decode cX2_isFullOf 77 = .ok (.if_icmp .ne 7, 3) := dk_160 0 7 (dk_at dksX2_isFullOf_4 0 rfl rfl)
theorem dX2_isFullOf_80 : decode cX2_isFullOf 80 = .ok (.iconst 1, 1) := dk_4 (dk_at dksX2_isFullOf_4 3 rfl rfl)
theorem dX2_isFullOf_81 : decode cX2_isFullOf 81 = .ok (.goto 4, 3) := dk_167 0 4 (dk_at dksX2_isFullOf_4 4 rfl rfl)
theorem dX2_isFullOf_84 : decode cX2_isFullOf 84 = .ok (.iconst 0, 1) := dk_3 (dk_at dksX2_isFullOf_4 7 rfl rfl)
theorem dX2_isFullOf_85 : decode cX2_isFullOf 85 = .ok (.ireturn, 1) := dk_172 (dk_at dksX2_isFullOf_4 8 rfl rfl)
theorem dX2_isFullOf_86 : decode cX2_isFullOf 86 = .ok (.aload_n 0, 1) := dk_42 (dk_at dksX2_isFullOf_4 9 rfl rfl)
theorem dX2_isFullOf_87 : decode cX2_isFullOf 87 = .ok (.getfield 43, 3) := dk_180 0 43 (dk_at dksX2_isFullOf_4 10 rfl rfl)
theorem dX2_isFullOf_90 : decode cX2_isFullOf 90 = .ok (.getfield 97, 3) := dk_180 0 97 (dk_at dksX2_isFullOf_4 13 rfl rfl)
theorem dX2_isFullOf_93 : decode cX2_isFullOf 93 = .ok (.bipush 6, 2) := dk_16 6 (dk_at dksX2_isFullOf_4 16 rfl rfl)
theorem dX2_isFullOf_95 : decode cX2_isFullOf 95 = .ok (.if_icmp .ne 7, 3) := dk_160 0 7 (dk_at dksX2_isFullOf_4 18 rfl rfl)
theorem dX2_isFullOf_98 : decode cX2_isFullOf 98 = .ok (.iconst 1, 1) := dk_4 (dk_at dksX2_isFullOf_4 21 rfl rfl)
theorem dX2_isFullOf_99 : decode cX2_isFullOf 99 = .ok (.goto 4, 3) := dk_167 0 4 (dk_at dksX2_isFullOf_5 0 rfl rfl)
theorem dX2_isFullOf_102 : decode cX2_isFullOf 102 = .ok (.iconst 0, 1) := dk_3 (dk_at dksX2_isFullOf_5 3 rfl rfl)
theorem dX2_isFullOf_103 : decode cX2_isFullOf 103 = .ok (.ireturn, 1) := dk_172 (dk_at dksX2_isFullOf_5 4 rfl rfl)
theorem dX2_isFullOf_104 : decode cX2_isFullOf 104 = .ok (.iconst 0, 1) := dk_3 (dk_at dksX2_isFullOf_5 5 rfl rfl)
theorem dX2_isFullOf_105 : decode cX2_isFullOf 105 = .ok (.ireturn, 1) := dk_172 (dk_at dksX2_isFullOf_5 6 rfl rfl)
abbrev cX2_newName : ByteArray := prog_6_method_12_code
def yX2_newName : MethodName := ⟨RX2, "newName", "()J"⟩
def dkwX2_newName_1 : List UInt8 := [182, 0, 51, 2, 159, 0, 9, 42, 6, 182, 0, 39, 191, 42, 182, 0, 36, 31, 173]
abbrev dktX2_newName_1 : List UInt8 := dkwX2_newName_1 ++ []
def dkwX2_newName_0 : List UInt8 := [42, 182, 0, 47, 64, 42, 180, 0, 43, 31, 182, 0, 61, 2, 160, 0, 15, 42, 180, 0, 43, 31]
abbrev dktX2_newName_0 : List UInt8 := dkwX2_newName_0 ++ dktX2_newName_1
theorem dksX2_newName_0 : cX2_newName.data.toList.drop 0 = dktX2_newName_0 := by decide +kernel
theorem dksX2_newName_1 : cX2_newName.data.toList.drop 22 = dktX2_newName_1 := dk_seg dksX2_newName_0 22 rfl rfl
theorem dX2_newName_0 : decode cX2_newName 0 = .ok (.aload_n 0, 1) := dk_42 (dk_at dksX2_newName_0 0 rfl rfl)
theorem dX2_newName_1 : decode cX2_newName 1 = .ok (.invokevirtual 47, 3) := dk_182 0 47 (dk_at dksX2_newName_0 1 rfl rfl)
theorem dX2_newName_4 : decode cX2_newName 4 = .ok (.lstore_n 1, 1) := dk_64 (dk_at dksX2_newName_0 4 rfl rfl)
theorem dX2_newName_5 : decode cX2_newName 5 = .ok (.aload_n 0, 1) := dk_42 (dk_at dksX2_newName_0 5 rfl rfl)
theorem dX2_newName_6 : decode cX2_newName 6 = .ok (.getfield 43, 3) := dk_180 0 43 (dk_at dksX2_newName_0 6 rfl rfl)
theorem dX2_newName_9 : decode cX2_newName 9 = .ok (.lload_n 1, 1) := dk_31 (dk_at dksX2_newName_0 9 rfl rfl)
theorem dX2_newName_10 : decode cX2_newName 10 = .ok (.invokevirtual 61, 3) := dk_182 0 61 (dk_at dksX2_newName_0 10 rfl rfl)
theorem dX2_newName_13 : decode cX2_newName 13 = .ok (.iconst (-1), 1) := dk_2 (dk_at dksX2_newName_0 13 rfl rfl)
theorem dX2_newName_14 : decode cX2_newName 14 = .ok (.if_icmp .ne 15, 3) := dk_160 0 15 (dk_at dksX2_newName_0 14 rfl rfl)
theorem dX2_newName_17 : decode cX2_newName 17 = .ok (.aload_n 0, 1) := dk_42 (dk_at dksX2_newName_0 17 rfl rfl)
theorem dX2_newName_18 : decode cX2_newName 18 = .ok (.getfield 43, 3) := dk_180 0 43 (dk_at dksX2_newName_0 18 rfl rfl)
theorem dX2_newName_21 : decode cX2_newName 21 = .ok (.lload_n 1, 1) := dk_31 (dk_at dksX2_newName_0 21 rfl rfl)
theorem dX2_newName_22 : decode cX2_newName 22 = .ok (.invokevirtual 51, 3) := dk_182 0 51 (dk_at dksX2_newName_1 0 rfl rfl)
theorem dX2_newName_25 : decode cX2_newName 25 = .ok (.iconst (-1), 1) := dk_2 (dk_at dksX2_newName_1 3 rfl rfl)
theorem dX2_newName_26 : decode cX2_newName 26 = .ok (.if_icmp .eq 9, 3) := dk_159 0 9 (dk_at dksX2_newName_1 4 rfl rfl)
theorem dX2_newName_29 : decode cX2_newName 29 = .ok (.aload_n 0, 1) := dk_42 (dk_at dksX2_newName_1 7 rfl rfl)
theorem dX2_newName_30 : decode cX2_newName 30 = .ok (.iconst 3, 1) := dk_6 (dk_at dksX2_newName_1 8 rfl rfl)
theorem dX2_newName_31 : decode cX2_newName 31 = .ok (.invokevirtual 39, 3) := dk_182 0 39 (dk_at dksX2_newName_1 9 rfl rfl)
theorem dX2_newName_34 : decode cX2_newName 34 = .ok (.athrow, 1) := dk_191 (dk_at dksX2_newName_1 12 rfl rfl)
theorem dX2_newName_35 : decode cX2_newName 35 = .ok (.aload_n 0, 1) := dk_42 (dk_at dksX2_newName_1 13 rfl rfl)
theorem dX2_newName_36 : decode cX2_newName 36 = .ok (.invokevirtual 36, 3) := dk_182 0 36 (dk_at dksX2_newName_1 14 rfl rfl)
theorem dX2_newName_39 : decode cX2_newName 39 = .ok (.lload_n 1, 1) := dk_31 (dk_at dksX2_newName_1 17 rfl rfl)
theorem dX2_newName_40 : decode cX2_newName 40 = .ok (.lreturn, 1) := dk_173 (dk_at dksX2_newName_1 18 rfl rfl)
abbrev cX2_newWord : ByteArray := prog_6_method_13_code
def yX2_newWord : MethodName := ⟨RX2, "newWord", "(LHairProvince$Word;)V"⟩
def dkwX2_newWord_2 : List UInt8 := [42, 180, 0, 43, 180, 0, 88, 43, 83, 42, 180, 0, 43, 89, 180, 0, 88, 4, 96, 181, 0, 88, 177]
abbrev dktX2_newWord_2 : List UInt8 := dkwX2_newWord_2 ++ []
def dkwX2_newWord_1 : List UInt8 := [182, 0, 143, 153, 0, 14, 43, 42, 4, 16, 99, 182, 0, 108, 181, 0, 149, 42, 180, 0, 43, 180, 0, 152]
abbrev dktX2_newWord_1 : List UInt8 := dkwX2_newWord_1 ++ dktX2_newWord_2
def dkwX2_newWord_0 : List UInt8 := [42, 16, 6, 182, 0, 143, 153, 0, 14, 43, 42, 4, 16, 9, 182, 0, 108, 181, 0, 146, 42, 16, 7]
abbrev dktX2_newWord_0 : List UInt8 := dkwX2_newWord_0 ++ dktX2_newWord_1
theorem dksX2_newWord_0 : cX2_newWord.data.toList.drop 0 = dktX2_newWord_0 := by decide +kernel
theorem dksX2_newWord_1 : cX2_newWord.data.toList.drop 23 = dktX2_newWord_1 := dk_seg dksX2_newWord_0 23 rfl rfl
theorem dksX2_newWord_2 : cX2_newWord.data.toList.drop 47 = dktX2_newWord_2 := dk_seg dksX2_newWord_1 24 rfl rfl
theorem dX2_newWord_0 : decode cX2_newWord 0 = .ok (.aload_n 0, 1) := dk_42 (dk_at dksX2_newWord_0 0 rfl rfl)
theorem dX2_newWord_1 : decode cX2_newWord 1 = .ok (.bipush 6, 2) := dk_16 6 (dk_at dksX2_newWord_0 1 rfl rfl)
theorem dX2_newWord_3 : decode cX2_newWord 3 = .ok (.invokevirtual 143, 3) := dk_182 0 143 (dk_at dksX2_newWord_0 3 rfl rfl)
theorem dX2_newWord_6 : decode cX2_newWord 6 = .ok (.ifCond .eq 14, 3) := dk_153 0 14 (dk_at dksX2_newWord_0 6 rfl rfl)
theorem dX2_newWord_9 : decode cX2_newWord 9 = .ok (.aload_n 1, 1) := dk_43 (dk_at dksX2_newWord_0 9 rfl rfl)
theorem dX2_newWord_10 : decode cX2_newWord 10 = .ok (.aload_n 0, 1) := dk_42 (dk_at dksX2_newWord_0 10 rfl rfl)
theorem dX2_newWord_11 : decode cX2_newWord 11 = .ok (.iconst 1, 1) := dk_4 (dk_at dksX2_newWord_0 11 rfl rfl)
theorem dX2_newWord_12 : decode cX2_newWord 12 = .ok (.bipush 9, 2) := dk_16 9 (dk_at dksX2_newWord_0 12 rfl rfl)
theorem dX2_newWord_14 : decode cX2_newWord 14 = .ok (.invokevirtual 108, 3) := dk_182 0 108 (dk_at dksX2_newWord_0 14 rfl rfl)
theorem dX2_newWord_17 : decode cX2_newWord 17 = .ok (.putfield 146, 3) := dk_181 0 146 (dk_at dksX2_newWord_0 17 rfl rfl)
theorem dX2_newWord_20 : decode cX2_newWord 20 = .ok (.aload_n 0, 1) := dk_42 (dk_at dksX2_newWord_0 20 rfl rfl)
theorem dX2_newWord_21 : decode cX2_newWord 21 = .ok (.bipush 7, 2) := dk_16 7 (dk_at dksX2_newWord_0 21 rfl rfl)
theorem dX2_newWord_23 : decode cX2_newWord 23 = .ok (.invokevirtual 143, 3) := dk_182 0 143 (dk_at dksX2_newWord_1 0 rfl rfl)
theorem dX2_newWord_26 : decode cX2_newWord 26 = .ok (.ifCond .eq 14, 3) := dk_153 0 14 (dk_at dksX2_newWord_1 3 rfl rfl)
theorem dX2_newWord_29 : decode cX2_newWord 29 = .ok (.aload_n 1, 1) := dk_43 (dk_at dksX2_newWord_1 6 rfl rfl)
theorem dX2_newWord_30 : decode cX2_newWord 30 = .ok (.aload_n 0, 1) := dk_42 (dk_at dksX2_newWord_1 7 rfl rfl)
theorem dX2_newWord_31 : decode cX2_newWord 31 = .ok (.iconst 1, 1) := dk_4 (dk_at dksX2_newWord_1 8 rfl rfl)
theorem dX2_newWord_32 : decode cX2_newWord 32 = .ok (.bipush 99, 2) := dk_16 99 (dk_at dksX2_newWord_1 9 rfl rfl)
theorem dX2_newWord_34 : decode cX2_newWord 34 = .ok (.invokevirtual 108, 3) := dk_182 0 108 (dk_at dksX2_newWord_1 11 rfl rfl)
theorem dX2_newWord_37 : decode cX2_newWord 37 = .ok (.putfield 149, 3) := dk_181 0 149 (dk_at dksX2_newWord_1 14 rfl rfl)
theorem dX2_newWord_40 : decode cX2_newWord 40 = .ok (.aload_n 0, 1) := dk_42 (dk_at dksX2_newWord_1 17 rfl rfl)
theorem dX2_newWord_41 : decode cX2_newWord 41 = .ok (.getfield 43, 3) := dk_180 0 43 (dk_at dksX2_newWord_1 18 rfl rfl)
theorem dX2_newWord_44 : decode cX2_newWord 44 = .ok (.getfield 152, 3) := dk_180 0 152 (dk_at dksX2_newWord_1 21 rfl rfl)
theorem dX2_newWord_47 : decode cX2_newWord 47 = .ok (.aload_n 0, 1) := dk_42 (dk_at dksX2_newWord_2 0 rfl rfl)
theorem dX2_newWord_48 : decode cX2_newWord 48 = .ok (.getfield 43, 3) := dk_180 0 43 (dk_at dksX2_newWord_2 1 rfl rfl)
theorem dX2_newWord_51 : decode cX2_newWord 51 = .ok (.getfield 88, 3) := dk_180 0 88 (dk_at dksX2_newWord_2 4 rfl rfl)
theorem dX2_newWord_54 : decode cX2_newWord 54 = .ok (.aload_n 1, 1) := dk_43 (dk_at dksX2_newWord_2 7 rfl rfl)
theorem dX2_newWord_55 : decode cX2_newWord 55 = .ok (.aastore, 1) := dk_83 (dk_at dksX2_newWord_2 8 rfl rfl)
theorem dX2_newWord_56 : decode cX2_newWord 56 = .ok (.aload_n 0, 1) := dk_42 (dk_at dksX2_newWord_2 9 rfl rfl)
theorem dX2_newWord_57 : decode cX2_newWord 57 = .ok (.getfield 43, 3) := dk_180 0 43 (dk_at dksX2_newWord_2 10 rfl rfl)
theorem dX2_newWord_60 : decode cX2_newWord 60 = .ok (.dup, 1) := dk_89 (dk_at dksX2_newWord_2 13 rfl rfl)
theorem dX2_newWord_61 : decode cX2_newWord 61 = .ok (.getfield 88, 3) := dk_180 0 88 (dk_at dksX2_newWord_2 14 rfl rfl)
theorem dX2_newWord_64 : decode cX2_newWord 64 = .ok (.iconst 1, 1) := dk_4 (dk_at dksX2_newWord_2 17 rfl rfl)
theorem dX2_newWord_65 : decode cX2_newWord 65 = .ok (.iadd, 1) := dk_96 (dk_at dksX2_newWord_2 18 rfl rfl)
theorem dX2_newWord_66 : decode cX2_newWord 66 = .ok (.putfield 88, 3) := dk_181 0 88 (dk_at dksX2_newWord_2 19 rfl rfl)
theorem dX2_newWord_69 : decode cX2_newWord 69 = .ok (.return_, 1) := dk_177 (dk_at dksX2_newWord_2 22 rfl rfl)
abbrev cX2_isNext : ByteArray := prog_6_method_4_code
def yX2_isNext : MethodName := ⟨RX2, "isNext", "(I)Z"⟩
def dkwX2_isNext_0 : List UInt8 := [42, 182, 0, 28, 27, 159, 0, 5, 3, 172, 42, 182, 0, 36, 4, 172]
abbrev dktX2_isNext_0 : List UInt8 := dkwX2_isNext_0 ++ []
theorem dksX2_isNext_0 : cX2_isNext.data.toList.drop 0 = dktX2_isNext_0 := by decide +kernel
theorem dX2_isNext_0 : decode cX2_isNext 0 = .ok (.aload_n 0, 1) := dk_42 (dk_at dksX2_isNext_0 0 rfl rfl)
theorem dX2_isNext_1 : decode cX2_isNext 1 = .ok (.invokevirtual 28, 3) := dk_182 0 28 (dk_at dksX2_isNext_0 1 rfl rfl)
theorem dX2_isNext_4 : decode cX2_isNext 4 = .ok (.iload_n 1, 1) := dk_27 (dk_at dksX2_isNext_0 4 rfl rfl)
theorem dX2_isNext_5 : decode cX2_isNext 5 = .ok (.if_icmp .eq 5, 3) := dk_159 0 5 (dk_at dksX2_isNext_0 5 rfl rfl)
theorem dX2_isNext_8 : decode cX2_isNext 8 = .ok (.iconst 0, 1) := dk_3 (dk_at dksX2_isNext_0 8 rfl rfl)
theorem dX2_isNext_9 : decode cX2_isNext 9 = .ok (.ireturn, 1) := dk_172 (dk_at dksX2_isNext_0 9 rfl rfl)
theorem dX2_isNext_10 : decode cX2_isNext 10 = .ok (.aload_n 0, 1) := dk_42 (dk_at dksX2_isNext_0 10 rfl rfl)
theorem dX2_isNext_11 : decode cX2_isNext 11 = .ok (.invokevirtual 36, 3) := dk_182 0 36 (dk_at dksX2_isNext_0 11 rfl rfl)
theorem dX2_isNext_14 : decode cX2_isNext 14 = .ok (.iconst 1, 1) := dk_4 (dk_at dksX2_isNext_0 14 rfl rfl)
theorem dX2_isNext_15 : decode cX2_isNext 15 = .ok (.ireturn, 1) := dk_172 (dk_at dksX2_isNext_0 15 rfl rfl)
abbrev cX2_newPerson : ByteArray := prog_6_method_14_code
def yX2_newPerson : MethodName := ⟨RX2, "newPerson", "(LHairProvince$Person;)V"⟩
def dkwX2_newPerson_5 : List UInt8 := [180, 0, 43, 180, 0, 91, 43, 83, 42, 180, 0, 43, 89, 180, 0, 91, 4, 96, 181, 0, 91, 177]
abbrev dktX2_newPerson_5 : List UInt8 := dkwX2_newPerson_5 ++ []
def dkwX2_newPerson_4 : List UInt8 := [120, 128, 181, 0, 163, 167, 255, 198, 43, 43, 180, 0, 163, 181, 0, 166, 42, 180, 0, 43, 180, 0, 169, 42]
abbrev dktX2_newPerson_4 : List UInt8 := dkwX2_newPerson_4 ++ dktX2_newPerson_5
def dkwX2_newPerson_3 : List UInt8 := [28, 184, 0, 100, 153, 0, 9, 42, 8, 182, 0, 39, 191, 43, 89, 180, 0, 163, 4, 42, 28, 182, 0, 57]
abbrev dktX2_newPerson_3 : List UInt8 := dkwX2_newPerson_3 ++ dktX2_newPerson_4
def dkwX2_newPerson_2 : List UInt8 := [160, 0, 56, 42, 180, 0, 43, 42, 182, 0, 47, 182, 0, 61, 61, 28, 2, 159, 0, 20, 43, 180, 0, 163]
abbrev dktX2_newPerson_2 : List UInt8 := dkwX2_newPerson_2 ++ dktX2_newPerson_3
def dkwX2_newPerson_1 : List UInt8 := [16, 9, 182, 0, 143, 181, 0, 159, 42, 16, 10, 182, 0, 143, 153, 0, 64, 42, 180, 0, 79, 5]
abbrev dktX2_newPerson_1 : List UInt8 := dkwX2_newPerson_1 ++ dktX2_newPerson_2
def dkwX2_newPerson_0 : List UInt8 := [42, 16, 8, 182, 0, 143, 153, 0, 15, 43, 42, 3, 17, 3, 231, 182, 0, 108, 181, 0, 156, 43, 42]
abbrev dktX2_newPerson_0 : List UInt8 := dkwX2_newPerson_0 ++ dktX2_newPerson_1
theorem dksX2_newPerson_0 : cX2_newPerson.data.toList.drop 0 = dktX2_newPerson_0 := by decide +kernel
theorem dksX2_newPerson_1 : cX2_newPerson.data.toList.drop 23 = dktX2_newPerson_1 := dk_seg dksX2_newPerson_0 23 rfl rfl
theorem dksX2_newPerson_2 : cX2_newPerson.data.toList.drop 45 = dktX2_newPerson_2 := dk_seg dksX2_newPerson_1 22 rfl rfl
theorem dksX2_newPerson_3 : cX2_newPerson.data.toList.drop 69 = dktX2_newPerson_3 := dk_seg dksX2_newPerson_2 24 rfl rfl
theorem dksX2_newPerson_4 : cX2_newPerson.data.toList.drop 93 = dktX2_newPerson_4 := dk_seg dksX2_newPerson_3 24 rfl rfl
theorem dksX2_newPerson_5 : cX2_newPerson.data.toList.drop 117 = dktX2_newPerson_5 := dk_seg dksX2_newPerson_4 24 rfl rfl
theorem dX2_newPerson_0 : decode cX2_newPerson 0 = .ok (.aload_n 0, 1) := dk_42 (dk_at dksX2_newPerson_0 0 rfl rfl)
theorem dX2_newPerson_1 : decode cX2_newPerson 1 = .ok (.bipush 8, 2) := dk_16 8 (dk_at dksX2_newPerson_0 1 rfl rfl)
theorem dX2_newPerson_3 : decode cX2_newPerson 3 = .ok (.invokevirtual 143, 3) := dk_182 0 143 (dk_at dksX2_newPerson_0 3 rfl rfl)
theorem dX2_newPerson_6 : decode cX2_newPerson 6 = .ok (.ifCond .eq 15, 3) := dk_153 0 15 (dk_at dksX2_newPerson_0 6 rfl rfl)
theorem dX2_newPerson_9 : decode cX2_newPerson 9 = .ok (.aload_n 1, 1) := dk_43 (dk_at dksX2_newPerson_0 9 rfl rfl)
theorem dX2_newPerson_10 : decode cX2_newPerson 10 = .ok (.aload_n 0, 1) := dk_42 (dk_at dksX2_newPerson_0 10 rfl rfl)
theorem dX2_newPerson_11 : decode cX2_newPerson 11 = .ok (.iconst 0, 1) := dk_3 (dk_at dksX2_newPerson_0 11 rfl rfl)
theorem dX2_newPerson_12 : decode cX2_newPerson 12 = .ok (.sipush 999, 3) := dk_17 3 231 (dk_at dksX2_newPerson_0 12 rfl rfl)
theorem dX2_newPerson_15 : decode cX2_newPerson 15 = .ok (.invokevirtual 108, 3) := dk_182 0 108 (dk_at dksX2_newPerson_0 15 rfl rfl)
theorem dX2_newPerson_18 : decode cX2_newPerson 18 = .ok (.putfield 156, 3) := dk_181 0 156 (dk_at dksX2_newPerson_0 18 rfl rfl)
theorem dX2_newPerson_21 : decode cX2_newPerson 21 = .ok (.aload_n 1, 1) := dk_43 (dk_at dksX2_newPerson_0 21 rfl rfl)
theorem dX2_newPerson_22 : decode cX2_newPerson 22 = .ok (.aload_n 0, 1) := dk_42 (dk_at dksX2_newPerson_0 22 rfl rfl)
theorem dX2_newPerson_23 : decode cX2_newPerson 23 = .ok (.bipush 9, 2) := dk_16 9 (dk_at dksX2_newPerson_1 0 rfl rfl)
theorem dX2_newPerson_25 : decode cX2_newPerson 25 = .ok (.invokevirtual 143, 3) := dk_182 0 143 (dk_at dksX2_newPerson_1 2 rfl rfl)
theorem dX2_newPerson_28 : decode cX2_newPerson 28 = .ok (.putfield 159, 3) := dk_181 0 159 (dk_at dksX2_newPerson_1 5 rfl rfl)
theorem dX2_newPerson_31 : decode cX2_newPerson 31 = .ok (.aload_n 0, 1) := dk_42 (dk_at dksX2_newPerson_1 8 rfl rfl)
theorem dX2_newPerson_32 : decode cX2_newPerson 32 = .ok (.bipush 10, 2) := dk_16 10 (dk_at dksX2_newPerson_1 9 rfl rfl)
theorem dX2_newPerson_34 : decode cX2_newPerson 34 = .ok (.invokevirtual 143, 3) := dk_182 0 143 (dk_at dksX2_newPerson_1 11 rfl rfl)
theorem dX2_newPerson_37 : decode cX2_newPerson 37 = .ok (.ifCond .eq 64, 3) := dk_153 0 64 (dk_at dksX2_newPerson_1 14 rfl rfl)
theorem dX2_newPerson_40 : decode cX2_newPerson 40 = .ok (.aload_n 0, 1) := dk_42 (dk_at dksX2_newPerson_1 17 rfl rfl)
theorem dX2_newPerson_41 : decode cX2_newPerson 41 = .ok (.getfield 79, 3) := dk_180 0 79 (dk_at dksX2_newPerson_1 18 rfl rfl)
theorem dX2_newPerson_44 : decode cX2_newPerson 44 = .ok (.iconst 2, 1) := dk_5 (dk_at dksX2_newPerson_1 21 rfl rfl)
theorem dX2_newPerson_45 : decode cX2_newPerson 45 = .ok (.if_icmp .ne 56, 3) := dk_160 0 56 (dk_at dksX2_newPerson_2 0 rfl rfl)
theorem dX2_newPerson_48 : decode cX2_newPerson 48 = .ok (.aload_n 0, 1) := dk_42 (dk_at dksX2_newPerson_2 3 rfl rfl)
theorem dX2_newPerson_49 : decode cX2_newPerson 49 = .ok (.getfield 43, 3) := dk_180 0 43 (dk_at dksX2_newPerson_2 4 rfl rfl)
theorem dX2_newPerson_52 : decode cX2_newPerson 52 = .ok (.aload_n 0, 1) := dk_42 (dk_at dksX2_newPerson_2 7 rfl rfl)
theorem dX2_newPerson_53 : decode cX2_newPerson 53 = .ok (.invokevirtual 47, 3) := dk_182 0 47 (dk_at dksX2_newPerson_2 8 rfl rfl)
theorem dX2_newPerson_56 : decode cX2_newPerson 56 = .ok (.invokevirtual 61, 3) := dk_182 0 61 (dk_at dksX2_newPerson_2 11 rfl rfl)
theorem dX2_newPerson_59 : decode cX2_newPerson 59 = .ok (.istore_n 2, 1) := dk_61 (dk_at dksX2_newPerson_2 14 rfl rfl)
theorem dX2_newPerson_60 : decode cX2_newPerson 60 = .ok (.iload_n 2, 1) := dk_28 (dk_at dksX2_newPerson_2 15 rfl rfl)
theorem dX2_newPerson_61 : decode cX2_newPerson 61 = .ok (.iconst (-1), 1) := dk_2 (dk_at dksX2_newPerson_2 16 rfl rfl)
theorem dX2_newPerson_62 : decode cX2_newPerson 62 = .ok (.if_icmp .eq 20, 3) := dk_159 0 20 (dk_at dksX2_newPerson_2 17 rfl rfl)
theorem dX2_newPerson_65 : decode cX2_newPerson 65 = .ok (.aload_n 1, 1) := dk_43 (dk_at dksX2_newPerson_2 20 rfl rfl)
theorem dX2_newPerson_66 : decode cX2_newPerson 66 = .ok (.getfield 163, 3) := dk_180 0 163 (dk_at dksX2_newPerson_2 21 rfl rfl)
theorem dX2_newPerson_69 : decode cX2_newPerson 69 = .ok (.iload_n 2, 1) := dk_28 (dk_at dksX2_newPerson_3 0 rfl rfl)
theorem dX2_newPerson_70 : decode cX2_newPerson 70 = .ok (.invokestatic 100, 3) := dk_184 0 100 (dk_at dksX2_newPerson_3 1 rfl rfl)
theorem dX2_newPerson_73 : decode cX2_newPerson 73 = .ok (.ifCond .eq 9, 3) := dk_153 0 9 (dk_at dksX2_newPerson_3 4 rfl rfl)
theorem dX2_newPerson_76 : decode cX2_newPerson 76 = .ok (.aload_n 0, 1) := dk_42 (dk_at dksX2_newPerson_3 7 rfl rfl)
theorem dX2_newPerson_77 : decode cX2_newPerson 77 = .ok (.iconst 5, 1) := dk_8 (dk_at dksX2_newPerson_3 8 rfl rfl)
theorem dX2_newPerson_78 : decode cX2_newPerson 78 = .ok (.invokevirtual 39, 3) := dk_182 0 39 (dk_at dksX2_newPerson_3 9 rfl rfl)
theorem dX2_newPerson_81 : decode cX2_newPerson 81 = .ok (.athrow, 1) := dk_191 (dk_at dksX2_newPerson_3 12 rfl rfl)
theorem dX2_newPerson_82 : decode cX2_newPerson 82 = .ok (.aload_n 1, 1) := dk_43 (dk_at dksX2_newPerson_3 13 rfl rfl)
theorem dX2_newPerson_83 : decode cX2_newPerson 83 = .ok (.dup, 1) := dk_89 (dk_at dksX2_newPerson_3 14 rfl rfl)
theorem dX2_newPerson_84 : decode cX2_newPerson 84 = .ok (.getfield 163, 3) := dk_180 0 163 (dk_at dksX2_newPerson_3 15 rfl rfl)
theorem dX2_newPerson_87 : decode cX2_newPerson 87 = .ok (.iconst 1, 1) := dk_4 (dk_at dksX2_newPerson_3 18 rfl rfl)
theorem dX2_newPerson_88 : decode cX2_newPerson 88 = .ok (.aload_n 0, 1) := dk_42 (dk_at dksX2_newPerson_3 19 rfl rfl)
theorem dX2_newPerson_89 : decode cX2_newPerson 89 = .ok (.iload_n 2, 1) := dk_28 (dk_at dksX2_newPerson_3 20 rfl rfl)
theorem dX2_newPerson_90 : decode cX2_newPerson 90 = .ok (.invokevirtual 57, 3) := dk_182 0 57 (dk_at dksX2_newPerson_3 21 rfl rfl)
theorem dX2_newPerson_93 : decode cX2_newPerson 93 = .ok (.ishl, 1) := dk_120 (dk_at dksX2_newPerson_4 0 rfl rfl)
theorem dX2_newPerson_94 : decode cX2_newPerson 94 = .ok (.ior, 1) := dk_128 (dk_at dksX2_newPerson_4 1 rfl rfl)
theorem dX2_newPerson_95 : decode cX2_newPerson 95 = .ok (.putfield 163, 3) := dk_181 0 163 (dk_at dksX2_newPerson_4 2 rfl rfl)
theorem dX2_newPerson_98 : decode cX2_newPerson 98 = .ok (.goto (-58), 3) := dk_167 255 198 (dk_at dksX2_newPerson_4 5 rfl rfl)
theorem dX2_newPerson_101 : decode cX2_newPerson 101 = .ok (.aload_n 1, 1) := dk_43 (dk_at dksX2_newPerson_4 8 rfl rfl)
theorem dX2_newPerson_102 : decode cX2_newPerson 102 = .ok (.aload_n 1, 1) := dk_43 (dk_at dksX2_newPerson_4 9 rfl rfl)
theorem dX2_newPerson_103 : decode cX2_newPerson 103 = .ok (.getfield 163, 3) := dk_180 0 163 (dk_at dksX2_newPerson_4 10 rfl rfl)
theorem dX2_newPerson_106 : decode cX2_newPerson 106 = .ok (.putfield 166, 3) := dk_181 0 166 (dk_at dksX2_newPerson_4 13 rfl rfl)
theorem dX2_newPerson_109 : decode cX2_newPerson 109 = .ok (.aload_n 0, 1) := dk_42 (dk_at dksX2_newPerson_4 16 rfl rfl)
theorem dX2_newPerson_110 : decode cX2_newPerson 110 = .ok (.getfield 43, 3) := dk_180 0 43 (dk_at dksX2_newPerson_4 17 rfl rfl)
theorem dX2_newPerson_113 : decode cX2_newPerson 113 = .ok (.getfield 169, 3) := dk_180 0 169 (dk_at dksX2_newPerson_4 20 rfl rfl)
theorem dX2_newPerson_116 : decode cX2_newPerson 116 = .ok (.aload_n 0, 1) := dk_42 (dk_at dksX2_newPerson_4 23 rfl rfl)
theorem dX2_newPerson_117 : decode cX2_newPerson 117 = .ok (.getfield 43, 3) := dk_180 0 43 (dk_at dksX2_newPerson_5 0 rfl rfl)
theorem dX2_newPerson_120 : decode cX2_newPerson 120 = .ok (.getfield 91, 3) := dk_180 0 91 (dk_at dksX2_newPerson_5 3 rfl rfl)
theorem dX2_newPerson_123 : decode cX2_newPerson 123 = .ok (.aload_n 1, 1) := dk_43 (dk_at dksX2_newPerson_5 6 rfl rfl)
theorem dX2_newPerson_124 : decode cX2_newPerson 124 = .ok (.aastore, 1) := dk_83 (dk_at dksX2_newPerson_5 7 rfl rfl)
theorem dX2_newPerson_125 : decode cX2_newPerson 125 = .ok (.aload_n 0, 1) := dk_42 (dk_at dksX2_newPerson_5 8 rfl rfl)
theorem dX2_newPerson_126 : decode cX2_newPerson 126 = .ok (.getfield 43, 3) := dk_180 0 43 (dk_at dksX2_newPerson_5 9 rfl rfl)
theorem dX2_newPerson_129 : decode cX2_newPerson 129 = .ok (.dup, 1) := dk_89 (dk_at dksX2_newPerson_5 12 rfl rfl)
theorem dX2_newPerson_130 : decode cX2_newPerson 130 = .ok (.getfield 91, 3) := dk_180 0 91 (dk_at dksX2_newPerson_5 13 rfl rfl)
theorem dX2_newPerson_133 : decode cX2_newPerson 133 = .ok (.iconst 1, 1) := dk_4 (dk_at dksX2_newPerson_5 16 rfl rfl)
theorem dX2_newPerson_134 : decode cX2_newPerson 134 = .ok (.iadd, 1) := dk_96 (dk_at dksX2_newPerson_5 17 rfl rfl)
theorem dX2_newPerson_135 : decode cX2_newPerson 135 = .ok (.putfield 91, 3) := dk_181 0 91 (dk_at dksX2_newPerson_5 18 rfl rfl)
theorem dX2_newPerson_138 : decode cX2_newPerson 138 = .ok (.return_, 1) := dk_177 (dk_at dksX2_newPerson_5 21 rfl rfl)
abbrev cX2_known : ByteArray := prog_6_method_3_code
def yX2_known : MethodName := ⟨RX2, "known", "(I)I"⟩
def dkwX2_known_0 : List UInt8 := [27, 2, 160, 0, 9, 42, 6, 182, 0, 39, 191, 42, 182, 0, 36, 27, 172]
abbrev dktX2_known_0 : List UInt8 := dkwX2_known_0 ++ []
theorem dksX2_known_0 : cX2_known.data.toList.drop 0 = dktX2_known_0 := by decide +kernel
theorem dX2_known_0 : decode cX2_known 0 = .ok (.iload_n 1, 1) := dk_27 (dk_at dksX2_known_0 0 rfl rfl)
theorem dX2_known_1 : decode cX2_known 1 = .ok (.iconst (-1), 1) := dk_2 (dk_at dksX2_known_0 1 rfl rfl)
theorem dX2_known_2 : decode cX2_known 2 = .ok (.if_icmp .ne 9, 3) := dk_160 0 9 (dk_at dksX2_known_0 2 rfl rfl)
theorem dX2_known_5 : decode cX2_known 5 = .ok (.aload_n 0, 1) := dk_42 (dk_at dksX2_known_0 5 rfl rfl)
theorem dX2_known_6 : decode cX2_known 6 = .ok (.iconst 3, 1) := dk_6 (dk_at dksX2_known_0 6 rfl rfl)
theorem dX2_known_7 : decode cX2_known 7 = .ok (.invokevirtual 39, 3) := dk_182 0 39 (dk_at dksX2_known_0 7 rfl rfl)
theorem dX2_known_10 : decode cX2_known 10 = .ok (.athrow, 1) := dk_191 (dk_at dksX2_known_0 10 rfl rfl)
theorem dX2_known_11 : decode cX2_known 11 = .ok (.aload_n 0, 1) := dk_42 (dk_at dksX2_known_0 11 rfl rfl)
theorem dX2_known_12 : decode cX2_known 12 = .ok (.invokevirtual 36, 3) := dk_182 0 36 (dk_at dksX2_known_0 12 rfl rfl)
theorem dX2_known_15 : decode cX2_known 15 = .ok (.iload_n 1, 1) := dk_27 (dk_at dksX2_known_0 15 rfl rfl)
theorem dX2_known_16 : decode cX2_known 16 = .ok (.ireturn, 1) := dk_172 (dk_at dksX2_known_0 16 rfl rfl)
abbrev cX2_newDinner : ByteArray := prog_6_method_15_code
def yX2_newDinner : MethodName := ⟨RX2, "newDinner", "()V"⟩
def dkwX2_newDinner_3 : List UInt8 := [181, 0, 94, 177]
abbrev dktX2_newDinner_3 : List UInt8 := dkwX2_newDinner_3 ++ []
def dkwX2_newDinner_2 : List UInt8 := [28, 42, 4, 16, 30, 182, 0, 108, 183, 0, 186, 83, 42, 180, 0, 43, 89, 180, 0, 94, 4, 96]
abbrev dktX2_newDinner_2 : List UInt8 := dkwX2_newDinner_2 ++ dktX2_newDinner_3
def dkwX2_newDinner_1 : List UInt8 := [16, 11, 182, 0, 178, 42, 180, 0, 43, 180, 0, 180, 42, 180, 0, 43, 180, 0, 94, 187, 0, 184, 89, 27]
abbrev dktX2_newDinner_1 : List UInt8 := dkwX2_newDinner_1 ++ dktX2_newDinner_2
def dkwX2_newDinner_0 : List UInt8 := [42, 182, 0, 173, 60, 42, 27, 42, 180, 0, 43, 42, 182, 0, 47, 182, 0, 51, 182, 0, 175, 61, 42]
abbrev dktX2_newDinner_0 : List UInt8 := dkwX2_newDinner_0 ++ dktX2_newDinner_1
theorem dksX2_newDinner_0 : cX2_newDinner.data.toList.drop 0 = dktX2_newDinner_0 := by decide +kernel
theorem dksX2_newDinner_1 : cX2_newDinner.data.toList.drop 23 = dktX2_newDinner_1 := dk_seg dksX2_newDinner_0 23 rfl rfl
theorem dksX2_newDinner_2 : cX2_newDinner.data.toList.drop 47 = dktX2_newDinner_2 := dk_seg dksX2_newDinner_1 24 rfl rfl
theorem dksX2_newDinner_3 : cX2_newDinner.data.toList.drop 69 = dktX2_newDinner_3 := dk_seg dksX2_newDinner_2 22 rfl rfl
theorem dX2_newDinner_0 : decode cX2_newDinner 0 = .ok (.aload_n 0, 1) := dk_42 (dk_at dksX2_newDinner_0 0 rfl rfl)
theorem dX2_newDinner_1 : decode cX2_newDinner 1 = .ok (.invokevirtual 173, 3) := dk_182 0 173 (dk_at dksX2_newDinner_0 1 rfl rfl)
theorem dX2_newDinner_4 : decode cX2_newDinner 4 = .ok (.istore_n 1, 1) := dk_60 (dk_at dksX2_newDinner_0 4 rfl rfl)
theorem dX2_newDinner_5 : decode cX2_newDinner 5 = .ok (.aload_n 0, 1) := dk_42 (dk_at dksX2_newDinner_0 5 rfl rfl)
theorem dX2_newDinner_6 : decode cX2_newDinner 6 = .ok (.iload_n 1, 1) := dk_27 (dk_at dksX2_newDinner_0 6 rfl rfl)
theorem dX2_newDinner_7 : decode cX2_newDinner 7 = .ok (.aload_n 0, 1) := dk_42 (dk_at dksX2_newDinner_0 7 rfl rfl)
theorem dX2_newDinner_8 : decode cX2_newDinner 8 = .ok (.getfield 43, 3) := dk_180 0 43 (dk_at dksX2_newDinner_0 8 rfl rfl)
theorem dX2_newDinner_11 : decode cX2_newDinner 11 = .ok (.aload_n 0, 1) := dk_42 (dk_at dksX2_newDinner_0 11 rfl rfl)
theorem dX2_newDinner_12 : decode cX2_newDinner 12 = .ok (.invokevirtual 47, 3) := dk_182 0 47 (dk_at dksX2_newDinner_0 12 rfl rfl)
theorem dX2_newDinner_15 : decode cX2_newDinner 15 = .ok (.invokevirtual 51, 3) := dk_182 0 51 (dk_at dksX2_newDinner_0 15 rfl rfl)
theorem dX2_newDinner_18 : decode cX2_newDinner 18 = .ok (.invokevirtual 175, 3) := dk_182 0 175 (dk_at dksX2_newDinner_0 18 rfl rfl)
theorem dX2_newDinner_21 : decode cX2_newDinner 21 = .ok (.istore_n 2, 1) := dk_61 (dk_at dksX2_newDinner_0 21 rfl rfl)
theorem dX2_newDinner_22 : decode cX2_newDinner 22 = .ok (.aload_n 0, 1) := dk_42 (dk_at dksX2_newDinner_0 22 rfl rfl)
theorem dX2_newDinner_23 : decode cX2_newDinner 23 = .ok (.bipush 11, 2) := dk_16 11 (dk_at dksX2_newDinner_1 0 rfl rfl)
theorem dX2_newDinner_25 : decode cX2_newDinner 25 = .ok (.invokevirtual 178, 3) := dk_182 0 178 (dk_at dksX2_newDinner_1 2 rfl rfl)
theorem dX2_newDinner_28 : decode cX2_newDinner 28 = .ok (.aload_n 0, 1) := dk_42 (dk_at dksX2_newDinner_1 5 rfl rfl)
theorem dX2_newDinner_29 : decode cX2_newDinner 29 = .ok (.getfield 43, 3) := dk_180 0 43 (dk_at dksX2_newDinner_1 6 rfl rfl)
theorem dX2_newDinner_32 : decode cX2_newDinner 32 = .ok (.getfield 180, 3) := dk_180 0 180 (dk_at dksX2_newDinner_1 9 rfl rfl)
theorem dX2_newDinner_35 : decode cX2_newDinner 35 = .ok (.aload_n 0, 1) := dk_42 (dk_at dksX2_newDinner_1 12 rfl rfl)
theorem dX2_newDinner_36 : decode cX2_newDinner 36 = .ok (.getfield 43, 3) := dk_180 0 43 (dk_at dksX2_newDinner_1 13 rfl rfl)
theorem dX2_newDinner_39 : decode cX2_newDinner 39 = .ok (.getfield 94, 3) := dk_180 0 94 (dk_at dksX2_newDinner_1 16 rfl rfl)
theorem dX2_newDinner_42 : decode cX2_newDinner 42 = .ok (.new 184, 3) := dk_187 0 184 (dk_at dksX2_newDinner_1 19 rfl rfl)
theorem dX2_newDinner_45 : decode cX2_newDinner 45 = .ok (.dup, 1) := dk_89 (dk_at dksX2_newDinner_1 22 rfl rfl)
theorem dX2_newDinner_46 : decode cX2_newDinner 46 = .ok (.iload_n 1, 1) := dk_27 (dk_at dksX2_newDinner_1 23 rfl rfl)
theorem dX2_newDinner_47 : decode cX2_newDinner 47 = .ok (.iload_n 2, 1) := dk_28 (dk_at dksX2_newDinner_2 0 rfl rfl)
theorem dX2_newDinner_48 : decode cX2_newDinner 48 = .ok (.aload_n 0, 1) := dk_42 (dk_at dksX2_newDinner_2 1 rfl rfl)
theorem dX2_newDinner_49 : decode cX2_newDinner 49 = .ok (.iconst 1, 1) := dk_4 (dk_at dksX2_newDinner_2 2 rfl rfl)
theorem dX2_newDinner_50 : decode cX2_newDinner 50 = .ok (.bipush 30, 2) := dk_16 30 (dk_at dksX2_newDinner_2 3 rfl rfl)
theorem dX2_newDinner_52 : decode cX2_newDinner 52 = .ok (.invokevirtual 108, 3) := dk_182 0 108 (dk_at dksX2_newDinner_2 5 rfl rfl)
theorem dX2_newDinner_55 : decode cX2_newDinner 55 = .ok (.invokespecial 186, 3) := dk_183 0 186 (dk_at dksX2_newDinner_2 8 rfl rfl)
theorem dX2_newDinner_58 : decode cX2_newDinner 58 = .ok (.aastore, 1) := dk_83 (dk_at dksX2_newDinner_2 11 rfl rfl)
theorem dX2_newDinner_59 : decode cX2_newDinner 59 = .ok (.aload_n 0, 1) := dk_42 (dk_at dksX2_newDinner_2 12 rfl rfl)
theorem dX2_newDinner_60 : decode cX2_newDinner 60 = .ok (.getfield 43, 3) := dk_180 0 43 (dk_at dksX2_newDinner_2 13 rfl rfl)
theorem dX2_newDinner_63 : decode cX2_newDinner 63 = .ok (.dup, 1) := dk_89 (dk_at dksX2_newDinner_2 16 rfl rfl)
theorem dX2_newDinner_64 : decode cX2_newDinner 64 = .ok (.getfield 94, 3) := dk_180 0 94 (dk_at dksX2_newDinner_2 17 rfl rfl)
theorem dX2_newDinner_67 : decode cX2_newDinner 67 = .ok (.iconst 1, 1) := dk_4 (dk_at dksX2_newDinner_2 20 rfl rfl)
theorem dX2_newDinner_68 : decode cX2_newDinner 68 = .ok (.iadd, 1) := dk_96 (dk_at dksX2_newDinner_2 21 rfl rfl)
theorem dX2_newDinner_69 : decode cX2_newDinner 69 = .ok (.putfield 94, 3) := dk_181 0 94 (dk_at dksX2_newDinner_3 0 rfl rfl)
theorem dX2_newDinner_72 : decode cX2_newDinner 72 = .ok (.return_, 1) := dk_177 (dk_at dksX2_newDinner_3 3 rfl rfl)
abbrev cX2_person : ByteArray := prog_6_method_5_code
def yX2_person : MethodName := ⟨RX2, "person", "()I"⟩
def dkwX2_person_0 : List UInt8 := [42, 42, 180, 0, 43, 42, 182, 0, 47, 182, 0, 51, 182, 0, 57, 172]
abbrev dktX2_person_0 : List UInt8 := dkwX2_person_0 ++ []
theorem dksX2_person_0 : cX2_person.data.toList.drop 0 = dktX2_person_0 := by decide +kernel
theorem dX2_person_0 : decode cX2_person 0 = .ok (.aload_n 0, 1) := dk_42 (dk_at dksX2_person_0 0 rfl rfl)
theorem dX2_person_1 : decode cX2_person 1 = .ok (.aload_n 0, 1) := dk_42 (dk_at dksX2_person_0 1 rfl rfl)
theorem dX2_person_2 : decode cX2_person 2 = .ok (.getfield 43, 3) := dk_180 0 43 (dk_at dksX2_person_0 2 rfl rfl)
theorem dX2_person_5 : decode cX2_person 5 = .ok (.aload_n 0, 1) := dk_42 (dk_at dksX2_person_0 5 rfl rfl)
theorem dX2_person_6 : decode cX2_person 6 = .ok (.invokevirtual 47, 3) := dk_182 0 47 (dk_at dksX2_person_0 6 rfl rfl)
theorem dX2_person_9 : decode cX2_person 9 = .ok (.invokevirtual 51, 3) := dk_182 0 51 (dk_at dksX2_person_0 9 rfl rfl)
theorem dX2_person_12 : decode cX2_person 12 = .ok (.invokevirtual 57, 3) := dk_182 0 57 (dk_at dksX2_person_0 12 rfl rfl)
theorem dX2_person_15 : decode cX2_person 15 = .ok (.ireturn, 1) := dk_172 (dk_at dksX2_person_0 15 rfl rfl)
abbrev cX2_otherThan : ByteArray := prog_6_method_7_code
def yX2_otherThan : MethodName := ⟨RX2, "otherThan", "(II)I"⟩
def dkwX2_otherThan_0 : List UInt8 := [28, 2, 159, 0, 14, 28, 27, 160, 0, 9, 42, 8, 182, 0, 39, 191, 42, 28, 182, 0, 57, 172]
abbrev dktX2_otherThan_0 : List UInt8 := dkwX2_otherThan_0 ++ []
theorem dksX2_otherThan_0 : cX2_otherThan.data.toList.drop 0 = dktX2_otherThan_0 := by decide +kernel
theorem dX2_otherThan_0 : decode cX2_otherThan 0 = .ok (.iload_n 2, 1) := dk_28 (dk_at dksX2_otherThan_0 0 rfl rfl)
theorem dX2_otherThan_1 : decode cX2_otherThan 1 = .ok (.iconst (-1), 1) := dk_2 (dk_at dksX2_otherThan_0 1 rfl rfl)
theorem dX2_otherThan_2 : decode cX2_otherThan 2 = .ok (.if_icmp .eq 14, 3) := dk_159 0 14 (dk_at dksX2_otherThan_0 2 rfl rfl)
theorem dX2_otherThan_5 : decode cX2_otherThan 5 = .ok (.iload_n 2, 1) := dk_28 (dk_at dksX2_otherThan_0 5 rfl rfl)
theorem dX2_otherThan_6 : decode cX2_otherThan 6 = .ok (.iload_n 1, 1) := dk_27 (dk_at dksX2_otherThan_0 6 rfl rfl)
theorem dX2_otherThan_7 : decode cX2_otherThan 7 = .ok (.if_icmp .ne 9, 3) := dk_160 0 9 (dk_at dksX2_otherThan_0 7 rfl rfl)
theorem dX2_otherThan_10 : decode cX2_otherThan 10 = .ok (.aload_n 0, 1) := dk_42 (dk_at dksX2_otherThan_0 10 rfl rfl)
theorem dX2_otherThan_11 : decode cX2_otherThan 11 = .ok (.iconst 5, 1) := dk_8 (dk_at dksX2_otherThan_0 11 rfl rfl)
theorem dX2_otherThan_12 : decode cX2_otherThan 12 = .ok (.invokevirtual 39, 3) := dk_182 0 39 (dk_at dksX2_otherThan_0 12 rfl rfl)
theorem dX2_otherThan_15 : decode cX2_otherThan 15 = .ok (.athrow, 1) := dk_191 (dk_at dksX2_otherThan_0 15 rfl rfl)
theorem dX2_otherThan_16 : decode cX2_otherThan 16 = .ok (.aload_n 0, 1) := dk_42 (dk_at dksX2_otherThan_0 16 rfl rfl)
theorem dX2_otherThan_17 : decode cX2_otherThan 17 = .ok (.iload_n 2, 1) := dk_28 (dk_at dksX2_otherThan_0 17 rfl rfl)
theorem dX2_otherThan_18 : decode cX2_otherThan 18 = .ok (.invokevirtual 57, 3) := dk_182 0 57 (dk_at dksX2_otherThan_0 18 rfl rfl)
theorem dX2_otherThan_21 : decode cX2_otherThan 21 = .ok (.ireturn, 1) := dk_172 (dk_at dksX2_otherThan_0 21 rfl rfl)
abbrev cX2_word : ByteArray := prog_6_method_2_code
def yX2_word : MethodName := ⟨RX2, "word", "(I)V"⟩
def dkwX2_word_0 : List UInt8 := [42, 42, 182, 0, 28, 27, 160, 0, 7, 4, 167, 0, 4, 3, 182, 0, 32, 42, 182, 0, 36, 177]
abbrev dktX2_word_0 : List UInt8 := dkwX2_word_0 ++ []
theorem dksX2_word_0 : cX2_word.data.toList.drop 0 = dktX2_word_0 := by decide +kernel
theorem dX2_word_0 : decode cX2_word 0 = .ok (.aload_n 0, 1) := dk_42 (dk_at dksX2_word_0 0 rfl rfl)
theorem dX2_word_1 : decode cX2_word 1 = .ok (.aload_n 0, 1) := dk_42 (dk_at dksX2_word_0 1 rfl rfl)
theorem dX2_word_2 : decode cX2_word 2 = .ok (.invokevirtual 28, 3) := dk_182 0 28 (dk_at dksX2_word_0 2 rfl rfl)
theorem dX2_word_5 : decode cX2_word 5 = .ok (.iload_n 1, 1) := dk_27 (dk_at dksX2_word_0 5 rfl rfl)
theorem dX2_word_6 : decode cX2_word 6 = .ok (.if_icmp .ne 7, 3) := dk_160 0 7 (dk_at dksX2_word_0 6 rfl rfl)
theorem dX2_word_9 : decode cX2_word 9 = .ok (.iconst 1, 1) := dk_4 (dk_at dksX2_word_0 9 rfl rfl)
theorem dX2_word_10 : decode cX2_word 10 = .ok (.goto 4, 3) := dk_167 0 4 (dk_at dksX2_word_0 10 rfl rfl)
theorem dX2_word_13 : decode cX2_word 13 = .ok (.iconst 0, 1) := dk_3 (dk_at dksX2_word_0 13 rfl rfl)
theorem dX2_word_14 : decode cX2_word 14 = .ok (.invokevirtual 32, 3) := dk_182 0 32 (dk_at dksX2_word_0 14 rfl rfl)
theorem dX2_word_17 : decode cX2_word 17 = .ok (.aload_n 0, 1) := dk_42 (dk_at dksX2_word_0 17 rfl rfl)
theorem dX2_word_18 : decode cX2_word 18 = .ok (.invokevirtual 36, 3) := dk_182 0 36 (dk_at dksX2_word_0 18 rfl rfl)
theorem dX2_word_21 : decode cX2_word 21 = .ok (.return_, 1) := dk_177 (dk_at dksX2_word_0 21 rfl rfl)
abbrev cX2_newHalves : ByteArray := prog_6_method_16_code
def yX2_newHalves : MethodName := ⟨RX2, "newHalves", "()V"⟩
def dkwX2_newHalves_3 : List UInt8 := [4, 96, 181, 0, 97, 177]
abbrev dktX2_newHalves_3 : List UInt8 := dkwX2_newHalves_3 ++ []
def dkwX2_newHalves_2 : List UInt8 := [180, 0, 152, 28, 50, 89, 180, 0, 192, 4, 27, 120, 128, 181, 0, 192, 42, 180, 0, 43, 89, 180, 0, 97]
abbrev dktX2_newHalves_2 : List UInt8 := dkwX2_newHalves_2 ++ dktX2_newHalves_3
def dkwX2_newHalves_1 : List UInt8 := [180, 0, 43, 180, 0, 152, 27, 50, 89, 180, 0, 192, 4, 28, 120, 128, 181, 0, 192, 42, 180, 0, 43]
abbrev dktX2_newHalves_1 : List UInt8 := dkwX2_newHalves_1 ++ dktX2_newHalves_2
def dkwX2_newHalves_0 : List UInt8 := [42, 182, 0, 189, 60, 42, 27, 42, 180, 0, 43, 42, 182, 0, 47, 182, 0, 61, 182, 0, 175, 61, 42]
abbrev dktX2_newHalves_0 : List UInt8 := dkwX2_newHalves_0 ++ dktX2_newHalves_1
theorem dksX2_newHalves_0 : cX2_newHalves.data.toList.drop 0 = dktX2_newHalves_0 := by decide +kernel
theorem dksX2_newHalves_1 : cX2_newHalves.data.toList.drop 23 = dktX2_newHalves_1 := dk_seg dksX2_newHalves_0 23 rfl rfl
theorem dksX2_newHalves_2 : cX2_newHalves.data.toList.drop 46 = dktX2_newHalves_2 := dk_seg dksX2_newHalves_1 23 rfl rfl
theorem dksX2_newHalves_3 : cX2_newHalves.data.toList.drop 70 = dktX2_newHalves_3 := dk_seg dksX2_newHalves_2 24 rfl rfl
theorem dX2_newHalves_0 : decode cX2_newHalves 0 = .ok (.aload_n 0, 1) := dk_42 (dk_at dksX2_newHalves_0 0 rfl rfl)
theorem dX2_newHalves_1 : decode cX2_newHalves 1 = .ok (.invokevirtual 189, 3) := dk_182 0 189 (dk_at dksX2_newHalves_0 1 rfl rfl)
theorem dX2_newHalves_4 : decode cX2_newHalves 4 = .ok (.istore_n 1, 1) := dk_60 (dk_at dksX2_newHalves_0 4 rfl rfl)
theorem dX2_newHalves_5 : decode cX2_newHalves 5 = .ok (.aload_n 0, 1) := dk_42 (dk_at dksX2_newHalves_0 5 rfl rfl)
theorem dX2_newHalves_6 : decode cX2_newHalves 6 = .ok (.iload_n 1, 1) := dk_27 (dk_at dksX2_newHalves_0 6 rfl rfl)
theorem dX2_newHalves_7 : decode cX2_newHalves 7 = .ok (.aload_n 0, 1) := dk_42 (dk_at dksX2_newHalves_0 7 rfl rfl)
theorem dX2_newHalves_8 : decode cX2_newHalves 8 = .ok (.getfield 43, 3) := dk_180 0 43 (dk_at dksX2_newHalves_0 8 rfl rfl)
theorem dX2_newHalves_11 : decode cX2_newHalves 11 = .ok (.aload_n 0, 1) := dk_42 (dk_at dksX2_newHalves_0 11 rfl rfl)
theorem dX2_newHalves_12 : decode cX2_newHalves 12 = .ok (.invokevirtual 47, 3) := dk_182 0 47 (dk_at dksX2_newHalves_0 12 rfl rfl)
theorem dX2_newHalves_15 : decode cX2_newHalves 15 = .ok (.invokevirtual 61, 3) := dk_182 0 61 (dk_at dksX2_newHalves_0 15 rfl rfl)
theorem dX2_newHalves_18 : decode cX2_newHalves 18 = .ok (.invokevirtual 175, 3) := dk_182 0 175 (dk_at dksX2_newHalves_0 18 rfl rfl)
theorem dX2_newHalves_21 : decode cX2_newHalves 21 = .ok (.istore_n 2, 1) := dk_61 (dk_at dksX2_newHalves_0 21 rfl rfl)
theorem dX2_newHalves_22 : decode cX2_newHalves 22 = .ok (.aload_n 0, 1) := dk_42 (dk_at dksX2_newHalves_0 22 rfl rfl)
theorem dX2_newHalves_23 : decode cX2_newHalves 23 = .ok (.getfield 43, 3) := dk_180 0 43 (dk_at dksX2_newHalves_1 0 rfl rfl)
theorem dX2_newHalves_26 : decode cX2_newHalves 26 = .ok (.getfield 152, 3) := dk_180 0 152 (dk_at dksX2_newHalves_1 3 rfl rfl)
theorem dX2_newHalves_29 : decode cX2_newHalves 29 = .ok (.iload_n 1, 1) := dk_27 (dk_at dksX2_newHalves_1 6 rfl rfl)
theorem dX2_newHalves_30 : decode cX2_newHalves 30 = .ok (.aaload, 1) := dk_50 (dk_at dksX2_newHalves_1 7 rfl rfl)
theorem dX2_newHalves_31 : decode cX2_newHalves 31 = .ok (.dup, 1) := dk_89 (dk_at dksX2_newHalves_1 8 rfl rfl)
theorem dX2_newHalves_32 : decode cX2_newHalves 32 = .ok (.getfield 192, 3) := dk_180 0 192 (dk_at dksX2_newHalves_1 9 rfl rfl)
theorem dX2_newHalves_35 : decode cX2_newHalves 35 = .ok (.iconst 1, 1) := dk_4 (dk_at dksX2_newHalves_1 12 rfl rfl)
theorem dX2_newHalves_36 : decode cX2_newHalves 36 = .ok (.iload_n 2, 1) := dk_28 (dk_at dksX2_newHalves_1 13 rfl rfl)
theorem dX2_newHalves_37 : decode cX2_newHalves 37 = .ok (.ishl, 1) := dk_120 (dk_at dksX2_newHalves_1 14 rfl rfl)
theorem dX2_newHalves_38 : decode cX2_newHalves 38 = .ok (.ior, 1) := dk_128 (dk_at dksX2_newHalves_1 15 rfl rfl)
theorem dX2_newHalves_39 : decode cX2_newHalves 39 = .ok (.putfield 192, 3) := dk_181 0 192 (dk_at dksX2_newHalves_1 16 rfl rfl)
theorem dX2_newHalves_42 : decode cX2_newHalves 42 = .ok (.aload_n 0, 1) := dk_42 (dk_at dksX2_newHalves_1 19 rfl rfl)
theorem dX2_newHalves_43 : decode cX2_newHalves 43 = .ok (.getfield 43, 3) := dk_180 0 43 (dk_at dksX2_newHalves_1 20 rfl rfl)
theorem dX2_newHalves_46 : decode cX2_newHalves 46 = .ok (.getfield 152, 3) := dk_180 0 152 (dk_at dksX2_newHalves_2 0 rfl rfl)
theorem dX2_newHalves_49 : decode cX2_newHalves 49 = .ok (.iload_n 2, 1) := dk_28 (dk_at dksX2_newHalves_2 3 rfl rfl)
theorem dX2_newHalves_50 : decode cX2_newHalves 50 = .ok (.aaload, 1) := dk_50 (dk_at dksX2_newHalves_2 4 rfl rfl)
theorem dX2_newHalves_51 : decode cX2_newHalves 51 = .ok (.dup, 1) := dk_89 (dk_at dksX2_newHalves_2 5 rfl rfl)
theorem dX2_newHalves_52 : decode cX2_newHalves 52 = .ok (.getfield 192, 3) := dk_180 0 192 (dk_at dksX2_newHalves_2 6 rfl rfl)
theorem dX2_newHalves_55 : decode cX2_newHalves 55 = .ok (.iconst 1, 1) := dk_4 (dk_at dksX2_newHalves_2 9 rfl rfl)
theorem dX2_newHalves_56 : decode cX2_newHalves 56 = .ok (.iload_n 1, 1) := dk_27 (dk_at dksX2_newHalves_2 10 rfl rfl)
theorem dX2_newHalves_57 : decode cX2_newHalves 57 = .ok (.ishl, 1) := dk_120 (dk_at dksX2_newHalves_2 11 rfl rfl)
theorem dX2_newHalves_58 : decode cX2_newHalves 58 = .ok (.ior, 1) := dk_128 (dk_at dksX2_newHalves_2 12 rfl rfl)
theorem dX2_newHalves_59 : decode cX2_newHalves 59 = .ok (.putfield 192, 3) := dk_181 0 192 (dk_at dksX2_newHalves_2 13 rfl rfl)
theorem dX2_newHalves_62 : decode cX2_newHalves 62 = .ok (.aload_n 0, 1) := dk_42 (dk_at dksX2_newHalves_2 16 rfl rfl)
theorem dX2_newHalves_63 : decode cX2_newHalves 63 = .ok (.getfield 43, 3) := dk_180 0 43 (dk_at dksX2_newHalves_2 17 rfl rfl)
theorem dX2_newHalves_66 : decode cX2_newHalves 66 = .ok (.dup, 1) := dk_89 (dk_at dksX2_newHalves_2 20 rfl rfl)
theorem dX2_newHalves_67 : decode cX2_newHalves 67 = .ok (.getfield 97, 3) := dk_180 0 97 (dk_at dksX2_newHalves_2 21 rfl rfl)
theorem dX2_newHalves_70 : decode cX2_newHalves 70 = .ok (.iconst 1, 1) := dk_4 (dk_at dksX2_newHalves_3 0 rfl rfl)
theorem dX2_newHalves_71 : decode cX2_newHalves 71 = .ok (.iadd, 1) := dk_96 (dk_at dksX2_newHalves_3 1 rfl rfl)
theorem dX2_newHalves_72 : decode cX2_newHalves 72 = .ok (.putfield 97, 3) := dk_181 0 97 (dk_at dksX2_newHalves_3 2 rfl rfl)
theorem dX2_newHalves_75 : decode cX2_newHalves 75 = .ok (.return_, 1) := dk_177 (dk_at dksX2_newHalves_3 5 rfl rfl)
abbrev cX2_aWord : ByteArray := prog_6_method_6_code
def yX2_aWord : MethodName := ⟨RX2, "aWord", "()I"⟩
def dkwX2_aWord_0 : List UInt8 := [42, 42, 180, 0, 43, 42, 182, 0, 47, 182, 0, 61, 182, 0, 57, 172]
abbrev dktX2_aWord_0 : List UInt8 := dkwX2_aWord_0 ++ []
theorem dksX2_aWord_0 : cX2_aWord.data.toList.drop 0 = dktX2_aWord_0 := by decide +kernel
theorem dX2_aWord_0 : decode cX2_aWord 0 = .ok (.aload_n 0, 1) := dk_42 (dk_at dksX2_aWord_0 0 rfl rfl)
theorem dX2_aWord_1 : decode cX2_aWord 1 = .ok (.aload_n 0, 1) := dk_42 (dk_at dksX2_aWord_0 1 rfl rfl)
theorem dX2_aWord_2 : decode cX2_aWord 2 = .ok (.getfield 43, 3) := dk_180 0 43 (dk_at dksX2_aWord_0 2 rfl rfl)
theorem dX2_aWord_5 : decode cX2_aWord 5 = .ok (.aload_n 0, 1) := dk_42 (dk_at dksX2_aWord_0 5 rfl rfl)
theorem dX2_aWord_6 : decode cX2_aWord 6 = .ok (.invokevirtual 47, 3) := dk_182 0 47 (dk_at dksX2_aWord_0 6 rfl rfl)
theorem dX2_aWord_9 : decode cX2_aWord 9 = .ok (.invokevirtual 61, 3) := dk_182 0 61 (dk_at dksX2_aWord_0 9 rfl rfl)
theorem dX2_aWord_12 : decode cX2_aWord 12 = .ok (.invokevirtual 57, 3) := dk_182 0 57 (dk_at dksX2_aWord_0 12 rfl rfl)
theorem dX2_aWord_15 : decode cX2_aWord 15 = .ok (.ireturn, 1) := dk_172 (dk_at dksX2_aWord_0 15 rfl rfl)
abbrev cX2_years : ByteArray := prog_6_method_17_code
def yX2_years : MethodName := ⟨RX2, "years", "(ILHairProvince$Province;)[LHairProvince$Step;"⟩
def dkwX2_years_2 : List UInt8 := [42, 42, 180, 0, 207, 154, 0, 7, 4, 167, 0, 4, 3, 182, 0, 32, 42, 180, 0, 197, 176]
abbrev dktX2_years_2 : List UInt8 := dkwX2_years_2 ++ []
def dkwX2_years_1 : List UInt8 := [42, 3, 181, 0, 207, 42, 27, 182, 0, 75, 42, 180, 0, 79, 153, 0, 10, 42, 182, 0, 210, 167, 255, 245]
abbrev dktX2_years_1 : List UInt8 := dkwX2_years_1 ++ dktX2_years_2
def dkwX2_years_0 : List UInt8 := [42, 44, 181, 0, 43, 42, 16, 60, 189, 0, 195, 181, 0, 197, 42, 3, 181, 0, 201, 42, 3, 181, 0, 204]
abbrev dktX2_years_0 : List UInt8 := dkwX2_years_0 ++ dktX2_years_1
theorem dksX2_years_0 : cX2_years.data.toList.drop 0 = dktX2_years_0 := by decide +kernel
theorem dksX2_years_1 : cX2_years.data.toList.drop 24 = dktX2_years_1 := dk_seg dksX2_years_0 24 rfl rfl
theorem dksX2_years_2 : cX2_years.data.toList.drop 48 = dktX2_years_2 := dk_seg dksX2_years_1 24 rfl rfl
theorem dX2_years_0 : decode cX2_years 0 = .ok (.aload_n 0, 1) := dk_42 (dk_at dksX2_years_0 0 rfl rfl)
theorem dX2_years_1 : decode cX2_years 1 = .ok (.aload_n 2, 1) := dk_44 (dk_at dksX2_years_0 1 rfl rfl)
theorem dX2_years_2 : decode cX2_years 2 = .ok (.putfield 43, 3) := dk_181 0 43 (dk_at dksX2_years_0 2 rfl rfl)
theorem dX2_years_5 : decode cX2_years 5 = .ok (.aload_n 0, 1) := dk_42 (dk_at dksX2_years_0 5 rfl rfl)
theorem dX2_years_6 : decode cX2_years 6 = .ok (.bipush 60, 2) := dk_16 60 (dk_at dksX2_years_0 6 rfl rfl)
theorem dX2_years_8 : decode cX2_years 8 = .ok (.anewarray 195, 3) := dk_189 0 195 (dk_at dksX2_years_0 8 rfl rfl)
theorem dX2_years_11 : decode cX2_years 11 = .ok (.putfield 197, 3) := dk_181 0 197 (dk_at dksX2_years_0 11 rfl rfl)
theorem dX2_years_14 : decode cX2_years 14 = .ok (.aload_n 0, 1) := dk_42 (dk_at dksX2_years_0 14 rfl rfl)
theorem dX2_years_15 : decode cX2_years 15 = .ok (.iconst 0, 1) := dk_3 (dk_at dksX2_years_0 15 rfl rfl)
theorem dX2_years_16 : decode cX2_years 16 = .ok (.putfield 201, 3) := dk_181 0 201 (dk_at dksX2_years_0 16 rfl rfl)
theorem dX2_years_19 : decode cX2_years 19 = .ok (.aload_n 0, 1) := dk_42 (dk_at dksX2_years_0 19 rfl rfl)
theorem dX2_years_20 : decode cX2_years 20 = .ok (.iconst 0, 1) := dk_3 (dk_at dksX2_years_0 20 rfl rfl)
theorem dX2_years_21 : decode cX2_years 21 = .ok (.putfield 204, 3) := dk_181 0 204 (dk_at dksX2_years_0 21 rfl rfl)
theorem dX2_years_24 : decode cX2_years 24 = .ok (.aload_n 0, 1) := dk_42 (dk_at dksX2_years_1 0 rfl rfl)
theorem dX2_years_25 : decode cX2_years 25 = .ok (.iconst 0, 1) := dk_3 (dk_at dksX2_years_1 1 rfl rfl)
theorem dX2_years_26 : decode cX2_years 26 = .ok (.putfield 207, 3) := dk_181 0 207 (dk_at dksX2_years_1 2 rfl rfl)
theorem dX2_years_29 : decode cX2_years 29 = .ok (.aload_n 0, 1) := dk_42 (dk_at dksX2_years_1 5 rfl rfl)
theorem dX2_years_30 : decode cX2_years 30 = .ok (.iload_n 1, 1) := dk_27 (dk_at dksX2_years_1 6 rfl rfl)
theorem dX2_years_31 : decode cX2_years 31 = .ok (.invokevirtual 75, 3) := dk_182 0 75 (dk_at dksX2_years_1 7 rfl rfl)
theorem dX2_years_34 : decode cX2_years 34 = .ok (.aload_n 0, 1) := dk_42 (dk_at dksX2_years_1 10 rfl rfl)
theorem dX2_years_35 : decode cX2_years 35 = .ok (.getfield 79, 3) := dk_180 0 79 (dk_at dksX2_years_1 11 rfl rfl)
theorem dX2_years_38 : decode cX2_years 38 = .ok (.ifCond .eq 10, 3) := dk_153 0 10 (dk_at dksX2_years_1 14 rfl rfl)
theorem dX2_years_41 : decode cX2_years 41 = .ok (.aload_n 0, 1) := dk_42 (dk_at dksX2_years_1 17 rfl rfl)
theorem dX2_years_42 : decode cX2_years 42 = .ok (.invokevirtual 210, 3) := dk_182 0 210 (dk_at dksX2_years_1 18 rfl rfl)
theorem dX2_years_45 : decode cX2_years 45 = .ok (.goto (-11), 3) := dk_167 255 245 (dk_at dksX2_years_1 21 rfl rfl)
theorem dX2_years_48 : decode cX2_years 48 = .ok (.aload_n 0, 1) := dk_42 (dk_at dksX2_years_2 0 rfl rfl)
theorem dX2_years_49 : decode cX2_years 49 = .ok (.aload_n 0, 1) := dk_42 (dk_at dksX2_years_2 1 rfl rfl)
theorem dX2_years_50 : decode cX2_years 50 = .ok (.getfield 207, 3) := dk_180 0 207 (dk_at dksX2_years_2 2 rfl rfl)
theorem dX2_years_53 : decode cX2_years 53 = .ok (.ifCond .ne 7, 3) := dk_154 0 7 (dk_at dksX2_years_2 5 rfl rfl)
theorem dX2_years_56 : decode cX2_years 56 = .ok (.iconst 1, 1) := dk_4 (dk_at dksX2_years_2 8 rfl rfl)
theorem dX2_years_57 : decode cX2_years 57 = .ok (.goto 4, 3) := dk_167 0 4 (dk_at dksX2_years_2 9 rfl rfl)
theorem dX2_years_60 : decode cX2_years 60 = .ok (.iconst 0, 1) := dk_3 (dk_at dksX2_years_2 12 rfl rfl)
theorem dX2_years_61 : decode cX2_years 61 = .ok (.invokevirtual 32, 3) := dk_182 0 32 (dk_at dksX2_years_2 13 rfl rfl)
theorem dX2_years_64 : decode cX2_years 64 = .ok (.aload_n 0, 1) := dk_42 (dk_at dksX2_years_2 16 rfl rfl)
theorem dX2_years_65 : decode cX2_years 65 = .ok (.getfield 197, 3) := dk_180 0 197 (dk_at dksX2_years_2 17 rfl rfl)
theorem dX2_years_68 : decode cX2_years 68 = .ok (.areturn, 1) := dk_176 (dk_at dksX2_years_2 20 rfl rfl)
abbrev cX2_step : ByteArray := prog_6_method_20_code
def yX2_step : MethodName := ⟨RX2, "step", "()V"⟩
def dkwX2_step_10 : List UInt8 := [177]
abbrev dktX2_step_10 : List UInt8 := dkwX2_step_10 ++ []
def dkwX2_step_9 : List UInt8 := [96, 181, 0, 204, 42, 180, 0, 197, 42, 180, 0, 201, 45, 83, 42, 89, 180, 0, 201, 4, 96, 181, 0, 201]
abbrev dktX2_step_9 : List UInt8 := dkwX2_step_9 ++ dktX2_step_10
def dkwX2_step_8 : List UInt8 := [180, 0, 207, 4, 96, 181, 0, 207, 42, 89, 180, 0, 204, 27, 16, 20, 160, 0, 7, 3, 167, 0, 4, 4]
abbrev dktX2_step_8 : List UInt8 := dkwX2_step_8 ++ dktX2_step_9
def dkwX2_step_7 : List UInt8 := [182, 0, 85, 28, 153, 0, 26, 42, 180, 0, 24, 42, 180, 0, 207, 42, 180, 0, 201, 79, 42, 89]
abbrev dktX2_step_7 : List UInt8 := dkwX2_step_7 ++ dktX2_step_8
def dkwX2_step_6 : List UInt8 := [180, 0, 207, 46, 181, 0, 245, 42, 180, 0, 197, 45, 180, 0, 245, 50, 42, 180, 0, 201, 181, 0, 245, 42]
abbrev dktX2_step_6 : List UInt8 := dkwX2_step_6 ++ dktX2_step_7
def dkwX2_step_5 : List UInt8 := [27, 16, 20, 160, 0, 42, 42, 89, 180, 0, 207, 4, 100, 181, 0, 207, 45, 42, 180, 0, 24, 42]
abbrev dktX2_step_5 : List UInt8 := dkwX2_step_5 ++ dktX2_step_6
def dkwX2_step_4 : List UInt8 := [16, 7, 182, 0, 39, 191, 187, 0, 195, 89, 27, 183, 0, 240, 78, 42, 182, 0, 36, 42, 45, 182, 0, 242]
abbrev dktX2_step_4 : List UInt8 := dkwX2_step_4 ++ dktX2_step_5
def dkwX2_step_3 : List UInt8 := [160, 0, 10, 42, 16, 6, 182, 0, 39, 191, 28, 153, 0, 18, 42, 180, 0, 207, 6, 160, 0, 10, 42]
abbrev dktX2_step_3 : List UInt8 := dkwX2_step_3 ++ dktX2_step_4
def dkwX2_step_2 : List UInt8 := [158, 0, 7, 4, 167, 0, 4, 3, 182, 0, 32, 27, 16, 20, 159, 0, 19, 42, 180, 0, 204, 16, 30]
abbrev dktX2_step_2 : List UInt8 := dkwX2_step_2 ++ dktX2_step_3
def dkwX2_step_1 : List UInt8 := [27, 16, 12, 161, 0, 9, 27, 16, 19, 164, 0, 16, 27, 16, 20, 160, 0, 14, 42, 180, 0, 207]
abbrev dktX2_step_1 : List UInt8 := dkwX2_step_1 ++ dktX2_step_2
def dkwX2_step_0 : List UInt8 := [42, 182, 0, 28, 60, 27, 16, 17, 159, 0, 9, 27, 16, 18, 160, 0, 7, 4, 167, 0, 4, 3, 61, 42]
abbrev dktX2_step_0 : List UInt8 := dkwX2_step_0 ++ dktX2_step_1
theorem dksX2_step_0 : cX2_step.data.toList.drop 0 = dktX2_step_0 := by decide +kernel
theorem dksX2_step_1 : cX2_step.data.toList.drop 24 = dktX2_step_1 := dk_seg dksX2_step_0 24 rfl rfl
theorem dksX2_step_2 : cX2_step.data.toList.drop 46 = dktX2_step_2 := dk_seg dksX2_step_1 22 rfl rfl
theorem dksX2_step_3 : cX2_step.data.toList.drop 69 = dktX2_step_3 := dk_seg dksX2_step_2 23 rfl rfl
theorem dksX2_step_4 : cX2_step.data.toList.drop 92 = dktX2_step_4 := dk_seg dksX2_step_3 23 rfl rfl
theorem dksX2_step_5 : cX2_step.data.toList.drop 116 = dktX2_step_5 := dk_seg dksX2_step_4 24 rfl rfl
theorem dksX2_step_6 : cX2_step.data.toList.drop 138 = dktX2_step_6 := dk_seg dksX2_step_5 22 rfl rfl
theorem dksX2_step_7 : cX2_step.data.toList.drop 162 = dktX2_step_7 := dk_seg dksX2_step_6 24 rfl rfl
theorem dksX2_step_8 : cX2_step.data.toList.drop 184 = dktX2_step_8 := dk_seg dksX2_step_7 22 rfl rfl
theorem dksX2_step_9 : cX2_step.data.toList.drop 208 = dktX2_step_9 := dk_seg dksX2_step_8 24 rfl rfl
theorem dksX2_step_10 : cX2_step.data.toList.drop 232 = dktX2_step_10 := dk_seg dksX2_step_9 24 rfl rfl
theorem dX2_step_0 : decode cX2_step 0 = .ok (.aload_n 0, 1) := dk_42 (dk_at dksX2_step_0 0 rfl rfl)
theorem dX2_step_1 : decode cX2_step 1 = .ok (.invokevirtual 28, 3) := dk_182 0 28 (dk_at dksX2_step_0 1 rfl rfl)
theorem dX2_step_4 : decode cX2_step 4 = .ok (.istore_n 1, 1) := dk_60 (dk_at dksX2_step_0 4 rfl rfl)
theorem dX2_step_5 : decode cX2_step 5 = .ok (.iload_n 1, 1) := dk_27 (dk_at dksX2_step_0 5 rfl rfl)
theorem dX2_step_6 : decode cX2_step 6 = .ok (.bipush 17, 2) := dk_16 17 (dk_at dksX2_step_0 6 rfl rfl)
theorem dX2_step_8 : decode cX2_step 8 = .ok (.if_icmp .eq 9, 3) := dk_159 0 9 (dk_at dksX2_step_0 8 rfl rfl)
theorem dX2_step_11 : decode cX2_step 11 = .ok (.iload_n 1, 1) := dk_27 (dk_at dksX2_step_0 11 rfl rfl)
theorem dX2_step_12 : decode cX2_step 12 = .ok (.bipush 18, 2) := dk_16 18 (dk_at dksX2_step_0 12 rfl rfl)
theorem dX2_step_14 : decode cX2_step 14 = .ok (.if_icmp .ne 7, 3) := dk_160 0 7 (dk_at dksX2_step_0 14 rfl rfl)
theorem dX2_step_17 : decode cX2_step 17 = .ok (.iconst 1, 1) := dk_4 (dk_at dksX2_step_0 17 rfl rfl)
theorem dX2_step_18 : decode cX2_step 18 = .ok (.goto 4, 3) := dk_167 0 4 (dk_at dksX2_step_0 18 rfl rfl)
theorem dX2_step_21 : decode cX2_step 21 = .ok (.iconst 0, 1) := dk_3 (dk_at dksX2_step_0 21 rfl rfl)
theorem dX2_step_22 : decode cX2_step 22 = .ok (.istore_n 2, 1) := dk_61 (dk_at dksX2_step_0 22 rfl rfl)
theorem dX2_step_23 : decode cX2_step 23 = .ok (.aload_n 0, 1) := dk_42 (dk_at dksX2_step_0 23 rfl rfl)
theorem dX2_step_24 : decode cX2_step 24 = .ok (.iload_n 1, 1) := dk_27 (dk_at dksX2_step_1 0 rfl rfl)
theorem dX2_step_25 : decode cX2_step 25 = .ok (.bipush 12, 2) := dk_16 12 (dk_at dksX2_step_1 1 rfl rfl)
theorem dX2_step_27 : decode cX2_step 27 = .ok (.if_icmp .lt 9, 3) := dk_161 0 9 (dk_at dksX2_step_1 3 rfl rfl)
theorem dX2_step_30 : decode cX2_step 30 = .ok (.iload_n 1, 1) := dk_27 (dk_at dksX2_step_1 6 rfl rfl)
theorem dX2_step_31 : decode cX2_step 31 = .ok (.bipush 19, 2) := dk_16 19 (dk_at dksX2_step_1 7 rfl rfl)
theorem dX2_step_33 : decode cX2_step 33 = .ok (.if_icmp .le 16, 3) := dk_164 0 16 (dk_at dksX2_step_1 9 rfl rfl)
theorem dX2_step_36 : decode cX2_step 36 = .ok (.iload_n 1, 1) := dk_27 (dk_at dksX2_step_1 12 rfl rfl)
theorem dX2_step_37 : decode cX2_step 37 = .ok (.bipush 20, 2) := dk_16 20 (dk_at dksX2_step_1 13 rfl rfl)
theorem dX2_step_39 : decode cX2_step 39 = .ok (.if_icmp .ne 14, 3) := dk_160 0 14 (dk_at dksX2_step_1 15 rfl rfl)
theorem dX2_step_42 : decode cX2_step 42 = .ok (.aload_n 0, 1) := dk_42 (dk_at dksX2_step_1 18 rfl rfl)
theorem dX2_step_43 : decode cX2_step 43 = .ok (.getfield 207, 3) := dk_180 0 207 (dk_at dksX2_step_1 19 rfl rfl)
theorem dX2_step_46 : decode cX2_step 46 = .ok (.ifCond .le 7, 3) := dk_158 0 7 (dk_at dksX2_step_2 0 rfl rfl)
theorem dX2_step_49 : decode cX2_step 49 = .ok (.iconst 1, 1) := dk_4 (dk_at dksX2_step_2 3 rfl rfl)
theorem dX2_step_50 : decode cX2_step 50 = .ok (.goto 4, 3) := dk_167 0 4 (dk_at dksX2_step_2 4 rfl rfl)
theorem dX2_step_53 : decode cX2_step 53 = .ok (.iconst 0, 1) := dk_3 (dk_at dksX2_step_2 7 rfl rfl)
theorem dX2_step_54 : decode cX2_step 54 = .ok (.invokevirtual 32, 3) := dk_182 0 32 (dk_at dksX2_step_2 8 rfl rfl)
theorem dX2_step_57 : decode cX2_step 57 = .ok (.iload_n 1, 1) := dk_27 (dk_at dksX2_step_2 11 rfl rfl)
theorem dX2_step_58 : decode cX2_step 58 = .ok (.bipush 20, 2) := dk_16 20 (dk_at dksX2_step_2 12 rfl rfl)
theorem dX2_step_60 : decode cX2_step 60 = .ok (.if_icmp .eq 19, 3) := dk_159 0 19 (dk_at dksX2_step_2 14 rfl rfl)
theorem dX2_step_63 : decode cX2_step 63 = .ok (.aload_n 0, 1) := dk_42 (dk_at dksX2_step_2 17 rfl rfl)
theorem dX2_step_64 : decode cX2_step 64 = .ok (.getfield 204, 3) := dk_180 0 204 (dk_at dksX2_step_2 18 rfl rfl)
theorem dX2_step_67 : decode cX2_step 67 = .ok (.bipush 30, 2) := dk_16 30 (dk_at dksX2_step_2 21 rfl rfl)
theorem dX2_step_69 : decode cX2_step 69 = .ok (.if_icmp .ne 10, 3) := dk_160 0 10 (dk_at dksX2_step_3 0 rfl rfl)
theorem dX2_step_72 : decode cX2_step 72 = .ok (.aload_n 0, 1) := dk_42 (dk_at dksX2_step_3 3 rfl rfl)
theorem dX2_step_73 : decode cX2_step 73 = .ok (.bipush 6, 2) := dk_16 6 (dk_at dksX2_step_3 4 rfl rfl)
theorem dX2_step_75 : decode cX2_step 75 = .ok (.invokevirtual 39, 3) := dk_182 0 39 (dk_at dksX2_step_3 6 rfl rfl)
theorem dX2_step_78 : decode cX2_step 78 = .ok (.athrow, 1) := dk_191 (dk_at dksX2_step_3 9 rfl rfl)
theorem dX2_step_79 : decode cX2_step 79 = .ok (.iload_n 2, 1) := dk_28 (dk_at dksX2_step_3 10 rfl rfl)
theorem dX2_step_80 : decode cX2_step 80 = .ok (.ifCond .eq 18, 3) := dk_153 0 18 (dk_at dksX2_step_3 11 rfl rfl)
theorem dX2_step_83 : decode cX2_step 83 = .ok (.aload_n 0, 1) := dk_42 (dk_at dksX2_step_3 14 rfl rfl)
theorem dX2_step_84 : decode cX2_step 84 = .ok (.getfield 207, 3) := dk_180 0 207 (dk_at dksX2_step_3 15 rfl rfl)
theorem dX2_step_87 : decode cX2_step 87 = .ok (.iconst 3, 1) := dk_6 (dk_at dksX2_step_3 18 rfl rfl)
theorem dX2_step_88 : decode cX2_step 88 = .ok (.if_icmp .ne 10, 3) := dk_160 0 10 (dk_at dksX2_step_3 19 rfl rfl)
theorem dX2_step_91 : decode cX2_step 91 = .ok (.aload_n 0, 1) := dk_42 (dk_at dksX2_step_3 22 rfl rfl)
theorem dX2_step_92 : decode cX2_step 92 = .ok (.bipush 7, 2) := dk_16 7 (dk_at dksX2_step_4 0 rfl rfl)
theorem dX2_step_94 : decode cX2_step 94 = .ok (.invokevirtual 39, 3) := dk_182 0 39 (dk_at dksX2_step_4 2 rfl rfl)
theorem dX2_step_97 : decode cX2_step 97 = .ok (.athrow, 1) := dk_191 (dk_at dksX2_step_4 5 rfl rfl)
theorem dX2_step_98 : decode cX2_step 98 = .ok (.new 195, 3) := dk_187 0 195 (dk_at dksX2_step_4 6 rfl rfl)
theorem dX2_step_101 : decode cX2_step 101 = .ok (.dup, 1) := dk_89 (dk_at dksX2_step_4 9 rfl rfl)
theorem dX2_step_102 : decode cX2_step 102 = .ok (.iload_n 1, 1) := dk_27 (dk_at dksX2_step_4 10 rfl rfl)
theorem dX2_step_103 : decode cX2_step 103 = .ok (.invokespecial 240, 3) := dk_183 0 240 (dk_at dksX2_step_4 11 rfl rfl)
theorem dX2_step_106 : decode cX2_step 106 = .ok (.astore_n 3, 1) := dk_78 (dk_at dksX2_step_4 14 rfl rfl)
theorem dX2_step_107 : decode cX2_step 107 = .ok (.aload_n 0, 1) := dk_42 (dk_at dksX2_step_4 15 rfl rfl)
theorem dX2_step_108 : decode cX2_step 108 = .ok (.invokevirtual 36, 3) := dk_182 0 36 (dk_at dksX2_step_4 16 rfl rfl)
theorem dX2_step_111 : decode cX2_step 111 = .ok (.aload_n 0, 1) := dk_42 (dk_at dksX2_step_4 19 rfl rfl)
theorem dX2_step_112 : decode cX2_step 112 = .ok (.aload_n 3, 1) := dk_45 (dk_at dksX2_step_4 20 rfl rfl)
theorem dX2_step_113 : decode cX2_step 113 = .ok (.invokevirtual 242, 3) := dk_182 0 242 (dk_at dksX2_step_4 21 rfl rfl)
theorem dX2_step_116 : decode cX2_step 116 = .ok (.iload_n 1, 1) := dk_27 (dk_at dksX2_step_5 0 rfl rfl)
theorem dX2_step_117 : decode cX2_step 117 = .ok (.bipush 20, 2) := dk_16 20 (dk_at dksX2_step_5 1 rfl rfl)
theorem dX2_step_119 : decode cX2_step 119 = .ok (.if_icmp .ne 42, 3) := dk_160 0 42 (dk_at dksX2_step_5 3 rfl rfl)
theorem dX2_step_122 : decode cX2_step 122 = .ok (.aload_n 0, 1) := dk_42 (dk_at dksX2_step_5 6 rfl rfl)
theorem dX2_step_123 : decode cX2_step 123 = .ok (.dup, 1) := dk_89 (dk_at dksX2_step_5 7 rfl rfl)
theorem dX2_step_124 : decode cX2_step 124 = .ok (.getfield 207, 3) := dk_180 0 207 (dk_at dksX2_step_5 8 rfl rfl)
theorem dX2_step_127 : decode cX2_step 127 = .ok (.iconst 1, 1) := dk_4 (dk_at dksX2_step_5 11 rfl rfl)
theorem dX2_step_128 : decode cX2_step 128 = .ok (.isub, 1) := dk_100 (dk_at dksX2_step_5 12 rfl rfl)
theorem dX2_step_129 : decode cX2_step 129 = .ok (.putfield 207, 3) := dk_181 0 207 (dk_at dksX2_step_5 13 rfl rfl)
theorem dX2_step_132 : decode cX2_step 132 = .ok (.aload_n 3, 1) := dk_45 (dk_at dksX2_step_5 16 rfl rfl)
theorem dX2_step_133 : decode cX2_step 133 = .ok (.aload_n 0, 1) := dk_42 (dk_at dksX2_step_5 17 rfl rfl)
theorem dX2_step_134 : decode cX2_step 134 = .ok (.getfield 24, 3) := dk_180 0 24 (dk_at dksX2_step_5 18 rfl rfl)
theorem dX2_step_137 : decode cX2_step 137 = .ok (.aload_n 0, 1) := dk_42 (dk_at dksX2_step_5 21 rfl rfl)
theorem dX2_step_138 : decode cX2_step 138 = .ok (.getfield 207, 3) := dk_180 0 207 (dk_at dksX2_step_6 0 rfl rfl)
theorem dX2_step_141 : decode cX2_step 141 = .ok (.iaload, 1) := dk_46 (dk_at dksX2_step_6 3 rfl rfl)
theorem dX2_step_142 : decode cX2_step 142 = .ok (.putfield 245, 3) := dk_181 0 245 (dk_at dksX2_step_6 4 rfl rfl)
theorem dX2_step_145 : decode cX2_step 145 = .ok (.aload_n 0, 1) := dk_42 (dk_at dksX2_step_6 7 rfl rfl)
theorem dX2_step_146 : decode cX2_step 146 = .ok (.getfield 197, 3) := dk_180 0 197 (dk_at dksX2_step_6 8 rfl rfl)
theorem dX2_step_149 : decode cX2_step 149 = .ok (.aload_n 3, 1) := dk_45 (dk_at dksX2_step_6 11 rfl rfl)
theorem dX2_step_150 : decode cX2_step 150 = .ok (.getfield 245, 3) := dk_180 0 245 (dk_at dksX2_step_6 12 rfl rfl)
theorem dX2_step_153 : decode cX2_step 153 = .ok (.aaload, 1) := dk_50 (dk_at dksX2_step_6 15 rfl rfl)
theorem dX2_step_154 : decode cX2_step 154 = .ok (.aload_n 0, 1) := dk_42 (dk_at dksX2_step_6 16 rfl rfl)
theorem dX2_step_155 : decode cX2_step 155 = .ok (.getfield 201, 3) := dk_180 0 201 (dk_at dksX2_step_6 17 rfl rfl)
theorem dX2_step_158 : decode cX2_step 158 = .ok (.putfield 245, 3) := dk_181 0 245 (dk_at dksX2_step_6 20 rfl rfl)
theorem dX2_step_161 : decode cX2_step 161 = .ok (.aload_n 0, 1) := dk_42 (dk_at dksX2_step_6 23 rfl rfl)
theorem dX2_step_162 : decode cX2_step 162 = .ok (.invokevirtual 85, 3) := dk_182 0 85 (dk_at dksX2_step_7 0 rfl rfl)
theorem dX2_step_165 : decode cX2_step 165 = .ok (.iload_n 2, 1) := dk_28 (dk_at dksX2_step_7 3 rfl rfl)
theorem dX2_step_166 : decode cX2_step 166 = .ok (.ifCond .eq 26, 3) := dk_153 0 26 (dk_at dksX2_step_7 4 rfl rfl)
theorem dX2_step_169 : decode cX2_step 169 = .ok (.aload_n 0, 1) := dk_42 (dk_at dksX2_step_7 7 rfl rfl)
theorem dX2_step_170 : decode cX2_step 170 = .ok (.getfield 24, 3) := dk_180 0 24 (dk_at dksX2_step_7 8 rfl rfl)
theorem dX2_step_173 : decode cX2_step 173 = .ok (.aload_n 0, 1) := dk_42 (dk_at dksX2_step_7 11 rfl rfl)
theorem dX2_step_174 : decode cX2_step 174 = .ok (.getfield 207, 3) := dk_180 0 207 (dk_at dksX2_step_7 12 rfl rfl)
theorem dX2_step_177 : decode cX2_step 177 = .ok (.aload_n 0, 1) := dk_42 (dk_at dksX2_step_7 15 rfl rfl)
theorem dX2_step_178 : decode cX2_step 178 = .ok (.getfield 201, 3) := dk_180 0 201 (dk_at dksX2_step_7 16 rfl rfl)
theorem dX2_step_181 : decode cX2_step 181 = .ok (.iastore, 1) := dk_79 (dk_at dksX2_step_7 19 rfl rfl)
theorem dX2_step_182 : decode cX2_step 182 = .ok (.aload_n 0, 1) := dk_42 (dk_at dksX2_step_7 20 rfl rfl)
theorem dX2_step_183 : decode cX2_step 183 = .ok (.dup, 1) := dk_89 (dk_at dksX2_step_7 21 rfl rfl)
theorem dX2_step_184 : decode cX2_step 184 = .ok (.getfield 207, 3) := dk_180 0 207 (dk_at dksX2_step_8 0 rfl rfl)
theorem dX2_step_187 : decode cX2_step 187 = .ok (.iconst 1, 1) := dk_4 (dk_at dksX2_step_8 3 rfl rfl)
theorem dX2_step_188 : decode cX2_step 188 = .ok (.iadd, 1) := dk_96 (dk_at dksX2_step_8 4 rfl rfl)
theorem dX2_step_189 : decode cX2_step 189 = .ok (.putfield 207, 3) := dk_181 0 207 (dk_at dksX2_step_8 5 rfl rfl)
theorem dX2_step_192 : decode cX2_step 192 = .ok (.aload_n 0, 1) := dk_42 (dk_at dksX2_step_8 8 rfl rfl)
theorem dX2_step_193 : decode cX2_step 193 = .ok (.dup, 1) := dk_89 (dk_at dksX2_step_8 9 rfl rfl)
theorem dX2_step_194 : decode cX2_step 194 = .ok (.getfield 204, 3) := dk_180 0 204 (dk_at dksX2_step_8 10 rfl rfl)
theorem dX2_step_197 : decode cX2_step 197 = .ok (.iload_n 1, 1) := dk_27 (dk_at dksX2_step_8 13 rfl rfl)
theorem dX2_step_198 : decode cX2_step 198 = .ok (.bipush 20, 2) := dk_16 20 (dk_at dksX2_step_8 14 rfl rfl)
theorem dX2_step_200 : decode cX2_step 200 = .ok (.if_icmp .ne 7, 3) := dk_160 0 7 (dk_at dksX2_step_8 16 rfl rfl)
theorem dX2_step_203 : decode cX2_step 203 = .ok (.iconst 0, 1) := dk_3 (dk_at dksX2_step_8 19 rfl rfl)
theorem dX2_step_204 : decode cX2_step 204 = .ok (.goto 4, 3) := dk_167 0 4 (dk_at dksX2_step_8 20 rfl rfl)
theorem dX2_step_207 : decode cX2_step 207 = .ok (.iconst 1, 1) := dk_4 (dk_at dksX2_step_8 23 rfl rfl)
theorem dX2_step_208 : decode cX2_step 208 = .ok (.iadd, 1) := dk_96 (dk_at dksX2_step_9 0 rfl rfl)
theorem dX2_step_209 : decode cX2_step 209 = .ok (.putfield 204, 3) := dk_181 0 204 (dk_at dksX2_step_9 1 rfl rfl)
theorem dX2_step_212 : decode cX2_step 212 = .ok (.aload_n 0, 1) := dk_42 (dk_at dksX2_step_9 4 rfl rfl)
theorem dX2_step_213 : decode cX2_step 213 = .ok (.getfield 197, 3) := dk_180 0 197 (dk_at dksX2_step_9 5 rfl rfl)
theorem dX2_step_216 : decode cX2_step 216 = .ok (.aload_n 0, 1) := dk_42 (dk_at dksX2_step_9 8 rfl rfl)
theorem dX2_step_217 : decode cX2_step 217 = .ok (.getfield 201, 3) := dk_180 0 201 (dk_at dksX2_step_9 9 rfl rfl)
theorem dX2_step_220 : decode cX2_step 220 = .ok (.aload_n 3, 1) := dk_45 (dk_at dksX2_step_9 12 rfl rfl)
theorem dX2_step_221 : decode cX2_step 221 = .ok (.aastore, 1) := dk_83 (dk_at dksX2_step_9 13 rfl rfl)
theorem dX2_step_222 : decode cX2_step 222 = .ok (.aload_n 0, 1) := dk_42 (dk_at dksX2_step_9 14 rfl rfl)
theorem dX2_step_223 : decode cX2_step 223 = .ok (.dup, 1) := dk_89 (dk_at dksX2_step_9 15 rfl rfl)
theorem dX2_step_224 : decode cX2_step 224 = .ok (.getfield 201, 3) := dk_180 0 201 (dk_at dksX2_step_9 16 rfl rfl)
theorem dX2_step_227 : decode cX2_step 227 = .ok (.iconst 1, 1) := dk_4 (dk_at dksX2_step_9 19 rfl rfl)
theorem dX2_step_228 : decode cX2_step 228 = .ok (.iadd, 1) := dk_96 (dk_at dksX2_step_9 20 rfl rfl)
theorem dX2_step_229 : decode cX2_step 229 = .ok (.putfield 201, 3) := dk_181 0 201 (dk_at dksX2_step_9 21 rfl rfl)
theorem dX2_step_232 : decode cX2_step 232 = .ok (.return_, 1) := dk_177 (dk_at dksX2_step_10 0 rfl rfl)
abbrev cX2_order : ByteArray := prog_6_method_19_code
def yX2_order : MethodName := ⟨RX2, "order", "(LHairProvince$Step;)V"⟩
def dkwX2_order_7 : List UInt8 := [177]
abbrev dktX2_order_7 : List UInt8 := dkwX2_order_7 ++ []
def dkwX2_order_6 : List UInt8 := [16, 22, 182, 0, 178, 43, 42, 182, 0, 173, 181, 0, 219, 167, 0, 11, 42, 43, 182, 0, 237, 167, 0, 3]
abbrev dktX2_order_6 : List UInt8 := dkwX2_order_6 ++ dktX2_order_7
def dkwX2_order_5 : List UInt8 := [182, 0, 178, 43, 42, 182, 0, 173, 181, 0, 234, 167, 0, 36, 43, 42, 182, 0, 173, 181, 0, 216, 42]
abbrev dktX2_order_5 : List UInt8 := dkwX2_order_5 ++ dktX2_order_6
def dkwX2_order_4 : List UInt8 := [167, 0, 69, 43, 42, 182, 0, 173, 181, 0, 216, 43, 42, 182, 0, 189, 181, 0, 219, 42, 16, 21]
abbrev dktX2_order_4 : List UInt8 := dkwX2_order_4 ++ dktX2_order_5
def dkwX2_order_3 : List UInt8 := [181, 0, 216, 167, 0, 88, 43, 42, 182, 0, 173, 181, 0, 216, 43, 42, 182, 0, 189, 181, 0, 219]
abbrev dktX2_order_3 : List UInt8 := dkwX2_order_3 ++ dktX2_order_4
def dkwX2_order_2 : List UInt8 := [43, 42, 4, 16, 20, 182, 0, 108, 181, 0, 216, 167, 0, 102, 43, 42, 4, 16, 99, 182, 0, 108]
abbrev dktX2_order_2 : List UInt8 := dkwX2_order_2 ++ dktX2_order_3
def dkwX2_order_1 : List UInt8 := [170, 0, 0, 0, 0, 0, 0, 157, 0, 0, 0, 12, 0, 0, 0, 18, 0, 0, 0, 44, 0, 0, 0, 72, 0, 0, 0, 91, 0, 0, 0, 124, 0, 0, 0, 157, 0, 0, 0, 149, 0, 0, 0, 58]
abbrev dktX2_order_1 : List UInt8 := dkwX2_order_1 ++ dktX2_order_2
def dkwX2_order_0 : List UInt8 := [43, 180, 0, 231]
abbrev dktX2_order_0 : List UInt8 := dkwX2_order_0 ++ dktX2_order_1
theorem dksX2_order_0 : cX2_order.data.toList.drop 0 = dktX2_order_0 := by decide +kernel
theorem dksX2_order_1 : cX2_order.data.toList.drop 4 = dktX2_order_1 := dk_seg dksX2_order_0 4 rfl rfl
theorem dksX2_order_2 : cX2_order.data.toList.drop 48 = dktX2_order_2 := dk_seg dksX2_order_1 44 rfl rfl
theorem dksX2_order_3 : cX2_order.data.toList.drop 70 = dktX2_order_3 := dk_seg dksX2_order_2 22 rfl rfl
theorem dksX2_order_4 : cX2_order.data.toList.drop 92 = dktX2_order_4 := dk_seg dksX2_order_3 22 rfl rfl
theorem dksX2_order_5 : cX2_order.data.toList.drop 114 = dktX2_order_5 := dk_seg dksX2_order_4 22 rfl rfl
theorem dksX2_order_6 : cX2_order.data.toList.drop 137 = dktX2_order_6 := dk_seg dksX2_order_5 23 rfl rfl
theorem dksX2_order_7 : cX2_order.data.toList.drop 161 = dktX2_order_7 := dk_seg dksX2_order_6 24 rfl rfl
theorem dX2_order_0 : decode cX2_order 0 = .ok (.aload_n 1, 1) := dk_43 (dk_at dksX2_order_0 0 rfl rfl)
theorem dX2_order_1 : decode cX2_order 1 = .ok (.getfield 231, 3) := dk_180 0 231 (dk_at dksX2_order_0 1 rfl rfl)
theorem dX2_order_4 : decode cX2_order 4 = .ok (.tableswitch 157 12 18 #[44, 72, 91, 124, 157, 149, 58], 44) := by decide +kernel
theorem dX2_order_48 : decode cX2_order 48 = .ok (.aload_n 1, 1) := dk_43 (dk_at dksX2_order_2 0 rfl rfl)
theorem dX2_order_49 : decode cX2_order 49 = .ok (.aload_n 0, 1) := dk_42 (dk_at dksX2_order_2 1 rfl rfl)
theorem dX2_order_50 : decode cX2_order 50 = .ok (.iconst 1, 1) := dk_4 (dk_at dksX2_order_2 2 rfl rfl)
theorem dX2_order_51 : decode cX2_order 51 = .ok (.bipush 20, 2) := dk_16 20 (dk_at dksX2_order_2 3 rfl rfl)
theorem dX2_order_53 : decode cX2_order 53 = .ok (.invokevirtual 108, 3) := dk_182 0 108 (dk_at dksX2_order_2 5 rfl rfl)
theorem dX2_order_56 : decode cX2_order 56 = .ok (.putfield 216, 3) := dk_181 0 216 (dk_at dksX2_order_2 8 rfl rfl)
theorem dX2_order_59 : decode cX2_order 59 = .ok (.goto 102, 3) := dk_167 0 102 (dk_at dksX2_order_2 11 rfl rfl)
theorem dX2_order_62 : decode cX2_order 62 = .ok (.aload_n 1, 1) := dk_43 (dk_at dksX2_order_2 14 rfl rfl)
theorem dX2_order_63 : decode cX2_order 63 = .ok (.aload_n 0, 1) := dk_42 (dk_at dksX2_order_2 15 rfl rfl)
theorem dX2_order_64 : decode cX2_order 64 = .ok (.iconst 1, 1) := dk_4 (dk_at dksX2_order_2 16 rfl rfl)
theorem dX2_order_65 : decode cX2_order 65 = .ok (.bipush 99, 2) := dk_16 99 (dk_at dksX2_order_2 17 rfl rfl)
theorem dX2_order_67 : decode cX2_order 67 = .ok (.invokevirtual 108, 3) := dk_182 0 108 (dk_at dksX2_order_2 19 rfl rfl)
theorem dX2_order_70 : decode cX2_order 70 = .ok (.putfield 216, 3) := dk_181 0 216 (dk_at dksX2_order_3 0 rfl rfl)
theorem dX2_order_73 : decode cX2_order 73 = .ok (.goto 88, 3) := dk_167 0 88 (dk_at dksX2_order_3 3 rfl rfl)
theorem dX2_order_76 : decode cX2_order 76 = .ok (.aload_n 1, 1) := dk_43 (dk_at dksX2_order_3 6 rfl rfl)
theorem dX2_order_77 : decode cX2_order 77 = .ok (.aload_n 0, 1) := dk_42 (dk_at dksX2_order_3 7 rfl rfl)
theorem dX2_order_78 : decode cX2_order 78 = .ok (.invokevirtual 173, 3) := dk_182 0 173 (dk_at dksX2_order_3 8 rfl rfl)
theorem dX2_order_81 : decode cX2_order 81 = .ok (.putfield 216, 3) := dk_181 0 216 (dk_at dksX2_order_3 11 rfl rfl)
theorem dX2_order_84 : decode cX2_order 84 = .ok (.aload_n 1, 1) := dk_43 (dk_at dksX2_order_3 14 rfl rfl)
theorem dX2_order_85 : decode cX2_order 85 = .ok (.aload_n 0, 1) := dk_42 (dk_at dksX2_order_3 15 rfl rfl)
theorem dX2_order_86 : decode cX2_order 86 = .ok (.invokevirtual 189, 3) := dk_182 0 189 (dk_at dksX2_order_3 16 rfl rfl)
theorem dX2_order_89 : decode cX2_order 89 = .ok (.putfield 219, 3) := dk_181 0 219 (dk_at dksX2_order_3 19 rfl rfl)
theorem dX2_order_92 : decode cX2_order 92 = .ok (.goto 69, 3) := dk_167 0 69 (dk_at dksX2_order_4 0 rfl rfl)
theorem dX2_order_95 : decode cX2_order 95 = .ok (.aload_n 1, 1) := dk_43 (dk_at dksX2_order_4 3 rfl rfl)
theorem dX2_order_96 : decode cX2_order 96 = .ok (.aload_n 0, 1) := dk_42 (dk_at dksX2_order_4 4 rfl rfl)
theorem dX2_order_97 : decode cX2_order 97 = .ok (.invokevirtual 173, 3) := dk_182 0 173 (dk_at dksX2_order_4 5 rfl rfl)
theorem dX2_order_100 : decode cX2_order 100 = .ok (.putfield 216, 3) := dk_181 0 216 (dk_at dksX2_order_4 8 rfl rfl)
theorem dX2_order_103 : decode cX2_order 103 = .ok (.aload_n 1, 1) := dk_43 (dk_at dksX2_order_4 11 rfl rfl)
theorem dX2_order_104 : decode cX2_order 104 = .ok (.aload_n 0, 1) := dk_42 (dk_at dksX2_order_4 12 rfl rfl)
theorem dX2_order_105 : decode cX2_order 105 = .ok (.invokevirtual 189, 3) := dk_182 0 189 (dk_at dksX2_order_4 13 rfl rfl)
theorem dX2_order_108 : decode cX2_order 108 = .ok (.putfield 219, 3) := dk_181 0 219 (dk_at dksX2_order_4 16 rfl rfl)
theorem dX2_order_111 : decode cX2_order 111 = .ok (.aload_n 0, 1) := dk_42 (dk_at dksX2_order_4 19 rfl rfl)
theorem dX2_order_112 : decode cX2_order 112 = .ok (.bipush 21, 2) := dk_16 21 (dk_at dksX2_order_4 20 rfl rfl)
theorem dX2_order_114 : decode cX2_order 114 = .ok (.invokevirtual 178, 3) := dk_182 0 178 (dk_at dksX2_order_5 0 rfl rfl)
theorem dX2_order_117 : decode cX2_order 117 = .ok (.aload_n 1, 1) := dk_43 (dk_at dksX2_order_5 3 rfl rfl)
theorem dX2_order_118 : decode cX2_order 118 = .ok (.aload_n 0, 1) := dk_42 (dk_at dksX2_order_5 4 rfl rfl)
theorem dX2_order_119 : decode cX2_order 119 = .ok (.invokevirtual 173, 3) := dk_182 0 173 (dk_at dksX2_order_5 5 rfl rfl)
theorem dX2_order_122 : decode cX2_order 122 = .ok (.putfield 234, 3) := dk_181 0 234 (dk_at dksX2_order_5 8 rfl rfl)
theorem dX2_order_125 : decode cX2_order 125 = .ok (.goto 36, 3) := dk_167 0 36 (dk_at dksX2_order_5 11 rfl rfl)
theorem dX2_order_128 : decode cX2_order 128 = .ok (.aload_n 1, 1) := dk_43 (dk_at dksX2_order_5 14 rfl rfl)
theorem dX2_order_129 : decode cX2_order 129 = .ok (.aload_n 0, 1) := dk_42 (dk_at dksX2_order_5 15 rfl rfl)
theorem dX2_order_130 : decode cX2_order 130 = .ok (.invokevirtual 173, 3) := dk_182 0 173 (dk_at dksX2_order_5 16 rfl rfl)
theorem dX2_order_133 : decode cX2_order 133 = .ok (.putfield 216, 3) := dk_181 0 216 (dk_at dksX2_order_5 19 rfl rfl)
theorem dX2_order_136 : decode cX2_order 136 = .ok (.aload_n 0, 1) := dk_42 (dk_at dksX2_order_5 22 rfl rfl)
theorem dX2_order_137 : decode cX2_order 137 = .ok (.bipush 22, 2) := dk_16 22 (dk_at dksX2_order_6 0 rfl rfl)
theorem dX2_order_139 : decode cX2_order 139 = .ok (.invokevirtual 178, 3) := dk_182 0 178 (dk_at dksX2_order_6 2 rfl rfl)
theorem dX2_order_142 : decode cX2_order 142 = .ok (.aload_n 1, 1) := dk_43 (dk_at dksX2_order_6 5 rfl rfl)
theorem dX2_order_143 : decode cX2_order 143 = .ok (.aload_n 0, 1) := dk_42 (dk_at dksX2_order_6 6 rfl rfl)
theorem dX2_order_144 : decode cX2_order 144 = .ok (.invokevirtual 173, 3) := dk_182 0 173 (dk_at dksX2_order_6 7 rfl rfl)
theorem dX2_order_147 : decode cX2_order 147 = .ok (.putfield 219, 3) := dk_181 0 219 (dk_at dksX2_order_6 10 rfl rfl)
theorem dX2_order_150 : decode cX2_order 150 = .ok (.goto 11, 3) := dk_167 0 11 (dk_at dksX2_order_6 13 rfl rfl)
theorem dX2_order_153 : decode cX2_order 153 = .ok (.aload_n 0, 1) := dk_42 (dk_at dksX2_order_6 16 rfl rfl)
theorem dX2_order_154 : decode cX2_order 154 = .ok (.aload_n 1, 1) := dk_43 (dk_at dksX2_order_6 17 rfl rfl)
theorem dX2_order_155 : decode cX2_order 155 = .ok (.invokevirtual 237, 3) := dk_182 0 237 (dk_at dksX2_order_6 18 rfl rfl)
theorem dX2_order_158 : decode cX2_order 158 = .ok (.goto 3, 3) := dk_167 0 3 (dk_at dksX2_order_6 21 rfl rfl)
theorem dX2_order_161 : decode cX2_order 161 = .ok (.return_, 1) := dk_177 (dk_at dksX2_order_7 0 rfl rfl)
abbrev cX2_test : ByteArray := prog_6_method_18_code
def yX2_test : MethodName := ⟨RX2, "test", "(LHairProvince$Step;)V"⟩
def dkwX2_test_5 : List UInt8 := [17, 39, 15, 182, 0, 108, 181, 0, 219, 177]
abbrev dktX2_test_5 : List UInt8 := dkwX2_test_5 ++ []
def dkwX2_test_4 : List UInt8 := [167, 0, 4, 3, 182, 0, 32, 43, 42, 180, 0, 225, 181, 0, 228, 42, 182, 0, 36, 43, 42, 3]
abbrev dktX2_test_4 : List UInt8 := dkwX2_test_4 ++ dktX2_test_5
def dkwX2_test_3 : List UInt8 := [154, 0, 21, 42, 16, 62, 182, 0, 222, 154, 0, 12, 42, 16, 61, 182, 0, 222, 153, 0, 7, 4]
abbrev dktX2_test_3 : List UInt8 := dkwX2_test_3 ++ dktX2_test_4
def dkwX2_test_2 : List UInt8 := [180, 0, 213, 16, 23, 160, 0, 12, 43, 42, 182, 0, 189, 181, 0, 219, 177, 42, 42, 16, 60, 182, 0, 222]
abbrev dktX2_test_2 : List UInt8 := dkwX2_test_2 ++ dktX2_test_3
def dkwX2_test_1 : List UInt8 := [160, 0, 7, 4, 167, 0, 4, 3, 182, 0, 32, 42, 182, 0, 36, 43, 42, 182, 0, 173, 181, 0, 216, 43]
abbrev dktX2_test_1 : List UInt8 := dkwX2_test_1 ++ dktX2_test_2
def dkwX2_test_0 : List UInt8 := [43, 42, 182, 0, 28, 181, 0, 213, 42, 43, 180, 0, 213, 16, 23, 159, 0, 12, 43, 180, 0, 213, 16, 24]
abbrev dktX2_test_0 : List UInt8 := dkwX2_test_0 ++ dktX2_test_1
theorem dksX2_test_0 : cX2_test.data.toList.drop 0 = dktX2_test_0 := by decide +kernel
theorem dksX2_test_1 : cX2_test.data.toList.drop 24 = dktX2_test_1 := dk_seg dksX2_test_0 24 rfl rfl
theorem dksX2_test_2 : cX2_test.data.toList.drop 48 = dktX2_test_2 := dk_seg dksX2_test_1 24 rfl rfl
theorem dksX2_test_3 : cX2_test.data.toList.drop 72 = dktX2_test_3 := dk_seg dksX2_test_2 24 rfl rfl
theorem dksX2_test_4 : cX2_test.data.toList.drop 94 = dktX2_test_4 := dk_seg dksX2_test_3 22 rfl rfl
theorem dksX2_test_5 : cX2_test.data.toList.drop 116 = dktX2_test_5 := dk_seg dksX2_test_4 22 rfl rfl
theorem dX2_test_0 : decode cX2_test 0 = .ok (.aload_n 1, 1) := dk_43 (dk_at dksX2_test_0 0 rfl rfl)
theorem dX2_test_1 : decode cX2_test 1 = .ok (.aload_n 0, 1) := dk_42 (dk_at dksX2_test_0 1 rfl rfl)
theorem dX2_test_2 : decode cX2_test 2 = .ok (.invokevirtual 28, 3) := dk_182 0 28 (dk_at dksX2_test_0 2 rfl rfl)
theorem dX2_test_5 : decode cX2_test 5 = .ok (.putfield 213, 3) := dk_181 0 213 (dk_at dksX2_test_0 5 rfl rfl)
theorem dX2_test_8 : decode cX2_test 8 = .ok (.aload_n 0, 1) := dk_42 (dk_at dksX2_test_0 8 rfl rfl)
theorem dX2_test_9 : decode cX2_test 9 = .ok (.aload_n 1, 1) := dk_43 (dk_at dksX2_test_0 9 rfl rfl)
theorem dX2_test_10 : decode cX2_test 10 = .ok (.getfield 213, 3) := dk_180 0 213 (dk_at dksX2_test_0 10 rfl rfl)
theorem dX2_test_13 : decode cX2_test 13 = .ok (.bipush 23, 2) := dk_16 23 (dk_at dksX2_test_0 13 rfl rfl)
theorem dX2_test_15 : decode cX2_test 15 = .ok (.if_icmp .eq 12, 3) := dk_159 0 12 (dk_at dksX2_test_0 15 rfl rfl)
theorem dX2_test_18 : decode cX2_test 18 = .ok (.aload_n 1, 1) := dk_43 (dk_at dksX2_test_0 18 rfl rfl)
theorem dX2_test_19 : decode cX2_test 19 = .ok (.getfield 213, 3) := dk_180 0 213 (dk_at dksX2_test_0 19 rfl rfl)
theorem dX2_test_22 : decode cX2_test 22 = .ok (.bipush 24, 2) := dk_16 24 (dk_at dksX2_test_0 22 rfl rfl)
theorem dX2_test_24 : decode cX2_test 24 = .ok (.if_icmp .ne 7, 3) := dk_160 0 7 (dk_at dksX2_test_1 0 rfl rfl)
theorem dX2_test_27 : decode cX2_test 27 = .ok (.iconst 1, 1) := dk_4 (dk_at dksX2_test_1 3 rfl rfl)
theorem dX2_test_28 : decode cX2_test 28 = .ok (.goto 4, 3) := dk_167 0 4 (dk_at dksX2_test_1 4 rfl rfl)
theorem dX2_test_31 : decode cX2_test 31 = .ok (.iconst 0, 1) := dk_3 (dk_at dksX2_test_1 7 rfl rfl)
theorem dX2_test_32 : decode cX2_test 32 = .ok (.invokevirtual 32, 3) := dk_182 0 32 (dk_at dksX2_test_1 8 rfl rfl)
theorem dX2_test_35 : decode cX2_test 35 = .ok (.aload_n 0, 1) := dk_42 (dk_at dksX2_test_1 11 rfl rfl)
theorem dX2_test_36 : decode cX2_test 36 = .ok (.invokevirtual 36, 3) := dk_182 0 36 (dk_at dksX2_test_1 12 rfl rfl)
theorem dX2_test_39 : decode cX2_test 39 = .ok (.aload_n 1, 1) := dk_43 (dk_at dksX2_test_1 15 rfl rfl)
theorem dX2_test_40 : decode cX2_test 40 = .ok (.aload_n 0, 1) := dk_42 (dk_at dksX2_test_1 16 rfl rfl)
theorem dX2_test_41 : decode cX2_test 41 = .ok (.invokevirtual 173, 3) := dk_182 0 173 (dk_at dksX2_test_1 17 rfl rfl)
theorem dX2_test_44 : decode cX2_test 44 = .ok (.putfield 216, 3) := dk_181 0 216 (dk_at dksX2_test_1 20 rfl rfl)
theorem dX2_test_47 : decode cX2_test 47 = .ok (.aload_n 1, 1) := dk_43 (dk_at dksX2_test_1 23 rfl rfl)
theorem dX2_test_48 : decode cX2_test 48 = .ok (.getfield 213, 3) := dk_180 0 213 (dk_at dksX2_test_2 0 rfl rfl)
theorem dX2_test_51 : decode cX2_test 51 = .ok (.bipush 23, 2) := dk_16 23 (dk_at dksX2_test_2 3 rfl rfl)
theorem dX2_test_53 : decode cX2_test 53 = .ok (.if_icmp .ne 12, 3) := dk_160 0 12 (dk_at dksX2_test_2 5 rfl rfl)
theorem dX2_test_56 : decode cX2_test 56 = .ok (.aload_n 1, 1) := dk_43 (dk_at dksX2_test_2 8 rfl rfl)
theorem dX2_test_57 : decode cX2_test 57 = .ok (.aload_n 0, 1) := dk_42 (dk_at dksX2_test_2 9 rfl rfl)
theorem dX2_test_58 : decode cX2_test 58 = .ok (.invokevirtual 189, 3) := dk_182 0 189 (dk_at dksX2_test_2 10 rfl rfl)
theorem dX2_test_61 : decode cX2_test 61 = .ok (.putfield 219, 3) := dk_181 0 219 (dk_at dksX2_test_2 13 rfl rfl)
theorem dX2_test_64 : decode cX2_test 64 = .ok (.return_, 1) := dk_177 (dk_at dksX2_test_2 16 rfl rfl)
theorem dX2_test_65 : decode cX2_test 65 = .ok (.aload_n 0, 1) := dk_42 (dk_at dksX2_test_2 17 rfl rfl)
theorem dX2_test_66 : decode cX2_test 66 = .ok (.aload_n 0, 1) := dk_42 (dk_at dksX2_test_2 18 rfl rfl)
theorem dX2_test_67 : decode cX2_test 67 = .ok (.bipush 60, 2) := dk_16 60 (dk_at dksX2_test_2 19 rfl rfl)
theorem dX2_test_69 : decode cX2_test 69 = .ok (.invokevirtual 222, 3) := dk_182 0 222 (dk_at dksX2_test_2 21 rfl rfl)
theorem dX2_test_72 : decode cX2_test 72 = .ok (.ifCond .ne 21, 3) := dk_154 0 21 (dk_at dksX2_test_3 0 rfl rfl)
theorem dX2_test_75 : decode cX2_test 75 = .ok (.aload_n 0, 1) := dk_42 (dk_at dksX2_test_3 3 rfl rfl)
theorem dX2_test_76 : decode cX2_test 76 = .ok (.bipush 62, 2) := dk_16 62 (dk_at dksX2_test_3 4 rfl rfl)
theorem dX2_test_78 : decode cX2_test 78 = .ok (.invokevirtual 222, 3) := dk_182 0 222 (dk_at dksX2_test_3 6 rfl rfl)
theorem dX2_test_81 : decode cX2_test 81 = .ok (.ifCond .ne 12, 3) := dk_154 0 12 (dk_at dksX2_test_3 9 rfl rfl)
theorem dX2_test_84 : decode cX2_test 84 = .ok (.aload_n 0, 1) := dk_42 (dk_at dksX2_test_3 12 rfl rfl)
theorem dX2_test_85 : decode cX2_test 85 = .ok (.bipush 61, 2) := dk_16 61 (dk_at dksX2_test_3 13 rfl rfl)
theorem dX2_test_87 : decode cX2_test 87 = .ok (.invokevirtual 222, 3) := dk_182 0 222 (dk_at dksX2_test_3 15 rfl rfl)
theorem dX2_test_90 : decode cX2_test 90 = .ok (.ifCond .eq 7, 3) := dk_153 0 7 (dk_at dksX2_test_3 18 rfl rfl)
theorem dX2_test_93 : decode cX2_test 93 = .ok (.iconst 1, 1) := dk_4 (dk_at dksX2_test_3 21 rfl rfl)
theorem dX2_test_94 : decode cX2_test 94 = .ok (.goto 4, 3) := dk_167 0 4 (dk_at dksX2_test_4 0 rfl rfl)
theorem dX2_test_97 : decode cX2_test 97 = .ok (.iconst 0, 1) := dk_3 (dk_at dksX2_test_4 3 rfl rfl)
theorem dX2_test_98 : decode cX2_test 98 = .ok (.invokevirtual 32, 3) := dk_182 0 32 (dk_at dksX2_test_4 4 rfl rfl)
theorem dX2_test_101 : decode cX2_test 101 = .ok (.aload_n 1, 1) := dk_43 (dk_at dksX2_test_4 7 rfl rfl)
theorem dX2_test_102 : decode cX2_test 102 = .ok (.aload_n 0, 1) := dk_42 (dk_at dksX2_test_4 8 rfl rfl)
theorem dX2_test_103 : decode cX2_test 103 = .ok (.getfield 225, 3) := dk_180 0 225 (dk_at dksX2_test_4 9 rfl rfl)
theorem dX2_test_106 : decode cX2_test 106 = .ok (.putfield 228, 3) := dk_181 0 228 (dk_at dksX2_test_4 12 rfl rfl)
theorem dX2_test_109 : decode cX2_test 109 = .ok (.aload_n 0, 1) := dk_42 (dk_at dksX2_test_4 15 rfl rfl)
theorem dX2_test_110 : decode cX2_test 110 = .ok (.invokevirtual 36, 3) := dk_182 0 36 (dk_at dksX2_test_4 16 rfl rfl)
theorem dX2_test_113 : decode cX2_test 113 = .ok (.aload_n 1, 1) := dk_43 (dk_at dksX2_test_4 19 rfl rfl)
theorem dX2_test_114 : decode cX2_test 114 = .ok (.aload_n 0, 1) := dk_42 (dk_at dksX2_test_4 20 rfl rfl)
theorem dX2_test_115 : decode cX2_test 115 = .ok (.iconst 0, 1) := dk_3 (dk_at dksX2_test_4 21 rfl rfl)
theorem dX2_test_116 : decode cX2_test 116 = .ok (.sipush 9999, 3) := dk_17 39 15 (dk_at dksX2_test_5 0 rfl rfl)
theorem dX2_test_119 : decode cX2_test 119 = .ok (.invokevirtual 108, 3) := dk_182 0 108 (dk_at dksX2_test_5 3 rfl rfl)
theorem dX2_test_122 : decode cX2_test 122 = .ok (.putfield 219, 3) := dk_181 0 219 (dk_at dksX2_test_5 6 rfl rfl)
theorem dX2_test_125 : decode cX2_test 125 = .ok (.return_, 1) := dk_177 (dk_at dksX2_test_5 9 rfl rfl)
theorem q177 : (Jvm.Cond.initialized "HairProvince$Reader") ∈ lw_all := lw_g (lw_at lw_m1 3 rfl) rfl
theorem q213 : (Jvm.Cond.instantiable "HairProvince$Reader" (18 : Nat)) ∈ lw_all := lw_g (lw_at lw_m1 39 rfl) rfl
theorem q303 : (Jvm.Cond.instanceMethod ({ cls := "HairProvince$Reader", name := "<init>", desc := "(LHairProvince$Wrong;)V" } : Jvm.MethodName)) ∈ lw_all := lw_g (lw_at lw_m1 129 rfl) rfl
theorem q304 : (Jvm.Cond.code ({ cls := "HairProvince$Reader", name := "<init>", desc := "(LHairProvince$Wrong;)V" } : Jvm.MethodName) prog_6_method_1_code (2 : Nat) (Option.none : Option Jvm.ClassFile.FieldType)) ∈ lw_all := lw_g (lw_at lw_m1 130 rfl) rfl
theorem q305 : (Jvm.Cond.stringRef "HairProvince$Reader" (3 : Nat) " heard odds word person dinner halves grows grey temper barber keeps every day keep say cut any when loop stop end to by knows hair ") ∈ lw_tbl := lw_at lw_m1 131 rfl
theorem q306 : (Jvm.Cond.stringRef "HairProvince$Reader" (5 : Nat) ";<>=") ∈ lw_tbl := lw_at lw_m1 132 rfl
theorem q307 : (Jvm.Cond.methodLink "HairProvince$Reader" (7 : Nat) ({ cls := "HairProvince$Scan", name := "<init>", desc := "([BLjava/lang/String;Ljava/lang/String;LHairProvince$Wrong;)V" } : Jvm.MethodName)) ∈ lw_all := lw_g (lw_at lw_m1 133 rfl) rfl
theorem q311 : (Jvm.Cond.classLink "HairProvince$Reader" (13 : Nat) "HairProvince$Saying") ∈ lw_all := lw_g (lw_at lw_m1 137 rfl) rfl
theorem q313 : (Jvm.Cond.methodLinkNest "HairProvince$Reader" (15 : Nat) ({ cls := "HairProvince$Saying", name := "<init>", desc := "()V" } : Jvm.MethodName) "HairProvince") ∈ lw_tbl := lw_at lw_m1 139 rfl
theorem q320 : (Jvm.Cond.fieldLink "HairProvince$Reader" (201 : Nat) "HairProvince$Reader" "stepMany" "I") ∈ lw_all := lw_g (lw_at lw_m1 146 rfl) rfl
theorem q322 : (Jvm.Cond.fieldLink "HairProvince$Reader" (204 : Nat) "HairProvince$Reader" "counted" "I") ∈ lw_all := lw_g (lw_at lw_m1 148 rfl) rfl
theorem q324 : (Jvm.Cond.fieldLink "HairProvince$Reader" (207 : Nat) "HairProvince$Reader" "open" "I") ∈ lw_all := lw_g (lw_at lw_m1 150 rfl) rfl
theorem q325 : (Jvm.Cond.fieldLink "HairProvince$Reader" (71 : Nat) "HairProvince$Reader" "told" "I") ∈ lw_all := lw_g (lw_at lw_m1 151 rfl) rfl
theorem q326 : (Jvm.Cond.fieldLink "HairProvince$Reader" (18 : Nat) "HairProvince$Reader" "saying" "LHairProvince$Saying;") ∈ lw_all := lw_g (lw_at lw_m1 152 rfl) rfl
theorem q327 : (Jvm.Cond.fieldLink "HairProvince$Reader" (43 : Nat) "HairProvince$Reader" "province" "LHairProvince$Province;") ∈ lw_all := lw_g (lw_at lw_m1 153 rfl) rfl
theorem q328 : (Jvm.Cond.fieldLink "HairProvince$Reader" (197 : Nat) "HairProvince$Reader" "steps" "[LHairProvince$Step;") ∈ lw_all := lw_g (lw_at lw_m1 154 rfl) rfl
theorem q329 : (Jvm.Cond.fieldLink "HairProvince$Reader" (24 : Nat) "HairProvince$Reader" "opened" "[I") ∈ lw_all := lw_g (lw_at lw_m1 155 rfl) rfl
theorem q332 : (Jvm.Cond.sameField "HairProvince$Reader" "HairProvince$Scan" "tape" "[B") ∈ lw_all := lw_g (lw_at lw_m1 158 rfl) rfl
theorem q335 : (Jvm.Cond.fieldLink "HairProvince$Reader" (79 : Nat) "HairProvince$Reader" "sort" "I") ∈ lw_all := lw_g (lw_at lw_m1 161 rfl) rfl
theorem q336 : (Jvm.Cond.sameField "HairProvince$Reader" "HairProvince$Scan" "sort" "I") ∈ lw_all := lw_g (lw_at lw_m1 162 rfl) rfl
theorem q340 : (Jvm.Cond.fieldLink "HairProvince$Reader" (225 : Nat) "HairProvince$Reader" "value" "I") ∈ lw_all := lw_g (lw_at lw_m1 166 rfl) rfl
theorem q341 : (Jvm.Cond.sameField "HairProvince$Reader" "HairProvince$Scan" "value" "I") ∈ lw_all := lw_g (lw_at lw_m1 167 rfl) rfl
theorem q345 : (Jvm.Cond.lays "HairProvince$Reader" "HairProvince$Reader" "taped" "I") ∈ lw_all := lw_g (lw_at lw_m1 171 rfl) rfl
theorem q346 : (Jvm.Cond.soleField "HairProvince$Reader" "taped") ∈ lw_all := lw_g (lw_at lw_m1 172 rfl) rfl
theorem q347 : (Jvm.Cond.lays "HairProvince$Reader" "HairProvince$Reader" "stepMany" "I") ∈ lw_all := lw_g (lw_at lw_m1 173 rfl) rfl
theorem q348 : (Jvm.Cond.soleField "HairProvince$Reader" "stepMany") ∈ lw_all := lw_g (lw_at lw_m1 174 rfl) rfl
theorem q349 : (Jvm.Cond.lays "HairProvince$Reader" "HairProvince$Reader" "counted" "I") ∈ lw_all := lw_g (lw_at lw_m1 175 rfl) rfl
theorem q350 : (Jvm.Cond.soleField "HairProvince$Reader" "counted") ∈ lw_all := lw_g (lw_at lw_m1 176 rfl) rfl
theorem q351 : (Jvm.Cond.lays "HairProvince$Reader" "HairProvince$Reader" "open" "I") ∈ lw_all := lw_g (lw_at lw_m1 177 rfl) rfl
theorem q352 : (Jvm.Cond.soleField "HairProvince$Reader" "open") ∈ lw_all := lw_g (lw_at lw_m1 178 rfl) rfl
theorem q353 : (Jvm.Cond.lays "HairProvince$Reader" "HairProvince$Reader" "told" "I") ∈ lw_all := lw_g (lw_at lw_m1 179 rfl) rfl
theorem q354 : (Jvm.Cond.soleField "HairProvince$Reader" "told") ∈ lw_all := lw_g (lw_at lw_m1 180 rfl) rfl
theorem q355 : (Jvm.Cond.laysFinal "HairProvince$Reader" "HairProvince$Reader" "saying" "LHairProvince$Saying;") ∈ lw_all := lw_g (lw_at lw_m1 181 rfl) rfl
theorem q356 : (Jvm.Cond.soleField "HairProvince$Reader" "saying") ∈ lw_all := lw_g (lw_at lw_m1 182 rfl) rfl
theorem q357 : (Jvm.Cond.lays "HairProvince$Reader" "HairProvince$Reader" "province" "LHairProvince$Province;") ∈ lw_all := lw_g (lw_at lw_m1 183 rfl) rfl
theorem q358 : (Jvm.Cond.soleField "HairProvince$Reader" "province") ∈ lw_all := lw_g (lw_at lw_m1 184 rfl) rfl
theorem q359 : (Jvm.Cond.lays "HairProvince$Reader" "HairProvince$Reader" "steps" "[LHairProvince$Step;") ∈ lw_all := lw_g (lw_at lw_m1 185 rfl) rfl
theorem q360 : (Jvm.Cond.soleField "HairProvince$Reader" "steps") ∈ lw_all := lw_g (lw_at lw_m1 186 rfl) rfl
theorem q361 : (Jvm.Cond.laysFinal "HairProvince$Reader" "HairProvince$Reader" "opened" "[I") ∈ lw_all := lw_g (lw_at lw_m1 187 rfl) rfl
theorem q362 : (Jvm.Cond.soleField "HairProvince$Reader" "opened") ∈ lw_all := lw_g (lw_at lw_m1 188 rfl) rfl
theorem q363 : (Jvm.Cond.laysFinal "HairProvince$Reader" "HairProvince$Scan" "tape" "[B") ∈ lw_all := lw_g (lw_at lw_m1 189 rfl) rfl
theorem q365 : (Jvm.Cond.lays "HairProvince$Reader" "HairProvince$Scan" "size" "I") ∈ lw_all := lw_g (lw_at lw_m1 191 rfl) rfl
theorem q367 : (Jvm.Cond.lays "HairProvince$Reader" "HairProvince$Scan" "sort" "I") ∈ lw_all := lw_g (lw_at lw_m1 193 rfl) rfl
theorem q369 : (Jvm.Cond.lays "HairProvince$Reader" "HairProvince$Scan" "from" "I") ∈ lw_all := lw_g (lw_at lw_m1 195 rfl) rfl
theorem q371 : (Jvm.Cond.lays "HairProvince$Reader" "HairProvince$Scan" "end" "I") ∈ lw_all := lw_g (lw_at lw_m1 197 rfl) rfl
theorem q373 : (Jvm.Cond.lays "HairProvince$Reader" "HairProvince$Scan" "value" "I") ∈ lw_all := lw_g (lw_at lw_m1 199 rfl) rfl
theorem q375 : (Jvm.Cond.laysFinal "HairProvince$Reader" "HairProvince$Scan" "keys" "Ljava/lang/String;") ∈ lw_all := lw_g (lw_at lw_m1 201 rfl) rfl
theorem q377 : (Jvm.Cond.laysFinal "HairProvince$Reader" "HairProvince$Scan" "signs" "Ljava/lang/String;") ∈ lw_all := lw_g (lw_at lw_m1 203 rfl) rfl
theorem q379 : (Jvm.Cond.laysFinal "HairProvince$Reader" "HairProvince$Scan" "wrong" "LHairProvince$Wrong;") ∈ lw_all := lw_g (lw_at lw_m1 205 rfl) rfl
theorem q381 : (Jvm.Cond.superclass "HairProvince$Reader" "HairProvince$Scan") ∈ lw_all := lw_g (lw_at lw_m1 207 rfl) rfl
theorem q391 : (Jvm.Cond.instanceMethod ({ cls := "HairProvince$Reader", name := "empty", desc := "()LHairProvince$Province;" } : Jvm.MethodName)) ∈ lw_all := lw_g (lw_at lw_m1 217 rfl) rfl
theorem q392 : (Jvm.Cond.selects "HairProvince$Reader" ({ cls := "HairProvince$Reader", name := "empty", desc := "()LHairProvince$Province;" } : Jvm.MethodName) ({ cls := "HairProvince$Reader", name := "empty", desc := "()LHairProvince$Province;" } : Jvm.MethodName)) ∈ lw_all := lw_g (lw_at lw_m1 218 rfl) rfl
theorem q393 : (Jvm.Cond.code ({ cls := "HairProvince$Reader", name := "empty", desc := "()LHairProvince$Province;" } : Jvm.MethodName) prog_6_method_8_code (1 : Nat) (Option.some (Jvm.ClassFile.FieldType.object "HairProvince$Province"))) ∈ lw_all := lw_g (lw_at lw_m1 219 rfl) rfl
theorem q394 : (Jvm.Cond.classLink "HairProvince$Reader" (52 : Nat) "HairProvince$Province") ∈ lw_all := lw_g (lw_at lw_m1 220 rfl) rfl
theorem q396 : (Jvm.Cond.methodLink "HairProvince$Reader" (64 : Nat) ({ cls := "HairProvince$Province", name := "<init>", desc := "(LHairProvince$Saying;)V" } : Jvm.MethodName)) ∈ lw_all := lw_g (lw_at lw_m1 222 rfl) rfl
theorem q407 : (Jvm.Cond.fieldLink "HairProvince$Reader" (152 : Nat) "HairProvince$Province" "words" "[LHairProvince$Word;") ∈ lw_all := lw_g (lw_at lw_m1 233 rfl) rfl
theorem q410 : (Jvm.Cond.fieldLink "HairProvince$Reader" (169 : Nat) "HairProvince$Province" "people" "[LHairProvince$Person;") ∈ lw_all := lw_g (lw_at lw_m1 236 rfl) rfl
theorem q413 : (Jvm.Cond.fieldLink "HairProvince$Reader" (180 : Nat) "HairProvince$Province" "dinners" "[LHairProvince$Dinner;") ∈ lw_all := lw_g (lw_at lw_m1 239 rfl) rfl
theorem q417 : (Jvm.Cond.fieldLinkNest "HairProvince$Reader" (88 : Nat) "HairProvince$Province" "wordMany" "I" "HairProvince") ∈ lw_tbl := lw_at lw_m2 3 rfl
theorem q420 : (Jvm.Cond.fieldLinkNest "HairProvince$Reader" (91 : Nat) "HairProvince$Province" "personMany" "I" "HairProvince") ∈ lw_tbl := lw_at lw_m2 6 rfl
theorem q423 : (Jvm.Cond.fieldLinkNest "HairProvince$Reader" (94 : Nat) "HairProvince$Province" "dinnerMany" "I" "HairProvince") ∈ lw_tbl := lw_at lw_m2 9 rfl
theorem q426 : (Jvm.Cond.fieldLinkNest "HairProvince$Reader" (97 : Nat) "HairProvince$Province" "halvesMany" "I" "HairProvince") ∈ lw_tbl := lw_at lw_m2 12 rfl
theorem q429 : (Jvm.Cond.fieldLinkNest "HairProvince$Reader" (112 : Nat) "HairProvince$Province" "heard" "I" "HairProvince") ∈ lw_tbl := lw_at lw_m2 15 rfl
theorem q432 : (Jvm.Cond.fieldLinkNest "HairProvince$Reader" (115 : Nat) "HairProvince$Province" "odds" "I" "HairProvince") ∈ lw_tbl := lw_at lw_m2 18 rfl
theorem q499 : (Jvm.Cond.fieldLinkNest "HairProvince$Reader" (156 : Nat) "HairProvince$Person" "temper" "I" "HairProvince") ∈ lw_tbl := lw_at lw_m2 85 rfl
theorem q504 : (Jvm.Cond.fieldLinkNest "HairProvince$Reader" (166 : Nat) "HairProvince$Person" "knows" "I" "HairProvince") ∈ lw_tbl := lw_at lw_m2 90 rfl
theorem q509 : (Jvm.Cond.fieldLinkNest "HairProvince$Reader" (163 : Nat) "HairProvince$Person" "keeps" "I" "HairProvince") ∈ lw_tbl := lw_at lw_m2 95 rfl
theorem q513 : (Jvm.Cond.fieldLinkNest "HairProvince$Reader" (159 : Nat) "HairProvince$Person" "barber" "Z" "HairProvince") ∈ lw_tbl := lw_at lw_m2 99 rfl
theorem q756 : (Jvm.Cond.instanceMethod ({ cls := "HairProvince$Reader", name := "province", desc := "(I)LHairProvince$Province;" } : Jvm.MethodName)) ∈ lw_all := lw_g (lw_at lw_m3 102 rfl) rfl
theorem q757 : (Jvm.Cond.selects "HairProvince$Reader" ({ cls := "HairProvince$Reader", name := "province", desc := "(I)LHairProvince$Province;" } : Jvm.MethodName) ({ cls := "HairProvince$Reader", name := "province", desc := "(I)LHairProvince$Province;" } : Jvm.MethodName)) ∈ lw_all := lw_g (lw_at lw_m3 103 rfl) rfl
theorem q758 : (Jvm.Cond.code ({ cls := "HairProvince$Reader", name := "province", desc := "(I)LHairProvince$Province;" } : Jvm.MethodName) prog_6_method_9_code (2 : Nat) (Option.some (Jvm.ClassFile.FieldType.object "HairProvince$Province"))) ∈ lw_all := lw_g (lw_at lw_m3 104 rfl) rfl
theorem q759 : (Jvm.Cond.methodLink "HairProvince$Reader" (67 : Nat) ({ cls := "HairProvince$Reader", name := "empty", desc := "()LHairProvince$Province;" } : Jvm.MethodName)) ∈ lw_all := lw_g (lw_at lw_m3 105 rfl) rfl
theorem q760 : (Jvm.Cond.methodLink "HairProvince$Reader" (75 : Nat) ({ cls := "HairProvince$Reader", name := "begin", desc := "(I)V" } : Jvm.MethodName)) ∈ lw_all := lw_g (lw_at lw_m3 106 rfl) rfl
theorem q761 : (Jvm.Cond.sameMethod "HairProvince$Reader" "HairProvince$Scan" "begin" "(I)V") ∈ lw_all := lw_g (lw_at lw_m3 107 rfl) rfl
theorem q763 : (Jvm.Cond.selects "HairProvince$Reader" ({ cls := "HairProvince$Reader", name := "begin", desc := "(I)V" } : Jvm.MethodName) ({ cls := "HairProvince$Scan", name := "begin", desc := "(I)V" } : Jvm.MethodName)) ∈ lw_all := lw_g (lw_at lw_m3 109 rfl) rfl
theorem q769 : (Jvm.Cond.selects "HairProvince$Reader" ({ cls := "HairProvince$Scan", name := "next", desc := "()V" } : Jvm.MethodName) ({ cls := "HairProvince$Scan", name := "next", desc := "()V" } : Jvm.MethodName)) ∈ lw_all := lw_g (lw_at lw_m3 115 rfl) rfl
theorem q837 : (Jvm.Cond.methodLink "HairProvince$Reader" (82 : Nat) ({ cls := "HairProvince$Reader", name := "part", desc := "()V" } : Jvm.MethodName)) ∈ lw_all := lw_g (lw_at lw_m3 183 rfl) rfl
theorem q838 : (Jvm.Cond.privateMethod ({ cls := "HairProvince$Reader", name := "part", desc := "()V" } : Jvm.MethodName)) ∈ lw_tbl := lw_at lw_m3 184 rfl
theorem q839 : (Jvm.Cond.instanceMethod ({ cls := "HairProvince$Reader", name := "part", desc := "()V" } : Jvm.MethodName)) ∈ lw_all := lw_g (lw_at lw_m3 185 rfl) rfl
theorem q840 : (Jvm.Cond.code ({ cls := "HairProvince$Reader", name := "part", desc := "()V" } : Jvm.MethodName) prog_6_method_11_code (2 : Nat) (Option.none : Option Jvm.ClassFile.FieldType)) ∈ lw_all := lw_g (lw_at lw_m3 186 rfl) rfl
theorem q841 : (Jvm.Cond.methodLink "HairProvince$Reader" (28 : Nat) ({ cls := "HairProvince$Reader", name := "key", desc := "()I" } : Jvm.MethodName)) ∈ lw_all := lw_g (lw_at lw_m3 187 rfl) rfl
theorem q842 : (Jvm.Cond.sameMethod "HairProvince$Reader" "HairProvince$Scan" "key" "()I") ∈ lw_all := lw_g (lw_at lw_m3 188 rfl) rfl
theorem q844 : (Jvm.Cond.selects "HairProvince$Reader" ({ cls := "HairProvince$Reader", name := "key", desc := "()I" } : Jvm.MethodName) ({ cls := "HairProvince$Scan", name := "key", desc := "()I" } : Jvm.MethodName)) ∈ lw_all := lw_g (lw_at lw_m3 190 rfl) rfl
theorem q850 : (Jvm.Cond.selects "HairProvince$Reader" ({ cls := "HairProvince$Scan", name := "in", desc := "(Ljava/lang/String;)I" } : Jvm.MethodName) ({ cls := "HairProvince$Scan", name := "in", desc := "(Ljava/lang/String;)I" } : Jvm.MethodName)) ∈ lw_all := lw_g (lw_at lw_m3 196 rfl) rfl
theorem q856 : (Jvm.Cond.methodLink "HairProvince$Reader" (32 : Nat) ({ cls := "HairProvince$Reader", name := "need", desc := "(Z)V" } : Jvm.MethodName)) ∈ lw_all := lw_g (lw_at lw_m3 202 rfl) rfl
theorem q857 : (Jvm.Cond.sameMethod "HairProvince$Reader" "HairProvince$Scan" "need" "(Z)V") ∈ lw_all := lw_g (lw_at lw_m3 203 rfl) rfl
theorem q859 : (Jvm.Cond.selects "HairProvince$Reader" ({ cls := "HairProvince$Reader", name := "need", desc := "(Z)V" } : Jvm.MethodName) ({ cls := "HairProvince$Scan", name := "need", desc := "(Z)V" } : Jvm.MethodName)) ∈ lw_all := lw_g (lw_at lw_m3 205 rfl) rfl
theorem q865 : (Jvm.Cond.selects "HairProvince$Reader" ({ cls := "HairProvince$Scan", name := "fail", desc := "(I)LHairProvince$Wrong;" } : Jvm.MethodName) ({ cls := "HairProvince$Scan", name := "fail", desc := "(I)LHairProvince$Wrong;" } : Jvm.MethodName)) ∈ lw_all := lw_g (lw_at lw_m3 211 rfl) rfl
theorem q871 : (Jvm.Cond.methodLinkNest "HairProvince$Reader" (100 : Nat) ({ cls := "HairProvince", name := "isIn", desc := "(II)Z" } : Jvm.MethodName) "HairProvince") ∈ lw_tbl := lw_at lw_m3 217 rfl
theorem q874 : (Jvm.Cond.methodLink "HairProvince$Reader" (39 : Nat) ({ cls := "HairProvince$Reader", name := "fail", desc := "(I)LHairProvince$Wrong;" } : Jvm.MethodName)) ∈ lw_all := lw_g (lw_at lw_m3 220 rfl) rfl
theorem q875 : (Jvm.Cond.sameMethod "HairProvince$Reader" "HairProvince$Scan" "fail" "(I)LHairProvince$Wrong;") ∈ lw_all := lw_g (lw_at lw_m3 221 rfl) rfl
theorem q877 : (Jvm.Cond.selects "HairProvince$Reader" ({ cls := "HairProvince$Reader", name := "fail", desc := "(I)LHairProvince$Wrong;" } : Jvm.MethodName) ({ cls := "HairProvince$Scan", name := "fail", desc := "(I)LHairProvince$Wrong;" } : Jvm.MethodName)) ∈ lw_all := lw_g (lw_at lw_m3 223 rfl) rfl
theorem q878 : (Jvm.Cond.methodLink "HairProvince$Reader" (104 : Nat) ({ cls := "HairProvince$Reader", name := "isFullOf", desc := "(I)Z" } : Jvm.MethodName)) ∈ lw_all := lw_g (lw_at lw_m3 224 rfl) rfl
theorem q879 : (Jvm.Cond.privateMethod ({ cls := "HairProvince$Reader", name := "isFullOf", desc := "(I)Z" } : Jvm.MethodName)) ∈ lw_tbl := lw_at lw_m3 225 rfl
theorem q880 : (Jvm.Cond.instanceMethod ({ cls := "HairProvince$Reader", name := "isFullOf", desc := "(I)Z" } : Jvm.MethodName)) ∈ lw_all := lw_g (lw_at lw_m3 226 rfl) rfl
theorem q881 : (Jvm.Cond.code ({ cls := "HairProvince$Reader", name := "isFullOf", desc := "(I)Z" } : Jvm.MethodName) prog_6_method_10_code (2 : Nat) (Option.some Jvm.ClassFile.FieldType.boolean)) ∈ lw_all := lw_g (lw_at lw_m3 227 rfl) rfl
theorem q882 : (Jvm.Cond.methodLink "HairProvince$Reader" (36 : Nat) ({ cls := "HairProvince$Reader", name := "next", desc := "()V" } : Jvm.MethodName)) ∈ lw_all := lw_g (lw_at lw_m3 228 rfl) rfl
theorem q883 : (Jvm.Cond.sameMethod "HairProvince$Reader" "HairProvince$Scan" "next" "()V") ∈ lw_all := lw_g (lw_at lw_m3 229 rfl) rfl
theorem q885 : (Jvm.Cond.selects "HairProvince$Reader" ({ cls := "HairProvince$Reader", name := "next", desc := "()V" } : Jvm.MethodName) ({ cls := "HairProvince$Scan", name := "next", desc := "()V" } : Jvm.MethodName)) ∈ lw_all := lw_g (lw_at lw_m3 231 rfl) rfl
theorem q886 : (Jvm.Cond.methodLink "HairProvince$Reader" (108 : Nat) ({ cls := "HairProvince$Reader", name := "passed", desc := "(II)I" } : Jvm.MethodName)) ∈ lw_all := lw_g (lw_at lw_m3 232 rfl) rfl
theorem q887 : (Jvm.Cond.sameMethod "HairProvince$Reader" "HairProvince$Scan" "passed" "(II)I") ∈ lw_all := lw_g (lw_at lw_m3 233 rfl) rfl
theorem q889 : (Jvm.Cond.selects "HairProvince$Reader" ({ cls := "HairProvince$Reader", name := "passed", desc := "(II)I" } : Jvm.MethodName) ({ cls := "HairProvince$Scan", name := "passed", desc := "(II)I" } : Jvm.MethodName)) ∈ lw_all := lw_g (lw_at lw_m3 235 rfl) rfl
theorem q895 : (Jvm.Cond.selects "HairProvince$Reader" ({ cls := "HairProvince$Scan", name := "number", desc := "(II)I" } : Jvm.MethodName) ({ cls := "HairProvince$Scan", name := "number", desc := "(II)I" } : Jvm.MethodName)) ∈ lw_all := lw_g (lw_at lw_m4 1 rfl) rfl
theorem q898 : (Jvm.Cond.classLink "HairProvince$Reader" (118 : Nat) "HairProvince$Word") ∈ lw_all := lw_g (lw_at lw_m4 4 rfl) rfl
theorem q900 : (Jvm.Cond.methodLink "HairProvince$Reader" (120 : Nat) ({ cls := "HairProvince$Reader", name := "newName", desc := "()J" } : Jvm.MethodName)) ∈ lw_all := lw_g (lw_at lw_m4 6 rfl) rfl
theorem q901 : (Jvm.Cond.privateMethod ({ cls := "HairProvince$Reader", name := "newName", desc := "()J" } : Jvm.MethodName)) ∈ lw_tbl := lw_at lw_m4 7 rfl
theorem q902 : (Jvm.Cond.instanceMethod ({ cls := "HairProvince$Reader", name := "newName", desc := "()J" } : Jvm.MethodName)) ∈ lw_all := lw_g (lw_at lw_m4 8 rfl) rfl
theorem q903 : (Jvm.Cond.code ({ cls := "HairProvince$Reader", name := "newName", desc := "()J" } : Jvm.MethodName) prog_6_method_12_code (3 : Nat) (Option.some Jvm.ClassFile.FieldType.long)) ∈ lw_all := lw_g (lw_at lw_m4 9 rfl) rfl
theorem q904 : (Jvm.Cond.methodLink "HairProvince$Reader" (47 : Nat) ({ cls := "HairProvince$Reader", name := "name", desc := "()J" } : Jvm.MethodName)) ∈ lw_all := lw_g (lw_at lw_m4 10 rfl) rfl
theorem q905 : (Jvm.Cond.sameMethod "HairProvince$Reader" "HairProvince$Scan" "name" "()J") ∈ lw_all := lw_g (lw_at lw_m4 11 rfl) rfl
theorem q907 : (Jvm.Cond.selects "HairProvince$Reader" ({ cls := "HairProvince$Reader", name := "name", desc := "()J" } : Jvm.MethodName) ({ cls := "HairProvince$Scan", name := "name", desc := "()J" } : Jvm.MethodName)) ∈ lw_all := lw_g (lw_at lw_m4 13 rfl) rfl
theorem q911 : (Jvm.Cond.methodLink "HairProvince$Reader" (61 : Nat) ({ cls := "HairProvince$Province", name := "word", desc := "(J)I" } : Jvm.MethodName)) ∈ lw_all := lw_g (lw_at lw_m4 17 rfl) rfl
theorem q915 : (Jvm.Cond.methodLink "HairProvince$Reader" (51 : Nat) ({ cls := "HairProvince$Province", name := "person", desc := "(J)I" } : Jvm.MethodName)) ∈ lw_all := lw_g (lw_at lw_m4 21 rfl) rfl
theorem q919 : (Jvm.Cond.methodLink "HairProvince$Reader" (123 : Nat) ({ cls := "HairProvince$Word", name := "<init>", desc := "(J)V" } : Jvm.MethodName)) ∈ lw_all := lw_g (lw_at lw_m4 25 rfl) rfl
theorem q926 : (Jvm.Cond.fieldLinkNest "HairProvince$Reader" (146 : Nat) "HairProvince$Word" "grows" "I" "HairProvince") ∈ lw_tbl := lw_at lw_m4 32 rfl
theorem q929 : (Jvm.Cond.fieldLinkNest "HairProvince$Reader" (149 : Nat) "HairProvince$Word" "grey" "I" "HairProvince") ∈ lw_tbl := lw_at lw_m4 35 rfl
theorem q932 : (Jvm.Cond.fieldLinkNest "HairProvince$Reader" (192 : Nat) "HairProvince$Word" "halves" "I" "HairProvince") ∈ lw_tbl := lw_at lw_m4 38 rfl
theorem q943 : (Jvm.Cond.methodLink "HairProvince$Reader" (126 : Nat) ({ cls := "HairProvince$Reader", name := "newWord", desc := "(LHairProvince$Word;)V" } : Jvm.MethodName)) ∈ lw_all := lw_g (lw_at lw_m4 49 rfl) rfl
theorem q944 : (Jvm.Cond.privateMethod ({ cls := "HairProvince$Reader", name := "newWord", desc := "(LHairProvince$Word;)V" } : Jvm.MethodName)) ∈ lw_tbl := lw_at lw_m4 50 rfl
theorem q945 : (Jvm.Cond.instanceMethod ({ cls := "HairProvince$Reader", name := "newWord", desc := "(LHairProvince$Word;)V" } : Jvm.MethodName)) ∈ lw_all := lw_g (lw_at lw_m4 51 rfl) rfl
theorem q946 : (Jvm.Cond.code ({ cls := "HairProvince$Reader", name := "newWord", desc := "(LHairProvince$Word;)V" } : Jvm.MethodName) prog_6_method_13_code (2 : Nat) (Option.none : Option Jvm.ClassFile.FieldType)) ∈ lw_all := lw_g (lw_at lw_m4 52 rfl) rfl
theorem q947 : (Jvm.Cond.methodLink "HairProvince$Reader" (143 : Nat) ({ cls := "HairProvince$Reader", name := "isNext", desc := "(I)Z" } : Jvm.MethodName)) ∈ lw_all := lw_g (lw_at lw_m4 53 rfl) rfl
theorem q948 : (Jvm.Cond.privateMethod ({ cls := "HairProvince$Reader", name := "isNext", desc := "(I)Z" } : Jvm.MethodName)) ∈ lw_tbl := lw_at lw_m4 54 rfl
theorem q949 : (Jvm.Cond.instanceMethod ({ cls := "HairProvince$Reader", name := "isNext", desc := "(I)Z" } : Jvm.MethodName)) ∈ lw_all := lw_g (lw_at lw_m4 55 rfl) rfl
theorem q950 : (Jvm.Cond.code ({ cls := "HairProvince$Reader", name := "isNext", desc := "(I)Z" } : Jvm.MethodName) prog_6_method_4_code (2 : Nat) (Option.some Jvm.ClassFile.FieldType.boolean)) ∈ lw_all := lw_g (lw_at lw_m4 56 rfl) rfl
theorem q951 : (Jvm.Cond.classLink "HairProvince$Reader" (130 : Nat) "HairProvince$Person") ∈ lw_all := lw_g (lw_at lw_m4 57 rfl) rfl
theorem q952 : (Jvm.Cond.methodLink "HairProvince$Reader" (132 : Nat) ({ cls := "HairProvince$Person", name := "<init>", desc := "(J)V" } : Jvm.MethodName)) ∈ lw_all := lw_g (lw_at lw_m4 58 rfl) rfl
theorem q953 : (Jvm.Cond.methodLink "HairProvince$Reader" (133 : Nat) ({ cls := "HairProvince$Reader", name := "newPerson", desc := "(LHairProvince$Person;)V" } : Jvm.MethodName)) ∈ lw_all := lw_g (lw_at lw_m4 59 rfl) rfl
theorem q954 : (Jvm.Cond.privateMethod ({ cls := "HairProvince$Reader", name := "newPerson", desc := "(LHairProvince$Person;)V" } : Jvm.MethodName)) ∈ lw_tbl := lw_at lw_m4 60 rfl
theorem q955 : (Jvm.Cond.instanceMethod ({ cls := "HairProvince$Reader", name := "newPerson", desc := "(LHairProvince$Person;)V" } : Jvm.MethodName)) ∈ lw_all := lw_g (lw_at lw_m4 61 rfl) rfl
theorem q956 : (Jvm.Cond.code ({ cls := "HairProvince$Reader", name := "newPerson", desc := "(LHairProvince$Person;)V" } : Jvm.MethodName) prog_6_method_14_code (3 : Nat) (Option.none : Option Jvm.ClassFile.FieldType)) ∈ lw_all := lw_g (lw_at lw_m4 62 rfl) rfl
theorem q957 : (Jvm.Cond.methodLink "HairProvince$Reader" (57 : Nat) ({ cls := "HairProvince$Reader", name := "known", desc := "(I)I" } : Jvm.MethodName)) ∈ lw_all := lw_g (lw_at lw_m4 63 rfl) rfl
theorem q958 : (Jvm.Cond.privateMethod ({ cls := "HairProvince$Reader", name := "known", desc := "(I)I" } : Jvm.MethodName)) ∈ lw_tbl := lw_at lw_m4 64 rfl
theorem q959 : (Jvm.Cond.instanceMethod ({ cls := "HairProvince$Reader", name := "known", desc := "(I)I" } : Jvm.MethodName)) ∈ lw_all := lw_g (lw_at lw_m4 65 rfl) rfl
theorem q960 : (Jvm.Cond.code ({ cls := "HairProvince$Reader", name := "known", desc := "(I)I" } : Jvm.MethodName) prog_6_method_3_code (2 : Nat) (Option.some Jvm.ClassFile.FieldType.int)) ∈ lw_all := lw_g (lw_at lw_m4 66 rfl) rfl
theorem q961 : (Jvm.Cond.methodLink "HairProvince$Reader" (137 : Nat) ({ cls := "HairProvince$Reader", name := "newDinner", desc := "()V" } : Jvm.MethodName)) ∈ lw_all := lw_g (lw_at lw_m4 67 rfl) rfl
theorem q962 : (Jvm.Cond.privateMethod ({ cls := "HairProvince$Reader", name := "newDinner", desc := "()V" } : Jvm.MethodName)) ∈ lw_tbl := lw_at lw_m4 68 rfl
theorem q963 : (Jvm.Cond.instanceMethod ({ cls := "HairProvince$Reader", name := "newDinner", desc := "()V" } : Jvm.MethodName)) ∈ lw_all := lw_g (lw_at lw_m4 69 rfl) rfl
theorem q964 : (Jvm.Cond.code ({ cls := "HairProvince$Reader", name := "newDinner", desc := "()V" } : Jvm.MethodName) prog_6_method_15_code (3 : Nat) (Option.none : Option Jvm.ClassFile.FieldType)) ∈ lw_all := lw_g (lw_at lw_m4 70 rfl) rfl
theorem q965 : (Jvm.Cond.methodLink "HairProvince$Reader" (173 : Nat) ({ cls := "HairProvince$Reader", name := "person", desc := "()I" } : Jvm.MethodName)) ∈ lw_all := lw_g (lw_at lw_m4 71 rfl) rfl
theorem q966 : (Jvm.Cond.privateMethod ({ cls := "HairProvince$Reader", name := "person", desc := "()I" } : Jvm.MethodName)) ∈ lw_tbl := lw_at lw_m4 72 rfl
theorem q967 : (Jvm.Cond.instanceMethod ({ cls := "HairProvince$Reader", name := "person", desc := "()I" } : Jvm.MethodName)) ∈ lw_all := lw_g (lw_at lw_m4 73 rfl) rfl
theorem q968 : (Jvm.Cond.code ({ cls := "HairProvince$Reader", name := "person", desc := "()I" } : Jvm.MethodName) prog_6_method_5_code (1 : Nat) (Option.some Jvm.ClassFile.FieldType.int)) ∈ lw_all := lw_g (lw_at lw_m4 74 rfl) rfl
theorem q969 : (Jvm.Cond.methodLink "HairProvince$Reader" (175 : Nat) ({ cls := "HairProvince$Reader", name := "otherThan", desc := "(II)I" } : Jvm.MethodName)) ∈ lw_all := lw_g (lw_at lw_m4 75 rfl) rfl
theorem q970 : (Jvm.Cond.privateMethod ({ cls := "HairProvince$Reader", name := "otherThan", desc := "(II)I" } : Jvm.MethodName)) ∈ lw_tbl := lw_at lw_m4 76 rfl
theorem q971 : (Jvm.Cond.instanceMethod ({ cls := "HairProvince$Reader", name := "otherThan", desc := "(II)I" } : Jvm.MethodName)) ∈ lw_all := lw_g (lw_at lw_m4 77 rfl) rfl
theorem q972 : (Jvm.Cond.code ({ cls := "HairProvince$Reader", name := "otherThan", desc := "(II)I" } : Jvm.MethodName) prog_6_method_7_code (3 : Nat) (Option.some Jvm.ClassFile.FieldType.int)) ∈ lw_all := lw_g (lw_at lw_m4 78 rfl) rfl
theorem q973 : (Jvm.Cond.methodLink "HairProvince$Reader" (178 : Nat) ({ cls := "HairProvince$Reader", name := "word", desc := "(I)V" } : Jvm.MethodName)) ∈ lw_all := lw_g (lw_at lw_m4 79 rfl) rfl
theorem q974 : (Jvm.Cond.privateMethod ({ cls := "HairProvince$Reader", name := "word", desc := "(I)V" } : Jvm.MethodName)) ∈ lw_tbl := lw_at lw_m4 80 rfl
theorem q975 : (Jvm.Cond.instanceMethod ({ cls := "HairProvince$Reader", name := "word", desc := "(I)V" } : Jvm.MethodName)) ∈ lw_all := lw_g (lw_at lw_m4 81 rfl) rfl
theorem q976 : (Jvm.Cond.code ({ cls := "HairProvince$Reader", name := "word", desc := "(I)V" } : Jvm.MethodName) prog_6_method_2_code (2 : Nat) (Option.none : Option Jvm.ClassFile.FieldType)) ∈ lw_all := lw_g (lw_at lw_m4 82 rfl) rfl
theorem q977 : (Jvm.Cond.classLink "HairProvince$Reader" (184 : Nat) "HairProvince$Dinner") ∈ lw_all := lw_g (lw_at lw_m4 83 rfl) rfl
theorem q979 : (Jvm.Cond.methodLink "HairProvince$Reader" (186 : Nat) ({ cls := "HairProvince$Dinner", name := "<init>", desc := "(III)V" } : Jvm.MethodName)) ∈ lw_all := lw_g (lw_at lw_m4 85 rfl) rfl
theorem q999 : (Jvm.Cond.methodLink "HairProvince$Reader" (140 : Nat) ({ cls := "HairProvince$Reader", name := "newHalves", desc := "()V" } : Jvm.MethodName)) ∈ lw_all := lw_g (lw_at lw_m4 105 rfl) rfl
theorem q1000 : (Jvm.Cond.privateMethod ({ cls := "HairProvince$Reader", name := "newHalves", desc := "()V" } : Jvm.MethodName)) ∈ lw_tbl := lw_at lw_m4 106 rfl
theorem q1001 : (Jvm.Cond.instanceMethod ({ cls := "HairProvince$Reader", name := "newHalves", desc := "()V" } : Jvm.MethodName)) ∈ lw_all := lw_g (lw_at lw_m4 107 rfl) rfl
theorem q1002 : (Jvm.Cond.code ({ cls := "HairProvince$Reader", name := "newHalves", desc := "()V" } : Jvm.MethodName) prog_6_method_16_code (3 : Nat) (Option.none : Option Jvm.ClassFile.FieldType)) ∈ lw_all := lw_g (lw_at lw_m4 108 rfl) rfl
theorem q1003 : (Jvm.Cond.methodLink "HairProvince$Reader" (189 : Nat) ({ cls := "HairProvince$Reader", name := "aWord", desc := "()I" } : Jvm.MethodName)) ∈ lw_all := lw_g (lw_at lw_m4 109 rfl) rfl
theorem q1004 : (Jvm.Cond.privateMethod ({ cls := "HairProvince$Reader", name := "aWord", desc := "()I" } : Jvm.MethodName)) ∈ lw_tbl := lw_at lw_m4 110 rfl
theorem q1005 : (Jvm.Cond.instanceMethod ({ cls := "HairProvince$Reader", name := "aWord", desc := "()I" } : Jvm.MethodName)) ∈ lw_all := lw_g (lw_at lw_m4 111 rfl) rfl
theorem q1006 : (Jvm.Cond.code ({ cls := "HairProvince$Reader", name := "aWord", desc := "()I" } : Jvm.MethodName) prog_6_method_6_code (1 : Nat) (Option.some Jvm.ClassFile.FieldType.int)) ∈ lw_all := lw_g (lw_at lw_m4 112 rfl) rfl
theorem q1007 : (Jvm.Cond.methodLink "HairProvince$Reader" (85 : Nat) ({ cls := "HairProvince$Reader", name := "closes", desc := "()V" } : Jvm.MethodName)) ∈ lw_all := lw_g (lw_at lw_m4 113 rfl) rfl
theorem q1008 : (Jvm.Cond.sameMethod "HairProvince$Reader" "HairProvince$Scan" "closes" "()V") ∈ lw_all := lw_g (lw_at lw_m4 114 rfl) rfl
theorem q1010 : (Jvm.Cond.selects "HairProvince$Reader" ({ cls := "HairProvince$Reader", name := "closes", desc := "()V" } : Jvm.MethodName) ({ cls := "HairProvince$Scan", name := "closes", desc := "()V" } : Jvm.MethodName)) ∈ lw_all := lw_g (lw_at lw_m4 116 rfl) rfl
theorem q1016 : (Jvm.Cond.selects "HairProvince$Reader" ({ cls := "HairProvince$Scan", name := "is", desc := "(I)Z" } : Jvm.MethodName) ({ cls := "HairProvince$Scan", name := "is", desc := "(I)Z" } : Jvm.MethodName)) ∈ lw_all := lw_g (lw_at lw_m4 122 rfl) rfl
theorem q1031 : (Jvm.Cond.instanceMethod ({ cls := "HairProvince$Reader", name := "years", desc := "(ILHairProvince$Province;)[LHairProvince$Step;" } : Jvm.MethodName)) ∈ lw_all := lw_g (lw_at lw_m4 137 rfl) rfl
theorem q1032 : (Jvm.Cond.selects "HairProvince$Reader" ({ cls := "HairProvince$Reader", name := "years", desc := "(ILHairProvince$Province;)[LHairProvince$Step;" } : Jvm.MethodName) ({ cls := "HairProvince$Reader", name := "years", desc := "(ILHairProvince$Province;)[LHairProvince$Step;" } : Jvm.MethodName)) ∈ lw_all := lw_g (lw_at lw_m4 138 rfl) rfl
theorem q1033 : (Jvm.Cond.code ({ cls := "HairProvince$Reader", name := "years", desc := "(ILHairProvince$Province;)[LHairProvince$Step;" } : Jvm.MethodName) prog_6_method_17_code (3 : Nat) (Option.some (Jvm.ClassFile.FieldType.array (Jvm.ClassFile.FieldType.object "HairProvince$Step")))) ∈ lw_all := lw_g (lw_at lw_m4 139 rfl) rfl
theorem q1034 : (Jvm.Cond.classLink "HairProvince$Reader" (195 : Nat) "HairProvince$Step") ∈ lw_all := lw_g (lw_at lw_m4 140 rfl) rfl
theorem q1036 : (Jvm.Cond.methodLink "HairProvince$Reader" (210 : Nat) ({ cls := "HairProvince$Reader", name := "step", desc := "()V" } : Jvm.MethodName)) ∈ lw_all := lw_g (lw_at lw_m4 142 rfl) rfl
theorem q1037 : (Jvm.Cond.privateMethod ({ cls := "HairProvince$Reader", name := "step", desc := "()V" } : Jvm.MethodName)) ∈ lw_tbl := lw_at lw_m4 143 rfl
theorem q1038 : (Jvm.Cond.instanceMethod ({ cls := "HairProvince$Reader", name := "step", desc := "()V" } : Jvm.MethodName)) ∈ lw_all := lw_g (lw_at lw_m4 144 rfl) rfl
theorem q1039 : (Jvm.Cond.code ({ cls := "HairProvince$Reader", name := "step", desc := "()V" } : Jvm.MethodName) prog_6_method_20_code (4 : Nat) (Option.none : Option Jvm.ClassFile.FieldType)) ∈ lw_all := lw_g (lw_at lw_m4 145 rfl) rfl
theorem q1041 : (Jvm.Cond.methodLink "HairProvince$Reader" (240 : Nat) ({ cls := "HairProvince$Step", name := "<init>", desc := "(I)V" } : Jvm.MethodName)) ∈ lw_all := lw_g (lw_at lw_m4 147 rfl) rfl
theorem q1046 : (Jvm.Cond.fieldLink "HairProvince$Reader" (231 : Nat) "HairProvince$Step" "kind" "I") ∈ lw_all := lw_g (lw_at lw_m4 152 rfl) rfl
theorem q1048 : (Jvm.Cond.fieldLinkNest "HairProvince$Reader" (216 : Nat) "HairProvince$Step" "one" "I" "HairProvince") ∈ lw_tbl := lw_at lw_m4 154 rfl
theorem q1050 : (Jvm.Cond.fieldLinkNest "HairProvince$Reader" (219 : Nat) "HairProvince$Step" "two" "I" "HairProvince") ∈ lw_tbl := lw_at lw_m4 156 rfl
theorem q1052 : (Jvm.Cond.fieldLinkNest "HairProvince$Reader" (234 : Nat) "HairProvince$Step" "three" "I" "HairProvince") ∈ lw_tbl := lw_at lw_m4 158 rfl
theorem q1054 : (Jvm.Cond.fieldLinkNest "HairProvince$Reader" (213 : Nat) "HairProvince$Step" "test" "I" "HairProvince") ∈ lw_tbl := lw_at lw_m4 160 rfl
theorem q1056 : (Jvm.Cond.fieldLinkNest "HairProvince$Reader" (228 : Nat) "HairProvince$Step" "compares" "I" "HairProvince") ∈ lw_tbl := lw_at lw_m4 162 rfl
theorem q1058 : (Jvm.Cond.fieldLinkNest "HairProvince$Reader" (245 : Nat) "HairProvince$Step" "to" "I" "HairProvince") ∈ lw_tbl := lw_at lw_m4 164 rfl
theorem q1078 : (Jvm.Cond.methodLink "HairProvince$Reader" (242 : Nat) ({ cls := "HairProvince$Reader", name := "order", desc := "(LHairProvince$Step;)V" } : Jvm.MethodName)) ∈ lw_all := lw_g (lw_at lw_m4 184 rfl) rfl
theorem q1079 : (Jvm.Cond.privateMethod ({ cls := "HairProvince$Reader", name := "order", desc := "(LHairProvince$Step;)V" } : Jvm.MethodName)) ∈ lw_tbl := lw_at lw_m4 185 rfl
theorem q1080 : (Jvm.Cond.instanceMethod ({ cls := "HairProvince$Reader", name := "order", desc := "(LHairProvince$Step;)V" } : Jvm.MethodName)) ∈ lw_all := lw_g (lw_at lw_m4 186 rfl) rfl
theorem q1081 : (Jvm.Cond.code ({ cls := "HairProvince$Reader", name := "order", desc := "(LHairProvince$Step;)V" } : Jvm.MethodName) prog_6_method_19_code (2 : Nat) (Option.none : Option Jvm.ClassFile.FieldType)) ∈ lw_all := lw_g (lw_at lw_m4 187 rfl) rfl
theorem q1082 : (Jvm.Cond.methodLink "HairProvince$Reader" (237 : Nat) ({ cls := "HairProvince$Reader", name := "test", desc := "(LHairProvince$Step;)V" } : Jvm.MethodName)) ∈ lw_all := lw_g (lw_at lw_m4 188 rfl) rfl
theorem q1083 : (Jvm.Cond.privateMethod ({ cls := "HairProvince$Reader", name := "test", desc := "(LHairProvince$Step;)V" } : Jvm.MethodName)) ∈ lw_tbl := lw_at lw_m4 189 rfl
theorem q1084 : (Jvm.Cond.instanceMethod ({ cls := "HairProvince$Reader", name := "test", desc := "(LHairProvince$Step;)V" } : Jvm.MethodName)) ∈ lw_all := lw_g (lw_at lw_m4 190 rfl) rfl
theorem q1085 : (Jvm.Cond.code ({ cls := "HairProvince$Reader", name := "test", desc := "(LHairProvince$Step;)V" } : Jvm.MethodName) prog_6_method_18_code (2 : Nat) (Option.none : Option Jvm.ClassFile.FieldType)) ∈ lw_all := lw_g (lw_at lw_m4 191 rfl) rfl
theorem q1086 : (Jvm.Cond.methodLink "HairProvince$Reader" (222 : Nat) ({ cls := "HairProvince$Reader", name := "is", desc := "(I)Z" } : Jvm.MethodName)) ∈ lw_all := lw_g (lw_at lw_m4 192 rfl) rfl
theorem q1087 : (Jvm.Cond.sameMethod "HairProvince$Reader" "HairProvince$Scan" "is" "(I)Z") ∈ lw_all := lw_g (lw_at lw_m4 193 rfl) rfl
theorem q1089 : (Jvm.Cond.selects "HairProvince$Reader" ({ cls := "HairProvince$Reader", name := "is", desc := "(I)Z" } : Jvm.MethodName) ({ cls := "HairProvince$Scan", name := "is", desc := "(I)Z" } : Jvm.MethodName)) ∈ lw_all := lw_g (lw_at lw_m4 195 rfl) rfl
theorem q2460 : (Jvm.Cond.selects "HairProvince$Reader" ({ cls := "HairProvince$Scan", name := "need", desc := "(Z)V" } : Jvm.MethodName) ({ cls := "HairProvince$Scan", name := "need", desc := "(Z)V" } : Jvm.MethodName)) ∈ lw_all := lw_g (lw_at lw_m10 126 rfl) rfl
theorem in_X2 : ∀ w ∈ wsX20, w ∈ lw_all := lw_in wsX20 [363, 365, 367, 369, 371, 373, 375, 377, 379, 345, 347, 349, 351, 353, 355, 357, 359, 361] (by decide +kernel) (by decide +kernel)
/-! HairProvince$Wrong -/
set_option maxRecDepth 100000
def RX3 : String := "HairProvince$Wrong"
def TX3 : u_T := fun k => match k with
  | 0 => ("java/lang/Throwable", "cause", "Ljava/lang/Throwable;", false)
  | 1 => ("java/lang/Throwable", "stackTrace", "[Ljava/lang/StackTraceElement;", false)
  | 2 => ("java/lang/Throwable", "suppressedExceptions", "Ljava/util/List;", false)
  | 3 => ("java/lang/Throwable", "detailMessage", "Ljava/lang/String;", false)
  | 4 => ("java/lang/Throwable", "backtrace", "Ljava/lang/Object;", false)
  | 5 => ("java/lang/Throwable", "depth", "I", false)
  | 6 => ("HairProvince$Wrong", "kind", "I", false)
  | _ => ("HairProvince$Wrong", "place", "I", false)
def tyX3 : Nat → FieldType := fun k => match k with
  | 0 => .object "java/lang/Throwable"
  | 1 => .array (.object "java/lang/StackTraceElement")
  | 2 => .object "java/util/List"
  | 3 => .object "java/lang/String"
  | 4 => .object "java/lang/Object"
  | 5 => .int
  | 6 => .int
  | _ => .int
abbrev wsX30 : List Cond := u_ws RX3 TX3 8
theorem nmX3 : ∀ a, a < 8 → ∀ b, b < 8 → a ≠ b → (TX3 a).2.1 ≠ (TX3 b).2.1 := by decide +kernel
theorem tyX3_ok : ∀ k, k < 8 → parseFieldDescriptor (TX3 k).2.2.1 = some (tyX3 k) := by decide +kernel
abbrev cX3_init : ByteArray := prog_13_method_1_code
def yX3_init : MethodName := ⟨RX3, "<init>", "()V"⟩
def dkwX3_init_0 : List UInt8 := [42, 1, 1, 3, 3, 183, 0, 1, 177]
abbrev dktX3_init_0 : List UInt8 := dkwX3_init_0 ++ []
theorem dksX3_init_0 : cX3_init.data.toList.drop 0 = dktX3_init_0 := by decide +kernel
theorem dX3_init_0 : decode cX3_init 0 = .ok (.aload_n 0, 1) := dk_42 (dk_at dksX3_init_0 0 rfl rfl)
theorem dX3_init_1 : decode cX3_init 1 = .ok (.aconst_null, 1) := dk_1 (dk_at dksX3_init_0 1 rfl rfl)
theorem dX3_init_2 : decode cX3_init 2 = .ok (.aconst_null, 1) := dk_1 (dk_at dksX3_init_0 2 rfl rfl)
theorem dX3_init_3 : decode cX3_init 3 = .ok (.iconst 0, 1) := dk_3 (dk_at dksX3_init_0 3 rfl rfl)
theorem dX3_init_4 : decode cX3_init 4 = .ok (.iconst 0, 1) := dk_3 (dk_at dksX3_init_0 4 rfl rfl)
theorem dX3_init_5 : decode cX3_init 5 = .ok (.invokespecial 1, 3) := dk_183 0 1 (dk_at dksX3_init_0 5 rfl rfl)
theorem dX3_init_8 : decode cX3_init 8 = .ok (.return_, 1) := dk_177 (dk_at dksX3_init_0 8 rfl rfl)
abbrev cX3_of : ByteArray := prog_13_method_2_code
def yX3_of : MethodName := ⟨RX3, "of", "(II)LHairProvince$Wrong;"⟩
def dkwX3_of_0 : List UInt8 := [42, 27, 181, 0, 7, 42, 28, 181, 0, 13, 42, 176]
abbrev dktX3_of_0 : List UInt8 := dkwX3_of_0 ++ []
theorem dksX3_of_0 : cX3_of.data.toList.drop 0 = dktX3_of_0 := by decide +kernel
theorem dX3_of_0 : decode cX3_of 0 = .ok (.aload_n 0, 1) := dk_42 (dk_at dksX3_of_0 0 rfl rfl)
theorem dX3_of_1 : decode cX3_of 1 = .ok (.iload_n 1, 1) := dk_27 (dk_at dksX3_of_0 1 rfl rfl)
theorem dX3_of_2 : decode cX3_of 2 = .ok (.putfield 7, 3) := dk_181 0 7 (dk_at dksX3_of_0 2 rfl rfl)
theorem dX3_of_5 : decode cX3_of 5 = .ok (.aload_n 0, 1) := dk_42 (dk_at dksX3_of_0 5 rfl rfl)
theorem dX3_of_6 : decode cX3_of 6 = .ok (.iload_n 2, 1) := dk_28 (dk_at dksX3_of_0 6 rfl rfl)
theorem dX3_of_7 : decode cX3_of 7 = .ok (.putfield 13, 3) := dk_181 0 13 (dk_at dksX3_of_0 7 rfl rfl)
theorem dX3_of_10 : decode cX3_of 10 = .ok (.aload_n 0, 1) := dk_42 (dk_at dksX3_of_0 10 rfl rfl)
theorem dX3_of_11 : decode cX3_of 11 = .ok (.areturn, 1) := dk_176 (dk_at dksX3_of_0 11 rfl rfl)
theorem q181 : (Jvm.Cond.initialized "HairProvince$Wrong") ∈ lw_all := lw_g (lw_at lw_m1 7 rfl) rfl
theorem q215 : (Jvm.Cond.instantiable "HairProvince$Wrong" (8 : Nat)) ∈ lw_all := lw_g (lw_at lw_m1 41 rfl) rfl
theorem q216 : (Jvm.Cond.castable "HairProvince$Wrong" "HairProvince$Wrong") ∈ lw_tbl := lw_at lw_m1 42 rfl
theorem q223 : (Jvm.Cond.selects "HairProvince$Wrong" ({ cls := "java/lang/Throwable", name := "fillInStackTrace", desc := "(I)Ljava/lang/Throwable;" } : Jvm.MethodName) ({ cls := "java/lang/Throwable", name := "fillInStackTrace", desc := "(I)Ljava/lang/Throwable;" } : Jvm.MethodName)) ∈ lw_all := lw_g (lw_at lw_m1 49 rfl) rfl
theorem q224 : (Jvm.Cond.selects "HairProvince$Wrong" ({ cls := "java/lang/Throwable", name := "fillInStackTrace", desc := "()Ljava/lang/Throwable;" } : Jvm.MethodName) ({ cls := "java/lang/Throwable", name := "fillInStackTrace", desc := "()Ljava/lang/Throwable;" } : Jvm.MethodName)) ∈ lw_all := lw_g (lw_at lw_m1 50 rfl) rfl
theorem q225 : (Jvm.Cond.lays "HairProvince$Wrong" "java/lang/Throwable" "cause" "Ljava/lang/Throwable;") ∈ lw_all := lw_g (lw_at lw_m1 51 rfl) rfl
theorem q227 : (Jvm.Cond.lays "HairProvince$Wrong" "java/lang/Throwable" "stackTrace" "[Ljava/lang/StackTraceElement;") ∈ lw_all := lw_g (lw_at lw_m1 53 rfl) rfl
theorem q229 : (Jvm.Cond.lays "HairProvince$Wrong" "java/lang/Throwable" "suppressedExceptions" "Ljava/util/List;") ∈ lw_all := lw_g (lw_at lw_m1 55 rfl) rfl
theorem q231 : (Jvm.Cond.lays "HairProvince$Wrong" "java/lang/Throwable" "detailMessage" "Ljava/lang/String;") ∈ lw_all := lw_g (lw_at lw_m1 57 rfl) rfl
theorem q233 : (Jvm.Cond.lays "HairProvince$Wrong" "java/lang/Throwable" "backtrace" "Ljava/lang/Object;") ∈ lw_all := lw_g (lw_at lw_m1 59 rfl) rfl
theorem q270 : (Jvm.Cond.instanceMethod ({ cls := "HairProvince$Wrong", name := "<init>", desc := "()V" } : Jvm.MethodName)) ∈ lw_all := lw_g (lw_at lw_m1 96 rfl) rfl
theorem q271 : (Jvm.Cond.code ({ cls := "HairProvince$Wrong", name := "<init>", desc := "()V" } : Jvm.MethodName) prog_13_method_1_code (1 : Nat) (Option.none : Option Jvm.ClassFile.FieldType)) ∈ lw_all := lw_g (lw_at lw_m1 97 rfl) rfl
theorem q272 : (Jvm.Cond.methodLink "HairProvince$Wrong" (1 : Nat) ({ cls := "java/lang/RuntimeException", name := "<init>", desc := "(Ljava/lang/String;Ljava/lang/Throwable;ZZ)V" } : Jvm.MethodName)) ∈ lw_all := lw_g (lw_at lw_m1 98 rfl) rfl
theorem q281 : (Jvm.Cond.fieldLink "HairProvince$Wrong" (7 : Nat) "HairProvince$Wrong" "kind" "I") ∈ lw_all := lw_g (lw_at lw_m1 107 rfl) rfl
theorem q283 : (Jvm.Cond.fieldLink "HairProvince$Wrong" (13 : Nat) "HairProvince$Wrong" "place" "I") ∈ lw_all := lw_g (lw_at lw_m1 109 rfl) rfl
theorem q290 : (Jvm.Cond.lays "HairProvince$Wrong" "HairProvince$Wrong" "kind" "I") ∈ lw_all := lw_g (lw_at lw_m1 116 rfl) rfl
theorem q291 : (Jvm.Cond.soleField "HairProvince$Wrong" "kind") ∈ lw_all := lw_g (lw_at lw_m1 117 rfl) rfl
theorem q292 : (Jvm.Cond.lays "HairProvince$Wrong" "HairProvince$Wrong" "place" "I") ∈ lw_all := lw_g (lw_at lw_m1 118 rfl) rfl
theorem q293 : (Jvm.Cond.soleField "HairProvince$Wrong" "place") ∈ lw_all := lw_g (lw_at lw_m1 119 rfl) rfl
theorem q298 : (Jvm.Cond.lays "HairProvince$Wrong" "java/lang/Throwable" "depth" "I") ∈ lw_all := lw_g (lw_at lw_m1 124 rfl) rfl
theorem q301 : (Jvm.Cond.superclass "HairProvince$Wrong" "java/lang/RuntimeException") ∈ lw_all := lw_g (lw_at lw_m1 127 rfl) rfl
theorem q868 : (Jvm.Cond.instanceMethod ({ cls := "HairProvince$Wrong", name := "of", desc := "(II)LHairProvince$Wrong;" } : Jvm.MethodName)) ∈ lw_all := lw_g (lw_at lw_m3 214 rfl) rfl
theorem q869 : (Jvm.Cond.selects "HairProvince$Wrong" ({ cls := "HairProvince$Wrong", name := "of", desc := "(II)LHairProvince$Wrong;" } : Jvm.MethodName) ({ cls := "HairProvince$Wrong", name := "of", desc := "(II)LHairProvince$Wrong;" } : Jvm.MethodName)) ∈ lw_all := lw_g (lw_at lw_m3 215 rfl) rfl
theorem q870 : (Jvm.Cond.code ({ cls := "HairProvince$Wrong", name := "of", desc := "(II)LHairProvince$Wrong;" } : Jvm.MethodName) prog_13_method_2_code (3 : Nat) (Option.some (Jvm.ClassFile.FieldType.object "HairProvince$Wrong"))) ∈ lw_all := lw_g (lw_at lw_m3 216 rfl) rfl
theorem in_X3 : ∀ w ∈ wsX30, w ∈ lw_all := lw_in wsX30 [225, 227, 229, 231, 233, 298, 290, 292] (by decide +kernel) (by decide +kernel)
/-! HairProvince$Saying -/
set_option maxRecDepth 100000
def RX4 : String := "HairProvince$Saying"
abbrev cX4_init : ByteArray := prog_7_method_1_code
def yX4_init : MethodName := ⟨RX4, "<init>", "()V"⟩
theorem dX4_init_0 : decode cX4_init 0 = .ok (.aload_n 0, 1) := by decide +kernel
theorem dX4_init_1 : decode cX4_init 1 = .ok (.invokespecial 1, 3) := by decide +kernel
theorem dX4_init_4 : decode cX4_init 4 = .ok (.return_, 1) := by decide +kernel
abbrev cX4_does : ByteArray := prog_7_method_3_code
def yX4_does : MethodName := ⟨RX4, "does", "(LHairProvince$Person;ILHairProvince$Person;)V"⟩
def dkwX4_does_1 : List UInt8 := [181, 0, 7, 177]
abbrev dktX4_does_1 : List UInt8 := dkwX4_does_1 ++ []
def dkwX4_does_0 : List UInt8 := [45, 89, 180, 0, 19, 4, 28, 120, 128, 181, 0, 19, 43, 89, 180, 0, 7, 4, 28, 120, 2, 130, 126]
abbrev dktX4_does_0 : List UInt8 := dkwX4_does_0 ++ dktX4_does_1
theorem dksX4_does_0 : cX4_does.data.toList.drop 0 = dktX4_does_0 := by decide +kernel
theorem dksX4_does_1 : cX4_does.data.toList.drop 23 = dktX4_does_1 := dk_seg dksX4_does_0 23 rfl rfl
theorem dX4_does_0 : decode cX4_does 0 = .ok (.aload_n 3, 1) := dk_45 (dk_at dksX4_does_0 0 rfl rfl)
theorem dX4_does_1 : decode cX4_does 1 = .ok (.dup, 1) := dk_89 (dk_at dksX4_does_0 1 rfl rfl)
theorem dX4_does_2 : decode cX4_does 2 = .ok (.getfield 19, 3) := dk_180 0 19 (dk_at dksX4_does_0 2 rfl rfl)
theorem dX4_does_5 : decode cX4_does 5 = .ok (.iconst 1, 1) := dk_4 (dk_at dksX4_does_0 5 rfl rfl)
theorem dX4_does_6 : decode cX4_does 6 = .ok (.iload_n 2, 1) := dk_28 (dk_at dksX4_does_0 6 rfl rfl)
theorem dX4_does_7 : decode cX4_does 7 = .ok (.ishl, 1) := dk_120 (dk_at dksX4_does_0 7 rfl rfl)
theorem dX4_does_8 : decode cX4_does 8 = .ok (.ior, 1) := dk_128 (dk_at dksX4_does_0 8 rfl rfl)
theorem dX4_does_9 : decode cX4_does 9 = .ok (.putfield 19, 3) := dk_181 0 19 (dk_at dksX4_does_0 9 rfl rfl)
theorem dX4_does_12 : decode cX4_does 12 = .ok (.aload_n 1, 1) := dk_43 (dk_at dksX4_does_0 12 rfl rfl)
theorem dX4_does_13 : decode cX4_does 13 = .ok (.dup, 1) := dk_89 (dk_at dksX4_does_0 13 rfl rfl)
theorem dX4_does_14 : decode cX4_does 14 = .ok (.getfield 7, 3) := dk_180 0 7 (dk_at dksX4_does_0 14 rfl rfl)
theorem dX4_does_17 : decode cX4_does 17 = .ok (.iconst 1, 1) := dk_4 (dk_at dksX4_does_0 17 rfl rfl)
theorem dX4_does_18 : decode cX4_does 18 = .ok (.iload_n 2, 1) := dk_28 (dk_at dksX4_does_0 18 rfl rfl)
theorem dX4_does_19 : decode cX4_does 19 = .ok (.ishl, 1) := dk_120 (dk_at dksX4_does_0 19 rfl rfl)
theorem dX4_does_20 : decode cX4_does 20 = .ok (.iconst (-1), 1) := dk_2 (dk_at dksX4_does_0 20 rfl rfl)
theorem dX4_does_21 : decode cX4_does 21 = .ok (.ixor, 1) := dk_130 (dk_at dksX4_does_0 21 rfl rfl)
theorem dX4_does_22 : decode cX4_does 22 = .ok (.iand, 1) := dk_126 (dk_at dksX4_does_0 22 rfl rfl)
theorem dX4_does_23 : decode cX4_does 23 = .ok (.putfield 7, 3) := dk_181 0 7 (dk_at dksX4_does_1 0 rfl rfl)
theorem dX4_does_26 : decode cX4_does 26 = .ok (.return_, 1) := dk_177 (dk_at dksX4_does_1 3 rfl rfl)
abbrev cX4_can : ByteArray := prog_7_method_2_code
def yX4_can : MethodName := ⟨RX4, "can", "(LHairProvince$Person;ILHairProvince$Person;)Z"⟩
def dkwX4_can_1 : List UInt8 := [154, 0, 7, 4, 167, 0, 4, 3, 172]
abbrev dktX4_can_1 : List UInt8 := dkwX4_can_1 ++ []
def dkwX4_can_0 : List UInt8 := [43, 45, 165, 0, 29, 43, 180, 0, 7, 28, 184, 0, 13, 153, 0, 18, 45, 180, 0, 19, 28, 184, 0, 13]
abbrev dktX4_can_0 : List UInt8 := dkwX4_can_0 ++ dktX4_can_1
theorem dksX4_can_0 : cX4_can.data.toList.drop 0 = dktX4_can_0 := by decide +kernel
theorem dksX4_can_1 : cX4_can.data.toList.drop 24 = dktX4_can_1 := dk_seg dksX4_can_0 24 rfl rfl
theorem dX4_can_0 : decode cX4_can 0 = .ok (.aload_n 1, 1) := dk_43 (dk_at dksX4_can_0 0 rfl rfl)
theorem dX4_can_1 : decode cX4_can 1 = .ok (.aload_n 3, 1) := dk_45 (dk_at dksX4_can_0 1 rfl rfl)
theorem dX4_can_2 : decode cX4_can 2 = .ok (.if_acmp .eq 29, 3) := dk_165 0 29 (dk_at dksX4_can_0 2 rfl rfl)
theorem dX4_can_5 : decode cX4_can 5 = .ok (.aload_n 1, 1) := dk_43 (dk_at dksX4_can_0 5 rfl rfl)
theorem dX4_can_6 : decode cX4_can 6 = .ok (.getfield 7, 3) := dk_180 0 7 (dk_at dksX4_can_0 6 rfl rfl)
theorem dX4_can_9 : decode cX4_can 9 = .ok (.iload_n 2, 1) := dk_28 (dk_at dksX4_can_0 9 rfl rfl)
theorem dX4_can_10 : decode cX4_can 10 = .ok (.invokestatic 13, 3) := dk_184 0 13 (dk_at dksX4_can_0 10 rfl rfl)
theorem dX4_can_13 : decode cX4_can 13 = .ok (.ifCond .eq 18, 3) := dk_153 0 18 (dk_at dksX4_can_0 13 rfl rfl)
theorem dX4_can_16 : decode cX4_can 16 = .ok (.aload_n 3, 1) := dk_45 (dk_at dksX4_can_0 16 rfl rfl)
theorem dX4_can_17 : decode cX4_can 17 = .ok (.getfield 19, 3) := dk_180 0 19 (dk_at dksX4_can_0 17 rfl rfl)
theorem dX4_can_20 : decode cX4_can 20 = .ok (.iload_n 2, 1) := dk_28 (dk_at dksX4_can_0 20 rfl rfl)
theorem dX4_can_21 : decode cX4_can 21 = .ok (.invokestatic 13, 3) := dk_184 0 13 (dk_at dksX4_can_0 21 rfl rfl)
theorem dX4_can_24 : decode cX4_can 24 = .ok (.ifCond .ne 7, 3) := dk_154 0 7 (dk_at dksX4_can_1 0 rfl rfl)
theorem dX4_can_27 : decode cX4_can 27 = .ok (.iconst 1, 1) := dk_4 (dk_at dksX4_can_1 3 rfl rfl)
theorem dX4_can_28 : decode cX4_can 28 = .ok (.goto 4, 3) := dk_167 0 4 (dk_at dksX4_can_1 4 rfl rfl)
theorem dX4_can_31 : decode cX4_can 31 = .ok (.iconst 0, 1) := dk_3 (dk_at dksX4_can_1 7 rfl rfl)
theorem dX4_can_32 : decode cX4_can 32 = .ok (.ireturn, 1) := dk_172 (dk_at dksX4_can_1 8 rfl rfl)
theorem q182 : (Jvm.Cond.initialized "HairProvince$Saying") ∈ lw_all := lw_g (lw_at lw_m1 8 rfl) rfl
theorem q312 : (Jvm.Cond.instantiable "HairProvince$Saying" (0 : Nat)) ∈ lw_all := lw_g (lw_at lw_m1 138 rfl) rfl
theorem q314 : (Jvm.Cond.instanceMethod ({ cls := "HairProvince$Saying", name := "<init>", desc := "()V" } : Jvm.MethodName)) ∈ lw_all := lw_g (lw_at lw_m1 140 rfl) rfl
theorem q315 : (Jvm.Cond.code ({ cls := "HairProvince$Saying", name := "<init>", desc := "()V" } : Jvm.MethodName) prog_7_method_1_code (1 : Nat) (Option.none : Option Jvm.ClassFile.FieldType)) ∈ lw_all := lw_g (lw_at lw_m1 141 rfl) rfl
theorem q316 : (Jvm.Cond.methodLink "HairProvince$Saying" (1 : Nat) ({ cls := "java/lang/Object", name := "<init>", desc := "()V" } : Jvm.MethodName)) ∈ lw_all := lw_g (lw_at lw_m1 142 rfl) rfl
theorem q317 : (Jvm.Cond.superclass "HairProvince$Saying" "java/lang/Object") ∈ lw_all := lw_g (lw_at lw_m1 143 rfl) rfl
theorem q501 : (Jvm.Cond.fieldLinkNest "HairProvince$Saying" (19 : Nat) "HairProvince$Person" "knows" "I" "HairProvince") ∈ lw_tbl := lw_at lw_m2 87 rfl
theorem q506 : (Jvm.Cond.fieldLinkNest "HairProvince$Saying" (7 : Nat) "HairProvince$Person" "keeps" "I" "HairProvince") ∈ lw_tbl := lw_at lw_m2 92 rfl
theorem q1201 : (Jvm.Cond.instanceMethod ({ cls := "HairProvince$Saying", name := "does", desc := "(LHairProvince$Person;ILHairProvince$Person;)V" } : Jvm.MethodName)) ∈ lw_all := lw_g (lw_at lw_m5 67 rfl) rfl
theorem q1202 : (Jvm.Cond.selects "HairProvince$Saying" ({ cls := "HairProvince$Saying", name := "does", desc := "(LHairProvince$Person;ILHairProvince$Person;)V" } : Jvm.MethodName) ({ cls := "HairProvince$Saying", name := "does", desc := "(LHairProvince$Person;ILHairProvince$Person;)V" } : Jvm.MethodName)) ∈ lw_all := lw_g (lw_at lw_m5 68 rfl) rfl
theorem q1203 : (Jvm.Cond.sameMethod "HairProvince$Saying" "HairProvince$Saying" "does" "(LHairProvince$Person;ILHairProvince$Person;)V") ∈ lw_all := lw_g (lw_at lw_m5 69 rfl) rfl
theorem q1208 : (Jvm.Cond.code ({ cls := "HairProvince$Saying", name := "does", desc := "(LHairProvince$Person;ILHairProvince$Person;)V" } : Jvm.MethodName) prog_7_method_3_code (4 : Nat) (Option.none : Option Jvm.ClassFile.FieldType)) ∈ lw_all := lw_g (lw_at lw_m5 74 rfl) rfl
theorem q1222 : (Jvm.Cond.instanceMethod ({ cls := "HairProvince$Saying", name := "can", desc := "(LHairProvince$Person;ILHairProvince$Person;)Z" } : Jvm.MethodName)) ∈ lw_all := lw_g (lw_at lw_m5 88 rfl) rfl
theorem q1223 : (Jvm.Cond.selects "HairProvince$Saying" ({ cls := "HairProvince$Saying", name := "can", desc := "(LHairProvince$Person;ILHairProvince$Person;)Z" } : Jvm.MethodName) ({ cls := "HairProvince$Saying", name := "can", desc := "(LHairProvince$Person;ILHairProvince$Person;)Z" } : Jvm.MethodName)) ∈ lw_all := lw_g (lw_at lw_m5 89 rfl) rfl
theorem q1224 : (Jvm.Cond.sameMethod "HairProvince$Saying" "HairProvince$Saying" "can" "(LHairProvince$Person;ILHairProvince$Person;)Z") ∈ lw_all := lw_g (lw_at lw_m5 90 rfl) rfl
theorem q1226 : (Jvm.Cond.code ({ cls := "HairProvince$Saying", name := "can", desc := "(LHairProvince$Person;ILHairProvince$Person;)Z" } : Jvm.MethodName) prog_7_method_2_code (4 : Nat) (Option.some Jvm.ClassFile.FieldType.boolean)) ∈ lw_all := lw_g (lw_at lw_m5 92 rfl) rfl
theorem q1227 : (Jvm.Cond.methodLinkNest "HairProvince$Saying" (13 : Nat) ({ cls := "HairProvince", name := "isIn", desc := "(II)Z" } : Jvm.MethodName) "HairProvince") ∈ lw_tbl := lw_at lw_m5 93 rfl
/-! HairProvince$Trusting -/
set_option maxRecDepth 100000
def RX5 : String := "HairProvince$Trusting"
abbrev cX5_init : ByteArray := prog_11_method_1_code
def yX5_init : MethodName := ⟨RX5, "<init>", "()V"⟩
theorem dX5_init_0 : decode cX5_init 0 = .ok (.aload_n 0, 1) := by decide +kernel
theorem dX5_init_1 : decode cX5_init 1 = .ok (.invokespecial 1, 3) := by decide +kernel
theorem dX5_init_4 : decode cX5_init 4 = .ok (.return_, 1) := by decide +kernel
abbrev cX5_does : ByteArray := prog_11_method_2_code
def yX5_does : MethodName := ⟨RX5, "does", "(LHairProvince$Person;ILHairProvince$Person;)V"⟩
def dkwX5_does_0 : List UInt8 := [42, 43, 28, 45, 183, 0, 7, 45, 28, 182, 0, 11, 87, 177]
abbrev dktX5_does_0 : List UInt8 := dkwX5_does_0 ++ []
theorem dksX5_does_0 : cX5_does.data.toList.drop 0 = dktX5_does_0 := by decide +kernel
theorem dX5_does_0 : decode cX5_does 0 = .ok (.aload_n 0, 1) := dk_42 (dk_at dksX5_does_0 0 rfl rfl)
theorem dX5_does_1 : decode cX5_does 1 = .ok (.aload_n 1, 1) := dk_43 (dk_at dksX5_does_0 1 rfl rfl)
theorem dX5_does_2 : decode cX5_does 2 = .ok (.iload_n 2, 1) := dk_28 (dk_at dksX5_does_0 2 rfl rfl)
theorem dX5_does_3 : decode cX5_does 3 = .ok (.aload_n 3, 1) := dk_45 (dk_at dksX5_does_0 3 rfl rfl)
theorem dX5_does_4 : decode cX5_does 4 = .ok (.invokespecial 7, 3) := dk_183 0 7 (dk_at dksX5_does_0 4 rfl rfl)
theorem dX5_does_7 : decode cX5_does 7 = .ok (.aload_n 3, 1) := dk_45 (dk_at dksX5_does_0 7 rfl rfl)
theorem dX5_does_8 : decode cX5_does 8 = .ok (.iload_n 2, 1) := dk_28 (dk_at dksX5_does_0 8 rfl rfl)
theorem dX5_does_9 : decode cX5_does 9 = .ok (.invokevirtual 11, 3) := dk_182 0 11 (dk_at dksX5_does_0 9 rfl rfl)
theorem dX5_does_12 : decode cX5_does 12 = .ok (.pop, 1) := dk_87 (dk_at dksX5_does_0 12 rfl rfl)
theorem dX5_does_13 : decode cX5_does 13 = .ok (.return_, 1) := dk_177 (dk_at dksX5_does_0 13 rfl rfl)
theorem q183 : (Jvm.Cond.initialized "HairProvince$Trusting") ∈ lw_all := lw_g (lw_at lw_m1 9 rfl) rfl
theorem q384 : (Jvm.Cond.instantiable "HairProvince$Trusting" (0 : Nat)) ∈ lw_all := lw_g (lw_at lw_m1 210 rfl) rfl
theorem q386 : (Jvm.Cond.instanceMethod ({ cls := "HairProvince$Trusting", name := "<init>", desc := "()V" } : Jvm.MethodName)) ∈ lw_all := lw_g (lw_at lw_m1 212 rfl) rfl
theorem q387 : (Jvm.Cond.code ({ cls := "HairProvince$Trusting", name := "<init>", desc := "()V" } : Jvm.MethodName) prog_11_method_1_code (1 : Nat) (Option.none : Option Jvm.ClassFile.FieldType)) ∈ lw_all := lw_g (lw_at lw_m1 213 rfl) rfl
theorem q388 : (Jvm.Cond.methodLinkNest "HairProvince$Trusting" (1 : Nat) ({ cls := "HairProvince$Saying", name := "<init>", desc := "()V" } : Jvm.MethodName) "HairProvince") ∈ lw_tbl := lw_at lw_m1 214 rfl
theorem q389 : (Jvm.Cond.superclass "HairProvince$Trusting" "HairProvince$Saying") ∈ lw_all := lw_g (lw_at lw_m1 215 rfl) rfl
theorem q1204 : (Jvm.Cond.selects "HairProvince$Trusting" ({ cls := "HairProvince$Saying", name := "does", desc := "(LHairProvince$Person;ILHairProvince$Person;)V" } : Jvm.MethodName) ({ cls := "HairProvince$Trusting", name := "does", desc := "(LHairProvince$Person;ILHairProvince$Person;)V" } : Jvm.MethodName)) ∈ lw_all := lw_g (lw_at lw_m5 70 rfl) rfl
theorem q1205 : (Jvm.Cond.instanceMethod ({ cls := "HairProvince$Trusting", name := "does", desc := "(LHairProvince$Person;ILHairProvince$Person;)V" } : Jvm.MethodName)) ∈ lw_all := lw_g (lw_at lw_m5 71 rfl) rfl
theorem q1206 : (Jvm.Cond.code ({ cls := "HairProvince$Trusting", name := "does", desc := "(LHairProvince$Person;ILHairProvince$Person;)V" } : Jvm.MethodName) prog_11_method_2_code (4 : Nat) (Option.none : Option Jvm.ClassFile.FieldType)) ∈ lw_all := lw_g (lw_at lw_m5 72 rfl) rfl
theorem q1207 : (Jvm.Cond.methodLink "HairProvince$Trusting" (7 : Nat) ({ cls := "HairProvince$Saying", name := "does", desc := "(LHairProvince$Person;ILHairProvince$Person;)V" } : Jvm.MethodName)) ∈ lw_all := lw_g (lw_at lw_m5 73 rfl) rfl
theorem q1209 : (Jvm.Cond.methodLink "HairProvince$Trusting" (11 : Nat) ({ cls := "HairProvince$Person", name := "keeps", desc := "(I)Z" } : Jvm.MethodName)) ∈ lw_all := lw_g (lw_at lw_m5 75 rfl) rfl
theorem q1225 : (Jvm.Cond.selects "HairProvince$Trusting" ({ cls := "HairProvince$Saying", name := "can", desc := "(LHairProvince$Person;ILHairProvince$Person;)Z" } : Jvm.MethodName) ({ cls := "HairProvince$Saying", name := "can", desc := "(LHairProvince$Person;ILHairProvince$Person;)Z" } : Jvm.MethodName)) ∈ lw_all := lw_g (lw_at lw_m5 91 rfl) rfl
/-! HairProvince$Province -/
set_option maxRecDepth 100000
def RX6 : String := "HairProvince$Province"
def TX6 : u_T := fun k => match k with
  | 0 => ("HairProvince$Province", "words", "[LHairProvince$Word;", true)
  | 1 => ("HairProvince$Province", "people", "[LHairProvince$Person;", true)
  | 2 => ("HairProvince$Province", "dinners", "[LHairProvince$Dinner;", true)
  | 3 => ("HairProvince$Province", "saying", "LHairProvince$Saying;", true)
  | 4 => ("HairProvince$Province", "wordMany", "I", false)
  | 5 => ("HairProvince$Province", "personMany", "I", false)
  | 6 => ("HairProvince$Province", "dinnerMany", "I", false)
  | 7 => ("HairProvince$Province", "halvesMany", "I", false)
  | 8 => ("HairProvince$Province", "heard", "I", false)
  | 9 => ("HairProvince$Province", "odds", "I", false)
  | 10 => ("HairProvince$Province", "day", "I", false)
  | 11 => ("HairProvince$Province", "said", "I", false)
  | _ => ("HairProvince$Province", "cuts", "I", false)
def tyX6 : Nat → FieldType := fun k => match k with
  | 0 => .array (.object "HairProvince$Word")
  | 1 => .array (.object "HairProvince$Person")
  | 2 => .array (.object "HairProvince$Dinner")
  | 3 => .object "HairProvince$Saying"
  | 4 => .int
  | 5 => .int
  | 6 => .int
  | 7 => .int
  | 8 => .int
  | 9 => .int
  | 10 => .int
  | 11 => .int
  | _ => .int
abbrev wsX60 : List Cond := u_ws RX6 TX6 13
set_option maxRecDepth 100000 in
theorem nmX6 : ∀ a, a < 13 → ∀ b, b < 13 → a ≠ b → (TX6 a).2.1 ≠ (TX6 b).2.1 := by decide +kernel
set_option maxRecDepth 100000 in
theorem tyX6_ok : ∀ k, k < 13 → parseFieldDescriptor (TX6 k).2.2.1 = some (tyX6 k) := by decide +kernel
abbrev cX6_init : ByteArray := prog_5_method_1_code
def yX6_init : MethodName := ⟨RX6, "<init>", "(LHairProvince$Saying;)V"⟩
def dkwX6_init_1 : List UInt8 := [16, 6, 189, 0, 23, 181, 0, 25, 42, 6, 181, 0, 29, 42, 4, 181, 0, 33, 42, 43, 181, 0, 36, 177]
abbrev dktX6_init_1 : List UInt8 := dkwX6_init_1 ++ []
def dkwX6_init_0 : List UInt8 := [42, 183, 0, 3, 42, 16, 8, 189, 0, 9, 181, 0, 11, 42, 16, 6, 189, 0, 17, 181, 0, 19, 42]
abbrev dktX6_init_0 : List UInt8 := dkwX6_init_0 ++ dktX6_init_1
theorem dksX6_init_0 : cX6_init.data.toList.drop 0 = dktX6_init_0 := by decide +kernel
theorem dksX6_init_1 : cX6_init.data.toList.drop 23 = dktX6_init_1 := dk_seg dksX6_init_0 23 rfl rfl
theorem dX6_init_0 : decode cX6_init 0 = .ok (.aload_n 0, 1) := dk_42 (dk_at dksX6_init_0 0 rfl rfl)
theorem dX6_init_1 : decode cX6_init 1 = .ok (.invokespecial 3, 3) := dk_183 0 3 (dk_at dksX6_init_0 1 rfl rfl)
theorem dX6_init_4 : decode cX6_init 4 = .ok (.aload_n 0, 1) := dk_42 (dk_at dksX6_init_0 4 rfl rfl)
theorem dX6_init_5 : decode cX6_init 5 = .ok (.bipush 8, 2) := dk_16 8 (dk_at dksX6_init_0 5 rfl rfl)
theorem dX6_init_7 : decode cX6_init 7 = .ok (.anewarray 9, 3) := dk_189 0 9 (dk_at dksX6_init_0 7 rfl rfl)
theorem dX6_init_10 : decode cX6_init 10 = .ok (.putfield 11, 3) := dk_181 0 11 (dk_at dksX6_init_0 10 rfl rfl)
theorem dX6_init_13 : decode cX6_init 13 = .ok (.aload_n 0, 1) := dk_42 (dk_at dksX6_init_0 13 rfl rfl)
theorem dX6_init_14 : decode cX6_init 14 = .ok (.bipush 6, 2) := dk_16 6 (dk_at dksX6_init_0 14 rfl rfl)
theorem dX6_init_16 : decode cX6_init 16 = .ok (.anewarray 17, 3) := dk_189 0 17 (dk_at dksX6_init_0 16 rfl rfl)
theorem dX6_init_19 : decode cX6_init 19 = .ok (.putfield 19, 3) := dk_181 0 19 (dk_at dksX6_init_0 19 rfl rfl)
theorem dX6_init_22 : decode cX6_init 22 = .ok (.aload_n 0, 1) := dk_42 (dk_at dksX6_init_0 22 rfl rfl)
theorem dX6_init_23 : decode cX6_init 23 = .ok (.bipush 6, 2) := dk_16 6 (dk_at dksX6_init_1 0 rfl rfl)
theorem dX6_init_25 : decode cX6_init 25 = .ok (.anewarray 23, 3) := dk_189 0 23 (dk_at dksX6_init_1 2 rfl rfl)
theorem dX6_init_28 : decode cX6_init 28 = .ok (.putfield 25, 3) := dk_181 0 25 (dk_at dksX6_init_1 5 rfl rfl)
theorem dX6_init_31 : decode cX6_init 31 = .ok (.aload_n 0, 1) := dk_42 (dk_at dksX6_init_1 8 rfl rfl)
theorem dX6_init_32 : decode cX6_init 32 = .ok (.iconst 3, 1) := dk_6 (dk_at dksX6_init_1 9 rfl rfl)
theorem dX6_init_33 : decode cX6_init 33 = .ok (.putfield 29, 3) := dk_181 0 29 (dk_at dksX6_init_1 10 rfl rfl)
theorem dX6_init_36 : decode cX6_init 36 = .ok (.aload_n 0, 1) := dk_42 (dk_at dksX6_init_1 13 rfl rfl)
theorem dX6_init_37 : decode cX6_init 37 = .ok (.iconst 1, 1) := dk_4 (dk_at dksX6_init_1 14 rfl rfl)
theorem dX6_init_38 : decode cX6_init 38 = .ok (.putfield 33, 3) := dk_181 0 33 (dk_at dksX6_init_1 15 rfl rfl)
theorem dX6_init_41 : decode cX6_init 41 = .ok (.aload_n 0, 1) := dk_42 (dk_at dksX6_init_1 18 rfl rfl)
theorem dX6_init_42 : decode cX6_init 42 = .ok (.aload_n 1, 1) := dk_43 (dk_at dksX6_init_1 19 rfl rfl)
theorem dX6_init_43 : decode cX6_init 43 = .ok (.putfield 36, 3) := dk_181 0 36 (dk_at dksX6_init_1 20 rfl rfl)
theorem dX6_init_46 : decode cX6_init 46 = .ok (.return_, 1) := dk_177 (dk_at dksX6_init_1 23 rfl rfl)
abbrev cX6_word : ByteArray := prog_5_method_4_code
def yX6_word : MethodName := ⟨RX6, "word", "(J)I"⟩
def dkwX6_word_1 : List UInt8 := [29, 172, 132, 3, 1, 167, 255, 229, 2, 172]
abbrev dktX6_word_1 : List UInt8 := dkwX6_word_1 ++ []
def dkwX6_word_0 : List UInt8 := [3, 62, 29, 42, 180, 0, 56, 162, 0, 25, 42, 180, 0, 11, 29, 50, 180, 0, 81, 31, 148, 154, 0, 5]
abbrev dktX6_word_0 : List UInt8 := dkwX6_word_0 ++ dktX6_word_1
theorem dksX6_word_0 : cX6_word.data.toList.drop 0 = dktX6_word_0 := by decide +kernel
theorem dksX6_word_1 : cX6_word.data.toList.drop 24 = dktX6_word_1 := dk_seg dksX6_word_0 24 rfl rfl
theorem dX6_word_0 : decode cX6_word 0 = .ok (.iconst 0, 1) := dk_3 (dk_at dksX6_word_0 0 rfl rfl)
theorem dX6_word_1 : decode cX6_word 1 = .ok (.istore_n 3, 1) := dk_62 (dk_at dksX6_word_0 1 rfl rfl)
theorem dX6_word_2 : decode cX6_word 2 = .ok (.iload_n 3, 1) := dk_29 (dk_at dksX6_word_0 2 rfl rfl)
theorem dX6_word_3 : decode cX6_word 3 = .ok (.aload_n 0, 1) := dk_42 (dk_at dksX6_word_0 3 rfl rfl)
theorem dX6_word_4 : decode cX6_word 4 = .ok (.getfield 56, 3) := dk_180 0 56 (dk_at dksX6_word_0 4 rfl rfl)
theorem dX6_word_7 : decode cX6_word 7 = .ok (.if_icmp .ge 25, 3) := dk_162 0 25 (dk_at dksX6_word_0 7 rfl rfl)
theorem dX6_word_10 : decode cX6_word 10 = .ok (.aload_n 0, 1) := dk_42 (dk_at dksX6_word_0 10 rfl rfl)
theorem dX6_word_11 : decode cX6_word 11 = .ok (.getfield 11, 3) := dk_180 0 11 (dk_at dksX6_word_0 11 rfl rfl)
theorem dX6_word_14 : decode cX6_word 14 = .ok (.iload_n 3, 1) := dk_29 (dk_at dksX6_word_0 14 rfl rfl)
theorem dX6_word_15 : decode cX6_word 15 = .ok (.aaload, 1) := dk_50 (dk_at dksX6_word_0 15 rfl rfl)
theorem dX6_word_16 : decode cX6_word 16 = .ok (.getfield 81, 3) := dk_180 0 81 (dk_at dksX6_word_0 16 rfl rfl)
theorem dX6_word_19 : decode cX6_word 19 = .ok (.lload_n 1, 1) := dk_31 (dk_at dksX6_word_0 19 rfl rfl)
theorem dX6_word_20 : decode cX6_word 20 = .ok (.lcmp, 1) := dk_148 (dk_at dksX6_word_0 20 rfl rfl)
theorem dX6_word_21 : decode cX6_word 21 = .ok (.ifCond .ne 5, 3) := dk_154 0 5 (dk_at dksX6_word_0 21 rfl rfl)
theorem dX6_word_24 : decode cX6_word 24 = .ok (.iload_n 3, 1) := dk_29 (dk_at dksX6_word_1 0 rfl rfl)
theorem dX6_word_25 : decode cX6_word 25 = .ok (.ireturn, 1) := dk_172 (dk_at dksX6_word_1 1 rfl rfl)
theorem dX6_word_26 : decode cX6_word 26 = .ok (.iinc 3 1, 3) := dk_132 3 1 (dk_at dksX6_word_1 2 rfl rfl)
theorem dX6_word_29 : decode cX6_word 29 = .ok (.goto (-27), 3) := dk_167 255 229 (dk_at dksX6_word_1 5 rfl rfl)
theorem dX6_word_32 : decode cX6_word 32 = .ok (.iconst (-1), 1) := dk_2 (dk_at dksX6_word_1 8 rfl rfl)
theorem dX6_word_33 : decode cX6_word 33 = .ok (.ireturn, 1) := dk_172 (dk_at dksX6_word_1 9 rfl rfl)
abbrev cX6_person : ByteArray := prog_5_method_5_code
def yX6_person : MethodName := ⟨RX6, "person", "(J)I"⟩
def dkwX6_person_1 : List UInt8 := [29, 172, 132, 3, 1, 167, 255, 229, 2, 172]
abbrev dktX6_person_1 : List UInt8 := dkwX6_person_1 ++ []
def dkwX6_person_0 : List UInt8 := [3, 62, 29, 42, 180, 0, 49, 162, 0, 25, 42, 180, 0, 19, 29, 50, 180, 0, 85, 31, 148, 154, 0, 5]
abbrev dktX6_person_0 : List UInt8 := dkwX6_person_0 ++ dktX6_person_1
theorem dksX6_person_0 : cX6_person.data.toList.drop 0 = dktX6_person_0 := by decide +kernel
theorem dksX6_person_1 : cX6_person.data.toList.drop 24 = dktX6_person_1 := dk_seg dksX6_person_0 24 rfl rfl
theorem dX6_person_0 : decode cX6_person 0 = .ok (.iconst 0, 1) := dk_3 (dk_at dksX6_person_0 0 rfl rfl)
theorem dX6_person_1 : decode cX6_person 1 = .ok (.istore_n 3, 1) := dk_62 (dk_at dksX6_person_0 1 rfl rfl)
theorem dX6_person_2 : decode cX6_person 2 = .ok (.iload_n 3, 1) := dk_29 (dk_at dksX6_person_0 2 rfl rfl)
theorem dX6_person_3 : decode cX6_person 3 = .ok (.aload_n 0, 1) := dk_42 (dk_at dksX6_person_0 3 rfl rfl)
theorem dX6_person_4 : decode cX6_person 4 = .ok (.getfield 49, 3) := dk_180 0 49 (dk_at dksX6_person_0 4 rfl rfl)
theorem dX6_person_7 : decode cX6_person 7 = .ok (.if_icmp .ge 25, 3) := dk_162 0 25 (dk_at dksX6_person_0 7 rfl rfl)
theorem dX6_person_10 : decode cX6_person 10 = .ok (.aload_n 0, 1) := dk_42 (dk_at dksX6_person_0 10 rfl rfl)
theorem dX6_person_11 : decode cX6_person 11 = .ok (.getfield 19, 3) := dk_180 0 19 (dk_at dksX6_person_0 11 rfl rfl)
theorem dX6_person_14 : decode cX6_person 14 = .ok (.iload_n 3, 1) := dk_29 (dk_at dksX6_person_0 14 rfl rfl)
theorem dX6_person_15 : decode cX6_person 15 = .ok (.aaload, 1) := dk_50 (dk_at dksX6_person_0 15 rfl rfl)
theorem dX6_person_16 : decode cX6_person 16 = .ok (.getfield 85, 3) := dk_180 0 85 (dk_at dksX6_person_0 16 rfl rfl)
theorem dX6_person_19 : decode cX6_person 19 = .ok (.lload_n 1, 1) := dk_31 (dk_at dksX6_person_0 19 rfl rfl)
theorem dX6_person_20 : decode cX6_person 20 = .ok (.lcmp, 1) := dk_148 (dk_at dksX6_person_0 20 rfl rfl)
theorem dX6_person_21 : decode cX6_person 21 = .ok (.ifCond .ne 5, 3) := dk_154 0 5 (dk_at dksX6_person_0 21 rfl rfl)
theorem dX6_person_24 : decode cX6_person 24 = .ok (.iload_n 3, 1) := dk_29 (dk_at dksX6_person_1 0 rfl rfl)
theorem dX6_person_25 : decode cX6_person 25 = .ok (.ireturn, 1) := dk_172 (dk_at dksX6_person_1 1 rfl rfl)
theorem dX6_person_26 : decode cX6_person 26 = .ok (.iinc 3 1, 3) := dk_132 3 1 (dk_at dksX6_person_1 2 rfl rfl)
theorem dX6_person_29 : decode cX6_person 29 = .ok (.goto (-27), 3) := dk_167 255 229 (dk_at dksX6_person_1 5 rfl rfl)
theorem dX6_person_32 : decode cX6_person 32 = .ok (.iconst (-1), 1) := dk_2 (dk_at dksX6_person_1 8 rfl rfl)
theorem dX6_person_33 : decode cX6_person 33 = .ok (.ireturn, 1) := dk_172 (dk_at dksX6_person_1 9 rfl rfl)
abbrev cX6_allHair : ByteArray := prog_5_method_8_code
def yX6_allHair : MethodName := ⟨RX6, "allHair", "()I"⟩
def dkwX6_allHair_1 : List UInt8 := [132, 2, 1, 167, 255, 233, 27, 172]
abbrev dktX6_allHair_1 : List UInt8 := dkwX6_allHair_1 ++ []
def dkwX6_allHair_0 : List UInt8 := [3, 60, 3, 61, 28, 42, 180, 0, 49, 162, 0, 21, 27, 42, 180, 0, 19, 28, 50, 182, 0, 96, 96, 60]
abbrev dktX6_allHair_0 : List UInt8 := dkwX6_allHair_0 ++ dktX6_allHair_1
theorem dksX6_allHair_0 : cX6_allHair.data.toList.drop 0 = dktX6_allHair_0 := by decide +kernel
theorem dksX6_allHair_1 : cX6_allHair.data.toList.drop 24 = dktX6_allHair_1 := dk_seg dksX6_allHair_0 24 rfl rfl
theorem dX6_allHair_0 : decode cX6_allHair 0 = .ok (.iconst 0, 1) := dk_3 (dk_at dksX6_allHair_0 0 rfl rfl)
theorem dX6_allHair_1 : decode cX6_allHair 1 = .ok (.istore_n 1, 1) := dk_60 (dk_at dksX6_allHair_0 1 rfl rfl)
theorem dX6_allHair_2 : decode cX6_allHair 2 = .ok (.iconst 0, 1) := dk_3 (dk_at dksX6_allHair_0 2 rfl rfl)
theorem dX6_allHair_3 : decode cX6_allHair 3 = .ok (.istore_n 2, 1) := dk_61 (dk_at dksX6_allHair_0 3 rfl rfl)
theorem dX6_allHair_4 : decode cX6_allHair 4 = .ok (.iload_n 2, 1) := dk_28 (dk_at dksX6_allHair_0 4 rfl rfl)
theorem dX6_allHair_5 : decode cX6_allHair 5 = .ok (.aload_n 0, 1) := dk_42 (dk_at dksX6_allHair_0 5 rfl rfl)
theorem dX6_allHair_6 : decode cX6_allHair 6 = .ok (.getfield 49, 3) := dk_180 0 49 (dk_at dksX6_allHair_0 6 rfl rfl)
theorem dX6_allHair_9 : decode cX6_allHair 9 = .ok (.if_icmp .ge 21, 3) := dk_162 0 21 (dk_at dksX6_allHair_0 9 rfl rfl)
theorem dX6_allHair_12 : decode cX6_allHair 12 = .ok (.iload_n 1, 1) := dk_27 (dk_at dksX6_allHair_0 12 rfl rfl)
theorem dX6_allHair_13 : decode cX6_allHair 13 = .ok (.aload_n 0, 1) := dk_42 (dk_at dksX6_allHair_0 13 rfl rfl)
theorem dX6_allHair_14 : decode cX6_allHair 14 = .ok (.getfield 19, 3) := dk_180 0 19 (dk_at dksX6_allHair_0 14 rfl rfl)
theorem dX6_allHair_17 : decode cX6_allHair 17 = .ok (.iload_n 2, 1) := dk_28 (dk_at dksX6_allHair_0 17 rfl rfl)
theorem dX6_allHair_18 : decode cX6_allHair 18 = .ok (.aaload, 1) := dk_50 (dk_at dksX6_allHair_0 18 rfl rfl)
theorem dX6_allHair_19 : decode cX6_allHair 19 = .ok (.invokevirtual 96, 3) := dk_182 0 96 (dk_at dksX6_allHair_0 19 rfl rfl)
theorem dX6_allHair_22 : decode cX6_allHair 22 = .ok (.iadd, 1) := dk_96 (dk_at dksX6_allHair_0 22 rfl rfl)
theorem dX6_allHair_23 : decode cX6_allHair 23 = .ok (.istore_n 1, 1) := dk_60 (dk_at dksX6_allHair_0 23 rfl rfl)
theorem dX6_allHair_24 : decode cX6_allHair 24 = .ok (.iinc 2 1, 3) := dk_132 2 1 (dk_at dksX6_allHair_1 0 rfl rfl)
theorem dX6_allHair_27 : decode cX6_allHair 27 = .ok (.goto (-23), 3) := dk_167 255 233 (dk_at dksX6_allHair_1 3 rfl rfl)
theorem dX6_allHair_30 : decode cX6_allHair 30 = .ok (.iload_n 1, 1) := dk_27 (dk_at dksX6_allHair_1 6 rfl rfl)
theorem dX6_allHair_31 : decode cX6_allHair 31 = .ok (.ireturn, 1) := dk_172 (dk_at dksX6_allHair_1 7 rfl rfl)
abbrev cX6_peopleWith : ByteArray := prog_5_method_7_code
def yX6_peopleWith : MethodName := ⟨RX6, "peopleWith", "(II)I"⟩
def dkwX6_peopleWith_2 : List UInt8 := [153, 0, 10, 4, 21, 4, 120, 167, 0, 4, 3, 128, 62, 132, 4, 1, 167, 255, 199, 29, 172]
abbrev dktX6_peopleWith_2 : List UInt8 := dkwX6_peopleWith_2 ++ []
def dkwX6_peopleWith_1 : List UInt8 := [21, 4, 50, 180, 0, 86, 167, 0, 13, 42, 180, 0, 19, 21, 4, 50, 180, 0, 89, 27, 184, 0, 92]
abbrev dktX6_peopleWith_1 : List UInt8 := dkwX6_peopleWith_1 ++ dktX6_peopleWith_2
def dkwX6_peopleWith_0 : List UInt8 := [3, 62, 3, 54, 4, 21, 4, 42, 180, 0, 49, 162, 0, 54, 29, 28, 154, 0, 16, 42, 180, 0, 19]
abbrev dktX6_peopleWith_0 : List UInt8 := dkwX6_peopleWith_0 ++ dktX6_peopleWith_1
theorem dksX6_peopleWith_0 : cX6_peopleWith.data.toList.drop 0 = dktX6_peopleWith_0 := by decide +kernel
theorem dksX6_peopleWith_1 : cX6_peopleWith.data.toList.drop 23 = dktX6_peopleWith_1 := dk_seg dksX6_peopleWith_0 23 rfl rfl
theorem dksX6_peopleWith_2 : cX6_peopleWith.data.toList.drop 46 = dktX6_peopleWith_2 := dk_seg dksX6_peopleWith_1 23 rfl rfl
theorem dX6_peopleWith_0 : decode cX6_peopleWith 0 = .ok (.iconst 0, 1) := dk_3 (dk_at dksX6_peopleWith_0 0 rfl rfl)
theorem dX6_peopleWith_1 : decode cX6_peopleWith 1 = .ok (.istore_n 3, 1) := dk_62 (dk_at dksX6_peopleWith_0 1 rfl rfl)
theorem dX6_peopleWith_2 : decode cX6_peopleWith 2 = .ok (.iconst 0, 1) := dk_3 (dk_at dksX6_peopleWith_0 2 rfl rfl)
theorem dX6_peopleWith_3 : decode cX6_peopleWith 3 = .ok (.istore 4, 2) := dk_54 4 (dk_at dksX6_peopleWith_0 3 rfl rfl)
theorem dX6_peopleWith_5 : decode cX6_peopleWith 5 = .ok (.iload 4, 2) := dk_21 4 (dk_at dksX6_peopleWith_0 5 rfl rfl)
theorem dX6_peopleWith_7 : decode cX6_peopleWith 7 = .ok (.aload_n 0, 1) := dk_42 (dk_at dksX6_peopleWith_0 7 rfl rfl)
theorem dX6_peopleWith_8 : decode cX6_peopleWith 8 = .ok (.getfield 49, 3) := dk_180 0 49 (dk_at dksX6_peopleWith_0 8 rfl rfl)
theorem dX6_peopleWith_11 : decode cX6_peopleWith 11 = .ok (.if_icmp .ge 54, 3) := dk_162 0 54 (dk_at dksX6_peopleWith_0 11 rfl rfl)
theorem dX6_peopleWith_14 : decode cX6_peopleWith 14 = .ok (.iload_n 3, 1) := dk_29 (dk_at dksX6_peopleWith_0 14 rfl rfl)
theorem dX6_peopleWith_15 : decode cX6_peopleWith 15 = .ok (.iload_n 2, 1) := dk_28 (dk_at dksX6_peopleWith_0 15 rfl rfl)
theorem dX6_peopleWith_16 : decode cX6_peopleWith 16 = .ok (.ifCond .ne 16, 3) := dk_154 0 16 (dk_at dksX6_peopleWith_0 16 rfl rfl)
theorem dX6_peopleWith_19 : decode cX6_peopleWith 19 = .ok (.aload_n 0, 1) := dk_42 (dk_at dksX6_peopleWith_0 19 rfl rfl)
theorem dX6_peopleWith_20 : decode cX6_peopleWith 20 = .ok (.getfield 19, 3) := dk_180 0 19 (dk_at dksX6_peopleWith_0 20 rfl rfl)
theorem dX6_peopleWith_23 : decode cX6_peopleWith 23 = .ok (.iload 4, 2) := dk_21 4 (dk_at dksX6_peopleWith_1 0 rfl rfl)
theorem dX6_peopleWith_25 : decode cX6_peopleWith 25 = .ok (.aaload, 1) := dk_50 (dk_at dksX6_peopleWith_1 2 rfl rfl)
theorem dX6_peopleWith_26 : decode cX6_peopleWith 26 = .ok (.getfield 86, 3) := dk_180 0 86 (dk_at dksX6_peopleWith_1 3 rfl rfl)
theorem dX6_peopleWith_29 : decode cX6_peopleWith 29 = .ok (.goto 13, 3) := dk_167 0 13 (dk_at dksX6_peopleWith_1 6 rfl rfl)
theorem dX6_peopleWith_32 : decode cX6_peopleWith 32 = .ok (.aload_n 0, 1) := dk_42 (dk_at dksX6_peopleWith_1 9 rfl rfl)
theorem dX6_peopleWith_33 : decode cX6_peopleWith 33 = .ok (.getfield 19, 3) := dk_180 0 19 (dk_at dksX6_peopleWith_1 10 rfl rfl)
theorem dX6_peopleWith_36 : decode cX6_peopleWith 36 = .ok (.iload 4, 2) := dk_21 4 (dk_at dksX6_peopleWith_1 13 rfl rfl)
theorem dX6_peopleWith_38 : decode cX6_peopleWith 38 = .ok (.aaload, 1) := dk_50 (dk_at dksX6_peopleWith_1 15 rfl rfl)
theorem dX6_peopleWith_39 : decode cX6_peopleWith 39 = .ok (.getfield 89, 3) := dk_180 0 89 (dk_at dksX6_peopleWith_1 16 rfl rfl)
theorem dX6_peopleWith_42 : decode cX6_peopleWith 42 = .ok (.iload_n 1, 1) := dk_27 (dk_at dksX6_peopleWith_1 19 rfl rfl)
theorem dX6_peopleWith_43 : decode cX6_peopleWith 43 = .ok (.invokestatic 92, 3) := dk_184 0 92 (dk_at dksX6_peopleWith_1 20 rfl rfl)
theorem dX6_peopleWith_46 : decode cX6_peopleWith 46 = .ok (.ifCond .eq 10, 3) := dk_153 0 10 (dk_at dksX6_peopleWith_2 0 rfl rfl)
theorem dX6_peopleWith_49 : decode cX6_peopleWith 49 = .ok (.iconst 1, 1) := dk_4 (dk_at dksX6_peopleWith_2 3 rfl rfl)
theorem dX6_peopleWith_50 : decode cX6_peopleWith 50 = .ok (.iload 4, 2) := dk_21 4 (dk_at dksX6_peopleWith_2 4 rfl rfl)
theorem dX6_peopleWith_52 : decode cX6_peopleWith 52 = .ok (.ishl, 1) := dk_120 (dk_at dksX6_peopleWith_2 6 rfl rfl)
theorem dX6_peopleWith_53 : decode cX6_peopleWith 53 = .ok (.goto 4, 3) := dk_167 0 4 (dk_at dksX6_peopleWith_2 7 rfl rfl)
theorem dX6_peopleWith_56 : decode cX6_peopleWith 56 = .ok (.iconst 0, 1) := dk_3 (dk_at dksX6_peopleWith_2 10 rfl rfl)
theorem dX6_peopleWith_57 : decode cX6_peopleWith 57 = .ok (.ior, 1) := dk_128 (dk_at dksX6_peopleWith_2 11 rfl rfl)
theorem dX6_peopleWith_58 : decode cX6_peopleWith 58 = .ok (.istore_n 3, 1) := dk_62 (dk_at dksX6_peopleWith_2 12 rfl rfl)
theorem dX6_peopleWith_59 : decode cX6_peopleWith 59 = .ok (.iinc 4 1, 3) := dk_132 4 1 (dk_at dksX6_peopleWith_2 13 rfl rfl)
theorem dX6_peopleWith_62 : decode cX6_peopleWith 62 = .ok (.goto (-57), 3) := dk_167 255 199 (dk_at dksX6_peopleWith_2 16 rfl rfl)
theorem dX6_peopleWith_65 : decode cX6_peopleWith 65 = .ok (.iload_n 3, 1) := dk_29 (dk_at dksX6_peopleWith_2 19 rfl rfl)
theorem dX6_peopleWith_66 : decode cX6_peopleWith 66 = .ok (.ireturn, 1) := dk_172 (dk_at dksX6_peopleWith_2 20 rfl rfl)
abbrev cX6_days : ByteArray := prog_5_method_11_code
def yX6_days : MethodName := ⟨RX6, "days", "(I)I"⟩
def dkwX6_days_1 : List UInt8 := [180, 0, 75, 28, 100, 172]
abbrev dktX6_days_1 : List UInt8 := dkwX6_days_1 ++ []
def dkwX6_days_0 : List UInt8 := [42, 180, 0, 75, 61, 3, 62, 29, 27, 162, 0, 13, 42, 182, 0, 130, 132, 3, 1, 167, 255, 244, 42]
abbrev dktX6_days_0 : List UInt8 := dkwX6_days_0 ++ dktX6_days_1
theorem dksX6_days_0 : cX6_days.data.toList.drop 0 = dktX6_days_0 := by decide +kernel
theorem dksX6_days_1 : cX6_days.data.toList.drop 23 = dktX6_days_1 := dk_seg dksX6_days_0 23 rfl rfl
theorem dX6_days_0 : decode cX6_days 0 = .ok (.aload_n 0, 1) := dk_42 (dk_at dksX6_days_0 0 rfl rfl)
theorem dX6_days_1 : decode cX6_days 1 = .ok (.getfield 75, 3) := dk_180 0 75 (dk_at dksX6_days_0 1 rfl rfl)
theorem dX6_days_4 : decode cX6_days 4 = .ok (.istore_n 2, 1) := dk_61 (dk_at dksX6_days_0 4 rfl rfl)
theorem dX6_days_5 : decode cX6_days 5 = .ok (.iconst 0, 1) := dk_3 (dk_at dksX6_days_0 5 rfl rfl)
theorem dX6_days_6 : decode cX6_days 6 = .ok (.istore_n 3, 1) := dk_62 (dk_at dksX6_days_0 6 rfl rfl)
theorem dX6_days_7 : decode cX6_days 7 = .ok (.iload_n 3, 1) := dk_29 (dk_at dksX6_days_0 7 rfl rfl)
theorem dX6_days_8 : decode cX6_days 8 = .ok (.iload_n 1, 1) := dk_27 (dk_at dksX6_days_0 8 rfl rfl)
theorem dX6_days_9 : decode cX6_days 9 = .ok (.if_icmp .ge 13, 3) := dk_162 0 13 (dk_at dksX6_days_0 9 rfl rfl)
theorem dX6_days_12 : decode cX6_days 12 = .ok (.aload_n 0, 1) := dk_42 (dk_at dksX6_days_0 12 rfl rfl)
theorem dX6_days_13 : decode cX6_days 13 = .ok (.invokevirtual 130, 3) := dk_182 0 130 (dk_at dksX6_days_0 13 rfl rfl)
theorem dX6_days_16 : decode cX6_days 16 = .ok (.iinc 3 1, 3) := dk_132 3 1 (dk_at dksX6_days_0 16 rfl rfl)
theorem dX6_days_19 : decode cX6_days 19 = .ok (.goto (-12), 3) := dk_167 255 244 (dk_at dksX6_days_0 19 rfl rfl)
theorem dX6_days_22 : decode cX6_days 22 = .ok (.aload_n 0, 1) := dk_42 (dk_at dksX6_days_0 22 rfl rfl)
theorem dX6_days_23 : decode cX6_days 23 = .ok (.getfield 75, 3) := dk_180 0 75 (dk_at dksX6_days_1 0 rfl rfl)
theorem dX6_days_26 : decode cX6_days 26 = .ok (.iload_n 2, 1) := dk_28 (dk_at dksX6_days_1 3 rfl rfl)
theorem dX6_days_27 : decode cX6_days 27 = .ok (.isub, 1) := dk_100 (dk_at dksX6_days_1 4 rfl rfl)
theorem dX6_days_28 : decode cX6_days 28 = .ok (.ireturn, 1) := dk_172 (dk_at dksX6_days_1 5 rfl rfl)
abbrev cX6_day : ByteArray := prog_5_method_10_code
def yX6_day : MethodName := ⟨RX6, "day", "()V"⟩
def dkwX6_day_5 : List UInt8 := [182, 0, 126, 132, 1, 1, 167, 255, 179, 177]
abbrev dktX6_day_5 : List UInt8 := dkwX6_day_5 ++ []
def dkwX6_day_4 : List UInt8 := [182, 0, 126, 42, 42, 180, 0, 19, 44, 180, 0, 123, 50, 42, 180, 0, 19, 44, 180, 0, 120, 50]
abbrev dktX6_day_4 : List UInt8 := dkwX6_day_4 ++ dktX6_day_5
def dkwX6_day_3 : List UInt8 := [167, 0, 47, 42, 42, 180, 0, 19, 44, 180, 0, 120, 50, 42, 180, 0, 19, 44, 180, 0, 123, 50]
abbrev dktX6_day_3 : List UInt8 := dkwX6_day_3 ++ dktX6_day_4
def dkwX6_day_2 : List UInt8 := [162, 0, 75, 42, 180, 0, 25, 27, 50, 77, 42, 180, 0, 72, 44, 180, 0, 117, 112, 153, 0, 6]
abbrev dktX6_day_2 : List UInt8 := dkwX6_day_2 ++ dktX6_day_3
def dkwX6_day_1 : List UInt8 := [132, 1, 1, 167, 255, 232, 42, 89, 180, 0, 72, 4, 96, 181, 0, 72, 3, 60, 27, 42, 180, 0, 69]
abbrev dktX6_day_1 : List UInt8 := dkwX6_day_1 ++ dktX6_day_2
def dkwX6_day_0 : List UInt8 := [3, 60, 27, 42, 180, 0, 49, 162, 0, 22, 42, 180, 0, 19, 27, 50, 42, 180, 0, 11, 182, 0, 113]
abbrev dktX6_day_0 : List UInt8 := dkwX6_day_0 ++ dktX6_day_1
theorem dksX6_day_0 : cX6_day.data.toList.drop 0 = dktX6_day_0 := by decide +kernel
theorem dksX6_day_1 : cX6_day.data.toList.drop 23 = dktX6_day_1 := dk_seg dksX6_day_0 23 rfl rfl
theorem dksX6_day_2 : cX6_day.data.toList.drop 46 = dktX6_day_2 := dk_seg dksX6_day_1 23 rfl rfl
theorem dksX6_day_3 : cX6_day.data.toList.drop 68 = dktX6_day_3 := dk_seg dksX6_day_2 22 rfl rfl
theorem dksX6_day_4 : cX6_day.data.toList.drop 90 = dktX6_day_4 := dk_seg dksX6_day_3 22 rfl rfl
theorem dksX6_day_5 : cX6_day.data.toList.drop 112 = dktX6_day_5 := dk_seg dksX6_day_4 22 rfl rfl
theorem dX6_day_0 : decode cX6_day 0 = .ok (.iconst 0, 1) := dk_3 (dk_at dksX6_day_0 0 rfl rfl)
theorem dX6_day_1 : decode cX6_day 1 = .ok (.istore_n 1, 1) := dk_60 (dk_at dksX6_day_0 1 rfl rfl)
theorem dX6_day_2 : decode cX6_day 2 = .ok (.iload_n 1, 1) := dk_27 (dk_at dksX6_day_0 2 rfl rfl)
theorem dX6_day_3 : decode cX6_day 3 = .ok (.aload_n 0, 1) := dk_42 (dk_at dksX6_day_0 3 rfl rfl)
theorem dX6_day_4 : decode cX6_day 4 = .ok (.getfield 49, 3) := dk_180 0 49 (dk_at dksX6_day_0 4 rfl rfl)
theorem dX6_day_7 : decode cX6_day 7 = .ok (.if_icmp .ge 22, 3) := dk_162 0 22 (dk_at dksX6_day_0 7 rfl rfl)
theorem dX6_day_10 : decode cX6_day 10 = .ok (.aload_n 0, 1) := dk_42 (dk_at dksX6_day_0 10 rfl rfl)
theorem dX6_day_11 : decode cX6_day 11 = .ok (.getfield 19, 3) := dk_180 0 19 (dk_at dksX6_day_0 11 rfl rfl)
theorem dX6_day_14 : decode cX6_day 14 = .ok (.iload_n 1, 1) := dk_27 (dk_at dksX6_day_0 14 rfl rfl)
theorem dX6_day_15 : decode cX6_day 15 = .ok (.aaload, 1) := dk_50 (dk_at dksX6_day_0 15 rfl rfl)
theorem dX6_day_16 : decode cX6_day 16 = .ok (.aload_n 0, 1) := dk_42 (dk_at dksX6_day_0 16 rfl rfl)
theorem dX6_day_17 : decode cX6_day 17 = .ok (.getfield 11, 3) := dk_180 0 11 (dk_at dksX6_day_0 17 rfl rfl)
theorem dX6_day_20 : decode cX6_day 20 = .ok (.invokevirtual 113, 3) := dk_182 0 113 (dk_at dksX6_day_0 20 rfl rfl)
theorem dX6_day_23 : decode cX6_day 23 = .ok (.iinc 1 1, 3) := dk_132 1 1 (dk_at dksX6_day_1 0 rfl rfl)
theorem dX6_day_26 : decode cX6_day 26 = .ok (.goto (-24), 3) := dk_167 255 232 (dk_at dksX6_day_1 3 rfl rfl)
theorem dX6_day_29 : decode cX6_day 29 = .ok (.aload_n 0, 1) := dk_42 (dk_at dksX6_day_1 6 rfl rfl)
theorem dX6_day_30 : decode cX6_day 30 = .ok (.dup, 1) := dk_89 (dk_at dksX6_day_1 7 rfl rfl)
theorem dX6_day_31 : decode cX6_day 31 = .ok (.getfield 72, 3) := dk_180 0 72 (dk_at dksX6_day_1 8 rfl rfl)
theorem dX6_day_34 : decode cX6_day 34 = .ok (.iconst 1, 1) := dk_4 (dk_at dksX6_day_1 11 rfl rfl)
theorem dX6_day_35 : decode cX6_day 35 = .ok (.iadd, 1) := dk_96 (dk_at dksX6_day_1 12 rfl rfl)
theorem dX6_day_36 : decode cX6_day 36 = .ok (.putfield 72, 3) := dk_181 0 72 (dk_at dksX6_day_1 13 rfl rfl)
theorem dX6_day_39 : decode cX6_day 39 = .ok (.iconst 0, 1) := dk_3 (dk_at dksX6_day_1 16 rfl rfl)
theorem dX6_day_40 : decode cX6_day 40 = .ok (.istore_n 1, 1) := dk_60 (dk_at dksX6_day_1 17 rfl rfl)
theorem dX6_day_41 : decode cX6_day 41 = .ok (.iload_n 1, 1) := dk_27 (dk_at dksX6_day_1 18 rfl rfl)
theorem dX6_day_42 : decode cX6_day 42 = .ok (.aload_n 0, 1) := dk_42 (dk_at dksX6_day_1 19 rfl rfl)
theorem dX6_day_43 : decode cX6_day 43 = .ok (.getfield 69, 3) := dk_180 0 69 (dk_at dksX6_day_1 20 rfl rfl)
theorem dX6_day_46 : decode cX6_day 46 = .ok (.if_icmp .ge 75, 3) := dk_162 0 75 (dk_at dksX6_day_2 0 rfl rfl)
theorem dX6_day_49 : decode cX6_day 49 = .ok (.aload_n 0, 1) := dk_42 (dk_at dksX6_day_2 3 rfl rfl)
theorem dX6_day_50 : decode cX6_day 50 = .ok (.getfield 25, 3) := dk_180 0 25 (dk_at dksX6_day_2 4 rfl rfl)
theorem dX6_day_53 : decode cX6_day 53 = .ok (.iload_n 1, 1) := dk_27 (dk_at dksX6_day_2 7 rfl rfl)
theorem dX6_day_54 : decode cX6_day 54 = .ok (.aaload, 1) := dk_50 (dk_at dksX6_day_2 8 rfl rfl)
theorem dX6_day_55 : decode cX6_day 55 = .ok (.astore_n 2, 1) := dk_77 (dk_at dksX6_day_2 9 rfl rfl)
theorem dX6_day_56 : decode cX6_day 56 = .ok (.aload_n 0, 1) := dk_42 (dk_at dksX6_day_2 10 rfl rfl)
theorem dX6_day_57 : decode cX6_day 57 = .ok (.getfield 72, 3) := dk_180 0 72 (dk_at dksX6_day_2 11 rfl rfl)
theorem dX6_day_60 : decode cX6_day 60 = .ok (.aload_n 2, 1) := dk_44 (dk_at dksX6_day_2 14 rfl rfl)
theorem dX6_day_61 : decode cX6_day 61 = .ok (.getfield 117, 3) := dk_180 0 117 (dk_at dksX6_day_2 15 rfl rfl)
theorem dX6_day_64 : decode cX6_day 64 = .ok (.irem, 1) := dk_112 (dk_at dksX6_day_2 18 rfl rfl)
theorem dX6_day_65 : decode cX6_day 65 = .ok (.ifCond .eq 6, 3) := dk_153 0 6 (dk_at dksX6_day_2 19 rfl rfl)
theorem dX6_day_68 : decode cX6_day 68 = .ok (.goto 47, 3) := dk_167 0 47 (dk_at dksX6_day_3 0 rfl rfl)
theorem dX6_day_71 : decode cX6_day 71 = .ok (.aload_n 0, 1) := dk_42 (dk_at dksX6_day_3 3 rfl rfl)
theorem dX6_day_72 : decode cX6_day 72 = .ok (.aload_n 0, 1) := dk_42 (dk_at dksX6_day_3 4 rfl rfl)
theorem dX6_day_73 : decode cX6_day 73 = .ok (.getfield 19, 3) := dk_180 0 19 (dk_at dksX6_day_3 5 rfl rfl)
theorem dX6_day_76 : decode cX6_day 76 = .ok (.aload_n 2, 1) := dk_44 (dk_at dksX6_day_3 8 rfl rfl)
theorem dX6_day_77 : decode cX6_day 77 = .ok (.getfield 120, 3) := dk_180 0 120 (dk_at dksX6_day_3 9 rfl rfl)
theorem dX6_day_80 : decode cX6_day 80 = .ok (.aaload, 1) := dk_50 (dk_at dksX6_day_3 12 rfl rfl)
theorem dX6_day_81 : decode cX6_day 81 = .ok (.aload_n 0, 1) := dk_42 (dk_at dksX6_day_3 13 rfl rfl)
theorem dX6_day_82 : decode cX6_day 82 = .ok (.getfield 19, 3) := dk_180 0 19 (dk_at dksX6_day_3 14 rfl rfl)
theorem dX6_day_85 : decode cX6_day 85 = .ok (.aload_n 2, 1) := dk_44 (dk_at dksX6_day_3 17 rfl rfl)
theorem dX6_day_86 : decode cX6_day 86 = .ok (.getfield 123, 3) := dk_180 0 123 (dk_at dksX6_day_3 18 rfl rfl)
theorem dX6_day_89 : decode cX6_day 89 = .ok (.aaload, 1) := dk_50 (dk_at dksX6_day_3 21 rfl rfl)
theorem dX6_day_90 : decode cX6_day 90 = .ok (.invokevirtual 126, 3) := dk_182 0 126 (dk_at dksX6_day_4 0 rfl rfl)
theorem dX6_day_93 : decode cX6_day 93 = .ok (.aload_n 0, 1) := dk_42 (dk_at dksX6_day_4 3 rfl rfl)
theorem dX6_day_94 : decode cX6_day 94 = .ok (.aload_n 0, 1) := dk_42 (dk_at dksX6_day_4 4 rfl rfl)
theorem dX6_day_95 : decode cX6_day 95 = .ok (.getfield 19, 3) := dk_180 0 19 (dk_at dksX6_day_4 5 rfl rfl)
theorem dX6_day_98 : decode cX6_day 98 = .ok (.aload_n 2, 1) := dk_44 (dk_at dksX6_day_4 8 rfl rfl)
theorem dX6_day_99 : decode cX6_day 99 = .ok (.getfield 123, 3) := dk_180 0 123 (dk_at dksX6_day_4 9 rfl rfl)
theorem dX6_day_102 : decode cX6_day 102 = .ok (.aaload, 1) := dk_50 (dk_at dksX6_day_4 12 rfl rfl)
theorem dX6_day_103 : decode cX6_day 103 = .ok (.aload_n 0, 1) := dk_42 (dk_at dksX6_day_4 13 rfl rfl)
theorem dX6_day_104 : decode cX6_day 104 = .ok (.getfield 19, 3) := dk_180 0 19 (dk_at dksX6_day_4 14 rfl rfl)
theorem dX6_day_107 : decode cX6_day 107 = .ok (.aload_n 2, 1) := dk_44 (dk_at dksX6_day_4 17 rfl rfl)
theorem dX6_day_108 : decode cX6_day 108 = .ok (.getfield 120, 3) := dk_180 0 120 (dk_at dksX6_day_4 18 rfl rfl)
theorem dX6_day_111 : decode cX6_day 111 = .ok (.aaload, 1) := dk_50 (dk_at dksX6_day_4 21 rfl rfl)
theorem dX6_day_112 : decode cX6_day 112 = .ok (.invokevirtual 126, 3) := dk_182 0 126 (dk_at dksX6_day_5 0 rfl rfl)
theorem dX6_day_115 : decode cX6_day 115 = .ok (.iinc 1 1, 3) := dk_132 1 1 (dk_at dksX6_day_5 3 rfl rfl)
theorem dX6_day_118 : decode cX6_day 118 = .ok (.goto (-77), 3) := dk_167 255 179 (dk_at dksX6_day_5 6 rfl rfl)
theorem dX6_day_121 : decode cX6_day 121 = .ok (.return_, 1) := dk_177 (dk_at dksX6_day_5 9 rfl rfl)
abbrev cX6_dines : ByteArray := prog_5_method_9_code
def yX6_dines : MethodName := ⟨RX6, "dines", "(LHairProvince$Person;LHairProvince$Person;)V"⟩
def dkwX6_dines_2 : List UInt8 := [96, 181, 0, 75, 177]
abbrev dktX6_dines_2 : List UInt8 := dkwX6_dines_2 ++ []
def dkwX6_dines_1 : List UInt8 := [2, 62, 29, 2, 160, 0, 4, 177, 42, 180, 0, 36, 43, 29, 44, 182, 0, 107, 42, 89, 180, 0, 75, 4]
abbrev dktX6_dines_1 : List UInt8 := dkwX6_dines_1 ++ dktX6_dines_2
def dkwX6_dines_0 : List UInt8 := [43, 182, 0, 96, 43, 180, 0, 100, 164, 0, 16, 43, 44, 180, 0, 86, 2, 130, 182, 0, 103, 167, 0, 4]
abbrev dktX6_dines_0 : List UInt8 := dkwX6_dines_0 ++ dktX6_dines_1
theorem dksX6_dines_0 : cX6_dines.data.toList.drop 0 = dktX6_dines_0 := by decide +kernel
theorem dksX6_dines_1 : cX6_dines.data.toList.drop 24 = dktX6_dines_1 := dk_seg dksX6_dines_0 24 rfl rfl
theorem dksX6_dines_2 : cX6_dines.data.toList.drop 48 = dktX6_dines_2 := dk_seg dksX6_dines_1 24 rfl rfl
theorem dX6_dines_0 : decode cX6_dines 0 = .ok (.aload_n 1, 1) := dk_43 (dk_at dksX6_dines_0 0 rfl rfl)
theorem dX6_dines_1 : decode cX6_dines 1 = .ok (.invokevirtual 96, 3) := dk_182 0 96 (dk_at dksX6_dines_0 1 rfl rfl)
theorem dX6_dines_4 : decode cX6_dines 4 = .ok (.aload_n 1, 1) := dk_43 (dk_at dksX6_dines_0 4 rfl rfl)
theorem dX6_dines_5 : decode cX6_dines 5 = .ok (.getfield 100, 3) := dk_180 0 100 (dk_at dksX6_dines_0 5 rfl rfl)
theorem dX6_dines_8 : decode cX6_dines 8 = .ok (.if_icmp .le 16, 3) := dk_164 0 16 (dk_at dksX6_dines_0 8 rfl rfl)
theorem dX6_dines_11 : decode cX6_dines 11 = .ok (.aload_n 1, 1) := dk_43 (dk_at dksX6_dines_0 11 rfl rfl)
theorem dX6_dines_12 : decode cX6_dines 12 = .ok (.aload_n 2, 1) := dk_44 (dk_at dksX6_dines_0 12 rfl rfl)
theorem dX6_dines_13 : decode cX6_dines 13 = .ok (.getfield 86, 3) := dk_180 0 86 (dk_at dksX6_dines_0 13 rfl rfl)
theorem dX6_dines_16 : decode cX6_dines 16 = .ok (.iconst (-1), 1) := dk_2 (dk_at dksX6_dines_0 16 rfl rfl)
theorem dX6_dines_17 : decode cX6_dines 17 = .ok (.ixor, 1) := dk_130 (dk_at dksX6_dines_0 17 rfl rfl)
theorem dX6_dines_18 : decode cX6_dines 18 = .ok (.invokevirtual 103, 3) := dk_182 0 103 (dk_at dksX6_dines_0 18 rfl rfl)
theorem dX6_dines_21 : decode cX6_dines 21 = .ok (.goto 4, 3) := dk_167 0 4 (dk_at dksX6_dines_0 21 rfl rfl)
theorem dX6_dines_24 : decode cX6_dines 24 = .ok (.iconst (-1), 1) := dk_2 (dk_at dksX6_dines_1 0 rfl rfl)
theorem dX6_dines_25 : decode cX6_dines 25 = .ok (.istore_n 3, 1) := dk_62 (dk_at dksX6_dines_1 1 rfl rfl)
theorem dX6_dines_26 : decode cX6_dines 26 = .ok (.iload_n 3, 1) := dk_29 (dk_at dksX6_dines_1 2 rfl rfl)
theorem dX6_dines_27 : decode cX6_dines 27 = .ok (.iconst (-1), 1) := dk_2 (dk_at dksX6_dines_1 3 rfl rfl)
theorem dX6_dines_28 : decode cX6_dines 28 = .ok (.if_icmp .ne 4, 3) := dk_160 0 4 (dk_at dksX6_dines_1 4 rfl rfl)
theorem dX6_dines_31 : decode cX6_dines 31 = .ok (.return_, 1) := dk_177 (dk_at dksX6_dines_1 7 rfl rfl)
theorem dX6_dines_32 : decode cX6_dines 32 = .ok (.aload_n 0, 1) := dk_42 (dk_at dksX6_dines_1 8 rfl rfl)
theorem dX6_dines_33 : decode cX6_dines 33 = .ok (.getfield 36, 3) := dk_180 0 36 (dk_at dksX6_dines_1 9 rfl rfl)
theorem dX6_dines_36 : decode cX6_dines 36 = .ok (.aload_n 1, 1) := dk_43 (dk_at dksX6_dines_1 12 rfl rfl)
theorem dX6_dines_37 : decode cX6_dines 37 = .ok (.iload_n 3, 1) := dk_29 (dk_at dksX6_dines_1 13 rfl rfl)
theorem dX6_dines_38 : decode cX6_dines 38 = .ok (.aload_n 2, 1) := dk_44 (dk_at dksX6_dines_1 14 rfl rfl)
theorem dX6_dines_39 : decode cX6_dines 39 = .ok (.invokevirtual 107, 3) := dk_182 0 107 (dk_at dksX6_dines_1 15 rfl rfl)
theorem dX6_dines_42 : decode cX6_dines 42 = .ok (.aload_n 0, 1) := dk_42 (dk_at dksX6_dines_1 18 rfl rfl)
theorem dX6_dines_43 : decode cX6_dines 43 = .ok (.dup, 1) := dk_89 (dk_at dksX6_dines_1 19 rfl rfl)
theorem dX6_dines_44 : decode cX6_dines 44 = .ok (.getfield 75, 3) := dk_180 0 75 (dk_at dksX6_dines_1 20 rfl rfl)
theorem dX6_dines_47 : decode cX6_dines 47 = .ok (.iconst 1, 1) := dk_4 (dk_at dksX6_dines_1 23 rfl rfl)
theorem dX6_dines_48 : decode cX6_dines 48 = .ok (.iadd, 1) := dk_96 (dk_at dksX6_dines_2 0 rfl rfl)
theorem dX6_dines_49 : decode cX6_dines 49 = .ok (.putfield 75, 3) := dk_181 0 75 (dk_at dksX6_dines_2 1 rfl rfl)
theorem dX6_dines_52 : decode cX6_dines 52 = .ok (.return_, 1) := dk_177 (dk_at dksX6_dines_2 4 rfl rfl)
abbrev cX6_says : ByteArray := prog_5_method_12_code
def yX6_says : MethodName := ⟨RX6, "says", "(III)Z"⟩
def dkwX6_says_1 : List UInt8 := [172, 42, 180, 0, 36, 42, 180, 0, 19, 27, 50, 28, 42, 180, 0, 19, 29, 50, 182, 0, 107, 4, 172]
abbrev dktX6_says_1 : List UInt8 := dkwX6_says_1 ++ []
def dkwX6_says_0 : List UInt8 := [42, 180, 0, 36, 42, 180, 0, 19, 27, 50, 28, 42, 180, 0, 19, 29, 50, 182, 0, 132, 154, 0, 5, 3]
abbrev dktX6_says_0 : List UInt8 := dkwX6_says_0 ++ dktX6_says_1
theorem dksX6_says_0 : cX6_says.data.toList.drop 0 = dktX6_says_0 := by decide +kernel
theorem dksX6_says_1 : cX6_says.data.toList.drop 24 = dktX6_says_1 := dk_seg dksX6_says_0 24 rfl rfl
theorem dX6_says_0 : decode cX6_says 0 = .ok (.aload_n 0, 1) := dk_42 (dk_at dksX6_says_0 0 rfl rfl)
theorem dX6_says_1 : decode cX6_says 1 = .ok (.getfield 36, 3) := dk_180 0 36 (dk_at dksX6_says_0 1 rfl rfl)
theorem dX6_says_4 : decode cX6_says 4 = .ok (.aload_n 0, 1) := dk_42 (dk_at dksX6_says_0 4 rfl rfl)
theorem dX6_says_5 : decode cX6_says 5 = .ok (.getfield 19, 3) := dk_180 0 19 (dk_at dksX6_says_0 5 rfl rfl)
theorem dX6_says_8 : decode cX6_says 8 = .ok (.iload_n 1, 1) := dk_27 (dk_at dksX6_says_0 8 rfl rfl)
theorem dX6_says_9 : decode cX6_says 9 = .ok (.aaload, 1) := dk_50 (dk_at dksX6_says_0 9 rfl rfl)
theorem dX6_says_10 : decode cX6_says 10 = .ok (.iload_n 2, 1) := dk_28 (dk_at dksX6_says_0 10 rfl rfl)
theorem dX6_says_11 : decode cX6_says 11 = .ok (.aload_n 0, 1) := dk_42 (dk_at dksX6_says_0 11 rfl rfl)
theorem dX6_says_12 : decode cX6_says 12 = .ok (.getfield 19, 3) := dk_180 0 19 (dk_at dksX6_says_0 12 rfl rfl)
theorem dX6_says_15 : decode cX6_says 15 = .ok (.iload_n 3, 1) := dk_29 (dk_at dksX6_says_0 15 rfl rfl)
theorem dX6_says_16 : decode cX6_says 16 = .ok (.aaload, 1) := dk_50 (dk_at dksX6_says_0 16 rfl rfl)
theorem dX6_says_17 : decode cX6_says 17 = .ok (.invokevirtual 132, 3) := dk_182 0 132 (dk_at dksX6_says_0 17 rfl rfl)
theorem dX6_says_20 : decode cX6_says 20 = .ok (.ifCond .ne 5, 3) := dk_154 0 5 (dk_at dksX6_says_0 20 rfl rfl)
theorem dX6_says_23 : decode cX6_says 23 = .ok (.iconst 0, 1) := dk_3 (dk_at dksX6_says_0 23 rfl rfl)
theorem dX6_says_24 : decode cX6_says 24 = .ok (.ireturn, 1) := dk_172 (dk_at dksX6_says_1 0 rfl rfl)
theorem dX6_says_25 : decode cX6_says 25 = .ok (.aload_n 0, 1) := dk_42 (dk_at dksX6_says_1 1 rfl rfl)
theorem dX6_says_26 : decode cX6_says 26 = .ok (.getfield 36, 3) := dk_180 0 36 (dk_at dksX6_says_1 2 rfl rfl)
theorem dX6_says_29 : decode cX6_says 29 = .ok (.aload_n 0, 1) := dk_42 (dk_at dksX6_says_1 5 rfl rfl)
theorem dX6_says_30 : decode cX6_says 30 = .ok (.getfield 19, 3) := dk_180 0 19 (dk_at dksX6_says_1 6 rfl rfl)
theorem dX6_says_33 : decode cX6_says 33 = .ok (.iload_n 1, 1) := dk_27 (dk_at dksX6_says_1 9 rfl rfl)
theorem dX6_says_34 : decode cX6_says 34 = .ok (.aaload, 1) := dk_50 (dk_at dksX6_says_1 10 rfl rfl)
theorem dX6_says_35 : decode cX6_says 35 = .ok (.iload_n 2, 1) := dk_28 (dk_at dksX6_says_1 11 rfl rfl)
theorem dX6_says_36 : decode cX6_says 36 = .ok (.aload_n 0, 1) := dk_42 (dk_at dksX6_says_1 12 rfl rfl)
theorem dX6_says_37 : decode cX6_says 37 = .ok (.getfield 19, 3) := dk_180 0 19 (dk_at dksX6_says_1 13 rfl rfl)
theorem dX6_says_40 : decode cX6_says 40 = .ok (.iload_n 3, 1) := dk_29 (dk_at dksX6_says_1 16 rfl rfl)
theorem dX6_says_41 : decode cX6_says 41 = .ok (.aaload, 1) := dk_50 (dk_at dksX6_says_1 17 rfl rfl)
theorem dX6_says_42 : decode cX6_says 42 = .ok (.invokevirtual 107, 3) := dk_182 0 107 (dk_at dksX6_says_1 18 rfl rfl)
theorem dX6_says_45 : decode cX6_says 45 = .ok (.iconst 1, 1) := dk_4 (dk_at dksX6_says_1 21 rfl rfl)
theorem dX6_says_46 : decode cX6_says 46 = .ok (.ireturn, 1) := dk_172 (dk_at dksX6_says_1 22 rfl rfl)
abbrev cX6_cuts : ByteArray := prog_5_method_13_code
def yX6_cuts : MethodName := ⟨RX6, "cuts", "(II)I"⟩
def dkwX6_cuts_6 : List UInt8 := [96, 181, 0, 78, 21, 4, 172]
abbrev dktX6_cuts_6 : List UInt8 := dkwX6_cuts_6 ++ []
def dkwX6_cuts_5 : List UInt8 := [180, 0, 19, 27, 50, 180, 0, 140, 21, 5, 3, 79, 132, 5, 1, 167, 255, 151, 42, 89, 180, 0, 78, 4]
abbrev dktX6_cuts_5 : List UInt8 := dkwX6_cuts_5 ++ dktX6_cuts_6
def dkwX6_cuts_4 : List UInt8 := [21, 5, 120, 128, 181, 0, 86, 45, 21, 5, 182, 0, 144, 87, 21, 4, 4, 21, 5, 120, 128, 54, 4, 42]
abbrev dktX6_cuts_4 : List UInt8 := dkwX6_cuts_4 ++ dktX6_cuts_5
def dkwX6_cuts_3 : List UInt8 := [180, 0, 29, 161, 0, 44, 45, 180, 0, 86, 21, 5, 184, 0, 92, 154, 0, 32, 45, 89, 180, 0, 86, 4]
abbrev dktX6_cuts_3 : List UInt8 := dkwX6_cuts_3 ++ dktX6_cuts_4
def dkwX6_cuts_2 : List UInt8 := [184, 0, 92, 154, 0, 6, 167, 0, 76, 42, 180, 0, 19, 27, 50, 180, 0, 140, 21, 5, 46, 42]
abbrev dktX6_cuts_2 : List UInt8 := dkwX6_cuts_2 ++ dktX6_cuts_3
def dkwX6_cuts_1 : List UInt8 := [3, 54, 5, 21, 5, 42, 180, 0, 56, 162, 0, 102, 42, 180, 0, 19, 27, 50, 180, 0, 89, 21, 5]
abbrev dktX6_cuts_1 : List UInt8 := dkwX6_cuts_1 ++ dktX6_cuts_2
def dkwX6_cuts_0 : List UInt8 := [42, 180, 0, 19, 28, 50, 78, 27, 28, 159, 0, 10, 45, 180, 0, 136, 154, 0, 5, 2, 172, 3, 54, 4]
abbrev dktX6_cuts_0 : List UInt8 := dkwX6_cuts_0 ++ dktX6_cuts_1
theorem dksX6_cuts_0 : cX6_cuts.data.toList.drop 0 = dktX6_cuts_0 := by decide +kernel
theorem dksX6_cuts_1 : cX6_cuts.data.toList.drop 24 = dktX6_cuts_1 := dk_seg dksX6_cuts_0 24 rfl rfl
theorem dksX6_cuts_2 : cX6_cuts.data.toList.drop 47 = dktX6_cuts_2 := dk_seg dksX6_cuts_1 23 rfl rfl
theorem dksX6_cuts_3 : cX6_cuts.data.toList.drop 69 = dktX6_cuts_3 := dk_seg dksX6_cuts_2 22 rfl rfl
theorem dksX6_cuts_4 : cX6_cuts.data.toList.drop 93 = dktX6_cuts_4 := dk_seg dksX6_cuts_3 24 rfl rfl
theorem dksX6_cuts_5 : cX6_cuts.data.toList.drop 117 = dktX6_cuts_5 := dk_seg dksX6_cuts_4 24 rfl rfl
theorem dksX6_cuts_6 : cX6_cuts.data.toList.drop 141 = dktX6_cuts_6 := dk_seg dksX6_cuts_5 24 rfl rfl
theorem dX6_cuts_0 : decode cX6_cuts 0 = .ok (.aload_n 0, 1) := dk_42 (dk_at dksX6_cuts_0 0 rfl rfl)
theorem dX6_cuts_1 : decode cX6_cuts 1 = .ok (.getfield 19, 3) := dk_180 0 19 (dk_at dksX6_cuts_0 1 rfl rfl)
theorem dX6_cuts_4 : decode cX6_cuts 4 = .ok (.iload_n 2, 1) := dk_28 (dk_at dksX6_cuts_0 4 rfl rfl)
theorem dX6_cuts_5 : decode cX6_cuts 5 = .ok (.aaload, 1) := dk_50 (dk_at dksX6_cuts_0 5 rfl rfl)
theorem dX6_cuts_6 : decode cX6_cuts 6 = .ok (.astore_n 3, 1) := dk_78 (dk_at dksX6_cuts_0 6 rfl rfl)
theorem dX6_cuts_7 : decode cX6_cuts 7 = .ok (.iload_n 1, 1) := dk_27 (dk_at dksX6_cuts_0 7 rfl rfl)
theorem dX6_cuts_8 : decode cX6_cuts 8 = .ok (.iload_n 2, 1) := dk_28 (dk_at dksX6_cuts_0 8 rfl rfl)
theorem dX6_cuts_9 : decode cX6_cuts 9 = .ok (.if_icmp .eq 10, 3) := dk_159 0 10 (dk_at dksX6_cuts_0 9 rfl rfl)
theorem dX6_cuts_12 : decode cX6_cuts 12 = .ok (.aload_n 3, 1) := dk_45 (dk_at dksX6_cuts_0 12 rfl rfl)
theorem dX6_cuts_13 : decode cX6_cuts 13 = .ok (.getfield 136, 3) := dk_180 0 136 (dk_at dksX6_cuts_0 13 rfl rfl)
theorem dX6_cuts_16 : decode cX6_cuts 16 = .ok (.ifCond .ne 5, 3) := dk_154 0 5 (dk_at dksX6_cuts_0 16 rfl rfl)
theorem dX6_cuts_19 : decode cX6_cuts 19 = .ok (.iconst (-1), 1) := dk_2 (dk_at dksX6_cuts_0 19 rfl rfl)
theorem dX6_cuts_20 : decode cX6_cuts 20 = .ok (.ireturn, 1) := dk_172 (dk_at dksX6_cuts_0 20 rfl rfl)
theorem dX6_cuts_21 : decode cX6_cuts 21 = .ok (.iconst 0, 1) := dk_3 (dk_at dksX6_cuts_0 21 rfl rfl)
theorem dX6_cuts_22 : decode cX6_cuts 22 = .ok (.istore 4, 2) := dk_54 4 (dk_at dksX6_cuts_0 22 rfl rfl)
theorem dX6_cuts_24 : decode cX6_cuts 24 = .ok (.iconst 0, 1) := dk_3 (dk_at dksX6_cuts_1 0 rfl rfl)
theorem dX6_cuts_25 : decode cX6_cuts 25 = .ok (.istore 5, 2) := dk_54 5 (dk_at dksX6_cuts_1 1 rfl rfl)
theorem dX6_cuts_27 : decode cX6_cuts 27 = .ok (.iload 5, 2) := dk_21 5 (dk_at dksX6_cuts_1 3 rfl rfl)
theorem dX6_cuts_29 : decode cX6_cuts 29 = .ok (.aload_n 0, 1) := dk_42 (dk_at dksX6_cuts_1 5 rfl rfl)
theorem dX6_cuts_30 : decode cX6_cuts 30 = .ok (.getfield 56, 3) := dk_180 0 56 (dk_at dksX6_cuts_1 6 rfl rfl)
theorem dX6_cuts_33 : decode cX6_cuts 33 = .ok (.if_icmp .ge 102, 3) := dk_162 0 102 (dk_at dksX6_cuts_1 9 rfl rfl)
theorem dX6_cuts_36 : decode cX6_cuts 36 = .ok (.aload_n 0, 1) := dk_42 (dk_at dksX6_cuts_1 12 rfl rfl)
theorem dX6_cuts_37 : decode cX6_cuts 37 = .ok (.getfield 19, 3) := dk_180 0 19 (dk_at dksX6_cuts_1 13 rfl rfl)
theorem dX6_cuts_40 : decode cX6_cuts 40 = .ok (.iload_n 1, 1) := dk_27 (dk_at dksX6_cuts_1 16 rfl rfl)
theorem dX6_cuts_41 : decode cX6_cuts 41 = .ok (.aaload, 1) := dk_50 (dk_at dksX6_cuts_1 17 rfl rfl)
theorem dX6_cuts_42 : decode cX6_cuts 42 = .ok (.getfield 89, 3) := dk_180 0 89 (dk_at dksX6_cuts_1 18 rfl rfl)
theorem dX6_cuts_45 : decode cX6_cuts 45 = .ok (.iload 5, 2) := dk_21 5 (dk_at dksX6_cuts_1 21 rfl rfl)
theorem dX6_cuts_47 : decode cX6_cuts 47 = .ok (.invokestatic 92, 3) := dk_184 0 92 (dk_at dksX6_cuts_2 0 rfl rfl)
theorem dX6_cuts_50 : decode cX6_cuts 50 = .ok (.ifCond .ne 6, 3) := dk_154 0 6 (dk_at dksX6_cuts_2 3 rfl rfl)
theorem dX6_cuts_53 : decode cX6_cuts 53 = .ok (.goto 76, 3) := dk_167 0 76 (dk_at dksX6_cuts_2 6 rfl rfl)
theorem dX6_cuts_56 : decode cX6_cuts 56 = .ok (.aload_n 0, 1) := dk_42 (dk_at dksX6_cuts_2 9 rfl rfl)
theorem dX6_cuts_57 : decode cX6_cuts 57 = .ok (.getfield 19, 3) := dk_180 0 19 (dk_at dksX6_cuts_2 10 rfl rfl)
theorem dX6_cuts_60 : decode cX6_cuts 60 = .ok (.iload_n 1, 1) := dk_27 (dk_at dksX6_cuts_2 13 rfl rfl)
theorem dX6_cuts_61 : decode cX6_cuts 61 = .ok (.aaload, 1) := dk_50 (dk_at dksX6_cuts_2 14 rfl rfl)
theorem dX6_cuts_62 : decode cX6_cuts 62 = .ok (.getfield 140, 3) := dk_180 0 140 (dk_at dksX6_cuts_2 15 rfl rfl)
theorem dX6_cuts_65 : decode cX6_cuts 65 = .ok (.iload 5, 2) := dk_21 5 (dk_at dksX6_cuts_2 18 rfl rfl)
theorem dX6_cuts_67 : decode cX6_cuts 67 = .ok (.iaload, 1) := dk_46 (dk_at dksX6_cuts_2 20 rfl rfl)
theorem dX6_cuts_68 : decode cX6_cuts 68 = .ok (.aload_n 0, 1) := dk_42 (dk_at dksX6_cuts_2 21 rfl rfl)
theorem dX6_cuts_69 : decode cX6_cuts 69 = .ok (.getfield 29, 3) := dk_180 0 29 (dk_at dksX6_cuts_3 0 rfl rfl)
theorem dX6_cuts_72 : decode cX6_cuts 72 = .ok (.if_icmp .lt 44, 3) := dk_161 0 44 (dk_at dksX6_cuts_3 3 rfl rfl)
theorem dX6_cuts_75 : decode cX6_cuts 75 = .ok (.aload_n 3, 1) := dk_45 (dk_at dksX6_cuts_3 6 rfl rfl)
theorem dX6_cuts_76 : decode cX6_cuts 76 = .ok (.getfield 86, 3) := dk_180 0 86 (dk_at dksX6_cuts_3 7 rfl rfl)
theorem dX6_cuts_79 : decode cX6_cuts 79 = .ok (.iload 5, 2) := dk_21 5 (dk_at dksX6_cuts_3 10 rfl rfl)
theorem dX6_cuts_81 : decode cX6_cuts 81 = .ok (.invokestatic 92, 3) := dk_184 0 92 (dk_at dksX6_cuts_3 12 rfl rfl)
theorem dX6_cuts_84 : decode cX6_cuts 84 = .ok (.ifCond .ne 32, 3) := dk_154 0 32 (dk_at dksX6_cuts_3 15 rfl rfl)
theorem dX6_cuts_87 : decode cX6_cuts 87 = .ok (.aload_n 3, 1) := dk_45 (dk_at dksX6_cuts_3 18 rfl rfl)
theorem dX6_cuts_88 : decode cX6_cuts 88 = .ok (.dup, 1) := dk_89 (dk_at dksX6_cuts_3 19 rfl rfl)
theorem dX6_cuts_89 : decode cX6_cuts 89 = .ok (.getfield 86, 3) := dk_180 0 86 (dk_at dksX6_cuts_3 20 rfl rfl)
theorem dX6_cuts_92 : decode cX6_cuts 92 = .ok (.iconst 1, 1) := dk_4 (dk_at dksX6_cuts_3 23 rfl rfl)
theorem dX6_cuts_93 : decode cX6_cuts 93 = .ok (.iload 5, 2) := dk_21 5 (dk_at dksX6_cuts_4 0 rfl rfl)
theorem dX6_cuts_95 : decode cX6_cuts 95 = .ok (.ishl, 1) := dk_120 (dk_at dksX6_cuts_4 2 rfl rfl)
theorem dX6_cuts_96 : decode cX6_cuts 96 = .ok (.ior, 1) := dk_128 (dk_at dksX6_cuts_4 3 rfl rfl)
theorem dX6_cuts_97 : decode cX6_cuts 97 = .ok (.putfield 86, 3) := dk_181 0 86 (dk_at dksX6_cuts_4 4 rfl rfl)
theorem dX6_cuts_100 : decode cX6_cuts 100 = .ok (.aload_n 3, 1) := dk_45 (dk_at dksX6_cuts_4 7 rfl rfl)
theorem dX6_cuts_101 : decode cX6_cuts 101 = .ok (.iload 5, 2) := dk_21 5 (dk_at dksX6_cuts_4 8 rfl rfl)
theorem dX6_cuts_103 : decode cX6_cuts 103 = .ok (.invokevirtual 144, 3) := dk_182 0 144 (dk_at dksX6_cuts_4 10 rfl rfl)
theorem dX6_cuts_106 : decode cX6_cuts 106 = .ok (.pop, 1) := dk_87 (dk_at dksX6_cuts_4 13 rfl rfl)
theorem dX6_cuts_107 : decode cX6_cuts 107 = .ok (.iload 4, 2) := dk_21 4 (dk_at dksX6_cuts_4 14 rfl rfl)
theorem dX6_cuts_109 : decode cX6_cuts 109 = .ok (.iconst 1, 1) := dk_4 (dk_at dksX6_cuts_4 16 rfl rfl)
theorem dX6_cuts_110 : decode cX6_cuts 110 = .ok (.iload 5, 2) := dk_21 5 (dk_at dksX6_cuts_4 17 rfl rfl)
theorem dX6_cuts_112 : decode cX6_cuts 112 = .ok (.ishl, 1) := dk_120 (dk_at dksX6_cuts_4 19 rfl rfl)
theorem dX6_cuts_113 : decode cX6_cuts 113 = .ok (.ior, 1) := dk_128 (dk_at dksX6_cuts_4 20 rfl rfl)
theorem dX6_cuts_114 : decode cX6_cuts 114 = .ok (.istore 4, 2) := dk_54 4 (dk_at dksX6_cuts_4 21 rfl rfl)
theorem dX6_cuts_116 : decode cX6_cuts 116 = .ok (.aload_n 0, 1) := dk_42 (dk_at dksX6_cuts_4 23 rfl rfl)
theorem dX6_cuts_117 : decode cX6_cuts 117 = .ok (.getfield 19, 3) := dk_180 0 19 (dk_at dksX6_cuts_5 0 rfl rfl)
theorem dX6_cuts_120 : decode cX6_cuts 120 = .ok (.iload_n 1, 1) := dk_27 (dk_at dksX6_cuts_5 3 rfl rfl)
theorem dX6_cuts_121 : decode cX6_cuts 121 = .ok (.aaload, 1) := dk_50 (dk_at dksX6_cuts_5 4 rfl rfl)
theorem dX6_cuts_122 : decode cX6_cuts 122 = .ok (.getfield 140, 3) := dk_180 0 140 (dk_at dksX6_cuts_5 5 rfl rfl)
theorem dX6_cuts_125 : decode cX6_cuts 125 = .ok (.iload 5, 2) := dk_21 5 (dk_at dksX6_cuts_5 8 rfl rfl)
theorem dX6_cuts_127 : decode cX6_cuts 127 = .ok (.iconst 0, 1) := dk_3 (dk_at dksX6_cuts_5 10 rfl rfl)
theorem dX6_cuts_128 : decode cX6_cuts 128 = .ok (.iastore, 1) := dk_79 (dk_at dksX6_cuts_5 11 rfl rfl)
theorem dX6_cuts_129 : decode cX6_cuts 129 = .ok (.iinc 5 1, 3) := dk_132 5 1 (dk_at dksX6_cuts_5 12 rfl rfl)
theorem dX6_cuts_132 : decode cX6_cuts 132 = .ok (.goto (-105), 3) := dk_167 255 151 (dk_at dksX6_cuts_5 15 rfl rfl)
theorem dX6_cuts_135 : decode cX6_cuts 135 = .ok (.aload_n 0, 1) := dk_42 (dk_at dksX6_cuts_5 18 rfl rfl)
theorem dX6_cuts_136 : decode cX6_cuts 136 = .ok (.dup, 1) := dk_89 (dk_at dksX6_cuts_5 19 rfl rfl)
theorem dX6_cuts_137 : decode cX6_cuts 137 = .ok (.getfield 78, 3) := dk_180 0 78 (dk_at dksX6_cuts_5 20 rfl rfl)
theorem dX6_cuts_140 : decode cX6_cuts 140 = .ok (.iconst 1, 1) := dk_4 (dk_at dksX6_cuts_5 23 rfl rfl)
theorem dX6_cuts_141 : decode cX6_cuts 141 = .ok (.iadd, 1) := dk_96 (dk_at dksX6_cuts_6 0 rfl rfl)
theorem dX6_cuts_142 : decode cX6_cuts 142 = .ok (.putfield 78, 3) := dk_181 0 78 (dk_at dksX6_cuts_6 1 rfl rfl)
theorem dX6_cuts_145 : decode cX6_cuts 145 = .ok (.iload 4, 2) := dk_21 4 (dk_at dksX6_cuts_6 4 rfl rfl)
theorem dX6_cuts_147 : decode cX6_cuts 147 = .ok (.ireturn, 1) := dk_172 (dk_at dksX6_cuts_6 6 rfl rfl)
abbrev cX6_twin : ByteArray := prog_5_method_2_code
def yX6_twin : MethodName := ⟨RX6, "twin", "()LHairProvince$Province;"⟩
def dkwX6_twin_3 : List UInt8 := [181, 0, 49, 43, 42, 180, 0, 59, 181, 0, 59, 43, 42, 182, 0, 62, 176]
abbrev dktX6_twin_3 : List UInt8 := dkwX6_twin_3 ++ []
def dkwX6_twin_2 : List UInt8 := [182, 0, 52, 83, 132, 2, 1, 167, 255, 230, 43, 42, 180, 0, 56, 181, 0, 56, 43, 42, 180, 0, 49]
abbrev dktX6_twin_2 : List UInt8 := dkwX6_twin_2 ++ dktX6_twin_3
def dkwX6_twin_1 : List UInt8 := [184, 0, 43, 3, 61, 28, 42, 180, 0, 49, 162, 0, 24, 43, 180, 0, 19, 28, 42, 180, 0, 19, 28, 50]
abbrev dktX6_twin_1 : List UInt8 := dkwX6_twin_1 ++ dktX6_twin_2
def dkwX6_twin_0 : List UInt8 := [187, 0, 12, 89, 42, 180, 0, 36, 183, 0, 40, 76, 42, 180, 0, 11, 3, 43, 180, 0, 11, 3, 16, 8]
abbrev dktX6_twin_0 : List UInt8 := dkwX6_twin_0 ++ dktX6_twin_1
theorem dksX6_twin_0 : cX6_twin.data.toList.drop 0 = dktX6_twin_0 := by decide +kernel
theorem dksX6_twin_1 : cX6_twin.data.toList.drop 24 = dktX6_twin_1 := dk_seg dksX6_twin_0 24 rfl rfl
theorem dksX6_twin_2 : cX6_twin.data.toList.drop 48 = dktX6_twin_2 := dk_seg dksX6_twin_1 24 rfl rfl
theorem dksX6_twin_3 : cX6_twin.data.toList.drop 71 = dktX6_twin_3 := dk_seg dksX6_twin_2 23 rfl rfl
theorem dX6_twin_0 : decode cX6_twin 0 = .ok (.new 12, 3) := dk_187 0 12 (dk_at dksX6_twin_0 0 rfl rfl)
theorem dX6_twin_3 : decode cX6_twin 3 = .ok (.dup, 1) := dk_89 (dk_at dksX6_twin_0 3 rfl rfl)
theorem dX6_twin_4 : decode cX6_twin 4 = .ok (.aload_n 0, 1) := dk_42 (dk_at dksX6_twin_0 4 rfl rfl)
theorem dX6_twin_5 : decode cX6_twin 5 = .ok (.getfield 36, 3) := dk_180 0 36 (dk_at dksX6_twin_0 5 rfl rfl)
theorem dX6_twin_8 : decode cX6_twin 8 = .ok (.invokespecial 40, 3) := dk_183 0 40 (dk_at dksX6_twin_0 8 rfl rfl)
theorem dX6_twin_11 : decode cX6_twin 11 = .ok (.astore_n 1, 1) := dk_76 (dk_at dksX6_twin_0 11 rfl rfl)
theorem dX6_twin_12 : decode cX6_twin 12 = .ok (.aload_n 0, 1) := dk_42 (dk_at dksX6_twin_0 12 rfl rfl)
theorem dX6_twin_13 : decode cX6_twin 13 = .ok (.getfield 11, 3) := dk_180 0 11 (dk_at dksX6_twin_0 13 rfl rfl)
theorem dX6_twin_16 : decode cX6_twin 16 = .ok (.iconst 0, 1) := dk_3 (dk_at dksX6_twin_0 16 rfl rfl)
theorem dX6_twin_17 : decode cX6_twin 17 = .ok (.aload_n 1, 1) := dk_43 (dk_at dksX6_twin_0 17 rfl rfl)
theorem dX6_twin_18 : decode cX6_twin 18 = .ok (.getfield 11, 3) := dk_180 0 11 (dk_at dksX6_twin_0 18 rfl rfl)
theorem dX6_twin_21 : decode cX6_twin 21 = .ok (.iconst 0, 1) := dk_3 (dk_at dksX6_twin_0 21 rfl rfl)
theorem dX6_twin_22 : decode cX6_twin 22 = .ok (.bipush 8, 2) := dk_16 8 (dk_at dksX6_twin_0 22 rfl rfl)
theorem dX6_twin_24 : decode cX6_twin 24 = .ok (.invokestatic 43, 3) := dk_184 0 43 (dk_at dksX6_twin_1 0 rfl rfl)
theorem dX6_twin_27 : decode cX6_twin 27 = .ok (.iconst 0, 1) := dk_3 (dk_at dksX6_twin_1 3 rfl rfl)
theorem dX6_twin_28 : decode cX6_twin 28 = .ok (.istore_n 2, 1) := dk_61 (dk_at dksX6_twin_1 4 rfl rfl)
theorem dX6_twin_29 : decode cX6_twin 29 = .ok (.iload_n 2, 1) := dk_28 (dk_at dksX6_twin_1 5 rfl rfl)
theorem dX6_twin_30 : decode cX6_twin 30 = .ok (.aload_n 0, 1) := dk_42 (dk_at dksX6_twin_1 6 rfl rfl)
theorem dX6_twin_31 : decode cX6_twin 31 = .ok (.getfield 49, 3) := dk_180 0 49 (dk_at dksX6_twin_1 7 rfl rfl)
theorem dX6_twin_34 : decode cX6_twin 34 = .ok (.if_icmp .ge 24, 3) := dk_162 0 24 (dk_at dksX6_twin_1 10 rfl rfl)
theorem dX6_twin_37 : decode cX6_twin 37 = .ok (.aload_n 1, 1) := dk_43 (dk_at dksX6_twin_1 13 rfl rfl)
theorem dX6_twin_38 : decode cX6_twin 38 = .ok (.getfield 19, 3) := dk_180 0 19 (dk_at dksX6_twin_1 14 rfl rfl)
theorem dX6_twin_41 : decode cX6_twin 41 = .ok (.iload_n 2, 1) := dk_28 (dk_at dksX6_twin_1 17 rfl rfl)
theorem dX6_twin_42 : decode cX6_twin 42 = .ok (.aload_n 0, 1) := dk_42 (dk_at dksX6_twin_1 18 rfl rfl)
theorem dX6_twin_43 : decode cX6_twin 43 = .ok (.getfield 19, 3) := dk_180 0 19 (dk_at dksX6_twin_1 19 rfl rfl)
theorem dX6_twin_46 : decode cX6_twin 46 = .ok (.iload_n 2, 1) := dk_28 (dk_at dksX6_twin_1 22 rfl rfl)
theorem dX6_twin_47 : decode cX6_twin 47 = .ok (.aaload, 1) := dk_50 (dk_at dksX6_twin_1 23 rfl rfl)
theorem dX6_twin_48 : decode cX6_twin 48 = .ok (.invokevirtual 52, 3) := dk_182 0 52 (dk_at dksX6_twin_2 0 rfl rfl)
theorem dX6_twin_51 : decode cX6_twin 51 = .ok (.aastore, 1) := dk_83 (dk_at dksX6_twin_2 3 rfl rfl)
theorem dX6_twin_52 : decode cX6_twin 52 = .ok (.iinc 2 1, 3) := dk_132 2 1 (dk_at dksX6_twin_2 4 rfl rfl)
theorem dX6_twin_55 : decode cX6_twin 55 = .ok (.goto (-26), 3) := dk_167 255 230 (dk_at dksX6_twin_2 7 rfl rfl)
theorem dX6_twin_58 : decode cX6_twin 58 = .ok (.aload_n 1, 1) := dk_43 (dk_at dksX6_twin_2 10 rfl rfl)
theorem dX6_twin_59 : decode cX6_twin 59 = .ok (.aload_n 0, 1) := dk_42 (dk_at dksX6_twin_2 11 rfl rfl)
theorem dX6_twin_60 : decode cX6_twin 60 = .ok (.getfield 56, 3) := dk_180 0 56 (dk_at dksX6_twin_2 12 rfl rfl)
theorem dX6_twin_63 : decode cX6_twin 63 = .ok (.putfield 56, 3) := dk_181 0 56 (dk_at dksX6_twin_2 15 rfl rfl)
theorem dX6_twin_66 : decode cX6_twin 66 = .ok (.aload_n 1, 1) := dk_43 (dk_at dksX6_twin_2 18 rfl rfl)
theorem dX6_twin_67 : decode cX6_twin 67 = .ok (.aload_n 0, 1) := dk_42 (dk_at dksX6_twin_2 19 rfl rfl)
theorem dX6_twin_68 : decode cX6_twin 68 = .ok (.getfield 49, 3) := dk_180 0 49 (dk_at dksX6_twin_2 20 rfl rfl)
theorem dX6_twin_71 : decode cX6_twin 71 = .ok (.putfield 49, 3) := dk_181 0 49 (dk_at dksX6_twin_3 0 rfl rfl)
theorem dX6_twin_74 : decode cX6_twin 74 = .ok (.aload_n 1, 1) := dk_43 (dk_at dksX6_twin_3 3 rfl rfl)
theorem dX6_twin_75 : decode cX6_twin 75 = .ok (.aload_n 0, 1) := dk_42 (dk_at dksX6_twin_3 4 rfl rfl)
theorem dX6_twin_76 : decode cX6_twin 76 = .ok (.getfield 59, 3) := dk_180 0 59 (dk_at dksX6_twin_3 5 rfl rfl)
theorem dX6_twin_79 : decode cX6_twin 79 = .ok (.putfield 59, 3) := dk_181 0 59 (dk_at dksX6_twin_3 8 rfl rfl)
theorem dX6_twin_82 : decode cX6_twin 82 = .ok (.aload_n 1, 1) := dk_43 (dk_at dksX6_twin_3 11 rfl rfl)
theorem dX6_twin_83 : decode cX6_twin 83 = .ok (.aload_n 0, 1) := dk_42 (dk_at dksX6_twin_3 12 rfl rfl)
theorem dX6_twin_84 : decode cX6_twin 84 = .ok (.invokevirtual 62, 3) := dk_182 0 62 (dk_at dksX6_twin_3 13 rfl rfl)
theorem dX6_twin_87 : decode cX6_twin 87 = .ok (.areturn, 1) := dk_176 (dk_at dksX6_twin_3 16 rfl rfl)
abbrev cX6_takes : ByteArray := prog_5_method_3_code
def yX6_takes : MethodName := ⟨RX6, "takes", "(LHairProvince$Province;)LHairProvince$Province;"⟩
def dkwX6_takes_4 : List UInt8 := [181, 0, 78, 42, 176]
abbrev dktX6_takes_4 : List UInt8 := dkwX6_takes_4 ++ []
def dkwX6_takes_3 : List UInt8 := [181, 0, 33, 42, 43, 180, 0, 72, 181, 0, 72, 42, 43, 180, 0, 75, 181, 0, 75, 42, 43, 180, 0, 78]
abbrev dktX6_takes_3 : List UInt8 := dkwX6_takes_3 ++ dktX6_takes_4
def dkwX6_takes_2 : List UInt8 := [184, 0, 43, 42, 43, 180, 0, 69, 181, 0, 69, 42, 43, 180, 0, 29, 181, 0, 29, 42, 43, 180, 0, 33]
abbrev dktX6_takes_2 : List UInt8 := dkwX6_takes_2 ++ dktX6_takes_3
def dkwX6_takes_1 : List UInt8 := [182, 0, 66, 87, 132, 2, 1, 167, 255, 229, 43, 180, 0, 25, 3, 42, 180, 0, 25, 3, 16, 6]
abbrev dktX6_takes_1 : List UInt8 := dkwX6_takes_1 ++ dktX6_takes_2
def dkwX6_takes_0 : List UInt8 := [3, 61, 28, 42, 180, 0, 49, 162, 0, 25, 42, 180, 0, 19, 28, 50, 43, 180, 0, 19, 28, 50]
abbrev dktX6_takes_0 : List UInt8 := dkwX6_takes_0 ++ dktX6_takes_1
theorem dksX6_takes_0 : cX6_takes.data.toList.drop 0 = dktX6_takes_0 := by decide +kernel
theorem dksX6_takes_1 : cX6_takes.data.toList.drop 22 = dktX6_takes_1 := dk_seg dksX6_takes_0 22 rfl rfl
theorem dksX6_takes_2 : cX6_takes.data.toList.drop 44 = dktX6_takes_2 := dk_seg dksX6_takes_1 22 rfl rfl
theorem dksX6_takes_3 : cX6_takes.data.toList.drop 68 = dktX6_takes_3 := dk_seg dksX6_takes_2 24 rfl rfl
theorem dksX6_takes_4 : cX6_takes.data.toList.drop 92 = dktX6_takes_4 := dk_seg dksX6_takes_3 24 rfl rfl
theorem dX6_takes_0 : decode cX6_takes 0 = .ok (.iconst 0, 1) := dk_3 (dk_at dksX6_takes_0 0 rfl rfl)
theorem dX6_takes_1 : decode cX6_takes 1 = .ok (.istore_n 2, 1) := dk_61 (dk_at dksX6_takes_0 1 rfl rfl)
theorem dX6_takes_2 : decode cX6_takes 2 = .ok (.iload_n 2, 1) := dk_28 (dk_at dksX6_takes_0 2 rfl rfl)
theorem dX6_takes_3 : decode cX6_takes 3 = .ok (.aload_n 0, 1) := dk_42 (dk_at dksX6_takes_0 3 rfl rfl)
theorem dX6_takes_4 : decode cX6_takes 4 = .ok (.getfield 49, 3) := dk_180 0 49 (dk_at dksX6_takes_0 4 rfl rfl)
theorem dX6_takes_7 : decode cX6_takes 7 = .ok (.if_icmp .ge 25, 3) := dk_162 0 25 (dk_at dksX6_takes_0 7 rfl rfl)
theorem dX6_takes_10 : decode cX6_takes 10 = .ok (.aload_n 0, 1) := dk_42 (dk_at dksX6_takes_0 10 rfl rfl)
theorem dX6_takes_11 : decode cX6_takes 11 = .ok (.getfield 19, 3) := dk_180 0 19 (dk_at dksX6_takes_0 11 rfl rfl)
theorem dX6_takes_14 : decode cX6_takes 14 = .ok (.iload_n 2, 1) := dk_28 (dk_at dksX6_takes_0 14 rfl rfl)
theorem dX6_takes_15 : decode cX6_takes 15 = .ok (.aaload, 1) := dk_50 (dk_at dksX6_takes_0 15 rfl rfl)
theorem dX6_takes_16 : decode cX6_takes 16 = .ok (.aload_n 1, 1) := dk_43 (dk_at dksX6_takes_0 16 rfl rfl)
theorem dX6_takes_17 : decode cX6_takes 17 = .ok (.getfield 19, 3) := dk_180 0 19 (dk_at dksX6_takes_0 17 rfl rfl)
theorem dX6_takes_20 : decode cX6_takes 20 = .ok (.iload_n 2, 1) := dk_28 (dk_at dksX6_takes_0 20 rfl rfl)
theorem dX6_takes_21 : decode cX6_takes 21 = .ok (.aaload, 1) := dk_50 (dk_at dksX6_takes_0 21 rfl rfl)
theorem dX6_takes_22 : decode cX6_takes 22 = .ok (.invokevirtual 66, 3) := dk_182 0 66 (dk_at dksX6_takes_1 0 rfl rfl)
theorem dX6_takes_25 : decode cX6_takes 25 = .ok (.pop, 1) := dk_87 (dk_at dksX6_takes_1 3 rfl rfl)
theorem dX6_takes_26 : decode cX6_takes 26 = .ok (.iinc 2 1, 3) := dk_132 2 1 (dk_at dksX6_takes_1 4 rfl rfl)
theorem dX6_takes_29 : decode cX6_takes 29 = .ok (.goto (-27), 3) := dk_167 255 229 (dk_at dksX6_takes_1 7 rfl rfl)
theorem dX6_takes_32 : decode cX6_takes 32 = .ok (.aload_n 1, 1) := dk_43 (dk_at dksX6_takes_1 10 rfl rfl)
theorem dX6_takes_33 : decode cX6_takes 33 = .ok (.getfield 25, 3) := dk_180 0 25 (dk_at dksX6_takes_1 11 rfl rfl)
theorem dX6_takes_36 : decode cX6_takes 36 = .ok (.iconst 0, 1) := dk_3 (dk_at dksX6_takes_1 14 rfl rfl)
theorem dX6_takes_37 : decode cX6_takes 37 = .ok (.aload_n 0, 1) := dk_42 (dk_at dksX6_takes_1 15 rfl rfl)
theorem dX6_takes_38 : decode cX6_takes 38 = .ok (.getfield 25, 3) := dk_180 0 25 (dk_at dksX6_takes_1 16 rfl rfl)
theorem dX6_takes_41 : decode cX6_takes 41 = .ok (.iconst 0, 1) := dk_3 (dk_at dksX6_takes_1 19 rfl rfl)
theorem dX6_takes_42 : decode cX6_takes 42 = .ok (.bipush 6, 2) := dk_16 6 (dk_at dksX6_takes_1 20 rfl rfl)
theorem dX6_takes_44 : decode cX6_takes 44 = .ok (.invokestatic 43, 3) := dk_184 0 43 (dk_at dksX6_takes_2 0 rfl rfl)
theorem dX6_takes_47 : decode cX6_takes 47 = .ok (.aload_n 0, 1) := dk_42 (dk_at dksX6_takes_2 3 rfl rfl)
theorem dX6_takes_48 : decode cX6_takes 48 = .ok (.aload_n 1, 1) := dk_43 (dk_at dksX6_takes_2 4 rfl rfl)
theorem dX6_takes_49 : decode cX6_takes 49 = .ok (.getfield 69, 3) := dk_180 0 69 (dk_at dksX6_takes_2 5 rfl rfl)
theorem dX6_takes_52 : decode cX6_takes 52 = .ok (.putfield 69, 3) := dk_181 0 69 (dk_at dksX6_takes_2 8 rfl rfl)
theorem dX6_takes_55 : decode cX6_takes 55 = .ok (.aload_n 0, 1) := dk_42 (dk_at dksX6_takes_2 11 rfl rfl)
theorem dX6_takes_56 : decode cX6_takes 56 = .ok (.aload_n 1, 1) := dk_43 (dk_at dksX6_takes_2 12 rfl rfl)
theorem dX6_takes_57 : decode cX6_takes 57 = .ok (.getfield 29, 3) := dk_180 0 29 (dk_at dksX6_takes_2 13 rfl rfl)
theorem dX6_takes_60 : decode cX6_takes 60 = .ok (.putfield 29, 3) := dk_181 0 29 (dk_at dksX6_takes_2 16 rfl rfl)
theorem dX6_takes_63 : decode cX6_takes 63 = .ok (.aload_n 0, 1) := dk_42 (dk_at dksX6_takes_2 19 rfl rfl)
theorem dX6_takes_64 : decode cX6_takes 64 = .ok (.aload_n 1, 1) := dk_43 (dk_at dksX6_takes_2 20 rfl rfl)
theorem dX6_takes_65 : decode cX6_takes 65 = .ok (.getfield 33, 3) := dk_180 0 33 (dk_at dksX6_takes_2 21 rfl rfl)
theorem dX6_takes_68 : decode cX6_takes 68 = .ok (.putfield 33, 3) := dk_181 0 33 (dk_at dksX6_takes_3 0 rfl rfl)
theorem dX6_takes_71 : decode cX6_takes 71 = .ok (.aload_n 0, 1) := dk_42 (dk_at dksX6_takes_3 3 rfl rfl)
theorem dX6_takes_72 : decode cX6_takes 72 = .ok (.aload_n 1, 1) := dk_43 (dk_at dksX6_takes_3 4 rfl rfl)
theorem dX6_takes_73 : decode cX6_takes 73 = .ok (.getfield 72, 3) := dk_180 0 72 (dk_at dksX6_takes_3 5 rfl rfl)
theorem dX6_takes_76 : decode cX6_takes 76 = .ok (.putfield 72, 3) := dk_181 0 72 (dk_at dksX6_takes_3 8 rfl rfl)
theorem dX6_takes_79 : decode cX6_takes 79 = .ok (.aload_n 0, 1) := dk_42 (dk_at dksX6_takes_3 11 rfl rfl)
theorem dX6_takes_80 : decode cX6_takes 80 = .ok (.aload_n 1, 1) := dk_43 (dk_at dksX6_takes_3 12 rfl rfl)
theorem dX6_takes_81 : decode cX6_takes 81 = .ok (.getfield 75, 3) := dk_180 0 75 (dk_at dksX6_takes_3 13 rfl rfl)
theorem dX6_takes_84 : decode cX6_takes 84 = .ok (.putfield 75, 3) := dk_181 0 75 (dk_at dksX6_takes_3 16 rfl rfl)
theorem dX6_takes_87 : decode cX6_takes 87 = .ok (.aload_n 0, 1) := dk_42 (dk_at dksX6_takes_3 19 rfl rfl)
theorem dX6_takes_88 : decode cX6_takes 88 = .ok (.aload_n 1, 1) := dk_43 (dk_at dksX6_takes_3 20 rfl rfl)
theorem dX6_takes_89 : decode cX6_takes 89 = .ok (.getfield 78, 3) := dk_180 0 78 (dk_at dksX6_takes_3 21 rfl rfl)
theorem dX6_takes_92 : decode cX6_takes 92 = .ok (.putfield 78, 3) := dk_181 0 78 (dk_at dksX6_takes_4 0 rfl rfl)
theorem dX6_takes_95 : decode cX6_takes 95 = .ok (.aload_n 0, 1) := dk_42 (dk_at dksX6_takes_4 3 rfl rfl)
theorem dX6_takes_96 : decode cX6_takes 96 = .ok (.areturn, 1) := dk_176 (dk_at dksX6_takes_4 4 rfl rfl)
abbrev cX6_allWords : ByteArray := prog_5_method_6_code
def yX6_allWords : MethodName := ⟨RX6, "allWords", "()I"⟩
def dkwX6_allWords_0 : List UInt8 := [4, 42, 180, 0, 56, 120, 4, 100, 172]
abbrev dktX6_allWords_0 : List UInt8 := dkwX6_allWords_0 ++ []
theorem dksX6_allWords_0 : cX6_allWords.data.toList.drop 0 = dktX6_allWords_0 := by decide +kernel
theorem dX6_allWords_0 : decode cX6_allWords 0 = .ok (.iconst 1, 1) := dk_4 (dk_at dksX6_allWords_0 0 rfl rfl)
theorem dX6_allWords_1 : decode cX6_allWords 1 = .ok (.aload_n 0, 1) := dk_42 (dk_at dksX6_allWords_0 1 rfl rfl)
theorem dX6_allWords_2 : decode cX6_allWords 2 = .ok (.getfield 56, 3) := dk_180 0 56 (dk_at dksX6_allWords_0 2 rfl rfl)
theorem dX6_allWords_5 : decode cX6_allWords 5 = .ok (.ishl, 1) := dk_120 (dk_at dksX6_allWords_0 5 rfl rfl)
theorem dX6_allWords_6 : decode cX6_allWords 6 = .ok (.iconst 1, 1) := dk_4 (dk_at dksX6_allWords_0 6 rfl rfl)
theorem dX6_allWords_7 : decode cX6_allWords 7 = .ok (.isub, 1) := dk_100 (dk_at dksX6_allWords_0 7 rfl rfl)
theorem dX6_allWords_8 : decode cX6_allWords 8 = .ok (.ireturn, 1) := dk_172 (dk_at dksX6_allWords_0 8 rfl rfl)
abbrev cX6_haveHalves : ByteArray := prog_5_method_14_code
def yX6_haveHalves : MethodName := ⟨RX6, "haveHalves", "(I)Z"⟩
def dkwX6_haveHalves_1 : List UInt8 := [180, 0, 147, 27, 126, 153, 0, 5, 4, 172, 132, 2, 1, 167, 255, 221, 3, 172]
abbrev dktX6_haveHalves_1 : List UInt8 := dkwX6_haveHalves_1 ++ []
def dkwX6_haveHalves_0 : List UInt8 := [3, 61, 28, 42, 180, 0, 56, 162, 0, 33, 27, 28, 184, 0, 92, 153, 0, 19, 42, 180, 0, 11, 28, 50]
abbrev dktX6_haveHalves_0 : List UInt8 := dkwX6_haveHalves_0 ++ dktX6_haveHalves_1
theorem dksX6_haveHalves_0 : cX6_haveHalves.data.toList.drop 0 = dktX6_haveHalves_0 := by decide +kernel
theorem dksX6_haveHalves_1 : cX6_haveHalves.data.toList.drop 24 = dktX6_haveHalves_1 := dk_seg dksX6_haveHalves_0 24 rfl rfl
theorem dX6_haveHalves_0 : decode cX6_haveHalves 0 = .ok (.iconst 0, 1) := dk_3 (dk_at dksX6_haveHalves_0 0 rfl rfl)
theorem dX6_haveHalves_1 : decode cX6_haveHalves 1 = .ok (.istore_n 2, 1) := dk_61 (dk_at dksX6_haveHalves_0 1 rfl rfl)
theorem dX6_haveHalves_2 : decode cX6_haveHalves 2 = .ok (.iload_n 2, 1) := dk_28 (dk_at dksX6_haveHalves_0 2 rfl rfl)
theorem dX6_haveHalves_3 : decode cX6_haveHalves 3 = .ok (.aload_n 0, 1) := dk_42 (dk_at dksX6_haveHalves_0 3 rfl rfl)
theorem dX6_haveHalves_4 : decode cX6_haveHalves 4 = .ok (.getfield 56, 3) := dk_180 0 56 (dk_at dksX6_haveHalves_0 4 rfl rfl)
theorem dX6_haveHalves_7 : decode cX6_haveHalves 7 = .ok (.if_icmp .ge 33, 3) := dk_162 0 33 (dk_at dksX6_haveHalves_0 7 rfl rfl)
theorem dX6_haveHalves_10 : decode cX6_haveHalves 10 = .ok (.iload_n 1, 1) := dk_27 (dk_at dksX6_haveHalves_0 10 rfl rfl)
theorem dX6_haveHalves_11 : decode cX6_haveHalves 11 = .ok (.iload_n 2, 1) := dk_28 (dk_at dksX6_haveHalves_0 11 rfl rfl)
theorem dX6_haveHalves_12 : decode cX6_haveHalves 12 = .ok (.invokestatic 92, 3) := dk_184 0 92 (dk_at dksX6_haveHalves_0 12 rfl rfl)
theorem dX6_haveHalves_15 : decode cX6_haveHalves 15 = .ok (.ifCond .eq 19, 3) := dk_153 0 19 (dk_at dksX6_haveHalves_0 15 rfl rfl)
theorem dX6_haveHalves_18 : decode cX6_haveHalves 18 = .ok (.aload_n 0, 1) := dk_42 (dk_at dksX6_haveHalves_0 18 rfl rfl)
theorem dX6_haveHalves_19 : decode cX6_haveHalves 19 = .ok (.getfield 11, 3) := dk_180 0 11 (dk_at dksX6_haveHalves_0 19 rfl rfl)
theorem dX6_haveHalves_22 : decode cX6_haveHalves 22 = .ok (.iload_n 2, 1) := dk_28 (dk_at dksX6_haveHalves_0 22 rfl rfl)
theorem dX6_haveHalves_23 : decode cX6_haveHalves 23 = .ok (.aaload, 1) := dk_50 (dk_at dksX6_haveHalves_0 23 rfl rfl)
theorem dX6_haveHalves_24 : decode cX6_haveHalves 24 = .ok (.getfield 147, 3) := dk_180 0 147 (dk_at dksX6_haveHalves_1 0 rfl rfl)
theorem dX6_haveHalves_27 : decode cX6_haveHalves 27 = .ok (.iload_n 1, 1) := dk_27 (dk_at dksX6_haveHalves_1 3 rfl rfl)
theorem dX6_haveHalves_28 : decode cX6_haveHalves 28 = .ok (.iand, 1) := dk_126 (dk_at dksX6_haveHalves_1 4 rfl rfl)
theorem dX6_haveHalves_29 : decode cX6_haveHalves 29 = .ok (.ifCond .eq 5, 3) := dk_153 0 5 (dk_at dksX6_haveHalves_1 5 rfl rfl)
theorem dX6_haveHalves_32 : decode cX6_haveHalves 32 = .ok (.iconst 1, 1) := dk_4 (dk_at dksX6_haveHalves_1 8 rfl rfl)
theorem dX6_haveHalves_33 : decode cX6_haveHalves 33 = .ok (.ireturn, 1) := dk_172 (dk_at dksX6_haveHalves_1 9 rfl rfl)
theorem dX6_haveHalves_34 : decode cX6_haveHalves 34 = .ok (.iinc 2 1, 3) := dk_132 2 1 (dk_at dksX6_haveHalves_1 10 rfl rfl)
theorem dX6_haveHalves_37 : decode cX6_haveHalves 37 = .ok (.goto (-35), 3) := dk_167 255 221 (dk_at dksX6_haveHalves_1 13 rfl rfl)
theorem dX6_haveHalves_40 : decode cX6_haveHalves 40 = .ok (.iconst 0, 1) := dk_3 (dk_at dksX6_haveHalves_1 16 rfl rfl)
theorem dX6_haveHalves_41 : decode cX6_haveHalves 41 = .ok (.ireturn, 1) := dk_172 (dk_at dksX6_haveHalves_1 17 rfl rfl)
theorem q184 : (Jvm.Cond.initialized "HairProvince$Province") ∈ lw_all := lw_g (lw_at lw_m1 10 rfl) rfl
theorem q395 : (Jvm.Cond.instantiable "HairProvince$Province" (13 : Nat)) ∈ lw_all := lw_g (lw_at lw_m1 221 rfl) rfl
theorem q397 : (Jvm.Cond.instanceMethod ({ cls := "HairProvince$Province", name := "<init>", desc := "(LHairProvince$Saying;)V" } : Jvm.MethodName)) ∈ lw_all := lw_g (lw_at lw_m1 223 rfl) rfl
theorem q398 : (Jvm.Cond.code ({ cls := "HairProvince$Province", name := "<init>", desc := "(LHairProvince$Saying;)V" } : Jvm.MethodName) prog_5_method_1_code (2 : Nat) (Option.none : Option Jvm.ClassFile.FieldType)) ∈ lw_all := lw_g (lw_at lw_m1 224 rfl) rfl
theorem q399 : (Jvm.Cond.methodLink "HairProvince$Province" (3 : Nat) ({ cls := "java/lang/Object", name := "<init>", desc := "()V" } : Jvm.MethodName)) ∈ lw_all := lw_g (lw_at lw_m1 225 rfl) rfl
theorem q400 : (Jvm.Cond.classLink "HairProvince$Province" (9 : Nat) "HairProvince$Word") ∈ lw_all := lw_g (lw_at lw_m1 226 rfl) rfl
theorem q402 : (Jvm.Cond.classLink "HairProvince$Province" (17 : Nat) "HairProvince$Person") ∈ lw_all := lw_g (lw_at lw_m1 228 rfl) rfl
theorem q404 : (Jvm.Cond.classLink "HairProvince$Province" (23 : Nat) "HairProvince$Dinner") ∈ lw_all := lw_g (lw_at lw_m1 230 rfl) rfl
theorem q406 : (Jvm.Cond.fieldLink "HairProvince$Province" (11 : Nat) "HairProvince$Province" "words" "[LHairProvince$Word;") ∈ lw_all := lw_g (lw_at lw_m1 232 rfl) rfl
theorem q409 : (Jvm.Cond.fieldLink "HairProvince$Province" (19 : Nat) "HairProvince$Province" "people" "[LHairProvince$Person;") ∈ lw_all := lw_g (lw_at lw_m1 235 rfl) rfl
theorem q412 : (Jvm.Cond.fieldLink "HairProvince$Province" (25 : Nat) "HairProvince$Province" "dinners" "[LHairProvince$Dinner;") ∈ lw_all := lw_g (lw_at lw_m1 238 rfl) rfl
theorem q415 : (Jvm.Cond.fieldLink "HairProvince$Province" (36 : Nat) "HairProvince$Province" "saying" "LHairProvince$Saying;") ∈ lw_all := lw_g (lw_at lw_m2 1 rfl) rfl
theorem q416 : (Jvm.Cond.fieldLink "HairProvince$Province" (56 : Nat) "HairProvince$Province" "wordMany" "I") ∈ lw_all := lw_g (lw_at lw_m2 2 rfl) rfl
theorem q419 : (Jvm.Cond.fieldLink "HairProvince$Province" (49 : Nat) "HairProvince$Province" "personMany" "I") ∈ lw_all := lw_g (lw_at lw_m2 5 rfl) rfl
theorem q422 : (Jvm.Cond.fieldLink "HairProvince$Province" (69 : Nat) "HairProvince$Province" "dinnerMany" "I") ∈ lw_all := lw_g (lw_at lw_m2 8 rfl) rfl
theorem q425 : (Jvm.Cond.fieldLink "HairProvince$Province" (59 : Nat) "HairProvince$Province" "halvesMany" "I") ∈ lw_all := lw_g (lw_at lw_m2 11 rfl) rfl
theorem q428 : (Jvm.Cond.fieldLink "HairProvince$Province" (29 : Nat) "HairProvince$Province" "heard" "I") ∈ lw_all := lw_g (lw_at lw_m2 14 rfl) rfl
theorem q431 : (Jvm.Cond.fieldLink "HairProvince$Province" (33 : Nat) "HairProvince$Province" "odds" "I") ∈ lw_all := lw_g (lw_at lw_m2 17 rfl) rfl
theorem q434 : (Jvm.Cond.fieldLink "HairProvince$Province" (72 : Nat) "HairProvince$Province" "day" "I") ∈ lw_all := lw_g (lw_at lw_m2 20 rfl) rfl
theorem q436 : (Jvm.Cond.fieldLink "HairProvince$Province" (75 : Nat) "HairProvince$Province" "said" "I") ∈ lw_all := lw_g (lw_at lw_m2 22 rfl) rfl
theorem q438 : (Jvm.Cond.fieldLink "HairProvince$Province" (78 : Nat) "HairProvince$Province" "cuts" "I") ∈ lw_all := lw_g (lw_at lw_m2 24 rfl) rfl
theorem q440 : (Jvm.Cond.laysFinal "HairProvince$Province" "HairProvince$Province" "words" "[LHairProvince$Word;") ∈ lw_all := lw_g (lw_at lw_m2 26 rfl) rfl
theorem q441 : (Jvm.Cond.soleField "HairProvince$Province" "words") ∈ lw_all := lw_g (lw_at lw_m2 27 rfl) rfl
theorem q442 : (Jvm.Cond.laysFinal "HairProvince$Province" "HairProvince$Province" "people" "[LHairProvince$Person;") ∈ lw_all := lw_g (lw_at lw_m2 28 rfl) rfl
theorem q443 : (Jvm.Cond.soleField "HairProvince$Province" "people") ∈ lw_all := lw_g (lw_at lw_m2 29 rfl) rfl
theorem q444 : (Jvm.Cond.laysFinal "HairProvince$Province" "HairProvince$Province" "dinners" "[LHairProvince$Dinner;") ∈ lw_all := lw_g (lw_at lw_m2 30 rfl) rfl
theorem q445 : (Jvm.Cond.soleField "HairProvince$Province" "dinners") ∈ lw_all := lw_g (lw_at lw_m2 31 rfl) rfl
theorem q446 : (Jvm.Cond.laysFinal "HairProvince$Province" "HairProvince$Province" "saying" "LHairProvince$Saying;") ∈ lw_all := lw_g (lw_at lw_m2 32 rfl) rfl
theorem q447 : (Jvm.Cond.soleField "HairProvince$Province" "saying") ∈ lw_all := lw_g (lw_at lw_m2 33 rfl) rfl
theorem q448 : (Jvm.Cond.lays "HairProvince$Province" "HairProvince$Province" "wordMany" "I") ∈ lw_all := lw_g (lw_at lw_m2 34 rfl) rfl
theorem q449 : (Jvm.Cond.soleField "HairProvince$Province" "wordMany") ∈ lw_all := lw_g (lw_at lw_m2 35 rfl) rfl
theorem q450 : (Jvm.Cond.lays "HairProvince$Province" "HairProvince$Province" "personMany" "I") ∈ lw_all := lw_g (lw_at lw_m2 36 rfl) rfl
theorem q451 : (Jvm.Cond.soleField "HairProvince$Province" "personMany") ∈ lw_all := lw_g (lw_at lw_m2 37 rfl) rfl
theorem q452 : (Jvm.Cond.lays "HairProvince$Province" "HairProvince$Province" "dinnerMany" "I") ∈ lw_all := lw_g (lw_at lw_m2 38 rfl) rfl
theorem q453 : (Jvm.Cond.soleField "HairProvince$Province" "dinnerMany") ∈ lw_all := lw_g (lw_at lw_m2 39 rfl) rfl
theorem q454 : (Jvm.Cond.lays "HairProvince$Province" "HairProvince$Province" "halvesMany" "I") ∈ lw_all := lw_g (lw_at lw_m2 40 rfl) rfl
theorem q455 : (Jvm.Cond.soleField "HairProvince$Province" "halvesMany") ∈ lw_all := lw_g (lw_at lw_m2 41 rfl) rfl
theorem q456 : (Jvm.Cond.lays "HairProvince$Province" "HairProvince$Province" "heard" "I") ∈ lw_all := lw_g (lw_at lw_m2 42 rfl) rfl
theorem q457 : (Jvm.Cond.soleField "HairProvince$Province" "heard") ∈ lw_all := lw_g (lw_at lw_m2 43 rfl) rfl
theorem q458 : (Jvm.Cond.lays "HairProvince$Province" "HairProvince$Province" "odds" "I") ∈ lw_all := lw_g (lw_at lw_m2 44 rfl) rfl
theorem q459 : (Jvm.Cond.soleField "HairProvince$Province" "odds") ∈ lw_all := lw_g (lw_at lw_m2 45 rfl) rfl
theorem q460 : (Jvm.Cond.lays "HairProvince$Province" "HairProvince$Province" "day" "I") ∈ lw_all := lw_g (lw_at lw_m2 46 rfl) rfl
theorem q461 : (Jvm.Cond.soleField "HairProvince$Province" "day") ∈ lw_all := lw_g (lw_at lw_m2 47 rfl) rfl
theorem q462 : (Jvm.Cond.lays "HairProvince$Province" "HairProvince$Province" "said" "I") ∈ lw_all := lw_g (lw_at lw_m2 48 rfl) rfl
theorem q463 : (Jvm.Cond.soleField "HairProvince$Province" "said") ∈ lw_all := lw_g (lw_at lw_m2 49 rfl) rfl
theorem q464 : (Jvm.Cond.lays "HairProvince$Province" "HairProvince$Province" "cuts" "I") ∈ lw_all := lw_g (lw_at lw_m2 50 rfl) rfl
theorem q465 : (Jvm.Cond.soleField "HairProvince$Province" "cuts") ∈ lw_all := lw_g (lw_at lw_m2 51 rfl) rfl
theorem q466 : (Jvm.Cond.superclass "HairProvince$Province" "java/lang/Object") ∈ lw_all := lw_g (lw_at lw_m2 52 rfl) rfl
theorem q491 : (Jvm.Cond.fieldLink "HairProvince$Province" (85 : Nat) "HairProvince$Person" "name" "J") ∈ lw_all := lw_g (lw_at lw_m2 77 rfl) rfl
theorem q493 : (Jvm.Cond.fieldLink "HairProvince$Province" (140 : Nat) "HairProvince$Person" "length" "[I") ∈ lw_all := lw_g (lw_at lw_m2 79 rfl) rfl
theorem q498 : (Jvm.Cond.fieldLinkNest "HairProvince$Province" (100 : Nat) "HairProvince$Person" "temper" "I" "HairProvince") ∈ lw_tbl := lw_at lw_m2 84 rfl
theorem q503 : (Jvm.Cond.fieldLinkNest "HairProvince$Province" (86 : Nat) "HairProvince$Person" "knows" "I" "HairProvince") ∈ lw_tbl := lw_at lw_m2 89 rfl
theorem q508 : (Jvm.Cond.fieldLinkNest "HairProvince$Province" (89 : Nat) "HairProvince$Person" "keeps" "I" "HairProvince") ∈ lw_tbl := lw_at lw_m2 94 rfl
theorem q512 : (Jvm.Cond.fieldLinkNest "HairProvince$Province" (136 : Nat) "HairProvince$Person" "barber" "Z" "HairProvince") ∈ lw_tbl := lw_at lw_m2 98 rfl
theorem q912 : (Jvm.Cond.instanceMethod ({ cls := "HairProvince$Province", name := "word", desc := "(J)I" } : Jvm.MethodName)) ∈ lw_all := lw_g (lw_at lw_m4 18 rfl) rfl
theorem q913 : (Jvm.Cond.selects "HairProvince$Province" ({ cls := "HairProvince$Province", name := "word", desc := "(J)I" } : Jvm.MethodName) ({ cls := "HairProvince$Province", name := "word", desc := "(J)I" } : Jvm.MethodName)) ∈ lw_all := lw_g (lw_at lw_m4 19 rfl) rfl
theorem q914 : (Jvm.Cond.code ({ cls := "HairProvince$Province", name := "word", desc := "(J)I" } : Jvm.MethodName) prog_5_method_4_code (4 : Nat) (Option.some Jvm.ClassFile.FieldType.int)) ∈ lw_all := lw_g (lw_at lw_m4 20 rfl) rfl
theorem q916 : (Jvm.Cond.instanceMethod ({ cls := "HairProvince$Province", name := "person", desc := "(J)I" } : Jvm.MethodName)) ∈ lw_all := lw_g (lw_at lw_m4 22 rfl) rfl
theorem q917 : (Jvm.Cond.selects "HairProvince$Province" ({ cls := "HairProvince$Province", name := "person", desc := "(J)I" } : Jvm.MethodName) ({ cls := "HairProvince$Province", name := "person", desc := "(J)I" } : Jvm.MethodName)) ∈ lw_all := lw_g (lw_at lw_m4 23 rfl) rfl
theorem q918 : (Jvm.Cond.code ({ cls := "HairProvince$Province", name := "person", desc := "(J)I" } : Jvm.MethodName) prog_5_method_5_code (4 : Nat) (Option.some Jvm.ClassFile.FieldType.int)) ∈ lw_all := lw_g (lw_at lw_m4 24 rfl) rfl
theorem q924 : (Jvm.Cond.fieldLink "HairProvince$Province" (81 : Nat) "HairProvince$Word" "name" "J") ∈ lw_all := lw_g (lw_at lw_m4 30 rfl) rfl
theorem q931 : (Jvm.Cond.fieldLinkNest "HairProvince$Province" (147 : Nat) "HairProvince$Word" "halves" "I" "HairProvince") ∈ lw_tbl := lw_at lw_m4 37 rfl
theorem q984 : (Jvm.Cond.fieldLink "HairProvince$Province" (120 : Nat) "HairProvince$Dinner" "first" "I") ∈ lw_all := lw_g (lw_at lw_m4 90 rfl) rfl
theorem q987 : (Jvm.Cond.fieldLink "HairProvince$Province" (123 : Nat) "HairProvince$Dinner" "second" "I") ∈ lw_all := lw_g (lw_at lw_m4 93 rfl) rfl
theorem q990 : (Jvm.Cond.fieldLink "HairProvince$Province" (117 : Nat) "HairProvince$Dinner" "every" "I") ∈ lw_all := lw_g (lw_at lw_m4 96 rfl) rfl
theorem q1103 : (Jvm.Cond.instanceMethod ({ cls := "HairProvince$Province", name := "allHair", desc := "()I" } : Jvm.MethodName)) ∈ lw_all := lw_g (lw_at lw_m4 209 rfl) rfl
theorem q1104 : (Jvm.Cond.selects "HairProvince$Province" ({ cls := "HairProvince$Province", name := "allHair", desc := "()I" } : Jvm.MethodName) ({ cls := "HairProvince$Province", name := "allHair", desc := "()I" } : Jvm.MethodName)) ∈ lw_all := lw_g (lw_at lw_m4 210 rfl) rfl
theorem q1105 : (Jvm.Cond.code ({ cls := "HairProvince$Province", name := "allHair", desc := "()I" } : Jvm.MethodName) prog_5_method_8_code (3 : Nat) (Option.some Jvm.ClassFile.FieldType.int)) ∈ lw_all := lw_g (lw_at lw_m4 211 rfl) rfl
theorem q1106 : (Jvm.Cond.methodLink "HairProvince$Province" (96 : Nat) ({ cls := "HairProvince$Person", name := "hair", desc := "()I" } : Jvm.MethodName)) ∈ lw_all := lw_g (lw_at lw_m4 212 rfl) rfl
theorem q1120 : (Jvm.Cond.instanceMethod ({ cls := "HairProvince$Province", name := "peopleWith", desc := "(II)I" } : Jvm.MethodName)) ∈ lw_all := lw_g (lw_at lw_m4 226 rfl) rfl
theorem q1121 : (Jvm.Cond.selects "HairProvince$Province" ({ cls := "HairProvince$Province", name := "peopleWith", desc := "(II)I" } : Jvm.MethodName) ({ cls := "HairProvince$Province", name := "peopleWith", desc := "(II)I" } : Jvm.MethodName)) ∈ lw_all := lw_g (lw_at lw_m4 227 rfl) rfl
theorem q1122 : (Jvm.Cond.code ({ cls := "HairProvince$Province", name := "peopleWith", desc := "(II)I" } : Jvm.MethodName) prog_5_method_7_code (5 : Nat) (Option.some Jvm.ClassFile.FieldType.int)) ∈ lw_all := lw_g (lw_at lw_m4 228 rfl) rfl
theorem q1123 : (Jvm.Cond.methodLinkNest "HairProvince$Province" (92 : Nat) ({ cls := "HairProvince", name := "isIn", desc := "(II)Z" } : Jvm.MethodName) "HairProvince") ∈ lw_tbl := lw_at lw_m4 229 rfl
theorem q1175 : (Jvm.Cond.instanceMethod ({ cls := "HairProvince$Province", name := "days", desc := "(I)I" } : Jvm.MethodName)) ∈ lw_all := lw_g (lw_at lw_m5 41 rfl) rfl
theorem q1176 : (Jvm.Cond.selects "HairProvince$Province" ({ cls := "HairProvince$Province", name := "days", desc := "(I)I" } : Jvm.MethodName) ({ cls := "HairProvince$Province", name := "days", desc := "(I)I" } : Jvm.MethodName)) ∈ lw_all := lw_g (lw_at lw_m5 42 rfl) rfl
theorem q1177 : (Jvm.Cond.code ({ cls := "HairProvince$Province", name := "days", desc := "(I)I" } : Jvm.MethodName) prog_5_method_11_code (4 : Nat) (Option.some Jvm.ClassFile.FieldType.int)) ∈ lw_all := lw_g (lw_at lw_m5 43 rfl) rfl
theorem q1178 : (Jvm.Cond.methodLink "HairProvince$Province" (130 : Nat) ({ cls := "HairProvince$Province", name := "day", desc := "()V" } : Jvm.MethodName)) ∈ lw_all := lw_g (lw_at lw_m5 44 rfl) rfl
theorem q1179 : (Jvm.Cond.instanceMethod ({ cls := "HairProvince$Province", name := "day", desc := "()V" } : Jvm.MethodName)) ∈ lw_all := lw_g (lw_at lw_m5 45 rfl) rfl
theorem q1180 : (Jvm.Cond.selects "HairProvince$Province" ({ cls := "HairProvince$Province", name := "day", desc := "()V" } : Jvm.MethodName) ({ cls := "HairProvince$Province", name := "day", desc := "()V" } : Jvm.MethodName)) ∈ lw_all := lw_g (lw_at lw_m5 46 rfl) rfl
theorem q1181 : (Jvm.Cond.code ({ cls := "HairProvince$Province", name := "day", desc := "()V" } : Jvm.MethodName) prog_5_method_10_code (3 : Nat) (Option.none : Option Jvm.ClassFile.FieldType)) ∈ lw_all := lw_g (lw_at lw_m5 47 rfl) rfl
theorem q1182 : (Jvm.Cond.methodLink "HairProvince$Province" (113 : Nat) ({ cls := "HairProvince$Person", name := "grows", desc := "([LHairProvince$Word;)V" } : Jvm.MethodName)) ∈ lw_all := lw_g (lw_at lw_m5 48 rfl) rfl
theorem q1195 : (Jvm.Cond.methodLink "HairProvince$Province" (126 : Nat) ({ cls := "HairProvince$Province", name := "dines", desc := "(LHairProvince$Person;LHairProvince$Person;)V" } : Jvm.MethodName)) ∈ lw_all := lw_g (lw_at lw_m5 61 rfl) rfl
theorem q1196 : (Jvm.Cond.privateMethod ({ cls := "HairProvince$Province", name := "dines", desc := "(LHairProvince$Person;LHairProvince$Person;)V" } : Jvm.MethodName)) ∈ lw_tbl := lw_at lw_m5 62 rfl
theorem q1197 : (Jvm.Cond.instanceMethod ({ cls := "HairProvince$Province", name := "dines", desc := "(LHairProvince$Person;LHairProvince$Person;)V" } : Jvm.MethodName)) ∈ lw_all := lw_g (lw_at lw_m5 63 rfl) rfl
theorem q1198 : (Jvm.Cond.code ({ cls := "HairProvince$Province", name := "dines", desc := "(LHairProvince$Person;LHairProvince$Person;)V" } : Jvm.MethodName) prog_5_method_9_code (4 : Nat) (Option.none : Option Jvm.ClassFile.FieldType)) ∈ lw_all := lw_g (lw_at lw_m5 64 rfl) rfl
theorem q1199 : (Jvm.Cond.methodLink "HairProvince$Province" (103 : Nat) ({ cls := "HairProvince$Person", name := "longestOf", desc := "(I)I" } : Jvm.MethodName)) ∈ lw_all := lw_g (lw_at lw_m5 65 rfl) rfl
theorem q1200 : (Jvm.Cond.methodLink "HairProvince$Province" (107 : Nat) ({ cls := "HairProvince$Saying", name := "does", desc := "(LHairProvince$Person;ILHairProvince$Person;)V" } : Jvm.MethodName)) ∈ lw_all := lw_g (lw_at lw_m5 66 rfl) rfl
theorem q1218 : (Jvm.Cond.instanceMethod ({ cls := "HairProvince$Province", name := "says", desc := "(III)Z" } : Jvm.MethodName)) ∈ lw_all := lw_g (lw_at lw_m5 84 rfl) rfl
theorem q1219 : (Jvm.Cond.selects "HairProvince$Province" ({ cls := "HairProvince$Province", name := "says", desc := "(III)Z" } : Jvm.MethodName) ({ cls := "HairProvince$Province", name := "says", desc := "(III)Z" } : Jvm.MethodName)) ∈ lw_all := lw_g (lw_at lw_m5 85 rfl) rfl
theorem q1220 : (Jvm.Cond.code ({ cls := "HairProvince$Province", name := "says", desc := "(III)Z" } : Jvm.MethodName) prog_5_method_12_code (4 : Nat) (Option.some Jvm.ClassFile.FieldType.boolean)) ∈ lw_all := lw_g (lw_at lw_m5 86 rfl) rfl
theorem q1221 : (Jvm.Cond.methodLink "HairProvince$Province" (132 : Nat) ({ cls := "HairProvince$Saying", name := "can", desc := "(LHairProvince$Person;ILHairProvince$Person;)Z" } : Jvm.MethodName)) ∈ lw_all := lw_g (lw_at lw_m5 87 rfl) rfl
theorem q1245 : (Jvm.Cond.instanceMethod ({ cls := "HairProvince$Province", name := "cuts", desc := "(II)I" } : Jvm.MethodName)) ∈ lw_all := lw_g (lw_at lw_m5 111 rfl) rfl
theorem q1246 : (Jvm.Cond.selects "HairProvince$Province" ({ cls := "HairProvince$Province", name := "cuts", desc := "(II)I" } : Jvm.MethodName) ({ cls := "HairProvince$Province", name := "cuts", desc := "(II)I" } : Jvm.MethodName)) ∈ lw_all := lw_g (lw_at lw_m5 112 rfl) rfl
theorem q1247 : (Jvm.Cond.code ({ cls := "HairProvince$Province", name := "cuts", desc := "(II)I" } : Jvm.MethodName) prog_5_method_13_code (6 : Nat) (Option.some Jvm.ClassFile.FieldType.int)) ∈ lw_all := lw_g (lw_at lw_m5 113 rfl) rfl
theorem q1248 : (Jvm.Cond.methodLink "HairProvince$Province" (144 : Nat) ({ cls := "HairProvince$Person", name := "keeps", desc := "(I)Z" } : Jvm.MethodName)) ∈ lw_all := lw_g (lw_at lw_m5 114 rfl) rfl
theorem q1287 : (Jvm.Cond.instanceMethod ({ cls := "HairProvince$Province", name := "twin", desc := "()LHairProvince$Province;" } : Jvm.MethodName)) ∈ lw_all := lw_g (lw_at lw_m5 153 rfl) rfl
theorem q1288 : (Jvm.Cond.selects "HairProvince$Province" ({ cls := "HairProvince$Province", name := "twin", desc := "()LHairProvince$Province;" } : Jvm.MethodName) ({ cls := "HairProvince$Province", name := "twin", desc := "()LHairProvince$Province;" } : Jvm.MethodName)) ∈ lw_all := lw_g (lw_at lw_m5 154 rfl) rfl
theorem q1289 : (Jvm.Cond.code ({ cls := "HairProvince$Province", name := "twin", desc := "()LHairProvince$Province;" } : Jvm.MethodName) prog_5_method_2_code (3 : Nat) (Option.some (Jvm.ClassFile.FieldType.object "HairProvince$Province"))) ∈ lw_all := lw_g (lw_at lw_m5 155 rfl) rfl
theorem q1290 : (Jvm.Cond.classLink "HairProvince$Province" (12 : Nat) "HairProvince$Province") ∈ lw_all := lw_g (lw_at lw_m5 156 rfl) rfl
theorem q1291 : (Jvm.Cond.methodLink "HairProvince$Province" (40 : Nat) ({ cls := "HairProvince$Province", name := "<init>", desc := "(LHairProvince$Saying;)V" } : Jvm.MethodName)) ∈ lw_all := lw_g (lw_at lw_m5 157 rfl) rfl
theorem q1292 : (Jvm.Cond.methodLink "HairProvince$Province" (43 : Nat) ({ cls := "java/lang/System", name := "arraycopy", desc := "(Ljava/lang/Object;ILjava/lang/Object;II)V" } : Jvm.MethodName)) ∈ lw_all := lw_g (lw_at lw_m5 158 rfl) rfl
theorem q1293 : (Jvm.Cond.methodLink "HairProvince$Province" (52 : Nat) ({ cls := "HairProvince$Person", name := "twin", desc := "()LHairProvince$Person;" } : Jvm.MethodName)) ∈ lw_all := lw_g (lw_at lw_m5 159 rfl) rfl
theorem q1304 : (Jvm.Cond.methodLink "HairProvince$Province" (62 : Nat) ({ cls := "HairProvince$Province", name := "takes", desc := "(LHairProvince$Province;)LHairProvince$Province;" } : Jvm.MethodName)) ∈ lw_all := lw_g (lw_at lw_m5 170 rfl) rfl
theorem q1305 : (Jvm.Cond.instanceMethod ({ cls := "HairProvince$Province", name := "takes", desc := "(LHairProvince$Province;)LHairProvince$Province;" } : Jvm.MethodName)) ∈ lw_all := lw_g (lw_at lw_m5 171 rfl) rfl
theorem q1306 : (Jvm.Cond.selects "HairProvince$Province" ({ cls := "HairProvince$Province", name := "takes", desc := "(LHairProvince$Province;)LHairProvince$Province;" } : Jvm.MethodName) ({ cls := "HairProvince$Province", name := "takes", desc := "(LHairProvince$Province;)LHairProvince$Province;" } : Jvm.MethodName)) ∈ lw_all := lw_g (lw_at lw_m5 172 rfl) rfl
theorem q1307 : (Jvm.Cond.code ({ cls := "HairProvince$Province", name := "takes", desc := "(LHairProvince$Province;)LHairProvince$Province;" } : Jvm.MethodName) prog_5_method_3_code (3 : Nat) (Option.some (Jvm.ClassFile.FieldType.object "HairProvince$Province"))) ∈ lw_all := lw_g (lw_at lw_m5 173 rfl) rfl
theorem q1308 : (Jvm.Cond.methodLink "HairProvince$Province" (66 : Nat) ({ cls := "HairProvince$Person", name := "takes", desc := "(LHairProvince$Person;)LHairProvince$Person;" } : Jvm.MethodName)) ∈ lw_all := lw_g (lw_at lw_m5 174 rfl) rfl
theorem q1371 : (Jvm.Cond.instanceMethod ({ cls := "HairProvince$Province", name := "allWords", desc := "()I" } : Jvm.MethodName)) ∈ lw_all := lw_g (lw_at lw_m5 237 rfl) rfl
theorem q1372 : (Jvm.Cond.selects "HairProvince$Province" ({ cls := "HairProvince$Province", name := "allWords", desc := "()I" } : Jvm.MethodName) ({ cls := "HairProvince$Province", name := "allWords", desc := "()I" } : Jvm.MethodName)) ∈ lw_all := lw_g (lw_at lw_m5 238 rfl) rfl
theorem q1373 : (Jvm.Cond.code ({ cls := "HairProvince$Province", name := "allWords", desc := "()I" } : Jvm.MethodName) prog_5_method_6_code (1 : Nat) (Option.some Jvm.ClassFile.FieldType.int)) ∈ lw_all := lw_g (lw_at lw_m5 239 rfl) rfl
theorem q1428 : (Jvm.Cond.instanceMethod ({ cls := "HairProvince$Province", name := "haveHalves", desc := "(I)Z" } : Jvm.MethodName)) ∈ lw_all := lw_g (lw_at lw_m6 54 rfl) rfl
theorem q1429 : (Jvm.Cond.selects "HairProvince$Province" ({ cls := "HairProvince$Province", name := "haveHalves", desc := "(I)Z" } : Jvm.MethodName) ({ cls := "HairProvince$Province", name := "haveHalves", desc := "(I)Z" } : Jvm.MethodName)) ∈ lw_all := lw_g (lw_at lw_m6 55 rfl) rfl
theorem q1430 : (Jvm.Cond.code ({ cls := "HairProvince$Province", name := "haveHalves", desc := "(I)Z" } : Jvm.MethodName) prog_5_method_14_code (3 : Nat) (Option.some Jvm.ClassFile.FieldType.boolean)) ∈ lw_all := lw_g (lw_at lw_m6 56 rfl) rfl
theorem in_X6 : ∀ w ∈ wsX60, w ∈ lw_all := lw_in wsX60 [440, 442, 444, 446, 448, 450, 452, 454, 456, 458, 460, 462, 464] (by decide +kernel) (by decide +kernel)
/-! HairProvince$Tray -/
set_option maxRecDepth 100000
def RX7 : String := "HairProvince$Tray"
def TX7 : u_T := fun k => match k with
  | 0 => ("HairProvince$Tray", "row", "Ljava/lang/Object;", false)
  | _ => ("HairProvince$Tray", "sort", "I", false)
def tyX7 : Nat → FieldType := fun k => match k with
  | 0 => .object "java/lang/Object"
  | _ => .int
abbrev wsX70 : List Cond := u_ws RX7 TX7 2
theorem nmX7 : ∀ a, a < 2 → ∀ b, b < 2 → a ≠ b → (TX7 a).2.1 ≠ (TX7 b).2.1 := by decide +kernel
theorem tyX7_ok : ∀ k, k < 2 → parseFieldDescriptor (TX7 k).2.2.1 = some (tyX7 k) := by decide +kernel
abbrev cX7_init : ByteArray := prog_10_method_1_code
def yX7_init : MethodName := ⟨RX7, "<init>", "()V"⟩
theorem dX7_init_0 : decode cX7_init 0 = .ok (.aload_n 0, 1) := by decide +kernel
theorem dX7_init_1 : decode cX7_init 1 = .ok (.invokespecial 1, 3) := by decide +kernel
theorem dX7_init_4 : decode cX7_init 4 = .ok (.return_, 1) := by decide +kernel
abbrev cX7_make : ByteArray := prog_10_method_2_code
def yX7_make : MethodName := ⟨RX7, "make", "(II)V"⟩
def dkwX7_make_1 : List UInt8 := [160, 0, 9, 28, 188, 10, 167, 0, 6, 28, 188, 11, 78, 42, 45, 181, 0, 7, 42, 27, 181, 0, 13, 177]
abbrev dktX7_make_1 : List UInt8 := dkwX7_make_1 ++ []
def dkwX7_make_0 : List UInt8 := [27, 154, 0, 9, 28, 188, 8, 167, 0, 28, 27, 4, 160, 0, 9, 28, 188, 9, 167, 0, 17, 27, 5]
abbrev dktX7_make_0 : List UInt8 := dkwX7_make_0 ++ dktX7_make_1
theorem dksX7_make_0 : cX7_make.data.toList.drop 0 = dktX7_make_0 := by decide +kernel
theorem dksX7_make_1 : cX7_make.data.toList.drop 23 = dktX7_make_1 := dk_seg dksX7_make_0 23 rfl rfl
theorem dX7_make_0 : decode cX7_make 0 = .ok (.iload_n 1, 1) := dk_27 (dk_at dksX7_make_0 0 rfl rfl)
theorem dX7_make_1 : decode cX7_make 1 = .ok (.ifCond .ne 9, 3) := dk_154 0 9 (dk_at dksX7_make_0 1 rfl rfl)
theorem dX7_make_4 : decode cX7_make 4 = .ok (.iload_n 2, 1) := dk_28 (dk_at dksX7_make_0 4 rfl rfl)
theorem dX7_make_5 : decode cX7_make 5 = .ok (.newarray .byte, 2) := dk_188_8 (dk_at dksX7_make_0 5 rfl rfl)
theorem dX7_make_7 : decode cX7_make 7 = .ok (.goto 28, 3) := dk_167 0 28 (dk_at dksX7_make_0 7 rfl rfl)
theorem dX7_make_10 : decode cX7_make 10 = .ok (.iload_n 1, 1) := dk_27 (dk_at dksX7_make_0 10 rfl rfl)
theorem dX7_make_11 : decode cX7_make 11 = .ok (.iconst 1, 1) := dk_4 (dk_at dksX7_make_0 11 rfl rfl)
theorem dX7_make_12 : decode cX7_make 12 = .ok (.if_icmp .ne 9, 3) := dk_160 0 9 (dk_at dksX7_make_0 12 rfl rfl)
theorem dX7_make_15 : decode cX7_make 15 = .ok (.iload_n 2, 1) := dk_28 (dk_at dksX7_make_0 15 rfl rfl)
theorem dX7_make_16 : decode cX7_make 16 = .ok (.newarray .short, 2) := dk_188_9 (dk_at dksX7_make_0 16 rfl rfl)
theorem dX7_make_18 : decode cX7_make 18 = .ok (.goto 17, 3) := dk_167 0 17 (dk_at dksX7_make_0 18 rfl rfl)
theorem dX7_make_21 : decode cX7_make 21 = .ok (.iload_n 1, 1) := dk_27 (dk_at dksX7_make_0 21 rfl rfl)
theorem dX7_make_22 : decode cX7_make 22 = .ok (.iconst 2, 1) := dk_5 (dk_at dksX7_make_0 22 rfl rfl)
theorem dX7_make_23 : decode cX7_make 23 = .ok (.if_icmp .ne 9, 3) := dk_160 0 9 (dk_at dksX7_make_1 0 rfl rfl)
theorem dX7_make_26 : decode cX7_make 26 = .ok (.iload_n 2, 1) := dk_28 (dk_at dksX7_make_1 3 rfl rfl)
theorem dX7_make_27 : decode cX7_make 27 = .ok (.newarray .int, 2) := dk_188_10 (dk_at dksX7_make_1 4 rfl rfl)
theorem dX7_make_29 : decode cX7_make 29 = .ok (.goto 6, 3) := dk_167 0 6 (dk_at dksX7_make_1 6 rfl rfl)
theorem dX7_make_32 : decode cX7_make 32 = .ok (.iload_n 2, 1) := dk_28 (dk_at dksX7_make_1 9 rfl rfl)
theorem dX7_make_33 : decode cX7_make 33 = .ok (.newarray .long, 2) := dk_188_11 (dk_at dksX7_make_1 10 rfl rfl)
theorem dX7_make_35 : decode cX7_make 35 = .ok (.astore_n 3, 1) := dk_78 (dk_at dksX7_make_1 12 rfl rfl)
theorem dX7_make_36 : decode cX7_make 36 = .ok (.aload_n 0, 1) := dk_42 (dk_at dksX7_make_1 13 rfl rfl)
theorem dX7_make_37 : decode cX7_make 37 = .ok (.aload_n 3, 1) := dk_45 (dk_at dksX7_make_1 14 rfl rfl)
theorem dX7_make_38 : decode cX7_make 38 = .ok (.putfield 7, 3) := dk_181 0 7 (dk_at dksX7_make_1 15 rfl rfl)
theorem dX7_make_41 : decode cX7_make 41 = .ok (.aload_n 0, 1) := dk_42 (dk_at dksX7_make_1 18 rfl rfl)
theorem dX7_make_42 : decode cX7_make 42 = .ok (.iload_n 1, 1) := dk_27 (dk_at dksX7_make_1 19 rfl rfl)
theorem dX7_make_43 : decode cX7_make 43 = .ok (.putfield 13, 3) := dk_181 0 13 (dk_at dksX7_make_1 20 rfl rfl)
theorem dX7_make_46 : decode cX7_make 46 = .ok (.return_, 1) := dk_177 (dk_at dksX7_make_1 23 rfl rfl)
abbrev cX7_set : ByteArray := prog_10_method_5_code
def yX7_set : MethodName := ⟨RX7, "set", "(IJ)V"⟩
def dkwX7_set_3 : List UInt8 := [180, 0, 7, 192, 0, 23, 27, 32, 80, 177]
abbrev dktX7_set_3 : List UInt8 := dkwX7_set_3 ++ []
def dkwX7_set_2 : List UInt8 := [180, 0, 13, 5, 160, 0, 17, 42, 180, 0, 7, 192, 0, 21, 27, 32, 136, 79, 167, 0, 13, 42]
abbrev dktX7_set_2 : List UInt8 := dkwX7_set_2 ++ dktX7_set_3
def dkwX7_set_1 : List UInt8 := [180, 0, 13, 4, 160, 0, 18, 42, 180, 0, 7, 192, 0, 19, 27, 32, 136, 147, 86, 167, 0, 35, 42]
abbrev dktX7_set_1 : List UInt8 := dkwX7_set_1 ++ dktX7_set_2
def dkwX7_set_0 : List UInt8 := [42, 180, 0, 13, 154, 0, 18, 42, 180, 0, 7, 192, 0, 17, 27, 32, 136, 145, 84, 167, 0, 58, 42]
abbrev dktX7_set_0 : List UInt8 := dkwX7_set_0 ++ dktX7_set_1
theorem dksX7_set_0 : cX7_set.data.toList.drop 0 = dktX7_set_0 := by decide +kernel
theorem dksX7_set_1 : cX7_set.data.toList.drop 23 = dktX7_set_1 := dk_seg dksX7_set_0 23 rfl rfl
theorem dksX7_set_2 : cX7_set.data.toList.drop 46 = dktX7_set_2 := dk_seg dksX7_set_1 23 rfl rfl
theorem dksX7_set_3 : cX7_set.data.toList.drop 68 = dktX7_set_3 := dk_seg dksX7_set_2 22 rfl rfl
theorem dX7_set_0 : decode cX7_set 0 = .ok (.aload_n 0, 1) := dk_42 (dk_at dksX7_set_0 0 rfl rfl)
theorem dX7_set_1 : decode cX7_set 1 = .ok (.getfield 13, 3) := dk_180 0 13 (dk_at dksX7_set_0 1 rfl rfl)
theorem dX7_set_4 : decode cX7_set 4 = .ok (.ifCond .ne 18, 3) := dk_154 0 18 (dk_at dksX7_set_0 4 rfl rfl)
theorem dX7_set_7 : decode cX7_set 7 = .ok (.aload_n 0, 1) := dk_42 (dk_at dksX7_set_0 7 rfl rfl)
theorem dX7_set_8 : decode cX7_set 8 = .ok (.getfield 7, 3) := dk_180 0 7 (dk_at dksX7_set_0 8 rfl rfl)
theorem dX7_set_11 : decode cX7_set 11 = .ok (.checkcast 17, 3) := dk_192 0 17 (dk_at dksX7_set_0 11 rfl rfl)
theorem dX7_set_14 : decode cX7_set 14 = .ok (.iload_n 1, 1) := dk_27 (dk_at dksX7_set_0 14 rfl rfl)
theorem dX7_set_15 : decode cX7_set 15 = .ok (.lload_n 2, 1) := dk_32 (dk_at dksX7_set_0 15 rfl rfl)
theorem dX7_set_16 : decode cX7_set 16 = .ok (.l2i, 1) := dk_136 (dk_at dksX7_set_0 16 rfl rfl)
theorem dX7_set_17 : decode cX7_set 17 = .ok (.i2b, 1) := dk_145 (dk_at dksX7_set_0 17 rfl rfl)
theorem dX7_set_18 : decode cX7_set 18 = .ok (.bastore, 1) := dk_84 (dk_at dksX7_set_0 18 rfl rfl)
theorem dX7_set_19 : decode cX7_set 19 = .ok (.goto 58, 3) := dk_167 0 58 (dk_at dksX7_set_0 19 rfl rfl)
theorem dX7_set_22 : decode cX7_set 22 = .ok (.aload_n 0, 1) := dk_42 (dk_at dksX7_set_0 22 rfl rfl)
theorem dX7_set_23 : decode cX7_set 23 = .ok (.getfield 13, 3) := dk_180 0 13 (dk_at dksX7_set_1 0 rfl rfl)
theorem dX7_set_26 : decode cX7_set 26 = .ok (.iconst 1, 1) := dk_4 (dk_at dksX7_set_1 3 rfl rfl)
theorem dX7_set_27 : decode cX7_set 27 = .ok (.if_icmp .ne 18, 3) := dk_160 0 18 (dk_at dksX7_set_1 4 rfl rfl)
theorem dX7_set_30 : decode cX7_set 30 = .ok (.aload_n 0, 1) := dk_42 (dk_at dksX7_set_1 7 rfl rfl)
theorem dX7_set_31 : decode cX7_set 31 = .ok (.getfield 7, 3) := dk_180 0 7 (dk_at dksX7_set_1 8 rfl rfl)
theorem dX7_set_34 : decode cX7_set 34 = .ok (.checkcast 19, 3) := dk_192 0 19 (dk_at dksX7_set_1 11 rfl rfl)
theorem dX7_set_37 : decode cX7_set 37 = .ok (.iload_n 1, 1) := dk_27 (dk_at dksX7_set_1 14 rfl rfl)
theorem dX7_set_38 : decode cX7_set 38 = .ok (.lload_n 2, 1) := dk_32 (dk_at dksX7_set_1 15 rfl rfl)
theorem dX7_set_39 : decode cX7_set 39 = .ok (.l2i, 1) := dk_136 (dk_at dksX7_set_1 16 rfl rfl)
theorem dX7_set_40 : decode cX7_set 40 = .ok (.i2s, 1) := dk_147 (dk_at dksX7_set_1 17 rfl rfl)
theorem dX7_set_41 : decode cX7_set 41 = .ok (.sastore, 1) := dk_86 (dk_at dksX7_set_1 18 rfl rfl)
theorem dX7_set_42 : decode cX7_set 42 = .ok (.goto 35, 3) := dk_167 0 35 (dk_at dksX7_set_1 19 rfl rfl)
theorem dX7_set_45 : decode cX7_set 45 = .ok (.aload_n 0, 1) := dk_42 (dk_at dksX7_set_1 22 rfl rfl)
theorem dX7_set_46 : decode cX7_set 46 = .ok (.getfield 13, 3) := dk_180 0 13 (dk_at dksX7_set_2 0 rfl rfl)
theorem dX7_set_49 : decode cX7_set 49 = .ok (.iconst 2, 1) := dk_5 (dk_at dksX7_set_2 3 rfl rfl)
theorem dX7_set_50 : decode cX7_set 50 = .ok (.if_icmp .ne 17, 3) := dk_160 0 17 (dk_at dksX7_set_2 4 rfl rfl)
theorem dX7_set_53 : decode cX7_set 53 = .ok (.aload_n 0, 1) := dk_42 (dk_at dksX7_set_2 7 rfl rfl)
theorem dX7_set_54 : decode cX7_set 54 = .ok (.getfield 7, 3) := dk_180 0 7 (dk_at dksX7_set_2 8 rfl rfl)
theorem dX7_set_57 : decode cX7_set 57 = .ok (.checkcast 21, 3) := dk_192 0 21 (dk_at dksX7_set_2 11 rfl rfl)
theorem dX7_set_60 : decode cX7_set 60 = .ok (.iload_n 1, 1) := dk_27 (dk_at dksX7_set_2 14 rfl rfl)
theorem dX7_set_61 : decode cX7_set 61 = .ok (.lload_n 2, 1) := dk_32 (dk_at dksX7_set_2 15 rfl rfl)
theorem dX7_set_62 : decode cX7_set 62 = .ok (.l2i, 1) := dk_136 (dk_at dksX7_set_2 16 rfl rfl)
theorem dX7_set_63 : decode cX7_set 63 = .ok (.iastore, 1) := dk_79 (dk_at dksX7_set_2 17 rfl rfl)
theorem dX7_set_64 : decode cX7_set 64 = .ok (.goto 13, 3) := dk_167 0 13 (dk_at dksX7_set_2 18 rfl rfl)
theorem dX7_set_67 : decode cX7_set 67 = .ok (.aload_n 0, 1) := dk_42 (dk_at dksX7_set_2 21 rfl rfl)
theorem dX7_set_68 : decode cX7_set 68 = .ok (.getfield 7, 3) := dk_180 0 7 (dk_at dksX7_set_3 0 rfl rfl)
theorem dX7_set_71 : decode cX7_set 71 = .ok (.checkcast 23, 3) := dk_192 0 23 (dk_at dksX7_set_3 3 rfl rfl)
theorem dX7_set_74 : decode cX7_set 74 = .ok (.iload_n 1, 1) := dk_27 (dk_at dksX7_set_3 6 rfl rfl)
theorem dX7_set_75 : decode cX7_set 75 = .ok (.lload_n 2, 1) := dk_32 (dk_at dksX7_set_3 7 rfl rfl)
theorem dX7_set_76 : decode cX7_set 76 = .ok (.lastore, 1) := dk_80 (dk_at dksX7_set_3 8 rfl rfl)
theorem dX7_set_77 : decode cX7_set 77 = .ok (.return_, 1) := dk_177 (dk_at dksX7_set_3 9 rfl rfl)
abbrev cX7_get : ByteArray := prog_10_method_4_code
def yX7_get : MethodName := ⟨RX7, "get", "(I)J"⟩
def dkwX7_get_3 : List UInt8 := [47, 173]
abbrev dktX7_get_3 : List UInt8 := dkwX7_get_3 ++ []
def dkwX7_get_2 : List UInt8 := [160, 0, 16, 42, 180, 0, 7, 192, 0, 21, 27, 46, 133, 167, 0, 12, 42, 180, 0, 7, 192, 0, 23, 27]
abbrev dktX7_get_2 : List UInt8 := dkwX7_get_2 ++ dktX7_get_3
def dkwX7_get_1 : List UInt8 := [4, 160, 0, 16, 42, 180, 0, 7, 192, 0, 19, 27, 53, 133, 167, 0, 33, 42, 180, 0, 13, 5]
abbrev dktX7_get_1 : List UInt8 := dkwX7_get_1 ++ dktX7_get_2
def dkwX7_get_0 : List UInt8 := [42, 180, 0, 13, 154, 0, 16, 42, 180, 0, 7, 192, 0, 17, 27, 51, 133, 167, 0, 54, 42, 180, 0, 13]
abbrev dktX7_get_0 : List UInt8 := dkwX7_get_0 ++ dktX7_get_1
theorem dksX7_get_0 : cX7_get.data.toList.drop 0 = dktX7_get_0 := by decide +kernel
theorem dksX7_get_1 : cX7_get.data.toList.drop 24 = dktX7_get_1 := dk_seg dksX7_get_0 24 rfl rfl
theorem dksX7_get_2 : cX7_get.data.toList.drop 46 = dktX7_get_2 := dk_seg dksX7_get_1 22 rfl rfl
theorem dksX7_get_3 : cX7_get.data.toList.drop 70 = dktX7_get_3 := dk_seg dksX7_get_2 24 rfl rfl
theorem dX7_get_0 : decode cX7_get 0 = .ok (.aload_n 0, 1) := dk_42 (dk_at dksX7_get_0 0 rfl rfl)
theorem dX7_get_1 : decode cX7_get 1 = .ok (.getfield 13, 3) := dk_180 0 13 (dk_at dksX7_get_0 1 rfl rfl)
theorem dX7_get_4 : decode cX7_get 4 = .ok (.ifCond .ne 16, 3) := dk_154 0 16 (dk_at dksX7_get_0 4 rfl rfl)
theorem dX7_get_7 : decode cX7_get 7 = .ok (.aload_n 0, 1) := dk_42 (dk_at dksX7_get_0 7 rfl rfl)
theorem dX7_get_8 : decode cX7_get 8 = .ok (.getfield 7, 3) := dk_180 0 7 (dk_at dksX7_get_0 8 rfl rfl)
theorem dX7_get_11 : decode cX7_get 11 = .ok (.checkcast 17, 3) := dk_192 0 17 (dk_at dksX7_get_0 11 rfl rfl)
theorem dX7_get_14 : decode cX7_get 14 = .ok (.iload_n 1, 1) := dk_27 (dk_at dksX7_get_0 14 rfl rfl)
theorem dX7_get_15 : decode cX7_get 15 = .ok (.baload, 1) := dk_51 (dk_at dksX7_get_0 15 rfl rfl)
theorem dX7_get_16 : decode cX7_get 16 = .ok (.i2l, 1) := dk_133 (dk_at dksX7_get_0 16 rfl rfl)
theorem dX7_get_17 : decode cX7_get 17 = .ok (.goto 54, 3) := dk_167 0 54 (dk_at dksX7_get_0 17 rfl rfl)
theorem dX7_get_20 : decode cX7_get 20 = .ok (.aload_n 0, 1) := dk_42 (dk_at dksX7_get_0 20 rfl rfl)
theorem dX7_get_21 : decode cX7_get 21 = .ok (.getfield 13, 3) := dk_180 0 13 (dk_at dksX7_get_0 21 rfl rfl)
theorem dX7_get_24 : decode cX7_get 24 = .ok (.iconst 1, 1) := dk_4 (dk_at dksX7_get_1 0 rfl rfl)
theorem dX7_get_25 : decode cX7_get 25 = .ok (.if_icmp .ne 16, 3) := dk_160 0 16 (dk_at dksX7_get_1 1 rfl rfl)
theorem dX7_get_28 : decode cX7_get 28 = .ok (.aload_n 0, 1) := dk_42 (dk_at dksX7_get_1 4 rfl rfl)
theorem dX7_get_29 : decode cX7_get 29 = .ok (.getfield 7, 3) := dk_180 0 7 (dk_at dksX7_get_1 5 rfl rfl)
theorem dX7_get_32 : decode cX7_get 32 = .ok (.checkcast 19, 3) := dk_192 0 19 (dk_at dksX7_get_1 8 rfl rfl)
theorem dX7_get_35 : decode cX7_get 35 = .ok (.iload_n 1, 1) := dk_27 (dk_at dksX7_get_1 11 rfl rfl)
theorem dX7_get_36 : decode cX7_get 36 = .ok (.saload, 1) := dk_53 (dk_at dksX7_get_1 12 rfl rfl)
theorem dX7_get_37 : decode cX7_get 37 = .ok (.i2l, 1) := dk_133 (dk_at dksX7_get_1 13 rfl rfl)
theorem dX7_get_38 : decode cX7_get 38 = .ok (.goto 33, 3) := dk_167 0 33 (dk_at dksX7_get_1 14 rfl rfl)
theorem dX7_get_41 : decode cX7_get 41 = .ok (.aload_n 0, 1) := dk_42 (dk_at dksX7_get_1 17 rfl rfl)
theorem dX7_get_42 : decode cX7_get 42 = .ok (.getfield 13, 3) := dk_180 0 13 (dk_at dksX7_get_1 18 rfl rfl)
theorem dX7_get_45 : decode cX7_get 45 = .ok (.iconst 2, 1) := dk_5 (dk_at dksX7_get_1 21 rfl rfl)
theorem dX7_get_46 : decode cX7_get 46 = .ok (.if_icmp .ne 16, 3) := dk_160 0 16 (dk_at dksX7_get_2 0 rfl rfl)
theorem dX7_get_49 : decode cX7_get 49 = .ok (.aload_n 0, 1) := dk_42 (dk_at dksX7_get_2 3 rfl rfl)
theorem dX7_get_50 : decode cX7_get 50 = .ok (.getfield 7, 3) := dk_180 0 7 (dk_at dksX7_get_2 4 rfl rfl)
theorem dX7_get_53 : decode cX7_get 53 = .ok (.checkcast 21, 3) := dk_192 0 21 (dk_at dksX7_get_2 7 rfl rfl)
theorem dX7_get_56 : decode cX7_get 56 = .ok (.iload_n 1, 1) := dk_27 (dk_at dksX7_get_2 10 rfl rfl)
theorem dX7_get_57 : decode cX7_get 57 = .ok (.iaload, 1) := dk_46 (dk_at dksX7_get_2 11 rfl rfl)
theorem dX7_get_58 : decode cX7_get 58 = .ok (.i2l, 1) := dk_133 (dk_at dksX7_get_2 12 rfl rfl)
theorem dX7_get_59 : decode cX7_get 59 = .ok (.goto 12, 3) := dk_167 0 12 (dk_at dksX7_get_2 13 rfl rfl)
theorem dX7_get_62 : decode cX7_get 62 = .ok (.aload_n 0, 1) := dk_42 (dk_at dksX7_get_2 16 rfl rfl)
theorem dX7_get_63 : decode cX7_get 63 = .ok (.getfield 7, 3) := dk_180 0 7 (dk_at dksX7_get_2 17 rfl rfl)
theorem dX7_get_66 : decode cX7_get 66 = .ok (.checkcast 23, 3) := dk_192 0 23 (dk_at dksX7_get_2 20 rfl rfl)
theorem dX7_get_69 : decode cX7_get 69 = .ok (.iload_n 1, 1) := dk_27 (dk_at dksX7_get_2 23 rfl rfl)
theorem dX7_get_70 : decode cX7_get 70 = .ok (.laload, 1) := dk_47 (dk_at dksX7_get_3 0 rfl rfl)
theorem dX7_get_71 : decode cX7_get 71 = .ok (.lreturn, 1) := dk_173 (dk_at dksX7_get_3 1 rfl rfl)
abbrev cX7_many : ByteArray := prog_10_method_3_code
def yX7_many : MethodName := ⟨RX7, "many", "()I"⟩
def dkwX7_many_2 : List UInt8 := [180, 0, 7, 192, 0, 21, 190, 167, 0, 11, 42, 180, 0, 7, 192, 0, 23, 190, 172]
abbrev dktX7_many_2 : List UInt8 := dkwX7_many_2 ++ []
def dkwX7_many_1 : List UInt8 := [160, 0, 14, 42, 180, 0, 7, 192, 0, 19, 190, 167, 0, 30, 42, 180, 0, 13, 5, 160, 0, 14, 42]
abbrev dktX7_many_1 : List UInt8 := dkwX7_many_1 ++ dktX7_many_2
def dkwX7_many_0 : List UInt8 := [42, 180, 0, 13, 154, 0, 14, 42, 180, 0, 7, 192, 0, 17, 190, 167, 0, 49, 42, 180, 0, 13, 4]
abbrev dktX7_many_0 : List UInt8 := dkwX7_many_0 ++ dktX7_many_1
theorem dksX7_many_0 : cX7_many.data.toList.drop 0 = dktX7_many_0 := by decide +kernel
theorem dksX7_many_1 : cX7_many.data.toList.drop 23 = dktX7_many_1 := dk_seg dksX7_many_0 23 rfl rfl
theorem dksX7_many_2 : cX7_many.data.toList.drop 46 = dktX7_many_2 := dk_seg dksX7_many_1 23 rfl rfl
theorem dX7_many_0 : decode cX7_many 0 = .ok (.aload_n 0, 1) := dk_42 (dk_at dksX7_many_0 0 rfl rfl)
theorem dX7_many_1 : decode cX7_many 1 = .ok (.getfield 13, 3) := dk_180 0 13 (dk_at dksX7_many_0 1 rfl rfl)
theorem dX7_many_4 : decode cX7_many 4 = .ok (.ifCond .ne 14, 3) := dk_154 0 14 (dk_at dksX7_many_0 4 rfl rfl)
theorem dX7_many_7 : decode cX7_many 7 = .ok (.aload_n 0, 1) := dk_42 (dk_at dksX7_many_0 7 rfl rfl)
theorem dX7_many_8 : decode cX7_many 8 = .ok (.getfield 7, 3) := dk_180 0 7 (dk_at dksX7_many_0 8 rfl rfl)
theorem dX7_many_11 : decode cX7_many 11 = .ok (.checkcast 17, 3) := dk_192 0 17 (dk_at dksX7_many_0 11 rfl rfl)
theorem dX7_many_14 : decode cX7_many 14 = .ok (.arraylength, 1) := dk_190 (dk_at dksX7_many_0 14 rfl rfl)
theorem dX7_many_15 : decode cX7_many 15 = .ok (.goto 49, 3) := dk_167 0 49 (dk_at dksX7_many_0 15 rfl rfl)
theorem dX7_many_18 : decode cX7_many 18 = .ok (.aload_n 0, 1) := dk_42 (dk_at dksX7_many_0 18 rfl rfl)
theorem dX7_many_19 : decode cX7_many 19 = .ok (.getfield 13, 3) := dk_180 0 13 (dk_at dksX7_many_0 19 rfl rfl)
theorem dX7_many_22 : decode cX7_many 22 = .ok (.iconst 1, 1) := dk_4 (dk_at dksX7_many_0 22 rfl rfl)
theorem dX7_many_23 : decode cX7_many 23 = .ok (.if_icmp .ne 14, 3) := dk_160 0 14 (dk_at dksX7_many_1 0 rfl rfl)
theorem dX7_many_26 : decode cX7_many 26 = .ok (.aload_n 0, 1) := dk_42 (dk_at dksX7_many_1 3 rfl rfl)
theorem dX7_many_27 : decode cX7_many 27 = .ok (.getfield 7, 3) := dk_180 0 7 (dk_at dksX7_many_1 4 rfl rfl)
theorem dX7_many_30 : decode cX7_many 30 = .ok (.checkcast 19, 3) := dk_192 0 19 (dk_at dksX7_many_1 7 rfl rfl)
theorem dX7_many_33 : decode cX7_many 33 = .ok (.arraylength, 1) := dk_190 (dk_at dksX7_many_1 10 rfl rfl)
theorem dX7_many_34 : decode cX7_many 34 = .ok (.goto 30, 3) := dk_167 0 30 (dk_at dksX7_many_1 11 rfl rfl)
theorem dX7_many_37 : decode cX7_many 37 = .ok (.aload_n 0, 1) := dk_42 (dk_at dksX7_many_1 14 rfl rfl)
theorem dX7_many_38 : decode cX7_many 38 = .ok (.getfield 13, 3) := dk_180 0 13 (dk_at dksX7_many_1 15 rfl rfl)
theorem dX7_many_41 : decode cX7_many 41 = .ok (.iconst 2, 1) := dk_5 (dk_at dksX7_many_1 18 rfl rfl)
theorem dX7_many_42 : decode cX7_many 42 = .ok (.if_icmp .ne 14, 3) := dk_160 0 14 (dk_at dksX7_many_1 19 rfl rfl)
theorem dX7_many_45 : decode cX7_many 45 = .ok (.aload_n 0, 1) := dk_42 (dk_at dksX7_many_1 22 rfl rfl)
theorem dX7_many_46 : decode cX7_many 46 = .ok (.getfield 7, 3) := dk_180 0 7 (dk_at dksX7_many_2 0 rfl rfl)
theorem dX7_many_49 : decode cX7_many 49 = .ok (.checkcast 21, 3) := dk_192 0 21 (dk_at dksX7_many_2 3 rfl rfl)
theorem dX7_many_52 : decode cX7_many 52 = .ok (.arraylength, 1) := dk_190 (dk_at dksX7_many_2 6 rfl rfl)
theorem dX7_many_53 : decode cX7_many 53 = .ok (.goto 11, 3) := dk_167 0 11 (dk_at dksX7_many_2 7 rfl rfl)
theorem dX7_many_56 : decode cX7_many 56 = .ok (.aload_n 0, 1) := dk_42 (dk_at dksX7_many_2 10 rfl rfl)
theorem dX7_many_57 : decode cX7_many 57 = .ok (.getfield 7, 3) := dk_180 0 7 (dk_at dksX7_many_2 11 rfl rfl)
theorem dX7_many_60 : decode cX7_many 60 = .ok (.checkcast 23, 3) := dk_192 0 23 (dk_at dksX7_many_2 14 rfl rfl)
theorem dX7_many_63 : decode cX7_many 63 = .ok (.arraylength, 1) := dk_190 (dk_at dksX7_many_2 17 rfl rfl)
theorem dX7_many_64 : decode cX7_many 64 = .ok (.ireturn, 1) := dk_172 (dk_at dksX7_many_2 18 rfl rfl)
theorem q185 : (Jvm.Cond.initialized "HairProvince$Tray") ∈ lw_all := lw_g (lw_at lw_m1 11 rfl) rfl
theorem q470 : (Jvm.Cond.instantiable "HairProvince$Tray" (2 : Nat)) ∈ lw_all := lw_g (lw_at lw_m2 56 rfl) rfl
theorem q472 : (Jvm.Cond.instanceMethod ({ cls := "HairProvince$Tray", name := "<init>", desc := "()V" } : Jvm.MethodName)) ∈ lw_all := lw_g (lw_at lw_m2 58 rfl) rfl
theorem q473 : (Jvm.Cond.code ({ cls := "HairProvince$Tray", name := "<init>", desc := "()V" } : Jvm.MethodName) prog_10_method_1_code (1 : Nat) (Option.none : Option Jvm.ClassFile.FieldType)) ∈ lw_all := lw_g (lw_at lw_m2 59 rfl) rfl
theorem q474 : (Jvm.Cond.methodLink "HairProvince$Tray" (1 : Nat) ({ cls := "java/lang/Object", name := "<init>", desc := "()V" } : Jvm.MethodName)) ∈ lw_all := lw_g (lw_at lw_m2 60 rfl) rfl
theorem q475 : (Jvm.Cond.fieldLink "HairProvince$Tray" (7 : Nat) "HairProvince$Tray" "row" "Ljava/lang/Object;") ∈ lw_all := lw_g (lw_at lw_m2 61 rfl) rfl
theorem q477 : (Jvm.Cond.fieldLink "HairProvince$Tray" (13 : Nat) "HairProvince$Tray" "sort" "I") ∈ lw_all := lw_g (lw_at lw_m2 63 rfl) rfl
theorem q479 : (Jvm.Cond.lays "HairProvince$Tray" "HairProvince$Tray" "row" "Ljava/lang/Object;") ∈ lw_all := lw_g (lw_at lw_m2 65 rfl) rfl
theorem q480 : (Jvm.Cond.soleField "HairProvince$Tray" "row") ∈ lw_all := lw_g (lw_at lw_m2 66 rfl) rfl
theorem q481 : (Jvm.Cond.lays "HairProvince$Tray" "HairProvince$Tray" "sort" "I") ∈ lw_all := lw_g (lw_at lw_m2 67 rfl) rfl
theorem q482 : (Jvm.Cond.soleField "HairProvince$Tray" "sort") ∈ lw_all := lw_g (lw_at lw_m2 68 rfl) rfl
theorem q483 : (Jvm.Cond.superclass "HairProvince$Tray" "java/lang/Object") ∈ lw_all := lw_g (lw_at lw_m2 69 rfl) rfl
theorem q657 : (Jvm.Cond.instanceMethod ({ cls := "HairProvince$Tray", name := "make", desc := "(II)V" } : Jvm.MethodName)) ∈ lw_all := lw_g (lw_at lw_m3 3 rfl) rfl
theorem q658 : (Jvm.Cond.selects "HairProvince$Tray" ({ cls := "HairProvince$Tray", name := "make", desc := "(II)V" } : Jvm.MethodName) ({ cls := "HairProvince$Tray", name := "make", desc := "(II)V" } : Jvm.MethodName)) ∈ lw_all := lw_g (lw_at lw_m3 4 rfl) rfl
theorem q659 : (Jvm.Cond.code ({ cls := "HairProvince$Tray", name := "make", desc := "(II)V" } : Jvm.MethodName) prog_10_method_2_code (4 : Nat) (Option.none : Option Jvm.ClassFile.FieldType)) ∈ lw_all := lw_g (lw_at lw_m3 5 rfl) rfl
theorem q711 : (Jvm.Cond.instanceMethod ({ cls := "HairProvince$Tray", name := "set", desc := "(IJ)V" } : Jvm.MethodName)) ∈ lw_all := lw_g (lw_at lw_m3 57 rfl) rfl
theorem q712 : (Jvm.Cond.selects "HairProvince$Tray" ({ cls := "HairProvince$Tray", name := "set", desc := "(IJ)V" } : Jvm.MethodName) ({ cls := "HairProvince$Tray", name := "set", desc := "(IJ)V" } : Jvm.MethodName)) ∈ lw_all := lw_g (lw_at lw_m3 58 rfl) rfl
theorem q713 : (Jvm.Cond.code ({ cls := "HairProvince$Tray", name := "set", desc := "(IJ)V" } : Jvm.MethodName) prog_10_method_5_code (4 : Nat) (Option.none : Option Jvm.ClassFile.FieldType)) ∈ lw_all := lw_g (lw_at lw_m3 59 rfl) rfl
theorem q714 : (Jvm.Cond.classLink "HairProvince$Tray" (17 : Nat) "[B") ∈ lw_all := lw_g (lw_at lw_m3 60 rfl) rfl
theorem q715 : (Jvm.Cond.classLink "HairProvince$Tray" (19 : Nat) "[S") ∈ lw_all := lw_g (lw_at lw_m3 61 rfl) rfl
theorem q716 : (Jvm.Cond.classLink "HairProvince$Tray" (21 : Nat) "[I") ∈ lw_all := lw_g (lw_at lw_m3 62 rfl) rfl
theorem q717 : (Jvm.Cond.classLink "HairProvince$Tray" (23 : Nat) "[J") ∈ lw_all := lw_g (lw_at lw_m3 63 rfl) rfl
theorem q727 : (Jvm.Cond.instanceMethod ({ cls := "HairProvince$Tray", name := "get", desc := "(I)J" } : Jvm.MethodName)) ∈ lw_all := lw_g (lw_at lw_m3 73 rfl) rfl
theorem q728 : (Jvm.Cond.selects "HairProvince$Tray" ({ cls := "HairProvince$Tray", name := "get", desc := "(I)J" } : Jvm.MethodName) ({ cls := "HairProvince$Tray", name := "get", desc := "(I)J" } : Jvm.MethodName)) ∈ lw_all := lw_g (lw_at lw_m3 74 rfl) rfl
theorem q729 : (Jvm.Cond.code ({ cls := "HairProvince$Tray", name := "get", desc := "(I)J" } : Jvm.MethodName) prog_10_method_4_code (2 : Nat) (Option.some Jvm.ClassFile.FieldType.long)) ∈ lw_all := lw_g (lw_at lw_m3 75 rfl) rfl
theorem q1166 : (Jvm.Cond.instanceMethod ({ cls := "HairProvince$Tray", name := "many", desc := "()I" } : Jvm.MethodName)) ∈ lw_all := lw_g (lw_at lw_m5 32 rfl) rfl
theorem q1167 : (Jvm.Cond.selects "HairProvince$Tray" ({ cls := "HairProvince$Tray", name := "many", desc := "()I" } : Jvm.MethodName) ({ cls := "HairProvince$Tray", name := "many", desc := "()I" } : Jvm.MethodName)) ∈ lw_all := lw_g (lw_at lw_m5 33 rfl) rfl
theorem q1168 : (Jvm.Cond.code ({ cls := "HairProvince$Tray", name := "many", desc := "()I" } : Jvm.MethodName) prog_10_method_3_code (1 : Nat) (Option.some Jvm.ClassFile.FieldType.int)) ∈ lw_all := lw_g (lw_at lw_m5 34 rfl) rfl
theorem in_X7 : ∀ w ∈ wsX70, w ∈ lw_all := lw_in wsX70 [479, 481] (by decide +kernel) (by decide +kernel)
/-! HairProvince$Person -/
set_option maxRecDepth 100000
def RX8 : String := "HairProvince$Person"
def TX8 : u_T := fun k => match k with
  | 0 => ("HairProvince$Person", "name", "J", true)
  | 1 => ("HairProvince$Person", "length", "[I", true)
  | 2 => ("HairProvince$Person", "age", "[I", true)
  | 3 => ("HairProvince$Person", "temper", "I", false)
  | 4 => ("HairProvince$Person", "knows", "I", false)
  | 5 => ("HairProvince$Person", "keeps", "I", false)
  | _ => ("HairProvince$Person", "barber", "Z", false)
def tyX8 : Nat → FieldType := fun k => match k with
  | 0 => .long
  | 1 => .array .int
  | 2 => .array .int
  | 3 => .int
  | 4 => .int
  | 5 => .int
  | _ => .boolean
abbrev wsX80 : List Cond := u_ws RX8 TX8 7
theorem nmX8 : ∀ a, a < 7 → ∀ b, b < 7 → a ≠ b → (TX8 a).2.1 ≠ (TX8 b).2.1 := by decide +kernel
theorem tyX8_ok : ∀ k, k < 7 → parseFieldDescriptor (TX8 k).2.2.1 = some (tyX8 k) := by decide +kernel
abbrev cX8_init : ByteArray := prog_4_method_1_code
def yX8_init : MethodName := ⟨RX8, "<init>", "(J)V"⟩
def dkwX8_init_1 : List UInt8 := [181, 0, 18, 42, 31, 181, 0, 22, 177]
abbrev dktX8_init_1 : List UInt8 := dkwX8_init_1 ++ []
def dkwX8_init_0 : List UInt8 := [42, 183, 0, 3, 42, 16, 8, 188, 10, 181, 0, 9, 42, 16, 8, 188, 10, 181, 0, 15, 42, 16, 50]
abbrev dktX8_init_0 : List UInt8 := dkwX8_init_0 ++ dktX8_init_1
theorem dksX8_init_0 : cX8_init.data.toList.drop 0 = dktX8_init_0 := by decide +kernel
theorem dksX8_init_1 : cX8_init.data.toList.drop 23 = dktX8_init_1 := dk_seg dksX8_init_0 23 rfl rfl
theorem dX8_init_0 : decode cX8_init 0 = .ok (.aload_n 0, 1) := dk_42 (dk_at dksX8_init_0 0 rfl rfl)
theorem dX8_init_1 : decode cX8_init 1 = .ok (.invokespecial 3, 3) := dk_183 0 3 (dk_at dksX8_init_0 1 rfl rfl)
theorem dX8_init_4 : decode cX8_init 4 = .ok (.aload_n 0, 1) := dk_42 (dk_at dksX8_init_0 4 rfl rfl)
theorem dX8_init_5 : decode cX8_init 5 = .ok (.bipush 8, 2) := dk_16 8 (dk_at dksX8_init_0 5 rfl rfl)
theorem dX8_init_7 : decode cX8_init 7 = .ok (.newarray .int, 2) := dk_188_10 (dk_at dksX8_init_0 7 rfl rfl)
theorem dX8_init_9 : decode cX8_init 9 = .ok (.putfield 9, 3) := dk_181 0 9 (dk_at dksX8_init_0 9 rfl rfl)
theorem dX8_init_12 : decode cX8_init 12 = .ok (.aload_n 0, 1) := dk_42 (dk_at dksX8_init_0 12 rfl rfl)
theorem dX8_init_13 : decode cX8_init 13 = .ok (.bipush 8, 2) := dk_16 8 (dk_at dksX8_init_0 13 rfl rfl)
theorem dX8_init_15 : decode cX8_init 15 = .ok (.newarray .int, 2) := dk_188_10 (dk_at dksX8_init_0 15 rfl rfl)
theorem dX8_init_17 : decode cX8_init 17 = .ok (.putfield 15, 3) := dk_181 0 15 (dk_at dksX8_init_0 17 rfl rfl)
theorem dX8_init_20 : decode cX8_init 20 = .ok (.aload_n 0, 1) := dk_42 (dk_at dksX8_init_0 20 rfl rfl)
theorem dX8_init_21 : decode cX8_init 21 = .ok (.bipush 50, 2) := dk_16 50 (dk_at dksX8_init_0 21 rfl rfl)
theorem dX8_init_23 : decode cX8_init 23 = .ok (.putfield 18, 3) := dk_181 0 18 (dk_at dksX8_init_1 0 rfl rfl)
theorem dX8_init_26 : decode cX8_init 26 = .ok (.aload_n 0, 1) := dk_42 (dk_at dksX8_init_1 3 rfl rfl)
theorem dX8_init_27 : decode cX8_init 27 = .ok (.lload_n 1, 1) := dk_31 (dk_at dksX8_init_1 4 rfl rfl)
theorem dX8_init_28 : decode cX8_init 28 = .ok (.putfield 22, 3) := dk_181 0 22 (dk_at dksX8_init_1 5 rfl rfl)
theorem dX8_init_31 : decode cX8_init 31 = .ok (.return_, 1) := dk_177 (dk_at dksX8_init_1 8 rfl rfl)
abbrev cX8_hair : ByteArray := prog_4_method_4_code
def yX8_hair : MethodName := ⟨RX8, "hair", "()I"⟩
def dkwX8_hair_1 : List UInt8 := [180, 0, 9, 28, 46, 167, 0, 4, 3, 96, 60, 132, 2, 1, 167, 255, 223, 27, 172]
abbrev dktX8_hair_1 : List UInt8 := dkwX8_hair_1 ++ []
def dkwX8_hair_0 : List UInt8 := [3, 60, 3, 61, 28, 16, 8, 162, 0, 33, 27, 42, 180, 0, 42, 28, 184, 0, 49, 153, 0, 12, 42]
abbrev dktX8_hair_0 : List UInt8 := dkwX8_hair_0 ++ dktX8_hair_1
theorem dksX8_hair_0 : cX8_hair.data.toList.drop 0 = dktX8_hair_0 := by decide +kernel
theorem dksX8_hair_1 : cX8_hair.data.toList.drop 23 = dktX8_hair_1 := dk_seg dksX8_hair_0 23 rfl rfl
theorem dX8_hair_0 : decode cX8_hair 0 = .ok (.iconst 0, 1) := dk_3 (dk_at dksX8_hair_0 0 rfl rfl)
theorem dX8_hair_1 : decode cX8_hair 1 = .ok (.istore_n 1, 1) := dk_60 (dk_at dksX8_hair_0 1 rfl rfl)
theorem dX8_hair_2 : decode cX8_hair 2 = .ok (.iconst 0, 1) := dk_3 (dk_at dksX8_hair_0 2 rfl rfl)
theorem dX8_hair_3 : decode cX8_hair 3 = .ok (.istore_n 2, 1) := dk_61 (dk_at dksX8_hair_0 3 rfl rfl)
theorem dX8_hair_4 : decode cX8_hair 4 = .ok (.iload_n 2, 1) := dk_28 (dk_at dksX8_hair_0 4 rfl rfl)
theorem dX8_hair_5 : decode cX8_hair 5 = .ok (.bipush 8, 2) := dk_16 8 (dk_at dksX8_hair_0 5 rfl rfl)
theorem dX8_hair_7 : decode cX8_hair 7 = .ok (.if_icmp .ge 33, 3) := dk_162 0 33 (dk_at dksX8_hair_0 7 rfl rfl)
theorem dX8_hair_10 : decode cX8_hair 10 = .ok (.iload_n 1, 1) := dk_27 (dk_at dksX8_hair_0 10 rfl rfl)
theorem dX8_hair_11 : decode cX8_hair 11 = .ok (.aload_n 0, 1) := dk_42 (dk_at dksX8_hair_0 11 rfl rfl)
theorem dX8_hair_12 : decode cX8_hair 12 = .ok (.getfield 42, 3) := dk_180 0 42 (dk_at dksX8_hair_0 12 rfl rfl)
theorem dX8_hair_15 : decode cX8_hair 15 = .ok (.iload_n 2, 1) := dk_28 (dk_at dksX8_hair_0 15 rfl rfl)
theorem dX8_hair_16 : decode cX8_hair 16 = .ok (.invokestatic 49, 3) := dk_184 0 49 (dk_at dksX8_hair_0 16 rfl rfl)
theorem dX8_hair_19 : decode cX8_hair 19 = .ok (.ifCond .eq 12, 3) := dk_153 0 12 (dk_at dksX8_hair_0 19 rfl rfl)
theorem dX8_hair_22 : decode cX8_hair 22 = .ok (.aload_n 0, 1) := dk_42 (dk_at dksX8_hair_0 22 rfl rfl)
theorem dX8_hair_23 : decode cX8_hair 23 = .ok (.getfield 9, 3) := dk_180 0 9 (dk_at dksX8_hair_1 0 rfl rfl)
theorem dX8_hair_26 : decode cX8_hair 26 = .ok (.iload_n 2, 1) := dk_28 (dk_at dksX8_hair_1 3 rfl rfl)
theorem dX8_hair_27 : decode cX8_hair 27 = .ok (.iaload, 1) := dk_46 (dk_at dksX8_hair_1 4 rfl rfl)
theorem dX8_hair_28 : decode cX8_hair 28 = .ok (.goto 4, 3) := dk_167 0 4 (dk_at dksX8_hair_1 5 rfl rfl)
theorem dX8_hair_31 : decode cX8_hair 31 = .ok (.iconst 0, 1) := dk_3 (dk_at dksX8_hair_1 8 rfl rfl)
theorem dX8_hair_32 : decode cX8_hair 32 = .ok (.iadd, 1) := dk_96 (dk_at dksX8_hair_1 9 rfl rfl)
theorem dX8_hair_33 : decode cX8_hair 33 = .ok (.istore_n 1, 1) := dk_60 (dk_at dksX8_hair_1 10 rfl rfl)
theorem dX8_hair_34 : decode cX8_hair 34 = .ok (.iinc 2 1, 3) := dk_132 2 1 (dk_at dksX8_hair_1 11 rfl rfl)
theorem dX8_hair_37 : decode cX8_hair 37 = .ok (.goto (-33), 3) := dk_167 255 223 (dk_at dksX8_hair_1 14 rfl rfl)
theorem dX8_hair_40 : decode cX8_hair 40 = .ok (.iload_n 1, 1) := dk_27 (dk_at dksX8_hair_1 17 rfl rfl)
theorem dX8_hair_41 : decode cX8_hair 41 = .ok (.ireturn, 1) := dk_172 (dk_at dksX8_hair_1 18 rfl rfl)
abbrev cX8_longestOf : ByteArray := prog_4_method_6_code
def yX8_longestOf : MethodName := ⟨RX8, "longestOf", "(I)I"⟩
def dkwX8_longestOf_2 : List UInt8 := [167, 255, 212, 28, 172]
abbrev dktX8_longestOf_2 : List UInt8 := dkwX8_longestOf_2 ++ []
def dkwX8_longestOf_1 : List UInt8 := [2, 159, 0, 18, 42, 180, 0, 9, 29, 46, 42, 180, 0, 9, 28, 46, 164, 0, 5, 29, 61, 132, 3, 1]
abbrev dktX8_longestOf_1 : List UInt8 := dkwX8_longestOf_1 ++ dktX8_longestOf_2
def dkwX8_longestOf_0 : List UInt8 := [2, 61, 3, 62, 29, 16, 8, 162, 0, 44, 42, 180, 0, 42, 27, 126, 29, 184, 0, 49, 153, 0, 25, 28]
abbrev dktX8_longestOf_0 : List UInt8 := dkwX8_longestOf_0 ++ dktX8_longestOf_1
theorem dksX8_longestOf_0 : cX8_longestOf.data.toList.drop 0 = dktX8_longestOf_0 := by decide +kernel
theorem dksX8_longestOf_1 : cX8_longestOf.data.toList.drop 24 = dktX8_longestOf_1 := dk_seg dksX8_longestOf_0 24 rfl rfl
theorem dksX8_longestOf_2 : cX8_longestOf.data.toList.drop 48 = dktX8_longestOf_2 := dk_seg dksX8_longestOf_1 24 rfl rfl
theorem dX8_longestOf_0 : decode cX8_longestOf 0 = .ok (.iconst (-1), 1) := dk_2 (dk_at dksX8_longestOf_0 0 rfl rfl)
theorem dX8_longestOf_1 : decode cX8_longestOf 1 = .ok (.istore_n 2, 1) := dk_61 (dk_at dksX8_longestOf_0 1 rfl rfl)
theorem dX8_longestOf_2 : decode cX8_longestOf 2 = .ok (.iconst 0, 1) := dk_3 (dk_at dksX8_longestOf_0 2 rfl rfl)
theorem dX8_longestOf_3 : decode cX8_longestOf 3 = .ok (.istore_n 3, 1) := dk_62 (dk_at dksX8_longestOf_0 3 rfl rfl)
theorem dX8_longestOf_4 : decode cX8_longestOf 4 = .ok (.iload_n 3, 1) := dk_29 (dk_at dksX8_longestOf_0 4 rfl rfl)
theorem dX8_longestOf_5 : decode cX8_longestOf 5 = .ok (.bipush 8, 2) := dk_16 8 (dk_at dksX8_longestOf_0 5 rfl rfl)
theorem dX8_longestOf_7 : decode cX8_longestOf 7 = .ok (.if_icmp .ge 44, 3) := dk_162 0 44 (dk_at dksX8_longestOf_0 7 rfl rfl)
theorem dX8_longestOf_10 : decode cX8_longestOf 10 = .ok (.aload_n 0, 1) := dk_42 (dk_at dksX8_longestOf_0 10 rfl rfl)
theorem dX8_longestOf_11 : decode cX8_longestOf 11 = .ok (.getfield 42, 3) := dk_180 0 42 (dk_at dksX8_longestOf_0 11 rfl rfl)
theorem dX8_longestOf_14 : decode cX8_longestOf 14 = .ok (.iload_n 1, 1) := dk_27 (dk_at dksX8_longestOf_0 14 rfl rfl)
theorem dX8_longestOf_15 : decode cX8_longestOf 15 = .ok (.iand, 1) := dk_126 (dk_at dksX8_longestOf_0 15 rfl rfl)
theorem dX8_longestOf_16 : decode cX8_longestOf 16 = .ok (.iload_n 3, 1) := dk_29 (dk_at dksX8_longestOf_0 16 rfl rfl)
theorem dX8_longestOf_17 : decode cX8_longestOf 17 = .ok (.invokestatic 49, 3) := dk_184 0 49 (dk_at dksX8_longestOf_0 17 rfl rfl)
theorem dX8_longestOf_20 : decode cX8_longestOf 20 = .ok (.ifCond .eq 25, 3) := dk_153 0 25 (dk_at dksX8_longestOf_0 20 rfl rfl)
theorem dX8_longestOf_23 : decode cX8_longestOf 23 = .ok (.iload_n 2, 1) := dk_28 (dk_at dksX8_longestOf_0 23 rfl rfl)
theorem dX8_longestOf_24 : decode cX8_longestOf 24 = .ok (.iconst (-1), 1) := dk_2 (dk_at dksX8_longestOf_1 0 rfl rfl)
theorem dX8_longestOf_25 : decode cX8_longestOf 25 = .ok (.if_icmp .eq 18, 3) := dk_159 0 18 (dk_at dksX8_longestOf_1 1 rfl rfl)
theorem dX8_longestOf_28 : decode cX8_longestOf 28 = .ok (.aload_n 0, 1) := dk_42 (dk_at dksX8_longestOf_1 4 rfl rfl)
theorem dX8_longestOf_29 : decode cX8_longestOf 29 = .ok (.getfield 9, 3) := dk_180 0 9 (dk_at dksX8_longestOf_1 5 rfl rfl)
theorem dX8_longestOf_32 : decode cX8_longestOf 32 = .ok (.iload_n 3, 1) := dk_29 (dk_at dksX8_longestOf_1 8 rfl rfl)
theorem dX8_longestOf_33 : decode cX8_longestOf 33 = .ok (.iaload, 1) := dk_46 (dk_at dksX8_longestOf_1 9 rfl rfl)
theorem dX8_longestOf_34 : decode cX8_longestOf 34 = .ok (.aload_n 0, 1) := dk_42 (dk_at dksX8_longestOf_1 10 rfl rfl)
theorem dX8_longestOf_35 : decode cX8_longestOf 35 = .ok (.getfield 9, 3) := dk_180 0 9 (dk_at dksX8_longestOf_1 11 rfl rfl)
theorem dX8_longestOf_38 : decode cX8_longestOf 38 = .ok (.iload_n 2, 1) := dk_28 (dk_at dksX8_longestOf_1 14 rfl rfl)
theorem dX8_longestOf_39 : decode cX8_longestOf 39 = .ok (.iaload, 1) := dk_46 (dk_at dksX8_longestOf_1 15 rfl rfl)
theorem dX8_longestOf_40 : decode cX8_longestOf 40 = .ok (.if_icmp .le 5, 3) := dk_164 0 5 (dk_at dksX8_longestOf_1 16 rfl rfl)
theorem dX8_longestOf_43 : decode cX8_longestOf 43 = .ok (.iload_n 3, 1) := dk_29 (dk_at dksX8_longestOf_1 19 rfl rfl)
theorem dX8_longestOf_44 : decode cX8_longestOf 44 = .ok (.istore_n 2, 1) := dk_61 (dk_at dksX8_longestOf_1 20 rfl rfl)
theorem dX8_longestOf_45 : decode cX8_longestOf 45 = .ok (.iinc 3 1, 3) := dk_132 3 1 (dk_at dksX8_longestOf_1 21 rfl rfl)
theorem dX8_longestOf_48 : decode cX8_longestOf 48 = .ok (.goto (-44), 3) := dk_167 255 212 (dk_at dksX8_longestOf_2 0 rfl rfl)
theorem dX8_longestOf_51 : decode cX8_longestOf 51 = .ok (.iload_n 2, 1) := dk_28 (dk_at dksX8_longestOf_2 3 rfl rfl)
theorem dX8_longestOf_52 : decode cX8_longestOf 52 = .ok (.ireturn, 1) := dk_172 (dk_at dksX8_longestOf_2 4 rfl rfl)
abbrev cX8_grows : ByteArray := prog_4_method_7_code
def yX8_grows : MethodName := ⟨RX8, "grows", "([LHairProvince$Word;)V"⟩
def dkwX8_grows_3 : List UInt8 := [167, 255, 191, 177]
abbrev dktX8_grows_3 : List UInt8 := dkwX8_grows_3 ++ []
def dkwX8_grows_2 : List UInt8 := [180, 0, 15, 28, 17, 3, 231, 42, 180, 0, 15, 28, 46, 4, 96, 184, 0, 59, 79, 132, 2, 1]
abbrev dktX8_grows_2 : List UInt8 := dkwX8_grows_2 ++ dktX8_grows_3
def dkwX8_grows_1 : List UInt8 := [180, 0, 9, 28, 92, 46, 43, 28, 50, 42, 180, 0, 15, 28, 46, 4, 182, 0, 53, 96, 79, 42]
abbrev dktX8_grows_1 : List UInt8 := dkwX8_grows_1 ++ dktX8_grows_2
def dkwX8_grows_0 : List UInt8 := [3, 61, 28, 16, 8, 162, 0, 65, 42, 180, 0, 42, 28, 184, 0, 49, 154, 0, 6, 167, 0, 45, 42]
abbrev dktX8_grows_0 : List UInt8 := dkwX8_grows_0 ++ dktX8_grows_1
theorem dksX8_grows_0 : cX8_grows.data.toList.drop 0 = dktX8_grows_0 := by decide +kernel
theorem dksX8_grows_1 : cX8_grows.data.toList.drop 23 = dktX8_grows_1 := dk_seg dksX8_grows_0 23 rfl rfl
theorem dksX8_grows_2 : cX8_grows.data.toList.drop 45 = dktX8_grows_2 := dk_seg dksX8_grows_1 22 rfl rfl
theorem dksX8_grows_3 : cX8_grows.data.toList.drop 67 = dktX8_grows_3 := dk_seg dksX8_grows_2 22 rfl rfl
theorem dX8_grows_0 : decode cX8_grows 0 = .ok (.iconst 0, 1) := dk_3 (dk_at dksX8_grows_0 0 rfl rfl)
theorem dX8_grows_1 : decode cX8_grows 1 = .ok (.istore_n 2, 1) := dk_61 (dk_at dksX8_grows_0 1 rfl rfl)
theorem dX8_grows_2 : decode cX8_grows 2 = .ok (.iload_n 2, 1) := dk_28 (dk_at dksX8_grows_0 2 rfl rfl)
theorem dX8_grows_3 : decode cX8_grows 3 = .ok (.bipush 8, 2) := dk_16 8 (dk_at dksX8_grows_0 3 rfl rfl)
theorem dX8_grows_5 : decode cX8_grows 5 = .ok (.if_icmp .ge 65, 3) := dk_162 0 65 (dk_at dksX8_grows_0 5 rfl rfl)
theorem dX8_grows_8 : decode cX8_grows 8 = .ok (.aload_n 0, 1) := dk_42 (dk_at dksX8_grows_0 8 rfl rfl)
theorem dX8_grows_9 : decode cX8_grows 9 = .ok (.getfield 42, 3) := dk_180 0 42 (dk_at dksX8_grows_0 9 rfl rfl)
theorem dX8_grows_12 : decode cX8_grows 12 = .ok (.iload_n 2, 1) := dk_28 (dk_at dksX8_grows_0 12 rfl rfl)
theorem dX8_grows_13 : decode cX8_grows 13 = .ok (.invokestatic 49, 3) := dk_184 0 49 (dk_at dksX8_grows_0 13 rfl rfl)
theorem dX8_grows_16 : decode cX8_grows 16 = .ok (.ifCond .ne 6, 3) := dk_154 0 6 (dk_at dksX8_grows_0 16 rfl rfl)
theorem dX8_grows_19 : decode cX8_grows 19 = .ok (.goto 45, 3) := dk_167 0 45 (dk_at dksX8_grows_0 19 rfl rfl)
theorem dX8_grows_22 : decode cX8_grows 22 = .ok (.aload_n 0, 1) := dk_42 (dk_at dksX8_grows_0 22 rfl rfl)
theorem dX8_grows_23 : decode cX8_grows 23 = .ok (.getfield 9, 3) := dk_180 0 9 (dk_at dksX8_grows_1 0 rfl rfl)
theorem dX8_grows_26 : decode cX8_grows 26 = .ok (.iload_n 2, 1) := dk_28 (dk_at dksX8_grows_1 3 rfl rfl)
theorem dX8_grows_27 : decode cX8_grows 27 = .ok (.dup2, 1) := dk_92 (dk_at dksX8_grows_1 4 rfl rfl)
theorem dX8_grows_28 : decode cX8_grows 28 = .ok (.iaload, 1) := dk_46 (dk_at dksX8_grows_1 5 rfl rfl)
theorem dX8_grows_29 : decode cX8_grows 29 = .ok (.aload_n 1, 1) := dk_43 (dk_at dksX8_grows_1 6 rfl rfl)
theorem dX8_grows_30 : decode cX8_grows 30 = .ok (.iload_n 2, 1) := dk_28 (dk_at dksX8_grows_1 7 rfl rfl)
theorem dX8_grows_31 : decode cX8_grows 31 = .ok (.aaload, 1) := dk_50 (dk_at dksX8_grows_1 8 rfl rfl)
theorem dX8_grows_32 : decode cX8_grows 32 = .ok (.aload_n 0, 1) := dk_42 (dk_at dksX8_grows_1 9 rfl rfl)
theorem dX8_grows_33 : decode cX8_grows 33 = .ok (.getfield 15, 3) := dk_180 0 15 (dk_at dksX8_grows_1 10 rfl rfl)
theorem dX8_grows_36 : decode cX8_grows 36 = .ok (.iload_n 2, 1) := dk_28 (dk_at dksX8_grows_1 13 rfl rfl)
theorem dX8_grows_37 : decode cX8_grows 37 = .ok (.iaload, 1) := dk_46 (dk_at dksX8_grows_1 14 rfl rfl)
theorem dX8_grows_38 : decode cX8_grows 38 = .ok (.iconst 1, 1) := dk_4 (dk_at dksX8_grows_1 15 rfl rfl)
theorem dX8_grows_39 : decode cX8_grows 39 = .ok (.invokevirtual 53, 3) := dk_182 0 53 (dk_at dksX8_grows_1 16 rfl rfl)
theorem dX8_grows_42 : decode cX8_grows 42 = .ok (.iadd, 1) := dk_96 (dk_at dksX8_grows_1 19 rfl rfl)
theorem dX8_grows_43 : decode cX8_grows 43 = .ok (.iastore, 1) := dk_79 (dk_at dksX8_grows_1 20 rfl rfl)
theorem dX8_grows_44 : decode cX8_grows 44 = .ok (.aload_n 0, 1) := dk_42 (dk_at dksX8_grows_1 21 rfl rfl)
theorem dX8_grows_45 : decode cX8_grows 45 = .ok (.getfield 15, 3) := dk_180 0 15 (dk_at dksX8_grows_2 0 rfl rfl)
theorem dX8_grows_48 : decode cX8_grows 48 = .ok (.iload_n 2, 1) := dk_28 (dk_at dksX8_grows_2 3 rfl rfl)
theorem dX8_grows_49 : decode cX8_grows 49 = .ok (.sipush 999, 3) := dk_17 3 231 (dk_at dksX8_grows_2 4 rfl rfl)
theorem dX8_grows_52 : decode cX8_grows 52 = .ok (.aload_n 0, 1) := dk_42 (dk_at dksX8_grows_2 7 rfl rfl)
theorem dX8_grows_53 : decode cX8_grows 53 = .ok (.getfield 15, 3) := dk_180 0 15 (dk_at dksX8_grows_2 8 rfl rfl)
theorem dX8_grows_56 : decode cX8_grows 56 = .ok (.iload_n 2, 1) := dk_28 (dk_at dksX8_grows_2 11 rfl rfl)
theorem dX8_grows_57 : decode cX8_grows 57 = .ok (.iaload, 1) := dk_46 (dk_at dksX8_grows_2 12 rfl rfl)
theorem dX8_grows_58 : decode cX8_grows 58 = .ok (.iconst 1, 1) := dk_4 (dk_at dksX8_grows_2 13 rfl rfl)
theorem dX8_grows_59 : decode cX8_grows 59 = .ok (.iadd, 1) := dk_96 (dk_at dksX8_grows_2 14 rfl rfl)
theorem dX8_grows_60 : decode cX8_grows 60 = .ok (.invokestatic 59, 3) := dk_184 0 59 (dk_at dksX8_grows_2 15 rfl rfl)
theorem dX8_grows_63 : decode cX8_grows 63 = .ok (.iastore, 1) := dk_79 (dk_at dksX8_grows_2 18 rfl rfl)
theorem dX8_grows_64 : decode cX8_grows 64 = .ok (.iinc 2 1, 3) := dk_132 2 1 (dk_at dksX8_grows_2 19 rfl rfl)
theorem dX8_grows_67 : decode cX8_grows 67 = .ok (.goto (-65), 3) := dk_167 255 191 (dk_at dksX8_grows_3 0 rfl rfl)
theorem dX8_grows_70 : decode cX8_grows 70 = .ok (.return_, 1) := dk_177 (dk_at dksX8_grows_3 3 rfl rfl)
abbrev cX8_keeps : ByteArray := prog_4_method_5_code
def yX8_keeps : MethodName := ⟨RX8, "keeps", "(I)Z"⟩
def dkwX8_keeps_2 : List UInt8 := [3, 79, 4, 172]
abbrev dktX8_keeps_2 : List UInt8 := dkwX8_keeps_2 ++ []
def dkwX8_keeps_1 : List UInt8 := [42, 89, 180, 0, 42, 4, 27, 120, 128, 181, 0, 42, 42, 180, 0, 9, 27, 3, 79, 42, 180, 0, 15, 27]
abbrev dktX8_keeps_1 : List UInt8 := dkwX8_keeps_1 ++ dktX8_keeps_2
def dkwX8_keeps_0 : List UInt8 := [42, 180, 0, 39, 27, 184, 0, 49, 153, 0, 14, 42, 180, 0, 42, 27, 184, 0, 49, 153, 0, 5, 3, 172]
abbrev dktX8_keeps_0 : List UInt8 := dkwX8_keeps_0 ++ dktX8_keeps_1
theorem dksX8_keeps_0 : cX8_keeps.data.toList.drop 0 = dktX8_keeps_0 := by decide +kernel
theorem dksX8_keeps_1 : cX8_keeps.data.toList.drop 24 = dktX8_keeps_1 := dk_seg dksX8_keeps_0 24 rfl rfl
theorem dksX8_keeps_2 : cX8_keeps.data.toList.drop 48 = dktX8_keeps_2 := dk_seg dksX8_keeps_1 24 rfl rfl
theorem dX8_keeps_0 : decode cX8_keeps 0 = .ok (.aload_n 0, 1) := dk_42 (dk_at dksX8_keeps_0 0 rfl rfl)
theorem dX8_keeps_1 : decode cX8_keeps 1 = .ok (.getfield 39, 3) := dk_180 0 39 (dk_at dksX8_keeps_0 1 rfl rfl)
theorem dX8_keeps_4 : decode cX8_keeps 4 = .ok (.iload_n 1, 1) := dk_27 (dk_at dksX8_keeps_0 4 rfl rfl)
theorem dX8_keeps_5 : decode cX8_keeps 5 = .ok (.invokestatic 49, 3) := dk_184 0 49 (dk_at dksX8_keeps_0 5 rfl rfl)
theorem dX8_keeps_8 : decode cX8_keeps 8 = .ok (.ifCond .eq 14, 3) := dk_153 0 14 (dk_at dksX8_keeps_0 8 rfl rfl)
theorem dX8_keeps_11 : decode cX8_keeps 11 = .ok (.aload_n 0, 1) := dk_42 (dk_at dksX8_keeps_0 11 rfl rfl)
theorem dX8_keeps_12 : decode cX8_keeps 12 = .ok (.getfield 42, 3) := dk_180 0 42 (dk_at dksX8_keeps_0 12 rfl rfl)
theorem dX8_keeps_15 : decode cX8_keeps 15 = .ok (.iload_n 1, 1) := dk_27 (dk_at dksX8_keeps_0 15 rfl rfl)
theorem dX8_keeps_16 : decode cX8_keeps 16 = .ok (.invokestatic 49, 3) := dk_184 0 49 (dk_at dksX8_keeps_0 16 rfl rfl)
theorem dX8_keeps_19 : decode cX8_keeps 19 = .ok (.ifCond .eq 5, 3) := dk_153 0 5 (dk_at dksX8_keeps_0 19 rfl rfl)
theorem dX8_keeps_22 : decode cX8_keeps 22 = .ok (.iconst 0, 1) := dk_3 (dk_at dksX8_keeps_0 22 rfl rfl)
theorem dX8_keeps_23 : decode cX8_keeps 23 = .ok (.ireturn, 1) := dk_172 (dk_at dksX8_keeps_0 23 rfl rfl)
theorem dX8_keeps_24 : decode cX8_keeps 24 = .ok (.aload_n 0, 1) := dk_42 (dk_at dksX8_keeps_1 0 rfl rfl)
theorem dX8_keeps_25 : decode cX8_keeps 25 = .ok (.dup, 1) := dk_89 (dk_at dksX8_keeps_1 1 rfl rfl)
theorem dX8_keeps_26 : decode cX8_keeps 26 = .ok (.getfield 42, 3) := dk_180 0 42 (dk_at dksX8_keeps_1 2 rfl rfl)
theorem dX8_keeps_29 : decode cX8_keeps 29 = .ok (.iconst 1, 1) := dk_4 (dk_at dksX8_keeps_1 5 rfl rfl)
theorem dX8_keeps_30 : decode cX8_keeps 30 = .ok (.iload_n 1, 1) := dk_27 (dk_at dksX8_keeps_1 6 rfl rfl)
theorem dX8_keeps_31 : decode cX8_keeps 31 = .ok (.ishl, 1) := dk_120 (dk_at dksX8_keeps_1 7 rfl rfl)
theorem dX8_keeps_32 : decode cX8_keeps 32 = .ok (.ior, 1) := dk_128 (dk_at dksX8_keeps_1 8 rfl rfl)
theorem dX8_keeps_33 : decode cX8_keeps 33 = .ok (.putfield 42, 3) := dk_181 0 42 (dk_at dksX8_keeps_1 9 rfl rfl)
theorem dX8_keeps_36 : decode cX8_keeps 36 = .ok (.aload_n 0, 1) := dk_42 (dk_at dksX8_keeps_1 12 rfl rfl)
theorem dX8_keeps_37 : decode cX8_keeps 37 = .ok (.getfield 9, 3) := dk_180 0 9 (dk_at dksX8_keeps_1 13 rfl rfl)
theorem dX8_keeps_40 : decode cX8_keeps 40 = .ok (.iload_n 1, 1) := dk_27 (dk_at dksX8_keeps_1 16 rfl rfl)
theorem dX8_keeps_41 : decode cX8_keeps 41 = .ok (.iconst 0, 1) := dk_3 (dk_at dksX8_keeps_1 17 rfl rfl)
theorem dX8_keeps_42 : decode cX8_keeps 42 = .ok (.iastore, 1) := dk_79 (dk_at dksX8_keeps_1 18 rfl rfl)
theorem dX8_keeps_43 : decode cX8_keeps 43 = .ok (.aload_n 0, 1) := dk_42 (dk_at dksX8_keeps_1 19 rfl rfl)
theorem dX8_keeps_44 : decode cX8_keeps 44 = .ok (.getfield 15, 3) := dk_180 0 15 (dk_at dksX8_keeps_1 20 rfl rfl)
theorem dX8_keeps_47 : decode cX8_keeps 47 = .ok (.iload_n 1, 1) := dk_27 (dk_at dksX8_keeps_1 23 rfl rfl)
theorem dX8_keeps_48 : decode cX8_keeps 48 = .ok (.iconst 0, 1) := dk_3 (dk_at dksX8_keeps_2 0 rfl rfl)
theorem dX8_keeps_49 : decode cX8_keeps 49 = .ok (.iastore, 1) := dk_79 (dk_at dksX8_keeps_2 1 rfl rfl)
theorem dX8_keeps_50 : decode cX8_keeps 50 = .ok (.iconst 1, 1) := dk_4 (dk_at dksX8_keeps_2 2 rfl rfl)
theorem dX8_keeps_51 : decode cX8_keeps 51 = .ok (.ireturn, 1) := dk_172 (dk_at dksX8_keeps_2 3 rfl rfl)
abbrev cX8_twin : ByteArray := prog_4_method_2_code
def yX8_twin : MethodName := ⟨RX8, "twin", "()LHairProvince$Person;"⟩
def dkwX8_twin_0 : List UInt8 := [187, 0, 10, 89, 42, 180, 0, 22, 183, 0, 26, 42, 182, 0, 29, 176]
abbrev dktX8_twin_0 : List UInt8 := dkwX8_twin_0 ++ []
theorem dksX8_twin_0 : cX8_twin.data.toList.drop 0 = dktX8_twin_0 := by decide +kernel
theorem dX8_twin_0 : decode cX8_twin 0 = .ok (.new 10, 3) := dk_187 0 10 (dk_at dksX8_twin_0 0 rfl rfl)
theorem dX8_twin_3 : decode cX8_twin 3 = .ok (.dup, 1) := dk_89 (dk_at dksX8_twin_0 3 rfl rfl)
theorem dX8_twin_4 : decode cX8_twin 4 = .ok (.aload_n 0, 1) := dk_42 (dk_at dksX8_twin_0 4 rfl rfl)
theorem dX8_twin_5 : decode cX8_twin 5 = .ok (.getfield 22, 3) := dk_180 0 22 (dk_at dksX8_twin_0 5 rfl rfl)
theorem dX8_twin_8 : decode cX8_twin 8 = .ok (.invokespecial 26, 3) := dk_183 0 26 (dk_at dksX8_twin_0 8 rfl rfl)
theorem dX8_twin_11 : decode cX8_twin 11 = .ok (.aload_n 0, 1) := dk_42 (dk_at dksX8_twin_0 11 rfl rfl)
theorem dX8_twin_12 : decode cX8_twin 12 = .ok (.invokevirtual 29, 3) := dk_182 0 29 (dk_at dksX8_twin_0 12 rfl rfl)
theorem dX8_twin_15 : decode cX8_twin 15 = .ok (.areturn, 1) := dk_176 (dk_at dksX8_twin_0 15 rfl rfl)
abbrev cX8_takes : ByteArray := prog_4_method_3_code
def yX8_takes : MethodName := ⟨RX8, "takes", "(LHairProvince$Person;)LHairProvince$Person;"⟩
def dkwX8_takes_2 : List UInt8 := [180, 0, 42, 181, 0, 42, 42, 43, 180, 0, 45, 181, 0, 45, 42, 176]
abbrev dktX8_takes_2 : List UInt8 := dkwX8_takes_2 ++ []
def dkwX8_takes_1 : List UInt8 := [3, 16, 8, 184, 0, 33, 42, 43, 180, 0, 18, 181, 0, 18, 42, 43, 180, 0, 39, 181, 0, 39, 42, 43]
abbrev dktX8_takes_1 : List UInt8 := dkwX8_takes_1 ++ dktX8_takes_2
def dkwX8_takes_0 : List UInt8 := [43, 180, 0, 9, 3, 42, 180, 0, 9, 3, 16, 8, 184, 0, 33, 43, 180, 0, 15, 3, 42, 180, 0, 15]
abbrev dktX8_takes_0 : List UInt8 := dkwX8_takes_0 ++ dktX8_takes_1
theorem dksX8_takes_0 : cX8_takes.data.toList.drop 0 = dktX8_takes_0 := by decide +kernel
theorem dksX8_takes_1 : cX8_takes.data.toList.drop 24 = dktX8_takes_1 := dk_seg dksX8_takes_0 24 rfl rfl
theorem dksX8_takes_2 : cX8_takes.data.toList.drop 48 = dktX8_takes_2 := dk_seg dksX8_takes_1 24 rfl rfl
theorem dX8_takes_0 : decode cX8_takes 0 = .ok (.aload_n 1, 1) := dk_43 (dk_at dksX8_takes_0 0 rfl rfl)
theorem dX8_takes_1 : decode cX8_takes 1 = .ok (.getfield 9, 3) := dk_180 0 9 (dk_at dksX8_takes_0 1 rfl rfl)
theorem dX8_takes_4 : decode cX8_takes 4 = .ok (.iconst 0, 1) := dk_3 (dk_at dksX8_takes_0 4 rfl rfl)
theorem dX8_takes_5 : decode cX8_takes 5 = .ok (.aload_n 0, 1) := dk_42 (dk_at dksX8_takes_0 5 rfl rfl)
theorem dX8_takes_6 : decode cX8_takes 6 = .ok (.getfield 9, 3) := dk_180 0 9 (dk_at dksX8_takes_0 6 rfl rfl)
theorem dX8_takes_9 : decode cX8_takes 9 = .ok (.iconst 0, 1) := dk_3 (dk_at dksX8_takes_0 9 rfl rfl)
theorem dX8_takes_10 : decode cX8_takes 10 = .ok (.bipush 8, 2) := dk_16 8 (dk_at dksX8_takes_0 10 rfl rfl)
theorem dX8_takes_12 : decode cX8_takes 12 = .ok (.invokestatic 33, 3) := dk_184 0 33 (dk_at dksX8_takes_0 12 rfl rfl)
theorem dX8_takes_15 : decode cX8_takes 15 = .ok (.aload_n 1, 1) := dk_43 (dk_at dksX8_takes_0 15 rfl rfl)
theorem dX8_takes_16 : decode cX8_takes 16 = .ok (.getfield 15, 3) := dk_180 0 15 (dk_at dksX8_takes_0 16 rfl rfl)
theorem dX8_takes_19 : decode cX8_takes 19 = .ok (.iconst 0, 1) := dk_3 (dk_at dksX8_takes_0 19 rfl rfl)
theorem dX8_takes_20 : decode cX8_takes 20 = .ok (.aload_n 0, 1) := dk_42 (dk_at dksX8_takes_0 20 rfl rfl)
theorem dX8_takes_21 : decode cX8_takes 21 = .ok (.getfield 15, 3) := dk_180 0 15 (dk_at dksX8_takes_0 21 rfl rfl)
theorem dX8_takes_24 : decode cX8_takes 24 = .ok (.iconst 0, 1) := dk_3 (dk_at dksX8_takes_1 0 rfl rfl)
theorem dX8_takes_25 : decode cX8_takes 25 = .ok (.bipush 8, 2) := dk_16 8 (dk_at dksX8_takes_1 1 rfl rfl)
theorem dX8_takes_27 : decode cX8_takes 27 = .ok (.invokestatic 33, 3) := dk_184 0 33 (dk_at dksX8_takes_1 3 rfl rfl)
theorem dX8_takes_30 : decode cX8_takes 30 = .ok (.aload_n 0, 1) := dk_42 (dk_at dksX8_takes_1 6 rfl rfl)
theorem dX8_takes_31 : decode cX8_takes 31 = .ok (.aload_n 1, 1) := dk_43 (dk_at dksX8_takes_1 7 rfl rfl)
theorem dX8_takes_32 : decode cX8_takes 32 = .ok (.getfield 18, 3) := dk_180 0 18 (dk_at dksX8_takes_1 8 rfl rfl)
theorem dX8_takes_35 : decode cX8_takes 35 = .ok (.putfield 18, 3) := dk_181 0 18 (dk_at dksX8_takes_1 11 rfl rfl)
theorem dX8_takes_38 : decode cX8_takes 38 = .ok (.aload_n 0, 1) := dk_42 (dk_at dksX8_takes_1 14 rfl rfl)
theorem dX8_takes_39 : decode cX8_takes 39 = .ok (.aload_n 1, 1) := dk_43 (dk_at dksX8_takes_1 15 rfl rfl)
theorem dX8_takes_40 : decode cX8_takes 40 = .ok (.getfield 39, 3) := dk_180 0 39 (dk_at dksX8_takes_1 16 rfl rfl)
theorem dX8_takes_43 : decode cX8_takes 43 = .ok (.putfield 39, 3) := dk_181 0 39 (dk_at dksX8_takes_1 19 rfl rfl)
theorem dX8_takes_46 : decode cX8_takes 46 = .ok (.aload_n 0, 1) := dk_42 (dk_at dksX8_takes_1 22 rfl rfl)
theorem dX8_takes_47 : decode cX8_takes 47 = .ok (.aload_n 1, 1) := dk_43 (dk_at dksX8_takes_1 23 rfl rfl)
theorem dX8_takes_48 : decode cX8_takes 48 = .ok (.getfield 42, 3) := dk_180 0 42 (dk_at dksX8_takes_2 0 rfl rfl)
theorem dX8_takes_51 : decode cX8_takes 51 = .ok (.putfield 42, 3) := dk_181 0 42 (dk_at dksX8_takes_2 3 rfl rfl)
theorem dX8_takes_54 : decode cX8_takes 54 = .ok (.aload_n 0, 1) := dk_42 (dk_at dksX8_takes_2 6 rfl rfl)
theorem dX8_takes_55 : decode cX8_takes 55 = .ok (.aload_n 1, 1) := dk_43 (dk_at dksX8_takes_2 7 rfl rfl)
theorem dX8_takes_56 : decode cX8_takes 56 = .ok (.getfield 45, 3) := dk_180 0 45 (dk_at dksX8_takes_2 8 rfl rfl)
theorem dX8_takes_59 : decode cX8_takes 59 = .ok (.putfield 45, 3) := dk_181 0 45 (dk_at dksX8_takes_2 11 rfl rfl)
theorem dX8_takes_62 : decode cX8_takes 62 = .ok (.aload_n 0, 1) := dk_42 (dk_at dksX8_takes_2 14 rfl rfl)
theorem dX8_takes_63 : decode cX8_takes 63 = .ok (.areturn, 1) := dk_176 (dk_at dksX8_takes_2 15 rfl rfl)
theorem q186 : (Jvm.Cond.initialized "HairProvince$Person") ∈ lw_all := lw_g (lw_at lw_m1 12 rfl) rfl
theorem q485 : (Jvm.Cond.instantiable "HairProvince$Person" (7 : Nat)) ∈ lw_all := lw_g (lw_at lw_m2 71 rfl) rfl
theorem q487 : (Jvm.Cond.instanceMethod ({ cls := "HairProvince$Person", name := "<init>", desc := "(J)V" } : Jvm.MethodName)) ∈ lw_all := lw_g (lw_at lw_m2 73 rfl) rfl
theorem q488 : (Jvm.Cond.code ({ cls := "HairProvince$Person", name := "<init>", desc := "(J)V" } : Jvm.MethodName) prog_4_method_1_code (3 : Nat) (Option.none : Option Jvm.ClassFile.FieldType)) ∈ lw_all := lw_g (lw_at lw_m2 74 rfl) rfl
theorem q489 : (Jvm.Cond.methodLink "HairProvince$Person" (3 : Nat) ({ cls := "java/lang/Object", name := "<init>", desc := "()V" } : Jvm.MethodName)) ∈ lw_all := lw_g (lw_at lw_m2 75 rfl) rfl
theorem q490 : (Jvm.Cond.fieldLink "HairProvince$Person" (22 : Nat) "HairProvince$Person" "name" "J") ∈ lw_all := lw_g (lw_at lw_m2 76 rfl) rfl
theorem q492 : (Jvm.Cond.fieldLink "HairProvince$Person" (9 : Nat) "HairProvince$Person" "length" "[I") ∈ lw_all := lw_g (lw_at lw_m2 78 rfl) rfl
theorem q495 : (Jvm.Cond.fieldLink "HairProvince$Person" (15 : Nat) "HairProvince$Person" "age" "[I") ∈ lw_all := lw_g (lw_at lw_m2 81 rfl) rfl
theorem q497 : (Jvm.Cond.fieldLink "HairProvince$Person" (18 : Nat) "HairProvince$Person" "temper" "I") ∈ lw_all := lw_g (lw_at lw_m2 83 rfl) rfl
theorem q502 : (Jvm.Cond.fieldLink "HairProvince$Person" (39 : Nat) "HairProvince$Person" "knows" "I") ∈ lw_all := lw_g (lw_at lw_m2 88 rfl) rfl
theorem q507 : (Jvm.Cond.fieldLink "HairProvince$Person" (42 : Nat) "HairProvince$Person" "keeps" "I") ∈ lw_all := lw_g (lw_at lw_m2 93 rfl) rfl
theorem q511 : (Jvm.Cond.fieldLink "HairProvince$Person" (45 : Nat) "HairProvince$Person" "barber" "Z") ∈ lw_all := lw_g (lw_at lw_m2 97 rfl) rfl
theorem q515 : (Jvm.Cond.laysFinal "HairProvince$Person" "HairProvince$Person" "name" "J") ∈ lw_all := lw_g (lw_at lw_m2 101 rfl) rfl
theorem q516 : (Jvm.Cond.soleField "HairProvince$Person" "name") ∈ lw_all := lw_g (lw_at lw_m2 102 rfl) rfl
theorem q517 : (Jvm.Cond.laysFinal "HairProvince$Person" "HairProvince$Person" "length" "[I") ∈ lw_all := lw_g (lw_at lw_m2 103 rfl) rfl
theorem q518 : (Jvm.Cond.soleField "HairProvince$Person" "length") ∈ lw_all := lw_g (lw_at lw_m2 104 rfl) rfl
theorem q519 : (Jvm.Cond.laysFinal "HairProvince$Person" "HairProvince$Person" "age" "[I") ∈ lw_all := lw_g (lw_at lw_m2 105 rfl) rfl
theorem q520 : (Jvm.Cond.soleField "HairProvince$Person" "age") ∈ lw_all := lw_g (lw_at lw_m2 106 rfl) rfl
theorem q521 : (Jvm.Cond.lays "HairProvince$Person" "HairProvince$Person" "temper" "I") ∈ lw_all := lw_g (lw_at lw_m2 107 rfl) rfl
theorem q522 : (Jvm.Cond.soleField "HairProvince$Person" "temper") ∈ lw_all := lw_g (lw_at lw_m2 108 rfl) rfl
theorem q523 : (Jvm.Cond.lays "HairProvince$Person" "HairProvince$Person" "knows" "I") ∈ lw_all := lw_g (lw_at lw_m2 109 rfl) rfl
theorem q524 : (Jvm.Cond.soleField "HairProvince$Person" "knows") ∈ lw_all := lw_g (lw_at lw_m2 110 rfl) rfl
theorem q525 : (Jvm.Cond.lays "HairProvince$Person" "HairProvince$Person" "keeps" "I") ∈ lw_all := lw_g (lw_at lw_m2 111 rfl) rfl
theorem q526 : (Jvm.Cond.soleField "HairProvince$Person" "keeps") ∈ lw_all := lw_g (lw_at lw_m2 112 rfl) rfl
theorem q527 : (Jvm.Cond.lays "HairProvince$Person" "HairProvince$Person" "barber" "Z") ∈ lw_all := lw_g (lw_at lw_m2 113 rfl) rfl
theorem q528 : (Jvm.Cond.soleField "HairProvince$Person" "barber") ∈ lw_all := lw_g (lw_at lw_m2 114 rfl) rfl
theorem q529 : (Jvm.Cond.superclass "HairProvince$Person" "java/lang/Object") ∈ lw_all := lw_g (lw_at lw_m2 115 rfl) rfl
theorem q1107 : (Jvm.Cond.instanceMethod ({ cls := "HairProvince$Person", name := "hair", desc := "()I" } : Jvm.MethodName)) ∈ lw_all := lw_g (lw_at lw_m4 213 rfl) rfl
theorem q1108 : (Jvm.Cond.selects "HairProvince$Person" ({ cls := "HairProvince$Person", name := "hair", desc := "()I" } : Jvm.MethodName) ({ cls := "HairProvince$Person", name := "hair", desc := "()I" } : Jvm.MethodName)) ∈ lw_all := lw_g (lw_at lw_m4 214 rfl) rfl
theorem q1109 : (Jvm.Cond.code ({ cls := "HairProvince$Person", name := "hair", desc := "()I" } : Jvm.MethodName) prog_4_method_4_code (3 : Nat) (Option.some Jvm.ClassFile.FieldType.int)) ∈ lw_all := lw_g (lw_at lw_m4 215 rfl) rfl
theorem q1110 : (Jvm.Cond.methodLinkNest "HairProvince$Person" (49 : Nat) ({ cls := "HairProvince", name := "isIn", desc := "(II)Z" } : Jvm.MethodName) "HairProvince") ∈ lw_tbl := lw_at lw_m4 216 rfl
theorem q1154 : (Jvm.Cond.instanceMethod ({ cls := "HairProvince$Person", name := "longestOf", desc := "(I)I" } : Jvm.MethodName)) ∈ lw_all := lw_g (lw_at lw_m5 20 rfl) rfl
theorem q1155 : (Jvm.Cond.selects "HairProvince$Person" ({ cls := "HairProvince$Person", name := "longestOf", desc := "(I)I" } : Jvm.MethodName) ({ cls := "HairProvince$Person", name := "longestOf", desc := "(I)I" } : Jvm.MethodName)) ∈ lw_all := lw_g (lw_at lw_m5 21 rfl) rfl
theorem q1156 : (Jvm.Cond.code ({ cls := "HairProvince$Person", name := "longestOf", desc := "(I)I" } : Jvm.MethodName) prog_4_method_6_code (4 : Nat) (Option.some Jvm.ClassFile.FieldType.int)) ∈ lw_all := lw_g (lw_at lw_m5 22 rfl) rfl
theorem q1183 : (Jvm.Cond.instanceMethod ({ cls := "HairProvince$Person", name := "grows", desc := "([LHairProvince$Word;)V" } : Jvm.MethodName)) ∈ lw_all := lw_g (lw_at lw_m5 49 rfl) rfl
theorem q1184 : (Jvm.Cond.selects "HairProvince$Person" ({ cls := "HairProvince$Person", name := "grows", desc := "([LHairProvince$Word;)V" } : Jvm.MethodName) ({ cls := "HairProvince$Person", name := "grows", desc := "([LHairProvince$Word;)V" } : Jvm.MethodName)) ∈ lw_all := lw_g (lw_at lw_m5 50 rfl) rfl
theorem q1185 : (Jvm.Cond.code ({ cls := "HairProvince$Person", name := "grows", desc := "([LHairProvince$Word;)V" } : Jvm.MethodName) prog_4_method_7_code (3 : Nat) (Option.none : Option Jvm.ClassFile.FieldType)) ∈ lw_all := lw_g (lw_at lw_m5 51 rfl) rfl
theorem q1186 : (Jvm.Cond.methodLink "HairProvince$Person" (53 : Nat) ({ cls := "HairProvince$Word", name := "moreIn", desc := "(II)I" } : Jvm.MethodName)) ∈ lw_all := lw_g (lw_at lw_m5 52 rfl) rfl
theorem q1194 : (Jvm.Cond.methodLink "HairProvince$Person" (59 : Nat) ({ cls := "java/lang/Math", name := "min", desc := "(II)I" } : Jvm.MethodName)) ∈ lw_all := lw_g (lw_at lw_m5 60 rfl) rfl
theorem q1210 : (Jvm.Cond.instanceMethod ({ cls := "HairProvince$Person", name := "keeps", desc := "(I)Z" } : Jvm.MethodName)) ∈ lw_all := lw_g (lw_at lw_m5 76 rfl) rfl
theorem q1211 : (Jvm.Cond.selects "HairProvince$Person" ({ cls := "HairProvince$Person", name := "keeps", desc := "(I)Z" } : Jvm.MethodName) ({ cls := "HairProvince$Person", name := "keeps", desc := "(I)Z" } : Jvm.MethodName)) ∈ lw_all := lw_g (lw_at lw_m5 77 rfl) rfl
theorem q1212 : (Jvm.Cond.code ({ cls := "HairProvince$Person", name := "keeps", desc := "(I)Z" } : Jvm.MethodName) prog_4_method_5_code (2 : Nat) (Option.some Jvm.ClassFile.FieldType.boolean)) ∈ lw_all := lw_g (lw_at lw_m5 78 rfl) rfl
theorem q1294 : (Jvm.Cond.instanceMethod ({ cls := "HairProvince$Person", name := "twin", desc := "()LHairProvince$Person;" } : Jvm.MethodName)) ∈ lw_all := lw_g (lw_at lw_m5 160 rfl) rfl
theorem q1295 : (Jvm.Cond.selects "HairProvince$Person" ({ cls := "HairProvince$Person", name := "twin", desc := "()LHairProvince$Person;" } : Jvm.MethodName) ({ cls := "HairProvince$Person", name := "twin", desc := "()LHairProvince$Person;" } : Jvm.MethodName)) ∈ lw_all := lw_g (lw_at lw_m5 161 rfl) rfl
theorem q1296 : (Jvm.Cond.code ({ cls := "HairProvince$Person", name := "twin", desc := "()LHairProvince$Person;" } : Jvm.MethodName) prog_4_method_2_code (1 : Nat) (Option.some (Jvm.ClassFile.FieldType.object "HairProvince$Person"))) ∈ lw_all := lw_g (lw_at lw_m5 162 rfl) rfl
theorem q1297 : (Jvm.Cond.classLink "HairProvince$Person" (10 : Nat) "HairProvince$Person") ∈ lw_all := lw_g (lw_at lw_m5 163 rfl) rfl
theorem q1298 : (Jvm.Cond.methodLink "HairProvince$Person" (26 : Nat) ({ cls := "HairProvince$Person", name := "<init>", desc := "(J)V" } : Jvm.MethodName)) ∈ lw_all := lw_g (lw_at lw_m5 164 rfl) rfl
theorem q1299 : (Jvm.Cond.methodLink "HairProvince$Person" (29 : Nat) ({ cls := "HairProvince$Person", name := "takes", desc := "(LHairProvince$Person;)LHairProvince$Person;" } : Jvm.MethodName)) ∈ lw_all := lw_g (lw_at lw_m5 165 rfl) rfl
theorem q1300 : (Jvm.Cond.instanceMethod ({ cls := "HairProvince$Person", name := "takes", desc := "(LHairProvince$Person;)LHairProvince$Person;" } : Jvm.MethodName)) ∈ lw_all := lw_g (lw_at lw_m5 166 rfl) rfl
theorem q1301 : (Jvm.Cond.selects "HairProvince$Person" ({ cls := "HairProvince$Person", name := "takes", desc := "(LHairProvince$Person;)LHairProvince$Person;" } : Jvm.MethodName) ({ cls := "HairProvince$Person", name := "takes", desc := "(LHairProvince$Person;)LHairProvince$Person;" } : Jvm.MethodName)) ∈ lw_all := lw_g (lw_at lw_m5 167 rfl) rfl
theorem q1302 : (Jvm.Cond.code ({ cls := "HairProvince$Person", name := "takes", desc := "(LHairProvince$Person;)LHairProvince$Person;" } : Jvm.MethodName) prog_4_method_3_code (2 : Nat) (Option.some (Jvm.ClassFile.FieldType.object "HairProvince$Person"))) ∈ lw_all := lw_g (lw_at lw_m5 168 rfl) rfl
theorem q1303 : (Jvm.Cond.methodLink "HairProvince$Person" (33 : Nat) ({ cls := "java/lang/System", name := "arraycopy", desc := "(Ljava/lang/Object;ILjava/lang/Object;II)V" } : Jvm.MethodName)) ∈ lw_all := lw_g (lw_at lw_m5 169 rfl) rfl
theorem in_X8 : ∀ w ∈ wsX80, w ∈ lw_all := lw_in wsX80 [515, 517, 519, 521, 523, 525, 527] (by decide +kernel) (by decide +kernel)
/-! HairProvince$Word -/
set_option maxRecDepth 100000
def RX10 : String := "HairProvince$Word"
def TX10 : u_T := fun k => match k with
  | 0 => ("HairProvince$Word", "name", "J", true)
  | 1 => ("HairProvince$Word", "grows", "I", false)
  | 2 => ("HairProvince$Word", "grey", "I", false)
  | _ => ("HairProvince$Word", "halves", "I", false)
def tyX10 : Nat → FieldType := fun k => match k with
  | 0 => .long
  | 1 => .int
  | 2 => .int
  | _ => .int
abbrev wsX100 : List Cond := u_ws RX10 TX10 4
theorem nmX10 : ∀ a, a < 4 → ∀ b, b < 4 → a ≠ b → (TX10 a).2.1 ≠ (TX10 b).2.1 := by decide +kernel
theorem tyX10_ok : ∀ k, k < 4 → parseFieldDescriptor (TX10 k).2.2.1 = some (tyX10 k) := by decide +kernel
abbrev cX10_init : ByteArray := prog_12_method_1_code
def yX10_init : MethodName := ⟨RX10, "<init>", "(J)V"⟩
def dkwX10_init_0 : List UInt8 := [42, 183, 0, 1, 42, 4, 181, 0, 7, 42, 16, 30, 181, 0, 13, 42, 31, 181, 0, 16, 177]
abbrev dktX10_init_0 : List UInt8 := dkwX10_init_0 ++ []
theorem dksX10_init_0 : cX10_init.data.toList.drop 0 = dktX10_init_0 := by decide +kernel
theorem dX10_init_0 : decode cX10_init 0 = .ok (.aload_n 0, 1) := dk_42 (dk_at dksX10_init_0 0 rfl rfl)
theorem dX10_init_1 : decode cX10_init 1 = .ok (.invokespecial 1, 3) := dk_183 0 1 (dk_at dksX10_init_0 1 rfl rfl)
theorem dX10_init_4 : decode cX10_init 4 = .ok (.aload_n 0, 1) := dk_42 (dk_at dksX10_init_0 4 rfl rfl)
theorem dX10_init_5 : decode cX10_init 5 = .ok (.iconst 1, 1) := dk_4 (dk_at dksX10_init_0 5 rfl rfl)
theorem dX10_init_6 : decode cX10_init 6 = .ok (.putfield 7, 3) := dk_181 0 7 (dk_at dksX10_init_0 6 rfl rfl)
theorem dX10_init_9 : decode cX10_init 9 = .ok (.aload_n 0, 1) := dk_42 (dk_at dksX10_init_0 9 rfl rfl)
theorem dX10_init_10 : decode cX10_init 10 = .ok (.bipush 30, 2) := dk_16 30 (dk_at dksX10_init_0 10 rfl rfl)
theorem dX10_init_12 : decode cX10_init 12 = .ok (.putfield 13, 3) := dk_181 0 13 (dk_at dksX10_init_0 12 rfl rfl)
theorem dX10_init_15 : decode cX10_init 15 = .ok (.aload_n 0, 1) := dk_42 (dk_at dksX10_init_0 15 rfl rfl)
theorem dX10_init_16 : decode cX10_init 16 = .ok (.lload_n 1, 1) := dk_31 (dk_at dksX10_init_0 16 rfl rfl)
theorem dX10_init_17 : decode cX10_init 17 = .ok (.putfield 16, 3) := dk_181 0 16 (dk_at dksX10_init_0 17 rfl rfl)
theorem dX10_init_20 : decode cX10_init 20 = .ok (.return_, 1) := dk_177 (dk_at dksX10_init_0 20 rfl rfl)
abbrev cX10_moreIn : ByteArray := prog_12_method_3_code
def yX10_moreIn : MethodName := ⟨RX10, "moreIn", "(II)I"⟩
def dkwX10_moreIn_0 : List UInt8 := [42, 180, 0, 7, 3, 28, 42, 180, 0, 13, 27, 100, 184, 0, 20, 184, 0, 26, 104, 172]
abbrev dktX10_moreIn_0 : List UInt8 := dkwX10_moreIn_0 ++ []
theorem dksX10_moreIn_0 : cX10_moreIn.data.toList.drop 0 = dktX10_moreIn_0 := by decide +kernel
theorem dX10_moreIn_0 : decode cX10_moreIn 0 = .ok (.aload_n 0, 1) := dk_42 (dk_at dksX10_moreIn_0 0 rfl rfl)
theorem dX10_moreIn_1 : decode cX10_moreIn 1 = .ok (.getfield 7, 3) := dk_180 0 7 (dk_at dksX10_moreIn_0 1 rfl rfl)
theorem dX10_moreIn_4 : decode cX10_moreIn 4 = .ok (.iconst 0, 1) := dk_3 (dk_at dksX10_moreIn_0 4 rfl rfl)
theorem dX10_moreIn_5 : decode cX10_moreIn 5 = .ok (.iload_n 2, 1) := dk_28 (dk_at dksX10_moreIn_0 5 rfl rfl)
theorem dX10_moreIn_6 : decode cX10_moreIn 6 = .ok (.aload_n 0, 1) := dk_42 (dk_at dksX10_moreIn_0 6 rfl rfl)
theorem dX10_moreIn_7 : decode cX10_moreIn 7 = .ok (.getfield 13, 3) := dk_180 0 13 (dk_at dksX10_moreIn_0 7 rfl rfl)
theorem dX10_moreIn_10 : decode cX10_moreIn 10 = .ok (.iload_n 1, 1) := dk_27 (dk_at dksX10_moreIn_0 10 rfl rfl)
theorem dX10_moreIn_11 : decode cX10_moreIn 11 = .ok (.isub, 1) := dk_100 (dk_at dksX10_moreIn_0 11 rfl rfl)
theorem dX10_moreIn_12 : decode cX10_moreIn 12 = .ok (.invokestatic 20, 3) := dk_184 0 20 (dk_at dksX10_moreIn_0 12 rfl rfl)
theorem dX10_moreIn_15 : decode cX10_moreIn 15 = .ok (.invokestatic 26, 3) := dk_184 0 26 (dk_at dksX10_moreIn_0 15 rfl rfl)
theorem dX10_moreIn_18 : decode cX10_moreIn 18 = .ok (.imul, 1) := dk_104 (dk_at dksX10_moreIn_0 18 rfl rfl)
theorem dX10_moreIn_19 : decode cX10_moreIn 19 = .ok (.ireturn, 1) := dk_172 (dk_at dksX10_moreIn_0 19 rfl rfl)
abbrev cX10_lengthIn : ByteArray := prog_12_method_2_code
def yX10_lengthIn : MethodName := ⟨RX10, "lengthIn", "(I)I"⟩
def dkwX10_lengthIn_0 : List UInt8 := [42, 180, 0, 7, 27, 42, 180, 0, 13, 184, 0, 20, 104, 172]
abbrev dktX10_lengthIn_0 : List UInt8 := dkwX10_lengthIn_0 ++ []
theorem dksX10_lengthIn_0 : cX10_lengthIn.data.toList.drop 0 = dktX10_lengthIn_0 := by decide +kernel
theorem dX10_lengthIn_0 : decode cX10_lengthIn 0 = .ok (.aload_n 0, 1) := dk_42 (dk_at dksX10_lengthIn_0 0 rfl rfl)
theorem dX10_lengthIn_1 : decode cX10_lengthIn 1 = .ok (.getfield 7, 3) := dk_180 0 7 (dk_at dksX10_lengthIn_0 1 rfl rfl)
theorem dX10_lengthIn_4 : decode cX10_lengthIn 4 = .ok (.iload_n 1, 1) := dk_27 (dk_at dksX10_lengthIn_0 4 rfl rfl)
theorem dX10_lengthIn_5 : decode cX10_lengthIn 5 = .ok (.aload_n 0, 1) := dk_42 (dk_at dksX10_lengthIn_0 5 rfl rfl)
theorem dX10_lengthIn_6 : decode cX10_lengthIn 6 = .ok (.getfield 13, 3) := dk_180 0 13 (dk_at dksX10_lengthIn_0 6 rfl rfl)
theorem dX10_lengthIn_9 : decode cX10_lengthIn 9 = .ok (.invokestatic 20, 3) := dk_184 0 20 (dk_at dksX10_lengthIn_0 9 rfl rfl)
theorem dX10_lengthIn_12 : decode cX10_lengthIn 12 = .ok (.imul, 1) := dk_104 (dk_at dksX10_lengthIn_0 12 rfl rfl)
theorem dX10_lengthIn_13 : decode cX10_lengthIn 13 = .ok (.ireturn, 1) := dk_172 (dk_at dksX10_lengthIn_0 13 rfl rfl)
theorem q198 : (Jvm.Cond.initialized "HairProvince$Word") ∈ lw_all := lw_g (lw_at lw_m1 24 rfl) rfl
theorem q899 : (Jvm.Cond.instantiable "HairProvince$Word" (4 : Nat)) ∈ lw_all := lw_g (lw_at lw_m4 5 rfl) rfl
theorem q920 : (Jvm.Cond.instanceMethod ({ cls := "HairProvince$Word", name := "<init>", desc := "(J)V" } : Jvm.MethodName)) ∈ lw_all := lw_g (lw_at lw_m4 26 rfl) rfl
theorem q921 : (Jvm.Cond.code ({ cls := "HairProvince$Word", name := "<init>", desc := "(J)V" } : Jvm.MethodName) prog_12_method_1_code (3 : Nat) (Option.none : Option Jvm.ClassFile.FieldType)) ∈ lw_all := lw_g (lw_at lw_m4 27 rfl) rfl
theorem q922 : (Jvm.Cond.methodLink "HairProvince$Word" (1 : Nat) ({ cls := "java/lang/Object", name := "<init>", desc := "()V" } : Jvm.MethodName)) ∈ lw_all := lw_g (lw_at lw_m4 28 rfl) rfl
theorem q923 : (Jvm.Cond.fieldLink "HairProvince$Word" (16 : Nat) "HairProvince$Word" "name" "J") ∈ lw_all := lw_g (lw_at lw_m4 29 rfl) rfl
theorem q925 : (Jvm.Cond.fieldLink "HairProvince$Word" (7 : Nat) "HairProvince$Word" "grows" "I") ∈ lw_all := lw_g (lw_at lw_m4 31 rfl) rfl
theorem q928 : (Jvm.Cond.fieldLink "HairProvince$Word" (13 : Nat) "HairProvince$Word" "grey" "I") ∈ lw_all := lw_g (lw_at lw_m4 34 rfl) rfl
theorem q934 : (Jvm.Cond.laysFinal "HairProvince$Word" "HairProvince$Word" "name" "J") ∈ lw_all := lw_g (lw_at lw_m4 40 rfl) rfl
theorem q935 : (Jvm.Cond.soleField "HairProvince$Word" "name") ∈ lw_all := lw_g (lw_at lw_m4 41 rfl) rfl
theorem q936 : (Jvm.Cond.lays "HairProvince$Word" "HairProvince$Word" "grows" "I") ∈ lw_all := lw_g (lw_at lw_m4 42 rfl) rfl
theorem q937 : (Jvm.Cond.soleField "HairProvince$Word" "grows") ∈ lw_all := lw_g (lw_at lw_m4 43 rfl) rfl
theorem q938 : (Jvm.Cond.lays "HairProvince$Word" "HairProvince$Word" "grey" "I") ∈ lw_all := lw_g (lw_at lw_m4 44 rfl) rfl
theorem q939 : (Jvm.Cond.soleField "HairProvince$Word" "grey") ∈ lw_all := lw_g (lw_at lw_m4 45 rfl) rfl
theorem q940 : (Jvm.Cond.lays "HairProvince$Word" "HairProvince$Word" "halves" "I") ∈ lw_all := lw_g (lw_at lw_m4 46 rfl) rfl
theorem q941 : (Jvm.Cond.soleField "HairProvince$Word" "halves") ∈ lw_all := lw_g (lw_at lw_m4 47 rfl) rfl
theorem q942 : (Jvm.Cond.superclass "HairProvince$Word" "java/lang/Object") ∈ lw_all := lw_g (lw_at lw_m4 48 rfl) rfl
theorem q1187 : (Jvm.Cond.instanceMethod ({ cls := "HairProvince$Word", name := "moreIn", desc := "(II)I" } : Jvm.MethodName)) ∈ lw_all := lw_g (lw_at lw_m5 53 rfl) rfl
theorem q1188 : (Jvm.Cond.selects "HairProvince$Word" ({ cls := "HairProvince$Word", name := "moreIn", desc := "(II)I" } : Jvm.MethodName) ({ cls := "HairProvince$Word", name := "moreIn", desc := "(II)I" } : Jvm.MethodName)) ∈ lw_all := lw_g (lw_at lw_m5 54 rfl) rfl
theorem q1189 : (Jvm.Cond.code ({ cls := "HairProvince$Word", name := "moreIn", desc := "(II)I" } : Jvm.MethodName) prog_12_method_3_code (3 : Nat) (Option.some Jvm.ClassFile.FieldType.int)) ∈ lw_all := lw_g (lw_at lw_m5 55 rfl) rfl
theorem q1190 : (Jvm.Cond.methodLink "HairProvince$Word" (20 : Nat) ({ cls := "java/lang/Math", name := "min", desc := "(II)I" } : Jvm.MethodName)) ∈ lw_all := lw_g (lw_at lw_m5 56 rfl) rfl
theorem q1191 : (Jvm.Cond.methodLink "HairProvince$Word" (26 : Nat) ({ cls := "java/lang/Math", name := "max", desc := "(II)I" } : Jvm.MethodName)) ∈ lw_all := lw_g (lw_at lw_m5 57 rfl) rfl
theorem q1383 : (Jvm.Cond.instanceMethod ({ cls := "HairProvince$Word", name := "lengthIn", desc := "(I)I" } : Jvm.MethodName)) ∈ lw_all := lw_g (lw_at lw_m6 9 rfl) rfl
theorem q1384 : (Jvm.Cond.selects "HairProvince$Word" ({ cls := "HairProvince$Word", name := "lengthIn", desc := "(I)I" } : Jvm.MethodName) ({ cls := "HairProvince$Word", name := "lengthIn", desc := "(I)I" } : Jvm.MethodName)) ∈ lw_all := lw_g (lw_at lw_m6 10 rfl) rfl
theorem q1385 : (Jvm.Cond.code ({ cls := "HairProvince$Word", name := "lengthIn", desc := "(I)I" } : Jvm.MethodName) prog_12_method_2_code (2 : Nat) (Option.some Jvm.ClassFile.FieldType.int)) ∈ lw_all := lw_g (lw_at lw_m6 11 rfl) rfl
theorem in_X10 : ∀ w ∈ wsX100, w ∈ lw_all := lw_in wsX100 [934, 936, 938, 940] (by decide +kernel) (by decide +kernel)
/-! HairProvince$Dinner -/
set_option maxRecDepth 100000
def RX11 : String := "HairProvince$Dinner"
def TX11 : u_T := fun k => match k with
  | 0 => ("HairProvince$Dinner", "first", "I", true)
  | 1 => ("HairProvince$Dinner", "second", "I", true)
  | _ => ("HairProvince$Dinner", "every", "I", true)
def tyX11 : Nat → FieldType := fun k => match k with
  | 0 => .int
  | 1 => .int
  | _ => .int
abbrev wsX110 : List Cond := u_ws RX11 TX11 3
theorem nmX11 : ∀ a, a < 3 → ∀ b, b < 3 → a ≠ b → (TX11 a).2.1 ≠ (TX11 b).2.1 := by decide +kernel
theorem tyX11_ok : ∀ k, k < 3 → parseFieldDescriptor (TX11 k).2.2.1 = some (tyX11 k) := by decide +kernel
abbrev cX11_init : ByteArray := prog_2_method_1_code
def yX11_init : MethodName := ⟨RX11, "<init>", "(III)V"⟩
def dkwX11_init_0 : List UInt8 := [42, 183, 0, 1, 42, 27, 181, 0, 7, 42, 28, 181, 0, 13, 42, 29, 181, 0, 16, 177]
abbrev dktX11_init_0 : List UInt8 := dkwX11_init_0 ++ []
theorem dksX11_init_0 : cX11_init.data.toList.drop 0 = dktX11_init_0 := by decide +kernel
theorem dX11_init_0 : decode cX11_init 0 = .ok (.aload_n 0, 1) := dk_42 (dk_at dksX11_init_0 0 rfl rfl)
theorem dX11_init_1 : decode cX11_init 1 = .ok (.invokespecial 1, 3) := dk_183 0 1 (dk_at dksX11_init_0 1 rfl rfl)
theorem dX11_init_4 : decode cX11_init 4 = .ok (.aload_n 0, 1) := dk_42 (dk_at dksX11_init_0 4 rfl rfl)
theorem dX11_init_5 : decode cX11_init 5 = .ok (.iload_n 1, 1) := dk_27 (dk_at dksX11_init_0 5 rfl rfl)
theorem dX11_init_6 : decode cX11_init 6 = .ok (.putfield 7, 3) := dk_181 0 7 (dk_at dksX11_init_0 6 rfl rfl)
theorem dX11_init_9 : decode cX11_init 9 = .ok (.aload_n 0, 1) := dk_42 (dk_at dksX11_init_0 9 rfl rfl)
theorem dX11_init_10 : decode cX11_init 10 = .ok (.iload_n 2, 1) := dk_28 (dk_at dksX11_init_0 10 rfl rfl)
theorem dX11_init_11 : decode cX11_init 11 = .ok (.putfield 13, 3) := dk_181 0 13 (dk_at dksX11_init_0 11 rfl rfl)
theorem dX11_init_14 : decode cX11_init 14 = .ok (.aload_n 0, 1) := dk_42 (dk_at dksX11_init_0 14 rfl rfl)
theorem dX11_init_15 : decode cX11_init 15 = .ok (.iload_n 3, 1) := dk_29 (dk_at dksX11_init_0 15 rfl rfl)
theorem dX11_init_16 : decode cX11_init 16 = .ok (.putfield 16, 3) := dk_181 0 16 (dk_at dksX11_init_0 16 rfl rfl)
theorem dX11_init_19 : decode cX11_init 19 = .ok (.return_, 1) := dk_177 (dk_at dksX11_init_0 19 rfl rfl)
abbrev cX11_isOf : ByteArray := prog_2_method_2_code
def yX11_isOf : MethodName := ⟨RX11, "isOf", "(I)Z"⟩
def dkwX11_isOf_0 : List UInt8 := [27, 42, 180, 0, 7, 159, 0, 11, 27, 42, 180, 0, 13, 160, 0, 7, 4, 167, 0, 4, 3, 172]
abbrev dktX11_isOf_0 : List UInt8 := dkwX11_isOf_0 ++ []
theorem dksX11_isOf_0 : cX11_isOf.data.toList.drop 0 = dktX11_isOf_0 := by decide +kernel
theorem dX11_isOf_0 : decode cX11_isOf 0 = .ok (.iload_n 1, 1) := dk_27 (dk_at dksX11_isOf_0 0 rfl rfl)
theorem dX11_isOf_1 : decode cX11_isOf 1 = .ok (.aload_n 0, 1) := dk_42 (dk_at dksX11_isOf_0 1 rfl rfl)
theorem dX11_isOf_2 : decode cX11_isOf 2 = .ok (.getfield 7, 3) := dk_180 0 7 (dk_at dksX11_isOf_0 2 rfl rfl)
theorem dX11_isOf_5 : decode cX11_isOf 5 = .ok (.if_icmp .eq 11, 3) := dk_159 0 11 (dk_at dksX11_isOf_0 5 rfl rfl)
theorem dX11_isOf_8 : decode cX11_isOf 8 = .ok (.iload_n 1, 1) := dk_27 (dk_at dksX11_isOf_0 8 rfl rfl)
theorem dX11_isOf_9 : decode cX11_isOf 9 = .ok (.aload_n 0, 1) := dk_42 (dk_at dksX11_isOf_0 9 rfl rfl)
theorem dX11_isOf_10 : decode cX11_isOf 10 = .ok (.getfield 13, 3) := dk_180 0 13 (dk_at dksX11_isOf_0 10 rfl rfl)
theorem dX11_isOf_13 : decode cX11_isOf 13 = .ok (.if_icmp .ne 7, 3) := dk_160 0 7 (dk_at dksX11_isOf_0 13 rfl rfl)
theorem dX11_isOf_16 : decode cX11_isOf 16 = .ok (.iconst 1, 1) := dk_4 (dk_at dksX11_isOf_0 16 rfl rfl)
theorem dX11_isOf_17 : decode cX11_isOf 17 = .ok (.goto 4, 3) := dk_167 0 4 (dk_at dksX11_isOf_0 17 rfl rfl)
theorem dX11_isOf_20 : decode cX11_isOf 20 = .ok (.iconst 0, 1) := dk_3 (dk_at dksX11_isOf_0 20 rfl rfl)
theorem dX11_isOf_21 : decode cX11_isOf 21 = .ok (.ireturn, 1) := dk_172 (dk_at dksX11_isOf_0 21 rfl rfl)
abbrev cX11_areBoth : ByteArray := prog_2_method_3_code
def yX11_areBoth : MethodName := ⟨RX11, "areBoth", "(II)Z"⟩
def dkwX11_areBoth_1 : List UInt8 := [167, 0, 4, 3, 172]
abbrev dktX11_areBoth_1 : List UInt8 := dkwX11_areBoth_1 ++ []
def dkwX11_areBoth_0 : List UInt8 := [27, 28, 159, 0, 23, 42, 27, 182, 0, 19, 153, 0, 15, 42, 28, 182, 0, 19, 153, 0, 7, 4]
abbrev dktX11_areBoth_0 : List UInt8 := dkwX11_areBoth_0 ++ dktX11_areBoth_1
theorem dksX11_areBoth_0 : cX11_areBoth.data.toList.drop 0 = dktX11_areBoth_0 := by decide +kernel
theorem dksX11_areBoth_1 : cX11_areBoth.data.toList.drop 22 = dktX11_areBoth_1 := dk_seg dksX11_areBoth_0 22 rfl rfl
theorem dX11_areBoth_0 : decode cX11_areBoth 0 = .ok (.iload_n 1, 1) := dk_27 (dk_at dksX11_areBoth_0 0 rfl rfl)
theorem dX11_areBoth_1 : decode cX11_areBoth 1 = .ok (.iload_n 2, 1) := dk_28 (dk_at dksX11_areBoth_0 1 rfl rfl)
theorem dX11_areBoth_2 : decode cX11_areBoth 2 = .ok (.if_icmp .eq 23, 3) := dk_159 0 23 (dk_at dksX11_areBoth_0 2 rfl rfl)
theorem dX11_areBoth_5 : decode cX11_areBoth 5 = .ok (.aload_n 0, 1) := dk_42 (dk_at dksX11_areBoth_0 5 rfl rfl)
theorem dX11_areBoth_6 : decode cX11_areBoth 6 = .ok (.iload_n 1, 1) := dk_27 (dk_at dksX11_areBoth_0 6 rfl rfl)
theorem dX11_areBoth_7 : decode cX11_areBoth 7 = .ok (.invokevirtual 19, 3) := dk_182 0 19 (dk_at dksX11_areBoth_0 7 rfl rfl)
theorem dX11_areBoth_10 : decode cX11_areBoth 10 = .ok (.ifCond .eq 15, 3) := dk_153 0 15 (dk_at dksX11_areBoth_0 10 rfl rfl)
theorem dX11_areBoth_13 : decode cX11_areBoth 13 = .ok (.aload_n 0, 1) := dk_42 (dk_at dksX11_areBoth_0 13 rfl rfl)
theorem dX11_areBoth_14 : decode cX11_areBoth 14 = .ok (.iload_n 2, 1) := dk_28 (dk_at dksX11_areBoth_0 14 rfl rfl)
theorem dX11_areBoth_15 : decode cX11_areBoth 15 = .ok (.invokevirtual 19, 3) := dk_182 0 19 (dk_at dksX11_areBoth_0 15 rfl rfl)
theorem dX11_areBoth_18 : decode cX11_areBoth 18 = .ok (.ifCond .eq 7, 3) := dk_153 0 7 (dk_at dksX11_areBoth_0 18 rfl rfl)
theorem dX11_areBoth_21 : decode cX11_areBoth 21 = .ok (.iconst 1, 1) := dk_4 (dk_at dksX11_areBoth_0 21 rfl rfl)
theorem dX11_areBoth_22 : decode cX11_areBoth 22 = .ok (.goto 4, 3) := dk_167 0 4 (dk_at dksX11_areBoth_1 0 rfl rfl)
theorem dX11_areBoth_25 : decode cX11_areBoth 25 = .ok (.iconst 0, 1) := dk_3 (dk_at dksX11_areBoth_1 3 rfl rfl)
theorem dX11_areBoth_26 : decode cX11_areBoth 26 = .ok (.ireturn, 1) := dk_172 (dk_at dksX11_areBoth_1 4 rfl rfl)
theorem q199 : (Jvm.Cond.initialized "HairProvince$Dinner") ∈ lw_all := lw_g (lw_at lw_m1 25 rfl) rfl
theorem q978 : (Jvm.Cond.instantiable "HairProvince$Dinner" (3 : Nat)) ∈ lw_all := lw_g (lw_at lw_m4 84 rfl) rfl
theorem q980 : (Jvm.Cond.instanceMethod ({ cls := "HairProvince$Dinner", name := "<init>", desc := "(III)V" } : Jvm.MethodName)) ∈ lw_all := lw_g (lw_at lw_m4 86 rfl) rfl
theorem q981 : (Jvm.Cond.code ({ cls := "HairProvince$Dinner", name := "<init>", desc := "(III)V" } : Jvm.MethodName) prog_2_method_1_code (4 : Nat) (Option.none : Option Jvm.ClassFile.FieldType)) ∈ lw_all := lw_g (lw_at lw_m4 87 rfl) rfl
theorem q982 : (Jvm.Cond.methodLink "HairProvince$Dinner" (1 : Nat) ({ cls := "java/lang/Object", name := "<init>", desc := "()V" } : Jvm.MethodName)) ∈ lw_all := lw_g (lw_at lw_m4 88 rfl) rfl
theorem q983 : (Jvm.Cond.fieldLink "HairProvince$Dinner" (7 : Nat) "HairProvince$Dinner" "first" "I") ∈ lw_all := lw_g (lw_at lw_m4 89 rfl) rfl
theorem q986 : (Jvm.Cond.fieldLink "HairProvince$Dinner" (13 : Nat) "HairProvince$Dinner" "second" "I") ∈ lw_all := lw_g (lw_at lw_m4 92 rfl) rfl
theorem q989 : (Jvm.Cond.fieldLink "HairProvince$Dinner" (16 : Nat) "HairProvince$Dinner" "every" "I") ∈ lw_all := lw_g (lw_at lw_m4 95 rfl) rfl
theorem q992 : (Jvm.Cond.laysFinal "HairProvince$Dinner" "HairProvince$Dinner" "first" "I") ∈ lw_all := lw_g (lw_at lw_m4 98 rfl) rfl
theorem q993 : (Jvm.Cond.soleField "HairProvince$Dinner" "first") ∈ lw_all := lw_g (lw_at lw_m4 99 rfl) rfl
theorem q994 : (Jvm.Cond.laysFinal "HairProvince$Dinner" "HairProvince$Dinner" "second" "I") ∈ lw_all := lw_g (lw_at lw_m4 100 rfl) rfl
theorem q995 : (Jvm.Cond.soleField "HairProvince$Dinner" "second") ∈ lw_all := lw_g (lw_at lw_m4 101 rfl) rfl
theorem q996 : (Jvm.Cond.laysFinal "HairProvince$Dinner" "HairProvince$Dinner" "every" "I") ∈ lw_all := lw_g (lw_at lw_m4 102 rfl) rfl
theorem q997 : (Jvm.Cond.soleField "HairProvince$Dinner" "every") ∈ lw_all := lw_g (lw_at lw_m4 103 rfl) rfl
theorem q998 : (Jvm.Cond.superclass "HairProvince$Dinner" "java/lang/Object") ∈ lw_all := lw_g (lw_at lw_m4 104 rfl) rfl
theorem q1331 : (Jvm.Cond.instanceMethod ({ cls := "HairProvince$Dinner", name := "isOf", desc := "(I)Z" } : Jvm.MethodName)) ∈ lw_all := lw_g (lw_at lw_m5 197 rfl) rfl
theorem q1332 : (Jvm.Cond.selects "HairProvince$Dinner" ({ cls := "HairProvince$Dinner", name := "isOf", desc := "(I)Z" } : Jvm.MethodName) ({ cls := "HairProvince$Dinner", name := "isOf", desc := "(I)Z" } : Jvm.MethodName)) ∈ lw_all := lw_g (lw_at lw_m5 198 rfl) rfl
theorem q1333 : (Jvm.Cond.code ({ cls := "HairProvince$Dinner", name := "isOf", desc := "(I)Z" } : Jvm.MethodName) prog_2_method_2_code (2 : Nat) (Option.some Jvm.ClassFile.FieldType.boolean)) ∈ lw_all := lw_g (lw_at lw_m5 199 rfl) rfl
theorem q1469 : (Jvm.Cond.instanceMethod ({ cls := "HairProvince$Dinner", name := "areBoth", desc := "(II)Z" } : Jvm.MethodName)) ∈ lw_all := lw_g (lw_at lw_m6 95 rfl) rfl
theorem q1470 : (Jvm.Cond.selects "HairProvince$Dinner" ({ cls := "HairProvince$Dinner", name := "areBoth", desc := "(II)Z" } : Jvm.MethodName) ({ cls := "HairProvince$Dinner", name := "areBoth", desc := "(II)Z" } : Jvm.MethodName)) ∈ lw_all := lw_g (lw_at lw_m6 96 rfl) rfl
theorem q1471 : (Jvm.Cond.code ({ cls := "HairProvince$Dinner", name := "areBoth", desc := "(II)Z" } : Jvm.MethodName) prog_2_method_3_code (3 : Nat) (Option.some Jvm.ClassFile.FieldType.boolean)) ∈ lw_all := lw_g (lw_at lw_m6 97 rfl) rfl
theorem q1472 : (Jvm.Cond.methodLink "HairProvince$Dinner" (19 : Nat) ({ cls := "HairProvince$Dinner", name := "isOf", desc := "(I)Z" } : Jvm.MethodName)) ∈ lw_all := lw_g (lw_at lw_m6 98 rfl) rfl
theorem in_X11 : ∀ w ∈ wsX110, w ∈ lw_all := lw_in wsX110 [992, 994, 996] (by decide +kernel) (by decide +kernel)
/-! HairProvince$Step -/
set_option maxRecDepth 100000
def RX12 : String := "HairProvince$Step"
def TX12 : u_T := fun k => match k with
  | 0 => ("HairProvince$Step", "kind", "I", true)
  | 1 => ("HairProvince$Step", "one", "I", false)
  | 2 => ("HairProvince$Step", "two", "I", false)
  | 3 => ("HairProvince$Step", "three", "I", false)
  | 4 => ("HairProvince$Step", "test", "I", false)
  | 5 => ("HairProvince$Step", "compares", "I", false)
  | 6 => ("HairProvince$Step", "to", "I", false)
  | _ => ("HairProvince$Step", "rounds", "I", false)
def tyX12 : Nat → FieldType := fun k => match k with
  | 0 => .int
  | 1 => .int
  | 2 => .int
  | 3 => .int
  | 4 => .int
  | 5 => .int
  | 6 => .int
  | _ => .int
abbrev wsX120 : List Cond := u_ws RX12 TX12 8
theorem nmX12 : ∀ a, a < 8 → ∀ b, b < 8 → a ≠ b → (TX12 a).2.1 ≠ (TX12 b).2.1 := by decide +kernel
theorem tyX12_ok : ∀ k, k < 8 → parseFieldDescriptor (TX12 k).2.2.1 = some (tyX12 k) := by decide +kernel
abbrev cX12_init : ByteArray := prog_9_method_1_code
def yX12_init : MethodName := ⟨RX12, "<init>", "(I)V"⟩
def dkwX12_init_0 : List UInt8 := [42, 183, 0, 1, 42, 27, 181, 0, 7, 177]
abbrev dktX12_init_0 : List UInt8 := dkwX12_init_0 ++ []
theorem dksX12_init_0 : cX12_init.data.toList.drop 0 = dktX12_init_0 := by decide +kernel
theorem dX12_init_0 : decode cX12_init 0 = .ok (.aload_n 0, 1) := dk_42 (dk_at dksX12_init_0 0 rfl rfl)
theorem dX12_init_1 : decode cX12_init 1 = .ok (.invokespecial 1, 3) := dk_183 0 1 (dk_at dksX12_init_0 1 rfl rfl)
theorem dX12_init_4 : decode cX12_init 4 = .ok (.aload_n 0, 1) := dk_42 (dk_at dksX12_init_0 4 rfl rfl)
theorem dX12_init_5 : decode cX12_init 5 = .ok (.iload_n 1, 1) := dk_27 (dk_at dksX12_init_0 5 rfl rfl)
theorem dX12_init_6 : decode cX12_init 6 = .ok (.putfield 7, 3) := dk_181 0 7 (dk_at dksX12_init_0 6 rfl rfl)
theorem dX12_init_9 : decode cX12_init 9 = .ok (.return_, 1) := dk_177 (dk_at dksX12_init_0 9 rfl rfl)
theorem q200 : (Jvm.Cond.initialized "HairProvince$Step") ∈ lw_all := lw_g (lw_at lw_m1 26 rfl) rfl
theorem q1040 : (Jvm.Cond.instantiable "HairProvince$Step" (8 : Nat)) ∈ lw_all := lw_g (lw_at lw_m4 146 rfl) rfl
theorem q1042 : (Jvm.Cond.instanceMethod ({ cls := "HairProvince$Step", name := "<init>", desc := "(I)V" } : Jvm.MethodName)) ∈ lw_all := lw_g (lw_at lw_m4 148 rfl) rfl
theorem q1043 : (Jvm.Cond.code ({ cls := "HairProvince$Step", name := "<init>", desc := "(I)V" } : Jvm.MethodName) prog_9_method_1_code (2 : Nat) (Option.none : Option Jvm.ClassFile.FieldType)) ∈ lw_all := lw_g (lw_at lw_m4 149 rfl) rfl
theorem q1044 : (Jvm.Cond.methodLink "HairProvince$Step" (1 : Nat) ({ cls := "java/lang/Object", name := "<init>", desc := "()V" } : Jvm.MethodName)) ∈ lw_all := lw_g (lw_at lw_m4 150 rfl) rfl
theorem q1045 : (Jvm.Cond.fieldLink "HairProvince$Step" (7 : Nat) "HairProvince$Step" "kind" "I") ∈ lw_all := lw_g (lw_at lw_m4 151 rfl) rfl
theorem q1061 : (Jvm.Cond.laysFinal "HairProvince$Step" "HairProvince$Step" "kind" "I") ∈ lw_all := lw_g (lw_at lw_m4 167 rfl) rfl
theorem q1062 : (Jvm.Cond.soleField "HairProvince$Step" "kind") ∈ lw_all := lw_g (lw_at lw_m4 168 rfl) rfl
theorem q1063 : (Jvm.Cond.lays "HairProvince$Step" "HairProvince$Step" "one" "I") ∈ lw_all := lw_g (lw_at lw_m4 169 rfl) rfl
theorem q1064 : (Jvm.Cond.soleField "HairProvince$Step" "one") ∈ lw_all := lw_g (lw_at lw_m4 170 rfl) rfl
theorem q1065 : (Jvm.Cond.lays "HairProvince$Step" "HairProvince$Step" "two" "I") ∈ lw_all := lw_g (lw_at lw_m4 171 rfl) rfl
theorem q1066 : (Jvm.Cond.soleField "HairProvince$Step" "two") ∈ lw_all := lw_g (lw_at lw_m4 172 rfl) rfl
theorem q1067 : (Jvm.Cond.lays "HairProvince$Step" "HairProvince$Step" "three" "I") ∈ lw_all := lw_g (lw_at lw_m4 173 rfl) rfl
theorem q1068 : (Jvm.Cond.soleField "HairProvince$Step" "three") ∈ lw_all := lw_g (lw_at lw_m4 174 rfl) rfl
theorem q1069 : (Jvm.Cond.lays "HairProvince$Step" "HairProvince$Step" "test" "I") ∈ lw_all := lw_g (lw_at lw_m4 175 rfl) rfl
theorem q1070 : (Jvm.Cond.soleField "HairProvince$Step" "test") ∈ lw_all := lw_g (lw_at lw_m4 176 rfl) rfl
theorem q1071 : (Jvm.Cond.lays "HairProvince$Step" "HairProvince$Step" "compares" "I") ∈ lw_all := lw_g (lw_at lw_m4 177 rfl) rfl
theorem q1072 : (Jvm.Cond.soleField "HairProvince$Step" "compares") ∈ lw_all := lw_g (lw_at lw_m4 178 rfl) rfl
theorem q1073 : (Jvm.Cond.lays "HairProvince$Step" "HairProvince$Step" "to" "I") ∈ lw_all := lw_g (lw_at lw_m4 179 rfl) rfl
theorem q1074 : (Jvm.Cond.soleField "HairProvince$Step" "to") ∈ lw_all := lw_g (lw_at lw_m4 180 rfl) rfl
theorem q1075 : (Jvm.Cond.lays "HairProvince$Step" "HairProvince$Step" "rounds" "I") ∈ lw_all := lw_g (lw_at lw_m4 181 rfl) rfl
theorem q1076 : (Jvm.Cond.soleField "HairProvince$Step" "rounds") ∈ lw_all := lw_g (lw_at lw_m4 182 rfl) rfl
theorem q1077 : (Jvm.Cond.superclass "HairProvince$Step" "java/lang/Object") ∈ lw_all := lw_g (lw_at lw_m4 183 rfl) rfl
theorem in_X12 : ∀ w ∈ wsX120, w ∈ lw_all := lw_in wsX120 [1061, 1063, 1065, 1067, 1069, 1071, 1073, 1075] (by decide +kernel) (by decide +kernel)
/-! HairProvince$Kept -/
set_option maxRecDepth 100000
def RX13 : String := "HairProvince$Kept"
def TX13 : u_T := fun k => match k with
  | 0 => ("HairProvince$Kept", "province", "LHairProvince$Province;", true)
  | 1 => ("HairProvince$Kept", "steps", "[LHairProvince$Step;", true)
  | _ => ("HairProvince$Kept", "stepMany", "I", true)
def tyX13 : Nat → FieldType := fun k => match k with
  | 0 => .object "HairProvince$Province"
  | 1 => .array (.object "HairProvince$Step")
  | _ => .int
abbrev wsX130 : List Cond := u_ws RX13 TX13 3
theorem nmX13 : ∀ a, a < 3 → ∀ b, b < 3 → a ≠ b → (TX13 a).2.1 ≠ (TX13 b).2.1 := by decide +kernel
theorem tyX13_ok : ∀ k, k < 3 → parseFieldDescriptor (TX13 k).2.2.1 = some (tyX13 k) := by decide +kernel
abbrev cX13_init : ByteArray := prog_3_method_1_code
def yX13_init : MethodName := ⟨RX13, "<init>", "(LHairProvince$Province;[LHairProvince$Step;I)V"⟩
def dkwX13_init_0 : List UInt8 := [42, 183, 0, 1, 42, 43, 181, 0, 7, 42, 44, 181, 0, 13, 42, 29, 181, 0, 17, 177]
abbrev dktX13_init_0 : List UInt8 := dkwX13_init_0 ++ []
theorem dksX13_init_0 : cX13_init.data.toList.drop 0 = dktX13_init_0 := by decide +kernel
theorem dX13_init_0 : decode cX13_init 0 = .ok (.aload_n 0, 1) := dk_42 (dk_at dksX13_init_0 0 rfl rfl)
theorem dX13_init_1 : decode cX13_init 1 = .ok (.invokespecial 1, 3) := dk_183 0 1 (dk_at dksX13_init_0 1 rfl rfl)
theorem dX13_init_4 : decode cX13_init 4 = .ok (.aload_n 0, 1) := dk_42 (dk_at dksX13_init_0 4 rfl rfl)
theorem dX13_init_5 : decode cX13_init 5 = .ok (.aload_n 1, 1) := dk_43 (dk_at dksX13_init_0 5 rfl rfl)
theorem dX13_init_6 : decode cX13_init 6 = .ok (.putfield 7, 3) := dk_181 0 7 (dk_at dksX13_init_0 6 rfl rfl)
theorem dX13_init_9 : decode cX13_init 9 = .ok (.aload_n 0, 1) := dk_42 (dk_at dksX13_init_0 9 rfl rfl)
theorem dX13_init_10 : decode cX13_init 10 = .ok (.aload_n 2, 1) := dk_44 (dk_at dksX13_init_0 10 rfl rfl)
theorem dX13_init_11 : decode cX13_init 11 = .ok (.putfield 13, 3) := dk_181 0 13 (dk_at dksX13_init_0 11 rfl rfl)
theorem dX13_init_14 : decode cX13_init 14 = .ok (.aload_n 0, 1) := dk_42 (dk_at dksX13_init_0 14 rfl rfl)
theorem dX13_init_15 : decode cX13_init 15 = .ok (.iload_n 3, 1) := dk_29 (dk_at dksX13_init_0 15 rfl rfl)
theorem dX13_init_16 : decode cX13_init 16 = .ok (.putfield 17, 3) := dk_181 0 17 (dk_at dksX13_init_0 16 rfl rfl)
theorem dX13_init_19 : decode cX13_init 19 = .ok (.return_, 1) := dk_177 (dk_at dksX13_init_0 19 rfl rfl)
theorem q201 : (Jvm.Cond.initialized "HairProvince$Kept") ∈ lw_all := lw_g (lw_at lw_m1 27 rfl) rfl
theorem q1571 : (Jvm.Cond.instantiable "HairProvince$Kept" (3 : Nat)) ∈ lw_all := lw_g (lw_at lw_m6 197 rfl) rfl
theorem q1573 : (Jvm.Cond.instanceMethod ({ cls := "HairProvince$Kept", name := "<init>", desc := "(LHairProvince$Province;[LHairProvince$Step;I)V" } : Jvm.MethodName)) ∈ lw_all := lw_g (lw_at lw_m6 199 rfl) rfl
theorem q1574 : (Jvm.Cond.code ({ cls := "HairProvince$Kept", name := "<init>", desc := "(LHairProvince$Province;[LHairProvince$Step;I)V" } : Jvm.MethodName) prog_3_method_1_code (4 : Nat) (Option.none : Option Jvm.ClassFile.FieldType)) ∈ lw_all := lw_g (lw_at lw_m6 200 rfl) rfl
theorem q1575 : (Jvm.Cond.methodLink "HairProvince$Kept" (1 : Nat) ({ cls := "java/lang/Object", name := "<init>", desc := "()V" } : Jvm.MethodName)) ∈ lw_all := lw_g (lw_at lw_m6 201 rfl) rfl
theorem q1576 : (Jvm.Cond.fieldLink "HairProvince$Kept" (7 : Nat) "HairProvince$Kept" "province" "LHairProvince$Province;") ∈ lw_all := lw_g (lw_at lw_m6 202 rfl) rfl
theorem q1578 : (Jvm.Cond.fieldLink "HairProvince$Kept" (13 : Nat) "HairProvince$Kept" "steps" "[LHairProvince$Step;") ∈ lw_all := lw_g (lw_at lw_m6 204 rfl) rfl
theorem q1580 : (Jvm.Cond.fieldLink "HairProvince$Kept" (17 : Nat) "HairProvince$Kept" "stepMany" "I") ∈ lw_all := lw_g (lw_at lw_m6 206 rfl) rfl
theorem q1582 : (Jvm.Cond.laysFinal "HairProvince$Kept" "HairProvince$Kept" "province" "LHairProvince$Province;") ∈ lw_all := lw_g (lw_at lw_m6 208 rfl) rfl
theorem q1583 : (Jvm.Cond.soleField "HairProvince$Kept" "province") ∈ lw_all := lw_g (lw_at lw_m6 209 rfl) rfl
theorem q1584 : (Jvm.Cond.laysFinal "HairProvince$Kept" "HairProvince$Kept" "steps" "[LHairProvince$Step;") ∈ lw_all := lw_g (lw_at lw_m6 210 rfl) rfl
theorem q1585 : (Jvm.Cond.soleField "HairProvince$Kept" "steps") ∈ lw_all := lw_g (lw_at lw_m6 211 rfl) rfl
theorem q1586 : (Jvm.Cond.laysFinal "HairProvince$Kept" "HairProvince$Kept" "stepMany" "I") ∈ lw_all := lw_g (lw_at lw_m6 212 rfl) rfl
theorem q1587 : (Jvm.Cond.soleField "HairProvince$Kept" "stepMany") ∈ lw_all := lw_g (lw_at lw_m6 213 rfl) rfl
theorem q1588 : (Jvm.Cond.superclass "HairProvince$Kept" "java/lang/Object") ∈ lw_all := lw_g (lw_at lw_m6 214 rfl) rfl
theorem in_X13 : ∀ w ∈ wsX130, w ∈ lw_all := lw_in wsX130 [1582, 1584, 1586] (by decide +kernel) (by decide +kernel)
theorem q174 : (Jvm.Cond.initialized "HairProvinceLaw") ∈ lw_all := lw_g (lw_at lw_m1 0 rfl) rfl
set_option maxRecDepth 100000
theorem q202 : (Jvm.Cond.classLink "HairProvinceLaw" (7 : Nat) "HairProvince") ∈ lw_all := lw_g (lw_at lw_m1 28 rfl) rfl
theorem q204 : (Jvm.Cond.methodLink "HairProvinceLaw" (9 : Nat) ({ cls := "HairProvince", name := "<init>", desc := "()V" } : Jvm.MethodName)) ∈ lw_all := lw_g (lw_at lw_m1 30 rfl) rfl
theorem q606 : (Jvm.Cond.methodLink "HairProvinceLaw" (13 : Nat) ({ cls := "HairProvince", name := "status", desc := "()I" } : Jvm.MethodName)) ∈ lw_all := lw_g (lw_at lw_m2 192 rfl) rfl
theorem q610 : (Jvm.Cond.methodLink "HairProvinceLaw" (18 : Nat) ({ cls := "HairProvince", name := "top", desc := "()J" } : Jvm.MethodName)) ∈ lw_all := lw_g (lw_at lw_m2 196 rfl) rfl
theorem q614 : (Jvm.Cond.methodLink "HairProvinceLaw" (23 : Nat) ({ cls := "HairProvince", name := "bottom", desc := "()J" } : Jvm.MethodName)) ∈ lw_all := lw_g (lw_at lw_m2 200 rfl) rfl
theorem q618 : (Jvm.Cond.methodLink "HairProvinceLaw" (27 : Nat) ({ cls := "HairProvince", name := "tray", desc := "(III)Z" } : Jvm.MethodName)) ∈ lw_all := lw_g (lw_at lw_m2 204 rfl) rfl
theorem q662 : (Jvm.Cond.methodLink "HairProvinceLaw" (34 : Nat) ({ cls := "HairProvince", name := "write", desc := "(IIJ)Z" } : Jvm.MethodName)) ∈ lw_all := lw_g (lw_at lw_m3 8 rfl) rfl
theorem q718 : (Jvm.Cond.methodLink "HairProvinceLaw" (39 : Nat) ({ cls := "HairProvince", name := "read", desc := "(II)J" } : Jvm.MethodName)) ∈ lw_all := lw_g (lw_at lw_m3 64 rfl) rfl
theorem q731 : (Jvm.Cond.methodLink "HairProvinceLaw" (44 : Nat) ({ cls := "HairProvince", name := "pour", desc := "(IIIII)Z" } : Jvm.MethodName)) ∈ lw_all := lw_g (lw_at lw_m3 77 rfl) rfl
theorem q739 : (Jvm.Cond.methodLink "HairProvinceLaw" (49 : Nat) ({ cls := "HairProvince", name := "feed", desc := "(IIIII)I" } : Jvm.MethodName)) ∈ lw_all := lw_g (lw_at lw_m3 85 rfl) rfl
theorem q747 : (Jvm.Cond.methodLink "HairProvinceLaw" (54 : Nat) ({ cls := "HairProvince", name := "province", desc := "(I)I" } : Jvm.MethodName)) ∈ lw_all := lw_g (lw_at lw_m3 93 rfl) rfl
theorem q1026 : (Jvm.Cond.methodLink "HairProvinceLaw" (59 : Nat) ({ cls := "HairProvince", name := "years", desc := "(I)I" } : Jvm.MethodName)) ∈ lw_all := lw_g (lw_at lw_m4 132 rfl) rfl
theorem q1090 : (Jvm.Cond.methodLink "HairProvinceLaw" (63 : Nat) ({ cls := "HairProvince", name := "fault", desc := "(I)I" } : Jvm.MethodName)) ∈ lw_all := lw_g (lw_at lw_m4 196 rfl) rfl
theorem q1094 : (Jvm.Cond.methodLink "HairProvinceLaw" (67 : Nat) ({ cls := "HairProvince", name := "many", desc := "(I)I" } : Jvm.MethodName)) ∈ lw_all := lw_g (lw_at lw_m4 200 rfl) rfl
theorem q1111 : (Jvm.Cond.methodLink "HairProvinceLaw" (71 : Nat) ({ cls := "HairProvince", name := "word", desc := "(II)I" } : Jvm.MethodName)) ∈ lw_all := lw_g (lw_at lw_m4 217 rfl) rfl
theorem q1124 : (Jvm.Cond.methodLink "HairProvinceLaw" (76 : Nat) ({ cls := "HairProvince", name := "person", desc := "(II)I" } : Jvm.MethodName)) ∈ lw_all := lw_g (lw_at lw_m4 230 rfl) rfl
theorem q1133 : (Jvm.Cond.methodLink "HairProvinceLaw" (80 : Nat) ({ cls := "HairProvince", name := "strand", desc := "(III)I" } : Jvm.MethodName)) ∈ lw_all := lw_g (lw_at lw_m4 239 rfl) rfl
theorem q1141 : (Jvm.Cond.methodLink "HairProvinceLaw" (85 : Nat) ({ cls := "HairProvince", name := "dinner", desc := "(II)I" } : Jvm.MethodName)) ∈ lw_all := lw_g (lw_at lw_m5 7 rfl) rfl
theorem q1149 : (Jvm.Cond.methodLink "HairProvinceLaw" (89 : Nat) ({ cls := "HairProvince", name := "longest", desc := "(I)I" } : Jvm.MethodName)) ∈ lw_all := lw_g (lw_at lw_m5 15 rfl) rfl
theorem q1161 : (Jvm.Cond.methodLink "HairProvinceLaw" (93 : Nat) ({ cls := "HairProvince", name := "copyHair", desc := "(I)I" } : Jvm.MethodName)) ∈ lw_all := lw_g (lw_at lw_m5 27 rfl) rfl
theorem q1169 : (Jvm.Cond.methodLink "HairProvinceLaw" (97 : Nat) ({ cls := "HairProvince", name := "day", desc := "(I)I" } : Jvm.MethodName)) ∈ lw_all := lw_g (lw_at lw_m5 35 rfl) rfl
theorem q1213 : (Jvm.Cond.methodLink "HairProvinceLaw" (101 : Nat) ({ cls := "HairProvince", name := "say", desc := "(III)I" } : Jvm.MethodName)) ∈ lw_all := lw_g (lw_at lw_m5 79 rfl) rfl
theorem q1228 : (Jvm.Cond.methodLink "HairProvinceLaw" (105 : Nat) ({ cls := "HairProvince", name := "keep", desc := "(II)I" } : Jvm.MethodName)) ∈ lw_all := lw_g (lw_at lw_m5 94 rfl) rfl
theorem q1236 : (Jvm.Cond.methodLink "HairProvinceLaw" (109 : Nat) ({ cls := "HairProvince", name := "learn", desc := "(II)I" } : Jvm.MethodName)) ∈ lw_all := lw_g (lw_at lw_m5 102 rfl) rfl
theorem q1240 : (Jvm.Cond.methodLink "HairProvinceLaw" (113 : Nat) ({ cls := "HairProvince", name := "cut", desc := "(II)I" } : Jvm.MethodName)) ∈ lw_all := lw_g (lw_at lw_m5 106 rfl) rfl
theorem q1249 : (Jvm.Cond.methodLink "HairProvinceLaw" (117 : Nat) ({ cls := "HairProvince", name := "train", desc := "(II)Z" } : Jvm.MethodName)) ∈ lw_all := lw_g (lw_at lw_m5 115 rfl) rfl
theorem q1254 : (Jvm.Cond.methodLink "HairProvinceLaw" (122 : Nat) ({ cls := "HairProvince", name := "trade", desc := "(IZ)Z" } : Jvm.MethodName)) ∈ lw_all := lw_g (lw_at lw_m5 120 rfl) rfl
theorem q1258 : (Jvm.Cond.methodLink "HairProvinceLaw" (127 : Nat) ({ cls := "HairProvince", name := "rule", desc := "(II)Z" } : Jvm.MethodName)) ∈ lw_all := lw_g (lw_at lw_m5 124 rfl) rfl
theorem q1263 : (Jvm.Cond.methodLink "HairProvinceLaw" (131 : Nat) ({ cls := "HairProvince", name := "invite", desc := "(III)I" } : Jvm.MethodName)) ∈ lw_all := lw_g (lw_at lw_m5 129 rfl) rfl
theorem q1270 : (Jvm.Cond.methodLink "HairProvinceLaw" (135 : Nat) ({ cls := "HairProvince", name := "cancel", desc := "()I" } : Jvm.MethodName)) ∈ lw_all := lw_g (lw_at lw_m5 136 rfl) rfl
theorem q1274 : (Jvm.Cond.methodLink "HairProvinceLaw" (139 : Nat) ({ cls := "HairProvince", name := "hairIn", desc := "(II)I" } : Jvm.MethodName)) ∈ lw_all := lw_g (lw_at lw_m5 140 rfl) rfl
theorem q1309 : (Jvm.Cond.methodLink "HairProvinceLaw" (143 : Nat) ({ cls := "HairProvince", name := "knownIn", desc := "(II)I" } : Jvm.MethodName)) ∈ lw_all := lw_g (lw_at lw_m5 175 rfl) rfl
theorem q1313 : (Jvm.Cond.methodLink "HairProvinceLaw" (147 : Nat) ({ cls := "HairProvince", name := "out", desc := "(I)I" } : Jvm.MethodName)) ∈ lw_all := lw_g (lw_at lw_m5 179 rfl) rfl
theorem q1318 : (Jvm.Cond.methodLink "HairProvinceLaw" (151 : Nat) ({ cls := "HairProvince", name := "learnsIn", desc := "(II)I" } : Jvm.MethodName)) ∈ lw_all := lw_g (lw_at lw_m5 184 rfl) rfl
theorem q1322 : (Jvm.Cond.methodLink "HairProvinceLaw" (155 : Nat) ({ cls := "HairProvince", name := "wildIn", desc := "(I)I" } : Jvm.MethodName)) ∈ lw_all := lw_g (lw_at lw_m5 188 rfl) rfl
theorem q1326 : (Jvm.Cond.methodLink "HairProvinceLaw" (159 : Nat) ({ cls := "HairProvince", name := "dinesIn", desc := "(I)I" } : Jvm.MethodName)) ∈ lw_all := lw_g (lw_at lw_m5 192 rfl) rfl
theorem q1334 : (Jvm.Cond.methodLink "HairProvinceLaw" (163 : Nat) ({ cls := "HairProvince", name := "quiet", desc := "(II)I" } : Jvm.MethodName)) ∈ lw_all := lw_g (lw_at lw_m5 200 rfl) rfl
theorem q1347 : (Jvm.Cond.methodLink "HairProvinceLaw" (167 : Nat) ({ cls := "HairProvince", name := "quietHair", desc := "(II)I" } : Jvm.MethodName)) ∈ lw_all := lw_g (lw_at lw_m5 213 rfl) rfl
theorem q1351 : (Jvm.Cond.methodLink "HairProvinceLaw" (171 : Nat) ({ cls := "HairProvince", name := "unsaid", desc := "(II)I" } : Jvm.MethodName)) ∈ lw_all := lw_g (lw_at lw_m5 217 rfl) rfl
theorem q1386 : (Jvm.Cond.methodLink "HairProvinceLaw" (175 : Nat) ({ cls := "HairProvince", name := "sure", desc := "(II)I" } : Jvm.MethodName)) ∈ lw_all := lw_g (lw_at lw_m6 12 rfl) rfl
theorem q1390 : (Jvm.Cond.methodLink "HairProvinceLaw" (179 : Nat) ({ cls := "HairProvince", name := "ask", desc := "(II)I" } : Jvm.MethodName)) ∈ lw_all := lw_g (lw_at lw_m6 16 rfl) rfl
theorem q1398 : (Jvm.Cond.methodLink "HairProvinceLaw" (183 : Nat) ({ cls := "HairProvince", name := "lengthOf", desc := "(II)I" } : Jvm.MethodName)) ∈ lw_all := lw_g (lw_at lw_m6 24 rfl) rfl
theorem q1406 : (Jvm.Cond.methodLink "HairProvinceLaw" (187 : Nat) ({ cls := "HairProvince", name := "daysFor", desc := "(II)I" } : Jvm.MethodName)) ∈ lw_all := lw_g (lw_at lw_m6 32 rfl) rfl
theorem q1411 : (Jvm.Cond.methodLink "HairProvinceLaw" (191 : Nat) ({ cls := "HairProvince", name := "round", desc := "(I)I" } : Jvm.MethodName)) ∈ lw_all := lw_g (lw_at lw_m6 37 rfl) rfl
theorem q1436 : (Jvm.Cond.methodLink "HairProvinceLaw" (195 : Nat) ({ cls := "HairProvince", name := "oneRound", desc := "()I" } : Jvm.MethodName)) ∈ lw_all := lw_g (lw_at lw_m6 62 rfl) rfl
theorem q1440 : (Jvm.Cond.methodLink "HairProvinceLaw" (199 : Nat) ({ cls := "HairProvince", name := "plaits", desc := "(III)I" } : Jvm.MethodName)) ∈ lw_all := lw_g (lw_at lw_m6 66 rfl) rfl
theorem q1452 : (Jvm.Cond.methodLink "HairProvinceLaw" (203 : Nat) ({ cls := "HairProvince", name := "plaitAt", desc := "(IIII)I" } : Jvm.MethodName)) ∈ lw_all := lw_g (lw_at lw_m6 78 rfl) rfl
theorem q1456 : (Jvm.Cond.methodLink "HairProvinceLaw" (208 : Nat) ({ cls := "HairProvince", name := "tellers", desc := "(II)I" } : Jvm.MethodName)) ∈ lw_all := lw_g (lw_at lw_m6 82 rfl) rfl
theorem q1473 : (Jvm.Cond.methodLink "HairProvinceLaw" (212 : Nat) ({ cls := "HairProvince", name := "rumour", desc := "(II)I" } : Jvm.MethodName)) ∈ lw_all := lw_g (lw_at lw_m6 99 rfl) rfl
theorem q1477 : (Jvm.Cond.methodLink "HairProvinceLaw" (216 : Nat) ({ cls := "HairProvince", name := "game", desc := "(III)I" } : Jvm.MethodName)) ∈ lw_all := lw_g (lw_at lw_m6 103 rfl) rfl
theorem q1498 : (Jvm.Cond.methodLink "HairProvinceLaw" (220 : Nat) ({ cls := "HairProvince", name := "moveOf", desc := "(III)I" } : Jvm.MethodName)) ∈ lw_all := lw_g (lw_at lw_m6 124 rfl) rfl
theorem q1502 : (Jvm.Cond.methodLink "HairProvinceLaw" (224 : Nat) ({ cls := "HairProvince", name := "safe", desc := "(II)Z" } : Jvm.MethodName)) ∈ lw_all := lw_g (lw_at lw_m6 128 rfl) rfl
theorem q1513 : (Jvm.Cond.methodLink "HairProvinceLaw" (228 : Nat) ({ cls := "HairProvince", name := "riskiest", desc := "()I" } : Jvm.MethodName)) ∈ lw_all := lw_g (lw_at lw_m6 139 rfl) rfl
theorem q1517 : (Jvm.Cond.methodLink "HairProvinceLaw" (232 : Nat) ({ cls := "HairProvince", name := "live", desc := "(I)I" } : Jvm.MethodName)) ∈ lw_all := lw_g (lw_at lw_m6 143 rfl) rfl
theorem q1558 : (Jvm.Cond.methodLink "HairProvinceLaw" (236 : Nat) ({ cls := "HairProvince", name := "lived", desc := "(I)I" } : Jvm.MethodName)) ∈ lw_all := lw_g (lw_at lw_m6 184 rfl) rfl
theorem q1562 : (Jvm.Cond.methodLink "HairProvinceLaw" (240 : Nat) ({ cls := "HairProvince", name := "mean", desc := "(II)Z" } : Jvm.MethodName)) ∈ lw_all := lw_g (lw_at lw_m6 188 rfl) rfl
theorem q1567 : (Jvm.Cond.methodLink "HairProvinceLaw" (244 : Nat) ({ cls := "HairProvince", name := "mark", desc := "()I" } : Jvm.MethodName)) ∈ lw_all := lw_g (lw_at lw_m6 193 rfl) rfl
theorem q1589 : (Jvm.Cond.methodLink "HairProvinceLaw" (248 : Nat) ({ cls := "HairProvince", name := "back", desc := "()I" } : Jvm.MethodName)) ∈ lw_all := lw_g (lw_at lw_m6 215 rfl) rfl
theorem q1593 : (Jvm.Cond.classLink "HairProvinceLaw" (10 : Nat) "HairProvinceModel") ∈ lw_all := lw_g (lw_at lw_m6 219 rfl) rfl
theorem q1595 : (Jvm.Cond.methodLink "HairProvinceLaw" (12 : Nat) ({ cls := "HairProvinceModel", name := "<init>", desc := "()V" } : Jvm.MethodName)) ∈ lw_all := lw_g (lw_at lw_m6 221 rfl) rfl
theorem q1736 : (Jvm.Cond.methodLink "HairProvinceLaw" (17 : Nat) ({ cls := "HairProvinceModel", name := "status", desc := "()I" } : Jvm.MethodName)) ∈ lw_all := lw_g (lw_at lw_m7 122 rfl) rfl
theorem q1740 : (Jvm.Cond.methodLink "HairProvinceLaw" (22 : Nat) ({ cls := "HairProvinceModel", name := "top", desc := "()J" } : Jvm.MethodName)) ∈ lw_all := lw_g (lw_at lw_m7 126 rfl) rfl
theorem q1744 : (Jvm.Cond.methodLink "HairProvinceLaw" (26 : Nat) ({ cls := "HairProvinceModel", name := "bottom", desc := "()J" } : Jvm.MethodName)) ∈ lw_all := lw_g (lw_at lw_m7 130 rfl) rfl
theorem q1748 : (Jvm.Cond.methodLink "HairProvinceLaw" (31 : Nat) ({ cls := "HairProvinceModel", name := "tray", desc := "(III)Z" } : Jvm.MethodName)) ∈ lw_all := lw_g (lw_at lw_m7 134 rfl) rfl
theorem q1756 : (Jvm.Cond.methodLink "HairProvinceLaw" (38 : Nat) ({ cls := "HairProvinceModel", name := "write", desc := "(IIJ)Z" } : Jvm.MethodName)) ∈ lw_all := lw_g (lw_at lw_m7 142 rfl) rfl
theorem q1771 : (Jvm.Cond.methodLink "HairProvinceLaw" (43 : Nat) ({ cls := "HairProvinceModel", name := "read", desc := "(II)J" } : Jvm.MethodName)) ∈ lw_all := lw_g (lw_at lw_m7 157 rfl) rfl
theorem q1776 : (Jvm.Cond.methodLink "HairProvinceLaw" (48 : Nat) ({ cls := "HairProvinceModel", name := "pour", desc := "(IIIII)Z" } : Jvm.MethodName)) ∈ lw_all := lw_g (lw_at lw_m7 162 rfl) rfl
theorem q1780 : (Jvm.Cond.methodLink "HairProvinceLaw" (53 : Nat) ({ cls := "HairProvinceModel", name := "feed", desc := "(IIIII)I" } : Jvm.MethodName)) ∈ lw_all := lw_g (lw_at lw_m7 166 rfl) rfl
theorem q1788 : (Jvm.Cond.methodLink "HairProvinceLaw" (66 : Nat) ({ cls := "HairProvinceModel", name := "fault", desc := "(I)I" } : Jvm.MethodName)) ∈ lw_all := lw_g (lw_at lw_m7 174 rfl) rfl
theorem q1792 : (Jvm.Cond.methodLink "HairProvinceLaw" (58 : Nat) ({ cls := "HairProvinceModel", name := "province", desc := "(I)I" } : Jvm.MethodName)) ∈ lw_all := lw_g (lw_at lw_m7 178 rfl) rfl
theorem q1994 : (Jvm.Cond.methodLink "HairProvinceLaw" (62 : Nat) ({ cls := "HairProvinceModel", name := "years", desc := "(I)I" } : Jvm.MethodName)) ∈ lw_all := lw_g (lw_at lw_m8 140 rfl) rfl
theorem q2010 : (Jvm.Cond.methodLink "HairProvinceLaw" (70 : Nat) ({ cls := "HairProvinceModel", name := "many", desc := "(I)I" } : Jvm.MethodName)) ∈ lw_all := lw_g (lw_at lw_m8 156 rfl) rfl
theorem q2035 : (Jvm.Cond.methodLink "HairProvinceLaw" (75 : Nat) ({ cls := "HairProvinceModel", name := "word", desc := "(II)I" } : Jvm.MethodName)) ∈ lw_all := lw_g (lw_at lw_m8 181 rfl) rfl
theorem q2052 : (Jvm.Cond.methodLink "HairProvinceLaw" (79 : Nat) ({ cls := "HairProvinceModel", name := "person", desc := "(II)I" } : Jvm.MethodName)) ∈ lw_all := lw_g (lw_at lw_m8 198 rfl) rfl
theorem q2060 : (Jvm.Cond.methodLink "HairProvinceLaw" (84 : Nat) ({ cls := "HairProvinceModel", name := "strand", desc := "(III)I" } : Jvm.MethodName)) ∈ lw_all := lw_g (lw_at lw_m8 206 rfl) rfl
theorem q2064 : (Jvm.Cond.methodLink "HairProvinceLaw" (88 : Nat) ({ cls := "HairProvinceModel", name := "dinner", desc := "(II)I" } : Jvm.MethodName)) ∈ lw_all := lw_g (lw_at lw_m8 210 rfl) rfl
theorem q2073 : (Jvm.Cond.methodLink "HairProvinceLaw" (92 : Nat) ({ cls := "HairProvinceModel", name := "longest", desc := "(I)I" } : Jvm.MethodName)) ∈ lw_all := lw_g (lw_at lw_m8 219 rfl) rfl
theorem q2081 : (Jvm.Cond.methodLink "HairProvinceLaw" (96 : Nat) ({ cls := "HairProvinceModel", name := "copyHair", desc := "(I)I" } : Jvm.MethodName)) ∈ lw_all := lw_g (lw_at lw_m8 227 rfl) rfl
theorem q2091 : (Jvm.Cond.methodLink "HairProvinceLaw" (100 : Nat) ({ cls := "HairProvinceModel", name := "day", desc := "(I)I" } : Jvm.MethodName)) ∈ lw_all := lw_g (lw_at lw_m8 237 rfl) rfl
theorem q2117 : (Jvm.Cond.methodLink "HairProvinceLaw" (104 : Nat) ({ cls := "HairProvinceModel", name := "say", desc := "(III)I" } : Jvm.MethodName)) ∈ lw_all := lw_g (lw_at lw_m9 23 rfl) rfl
theorem q2121 : (Jvm.Cond.methodLink "HairProvinceLaw" (108 : Nat) ({ cls := "HairProvinceModel", name := "keep", desc := "(II)I" } : Jvm.MethodName)) ∈ lw_all := lw_g (lw_at lw_m9 27 rfl) rfl
theorem q2136 : (Jvm.Cond.methodLink "HairProvinceLaw" (112 : Nat) ({ cls := "HairProvinceModel", name := "learn", desc := "(II)I" } : Jvm.MethodName)) ∈ lw_all := lw_g (lw_at lw_m9 42 rfl) rfl
theorem q2140 : (Jvm.Cond.methodLink "HairProvinceLaw" (116 : Nat) ({ cls := "HairProvinceModel", name := "cut", desc := "(II)I" } : Jvm.MethodName)) ∈ lw_all := lw_g (lw_at lw_m9 46 rfl) rfl
theorem q2148 : (Jvm.Cond.methodLink "HairProvinceLaw" (121 : Nat) ({ cls := "HairProvinceModel", name := "train", desc := "(II)Z" } : Jvm.MethodName)) ∈ lw_all := lw_g (lw_at lw_m9 54 rfl) rfl
theorem q2153 : (Jvm.Cond.methodLink "HairProvinceLaw" (126 : Nat) ({ cls := "HairProvinceModel", name := "trade", desc := "(IZ)Z" } : Jvm.MethodName)) ∈ lw_all := lw_g (lw_at lw_m9 59 rfl) rfl
theorem q2157 : (Jvm.Cond.methodLink "HairProvinceLaw" (130 : Nat) ({ cls := "HairProvinceModel", name := "rule", desc := "(II)Z" } : Jvm.MethodName)) ∈ lw_all := lw_g (lw_at lw_m9 63 rfl) rfl
theorem q2163 : (Jvm.Cond.methodLink "HairProvinceLaw" (134 : Nat) ({ cls := "HairProvinceModel", name := "invite", desc := "(III)I" } : Jvm.MethodName)) ∈ lw_all := lw_g (lw_at lw_m9 69 rfl) rfl
theorem q2168 : (Jvm.Cond.methodLink "HairProvinceLaw" (138 : Nat) ({ cls := "HairProvinceModel", name := "cancel", desc := "()I" } : Jvm.MethodName)) ∈ lw_all := lw_g (lw_at lw_m9 74 rfl) rfl
theorem q2172 : (Jvm.Cond.methodLink "HairProvinceLaw" (142 : Nat) ({ cls := "HairProvinceModel", name := "hairIn", desc := "(II)I" } : Jvm.MethodName)) ∈ lw_all := lw_g (lw_at lw_m9 78 rfl) rfl
theorem q2192 : (Jvm.Cond.methodLink "HairProvinceLaw" (146 : Nat) ({ cls := "HairProvinceModel", name := "knownIn", desc := "(II)I" } : Jvm.MethodName)) ∈ lw_all := lw_g (lw_at lw_m9 98 rfl) rfl
theorem q2196 : (Jvm.Cond.methodLink "HairProvinceLaw" (150 : Nat) ({ cls := "HairProvinceModel", name := "out", desc := "(I)I" } : Jvm.MethodName)) ∈ lw_all := lw_g (lw_at lw_m9 102 rfl) rfl
theorem q2200 : (Jvm.Cond.methodLink "HairProvinceLaw" (154 : Nat) ({ cls := "HairProvinceModel", name := "learnsIn", desc := "(II)I" } : Jvm.MethodName)) ∈ lw_all := lw_g (lw_at lw_m9 106 rfl) rfl
theorem q2204 : (Jvm.Cond.methodLink "HairProvinceLaw" (158 : Nat) ({ cls := "HairProvinceModel", name := "wildIn", desc := "(I)I" } : Jvm.MethodName)) ∈ lw_all := lw_g (lw_at lw_m9 110 rfl) rfl
theorem q2208 : (Jvm.Cond.methodLink "HairProvinceLaw" (162 : Nat) ({ cls := "HairProvinceModel", name := "dinesIn", desc := "(I)I" } : Jvm.MethodName)) ∈ lw_all := lw_g (lw_at lw_m9 114 rfl) rfl
theorem q2216 : (Jvm.Cond.methodLink "HairProvinceLaw" (166 : Nat) ({ cls := "HairProvinceModel", name := "quiet", desc := "(II)I" } : Jvm.MethodName)) ∈ lw_all := lw_g (lw_at lw_m9 122 rfl) rfl
theorem q2232 : (Jvm.Cond.methodLink "HairProvinceLaw" (170 : Nat) ({ cls := "HairProvinceModel", name := "quietHair", desc := "(II)I" } : Jvm.MethodName)) ∈ lw_all := lw_g (lw_at lw_m9 138 rfl) rfl
theorem q2236 : (Jvm.Cond.methodLink "HairProvinceLaw" (174 : Nat) ({ cls := "HairProvinceModel", name := "unsaid", desc := "(II)I" } : Jvm.MethodName)) ∈ lw_all := lw_g (lw_at lw_m9 142 rfl) rfl
theorem q2269 : (Jvm.Cond.methodLink "HairProvinceLaw" (178 : Nat) ({ cls := "HairProvinceModel", name := "sure", desc := "(II)I" } : Jvm.MethodName)) ∈ lw_all := lw_g (lw_at lw_m9 175 rfl) rfl
theorem q2273 : (Jvm.Cond.methodLink "HairProvinceLaw" (182 : Nat) ({ cls := "HairProvinceModel", name := "ask", desc := "(II)I" } : Jvm.MethodName)) ∈ lw_all := lw_g (lw_at lw_m9 179 rfl) rfl
theorem q2281 : (Jvm.Cond.methodLink "HairProvinceLaw" (186 : Nat) ({ cls := "HairProvinceModel", name := "lengthOf", desc := "(II)I" } : Jvm.MethodName)) ∈ lw_all := lw_g (lw_at lw_m9 187 rfl) rfl
theorem q2289 : (Jvm.Cond.methodLink "HairProvinceLaw" (190 : Nat) ({ cls := "HairProvinceModel", name := "daysFor", desc := "(II)I" } : Jvm.MethodName)) ∈ lw_all := lw_g (lw_at lw_m9 195 rfl) rfl
theorem q2294 : (Jvm.Cond.methodLink "HairProvinceLaw" (194 : Nat) ({ cls := "HairProvinceModel", name := "round", desc := "(I)I" } : Jvm.MethodName)) ∈ lw_all := lw_g (lw_at lw_m9 200 rfl) rfl
theorem q2314 : (Jvm.Cond.methodLink "HairProvinceLaw" (198 : Nat) ({ cls := "HairProvinceModel", name := "oneRound", desc := "()I" } : Jvm.MethodName)) ∈ lw_all := lw_g (lw_at lw_m9 220 rfl) rfl
theorem q2318 : (Jvm.Cond.methodLink "HairProvinceLaw" (202 : Nat) ({ cls := "HairProvinceModel", name := "plaits", desc := "(III)I" } : Jvm.MethodName)) ∈ lw_all := lw_g (lw_at lw_m9 224 rfl) rfl
theorem q2334 : (Jvm.Cond.methodLink "HairProvinceLaw" (207 : Nat) ({ cls := "HairProvinceModel", name := "plaitAt", desc := "(IIII)I" } : Jvm.MethodName)) ∈ lw_all := lw_g (lw_at lw_m10 0 rfl) rfl
theorem q2338 : (Jvm.Cond.methodLink "HairProvinceLaw" (211 : Nat) ({ cls := "HairProvinceModel", name := "tellers", desc := "(II)I" } : Jvm.MethodName)) ∈ lw_all := lw_g (lw_at lw_m10 4 rfl) rfl
theorem q2346 : (Jvm.Cond.methodLink "HairProvinceLaw" (215 : Nat) ({ cls := "HairProvinceModel", name := "rumour", desc := "(II)I" } : Jvm.MethodName)) ∈ lw_all := lw_g (lw_at lw_m10 12 rfl) rfl
theorem q2350 : (Jvm.Cond.methodLink "HairProvinceLaw" (219 : Nat) ({ cls := "HairProvinceModel", name := "game", desc := "(III)I" } : Jvm.MethodName)) ∈ lw_all := lw_g (lw_at lw_m10 16 rfl) rfl
theorem q2370 : (Jvm.Cond.methodLink "HairProvinceLaw" (223 : Nat) ({ cls := "HairProvinceModel", name := "moveOf", desc := "(III)I" } : Jvm.MethodName)) ∈ lw_all := lw_g (lw_at lw_m10 36 rfl) rfl
theorem q2374 : (Jvm.Cond.methodLink "HairProvinceLaw" (227 : Nat) ({ cls := "HairProvinceModel", name := "safe", desc := "(II)Z" } : Jvm.MethodName)) ∈ lw_all := lw_g (lw_at lw_m10 40 rfl) rfl
theorem q2389 : (Jvm.Cond.methodLink "HairProvinceLaw" (231 : Nat) ({ cls := "HairProvinceModel", name := "riskiest", desc := "()I" } : Jvm.MethodName)) ∈ lw_all := lw_g (lw_at lw_m10 55 rfl) rfl
theorem q2393 : (Jvm.Cond.methodLink "HairProvinceLaw" (235 : Nat) ({ cls := "HairProvinceModel", name := "live", desc := "(I)I" } : Jvm.MethodName)) ∈ lw_all := lw_g (lw_at lw_m10 59 rfl) rfl
theorem q2438 : (Jvm.Cond.methodLink "HairProvinceLaw" (239 : Nat) ({ cls := "HairProvinceModel", name := "lived", desc := "(I)I" } : Jvm.MethodName)) ∈ lw_all := lw_g (lw_at lw_m10 104 rfl) rfl
theorem q2442 : (Jvm.Cond.methodLink "HairProvinceLaw" (243 : Nat) ({ cls := "HairProvinceModel", name := "mean", desc := "(II)Z" } : Jvm.MethodName)) ∈ lw_all := lw_g (lw_at lw_m10 108 rfl) rfl
theorem q2446 : (Jvm.Cond.methodLink "HairProvinceLaw" (247 : Nat) ({ cls := "HairProvinceModel", name := "mark", desc := "()I" } : Jvm.MethodName)) ∈ lw_all := lw_g (lw_at lw_m10 112 rfl) rfl
theorem q2450 : (Jvm.Cond.methodLink "HairProvinceLaw" (251 : Nat) ({ cls := "HairProvinceModel", name := "back", desc := "()I" } : Jvm.MethodName)) ∈ lw_all := lw_g (lw_at lw_m10 116 rfl) rfl
theorem q2454 : (Jvm.Cond.constantLong "HairProvinceLaw" (32 : Nat) (4294967295 : Int64)) ∈ lw_all := lw_g (lw_at lw_m10 120 rfl) rfl
theorem q193 : (Jvm.Cond.initialized "java/lang/System") ∈ lw_all := lw_g (lw_at lw_m1 19 rfl) rfl
set_option maxRecDepth 100000
theorem q737 : (Jvm.Cond.static ({ cls := "java/lang/System", name := "arraycopy", desc := "(Ljava/lang/Object;ILjava/lang/Object;II)V" } : Jvm.MethodName)) ∈ lw_all := lw_g (lw_at lw_m3 83 rfl) rfl
theorem q738 : (Jvm.Cond.native ({ cls := "java/lang/System", name := "arraycopy", desc := "(Ljava/lang/Object;ILjava/lang/Object;II)V" } : Jvm.MethodName)) ∈ lw_all := lw_g (lw_at lw_m3 84 rfl) rfl
theorem q211 : (Jvm.Cond.arrayOver (Jvm.ClassFile.FieldType.object "HairProvince$Tray")) ∈ lw_tbl := lw_at lw_m1 37 rfl
set_option maxRecDepth 100000
theorem q318 : (Jvm.Cond.arrayClass Jvm.ClassFile.FieldType.byte) ∈ lw_all := lw_g (lw_at lw_m1 144 rfl) rfl
theorem q382 : (Jvm.Cond.arrayClass Jvm.ClassFile.FieldType.int) ∈ lw_all := lw_g (lw_at lw_m1 208 rfl) rfl
theorem q401 : (Jvm.Cond.arrayOver (Jvm.ClassFile.FieldType.object "HairProvince$Word")) ∈ lw_tbl := lw_at lw_m1 227 rfl
theorem q403 : (Jvm.Cond.arrayOver (Jvm.ClassFile.FieldType.object "HairProvince$Person")) ∈ lw_tbl := lw_at lw_m1 229 rfl
theorem q405 : (Jvm.Cond.arrayOver (Jvm.ClassFile.FieldType.object "HairProvince$Dinner")) ∈ lw_tbl := lw_at lw_m1 231 rfl
theorem q469 : (Jvm.Cond.arrayOver (Jvm.ClassFile.FieldType.object "HairProvince$Kept")) ∈ lw_tbl := lw_at lw_m2 55 rfl
theorem q484 : (Jvm.Cond.arrayClass Jvm.ClassFile.FieldType.boolean) ∈ lw_all := lw_g (lw_at lw_m2 70 rfl) rfl
theorem q660 : (Jvm.Cond.arrayClass Jvm.ClassFile.FieldType.short) ∈ lw_all := lw_g (lw_at lw_m3 6 rfl) rfl
theorem q661 : (Jvm.Cond.arrayClass Jvm.ClassFile.FieldType.long) ∈ lw_all := lw_g (lw_at lw_m3 7 rfl) rfl
theorem q1035 : (Jvm.Cond.arrayOver (Jvm.ClassFile.FieldType.object "HairProvince$Step")) ∈ lw_tbl := lw_at lw_m4 141 rfl
