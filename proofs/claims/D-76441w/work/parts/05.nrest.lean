/-! java/lang/Throwable -/
set_option maxRecDepth 100000
def RJ0 : String := "java/lang/Throwable"
def TJ0 : u_T := fun k => match k with
  | 0 => ("java/lang/Throwable", "cause", "Ljava/lang/Throwable;", false)
  | 1 => ("java/lang/Throwable", "stackTrace", "[Ljava/lang/StackTraceElement;", false)
  | 2 => ("java/lang/Throwable", "suppressedExceptions", "Ljava/util/List;", false)
  | 3 => ("java/lang/Throwable", "detailMessage", "Ljava/lang/String;", false)
  | _ => ("java/lang/Throwable", "backtrace", "Ljava/lang/Object;", false)
def tyJ0 : Nat → FieldType := fun k => match k with
  | 0 => .object "java/lang/Throwable"
  | 1 => .array (.object "java/lang/StackTraceElement")
  | 2 => .object "java/util/List"
  | 3 => .object "java/lang/String"
  | _ => .object "java/lang/Object"
abbrev wsJ00 : List Cond := u_ws RJ0 TJ0 5
theorem nmJ0 : ∀ a, a < 5 → ∀ b, b < 5 → a ≠ b → (TJ0 a).2.1 ≠ (TJ0 b).2.1 := by decide +kernel
theorem tyJ0_ok : ∀ k, k < 5 → parseFieldDescriptor (TJ0 k).2.2.1 = some (tyJ0 k) := by decide +kernel
abbrev cJ0_init : ByteArray := prog_36_method_2_code
def yJ0_init : MethodName := ⟨RJ0, "<init>", "(Ljava/lang/String;)V"⟩
def dkwJ0_init_1 : List UInt8 := [182, 0, 27, 87, 42, 43, 181, 0, 31, 177]
abbrev dktJ0_init_1 : List UInt8 := dkwJ0_init_1 ++ []
def dkwJ0_init_0 : List UInt8 := [42, 183, 0, 1, 42, 42, 181, 0, 7, 42, 178, 0, 13, 181, 0, 17, 42, 178, 0, 20, 181, 0, 24, 42]
abbrev dktJ0_init_0 : List UInt8 := dkwJ0_init_0 ++ dktJ0_init_1
theorem dksJ0_init_0 : cJ0_init.data.toList.drop 0 = dktJ0_init_0 := by decide +kernel
theorem dksJ0_init_1 : cJ0_init.data.toList.drop 24 = dktJ0_init_1 := dk_seg dksJ0_init_0 24 rfl rfl
theorem dJ0_init_0 : decode cJ0_init 0 = .ok (.aload_n 0, 1) := dk_42 (dk_at dksJ0_init_0 0 rfl rfl)
theorem dJ0_init_1 : decode cJ0_init 1 = .ok (.invokespecial 1, 3) := dk_183 0 1 (dk_at dksJ0_init_0 1 rfl rfl)
theorem dJ0_init_4 : decode cJ0_init 4 = .ok (.aload_n 0, 1) := dk_42 (dk_at dksJ0_init_0 4 rfl rfl)
theorem dJ0_init_5 : decode cJ0_init 5 = .ok (.aload_n 0, 1) := dk_42 (dk_at dksJ0_init_0 5 rfl rfl)
theorem dJ0_init_6 : decode cJ0_init 6 = .ok (.putfield 7, 3) := dk_181 0 7 (dk_at dksJ0_init_0 6 rfl rfl)
theorem dJ0_init_9 : decode cJ0_init 9 = .ok (.aload_n 0, 1) := dk_42 (dk_at dksJ0_init_0 9 rfl rfl)
theorem dJ0_init_10 : decode cJ0_init 10 = .ok (.getstatic 13, 3) := dk_178 0 13 (dk_at dksJ0_init_0 10 rfl rfl)
theorem dJ0_init_13 : decode cJ0_init 13 = .ok (.putfield 17, 3) := dk_181 0 17 (dk_at dksJ0_init_0 13 rfl rfl)
theorem dJ0_init_16 : decode cJ0_init 16 = .ok (.aload_n 0, 1) := dk_42 (dk_at dksJ0_init_0 16 rfl rfl)
theorem dJ0_init_17 : decode cJ0_init 17 = .ok (.getstatic 20, 3) := dk_178 0 20 (dk_at dksJ0_init_0 17 rfl rfl)
theorem dJ0_init_20 : decode cJ0_init 20 = .ok (.putfield 24, 3) := dk_181 0 24 (dk_at dksJ0_init_0 20 rfl rfl)
theorem dJ0_init_23 : decode cJ0_init 23 = .ok (.aload_n 0, 1) := dk_42 (dk_at dksJ0_init_0 23 rfl rfl)
theorem dJ0_init_24 : decode cJ0_init 24 = .ok (.invokevirtual 27, 3) := dk_182 0 27 (dk_at dksJ0_init_1 0 rfl rfl)
theorem dJ0_init_27 : decode cJ0_init 27 = .ok (.pop, 1) := dk_87 (dk_at dksJ0_init_1 3 rfl rfl)
theorem dJ0_init_28 : decode cJ0_init 28 = .ok (.aload_n 0, 1) := dk_42 (dk_at dksJ0_init_1 4 rfl rfl)
theorem dJ0_init_29 : decode cJ0_init 29 = .ok (.aload_n 1, 1) := dk_43 (dk_at dksJ0_init_1 5 rfl rfl)
theorem dJ0_init_30 : decode cJ0_init 30 = .ok (.putfield 31, 3) := dk_181 0 31 (dk_at dksJ0_init_1 6 rfl rfl)
theorem dJ0_init_33 : decode cJ0_init 33 = .ok (.return_, 1) := dk_177 (dk_at dksJ0_init_1 9 rfl rfl)
abbrev cJ0_init_2 : ByteArray := prog_36_method_1_code
def yJ0_init_2 : MethodName := ⟨RJ0, "<init>", "()V"⟩
def dkwJ0_init_2_1 : List UInt8 := [182, 0, 27, 87, 177]
abbrev dktJ0_init_2_1 : List UInt8 := dkwJ0_init_2_1 ++ []
def dkwJ0_init_2_0 : List UInt8 := [42, 183, 0, 1, 42, 42, 181, 0, 7, 42, 178, 0, 13, 181, 0, 17, 42, 178, 0, 20, 181, 0, 24, 42]
abbrev dktJ0_init_2_0 : List UInt8 := dkwJ0_init_2_0 ++ dktJ0_init_2_1
theorem dksJ0_init_2_0 : cJ0_init_2.data.toList.drop 0 = dktJ0_init_2_0 := by decide +kernel
theorem dksJ0_init_2_1 : cJ0_init_2.data.toList.drop 24 = dktJ0_init_2_1 := dk_seg dksJ0_init_2_0 24 rfl rfl
theorem dJ0_init_2_0 : decode cJ0_init_2 0 = .ok (.aload_n 0, 1) := dk_42 (dk_at dksJ0_init_2_0 0 rfl rfl)
theorem dJ0_init_2_1 : decode cJ0_init_2 1 = .ok (.invokespecial 1, 3) := dk_183 0 1 (dk_at dksJ0_init_2_0 1 rfl rfl)
theorem dJ0_init_2_4 : decode cJ0_init_2 4 = .ok (.aload_n 0, 1) := dk_42 (dk_at dksJ0_init_2_0 4 rfl rfl)
theorem dJ0_init_2_5 : decode cJ0_init_2 5 = .ok (.aload_n 0, 1) := dk_42 (dk_at dksJ0_init_2_0 5 rfl rfl)
theorem dJ0_init_2_6 : decode cJ0_init_2 6 = .ok (.putfield 7, 3) := dk_181 0 7 (dk_at dksJ0_init_2_0 6 rfl rfl)
theorem dJ0_init_2_9 : decode cJ0_init_2 9 = .ok (.aload_n 0, 1) := dk_42 (dk_at dksJ0_init_2_0 9 rfl rfl)
theorem dJ0_init_2_10 : decode cJ0_init_2 10 = .ok (.getstatic 13, 3) := dk_178 0 13 (dk_at dksJ0_init_2_0 10 rfl rfl)
theorem dJ0_init_2_13 : decode cJ0_init_2 13 = .ok (.putfield 17, 3) := dk_181 0 17 (dk_at dksJ0_init_2_0 13 rfl rfl)
theorem dJ0_init_2_16 : decode cJ0_init_2 16 = .ok (.aload_n 0, 1) := dk_42 (dk_at dksJ0_init_2_0 16 rfl rfl)
theorem dJ0_init_2_17 : decode cJ0_init_2 17 = .ok (.getstatic 20, 3) := dk_178 0 20 (dk_at dksJ0_init_2_0 17 rfl rfl)
theorem dJ0_init_2_20 : decode cJ0_init_2 20 = .ok (.putfield 24, 3) := dk_181 0 24 (dk_at dksJ0_init_2_0 20 rfl rfl)
theorem dJ0_init_2_23 : decode cJ0_init_2 23 = .ok (.aload_n 0, 1) := dk_42 (dk_at dksJ0_init_2_0 23 rfl rfl)
theorem dJ0_init_2_24 : decode cJ0_init_2 24 = .ok (.invokevirtual 27, 3) := dk_182 0 27 (dk_at dksJ0_init_2_1 0 rfl rfl)
theorem dJ0_init_2_27 : decode cJ0_init_2 27 = .ok (.pop, 1) := dk_87 (dk_at dksJ0_init_2_1 3 rfl rfl)
theorem dJ0_init_2_28 : decode cJ0_init_2 28 = .ok (.return_, 1) := dk_177 (dk_at dksJ0_init_2_1 4 rfl rfl)
abbrev cJ0_init_3 : ByteArray := prog_36_method_5_code
def yJ0_init_3 : MethodName := ⟨RJ0, "<init>", "(Ljava/lang/String;Ljava/lang/Throwable;ZZ)V"⟩
def dkwJ0_init_3_2 : List UInt8 := [44, 181, 0, 7, 29, 154, 0, 8, 42, 1, 181, 0, 24, 177]
abbrev dktJ0_init_3_2 : List UInt8 := dkwJ0_init_3_2 ++ []
def dkwJ0_init_3_1 : List UInt8 := [21, 4, 153, 0, 11, 42, 182, 0, 27, 87, 167, 0, 8, 42, 1, 181, 0, 17, 42, 43, 181, 0, 31, 42]
abbrev dktJ0_init_3_1 : List UInt8 := dkwJ0_init_3_1 ++ dktJ0_init_3_2
def dkwJ0_init_3_0 : List UInt8 := [42, 183, 0, 1, 42, 42, 181, 0, 7, 42, 178, 0, 13, 181, 0, 17, 42, 178, 0, 20, 181, 0, 24]
abbrev dktJ0_init_3_0 : List UInt8 := dkwJ0_init_3_0 ++ dktJ0_init_3_1
theorem dksJ0_init_3_0 : cJ0_init_3.data.toList.drop 0 = dktJ0_init_3_0 := by decide +kernel
theorem dksJ0_init_3_1 : cJ0_init_3.data.toList.drop 23 = dktJ0_init_3_1 := dk_seg dksJ0_init_3_0 23 rfl rfl
theorem dksJ0_init_3_2 : cJ0_init_3.data.toList.drop 47 = dktJ0_init_3_2 := dk_seg dksJ0_init_3_1 24 rfl rfl
theorem dJ0_init_3_0 : decode cJ0_init_3 0 = .ok (.aload_n 0, 1) := dk_42 (dk_at dksJ0_init_3_0 0 rfl rfl)
theorem dJ0_init_3_1 : decode cJ0_init_3 1 = .ok (.invokespecial 1, 3) := dk_183 0 1 (dk_at dksJ0_init_3_0 1 rfl rfl)
theorem dJ0_init_3_4 : decode cJ0_init_3 4 = .ok (.aload_n 0, 1) := dk_42 (dk_at dksJ0_init_3_0 4 rfl rfl)
theorem dJ0_init_3_5 : decode cJ0_init_3 5 = .ok (.aload_n 0, 1) := dk_42 (dk_at dksJ0_init_3_0 5 rfl rfl)
theorem dJ0_init_3_6 : decode cJ0_init_3 6 = .ok (.putfield 7, 3) := dk_181 0 7 (dk_at dksJ0_init_3_0 6 rfl rfl)
theorem dJ0_init_3_9 : decode cJ0_init_3 9 = .ok (.aload_n 0, 1) := dk_42 (dk_at dksJ0_init_3_0 9 rfl rfl)
theorem dJ0_init_3_10 : decode cJ0_init_3 10 = .ok (.getstatic 13, 3) := dk_178 0 13 (dk_at dksJ0_init_3_0 10 rfl rfl)
theorem dJ0_init_3_13 : decode cJ0_init_3 13 = .ok (.putfield 17, 3) := dk_181 0 17 (dk_at dksJ0_init_3_0 13 rfl rfl)
theorem dJ0_init_3_16 : decode cJ0_init_3 16 = .ok (.aload_n 0, 1) := dk_42 (dk_at dksJ0_init_3_0 16 rfl rfl)
theorem dJ0_init_3_17 : decode cJ0_init_3 17 = .ok (.getstatic 20, 3) := dk_178 0 20 (dk_at dksJ0_init_3_0 17 rfl rfl)
theorem dJ0_init_3_20 : decode cJ0_init_3 20 = .ok (.putfield 24, 3) := dk_181 0 24 (dk_at dksJ0_init_3_0 20 rfl rfl)
theorem dJ0_init_3_23 : decode cJ0_init_3 23 = .ok (.iload 4, 2) := dk_21 4 (dk_at dksJ0_init_3_1 0 rfl rfl)
theorem dJ0_init_3_25 : decode cJ0_init_3 25 = .ok (.ifCond .eq 11, 3) := dk_153 0 11 (dk_at dksJ0_init_3_1 2 rfl rfl)
theorem dJ0_init_3_28 : decode cJ0_init_3 28 = .ok (.aload_n 0, 1) := dk_42 (dk_at dksJ0_init_3_1 5 rfl rfl)
theorem dJ0_init_3_29 : decode cJ0_init_3 29 = .ok (.invokevirtual 27, 3) := dk_182 0 27 (dk_at dksJ0_init_3_1 6 rfl rfl)
theorem dJ0_init_3_32 : decode cJ0_init_3 32 = .ok (.pop, 1) := dk_87 (dk_at dksJ0_init_3_1 9 rfl rfl)
theorem dJ0_init_3_33 : decode cJ0_init_3 33 = .ok (.goto 8, 3) := dk_167 0 8 (dk_at dksJ0_init_3_1 10 rfl rfl)
theorem dJ0_init_3_36 : decode cJ0_init_3 36 = .ok (.aload_n 0, 1) := dk_42 (dk_at dksJ0_init_3_1 13 rfl rfl)
theorem dJ0_init_3_37 : decode cJ0_init_3 37 = .ok (.aconst_null, 1) := dk_1 (dk_at dksJ0_init_3_1 14 rfl rfl)
theorem dJ0_init_3_38 : decode cJ0_init_3 38 = .ok (.putfield 17, 3) := dk_181 0 17 (dk_at dksJ0_init_3_1 15 rfl rfl)
theorem dJ0_init_3_41 : decode cJ0_init_3 41 = .ok (.aload_n 0, 1) := dk_42 (dk_at dksJ0_init_3_1 18 rfl rfl)
theorem dJ0_init_3_42 : decode cJ0_init_3 42 = .ok (.aload_n 1, 1) := dk_43 (dk_at dksJ0_init_3_1 19 rfl rfl)
theorem dJ0_init_3_43 : decode cJ0_init_3 43 = .ok (.putfield 31, 3) := dk_181 0 31 (dk_at dksJ0_init_3_1 20 rfl rfl)
theorem dJ0_init_3_46 : decode cJ0_init_3 46 = .ok (.aload_n 0, 1) := dk_42 (dk_at dksJ0_init_3_1 23 rfl rfl)
theorem dJ0_init_3_47 : decode cJ0_init_3 47 = .ok (.aload_n 2, 1) := dk_44 (dk_at dksJ0_init_3_2 0 rfl rfl)
theorem dJ0_init_3_48 : decode cJ0_init_3 48 = .ok (.putfield 7, 3) := dk_181 0 7 (dk_at dksJ0_init_3_2 1 rfl rfl)
theorem dJ0_init_3_51 : decode cJ0_init_3 51 = .ok (.iload_n 3, 1) := dk_29 (dk_at dksJ0_init_3_2 4 rfl rfl)
theorem dJ0_init_3_52 : decode cJ0_init_3 52 = .ok (.ifCond .ne 8, 3) := dk_154 0 8 (dk_at dksJ0_init_3_2 5 rfl rfl)
theorem dJ0_init_3_55 : decode cJ0_init_3 55 = .ok (.aload_n 0, 1) := dk_42 (dk_at dksJ0_init_3_2 8 rfl rfl)
theorem dJ0_init_3_56 : decode cJ0_init_3 56 = .ok (.aconst_null, 1) := dk_1 (dk_at dksJ0_init_3_2 9 rfl rfl)
theorem dJ0_init_3_57 : decode cJ0_init_3 57 = .ok (.putfield 24, 3) := dk_181 0 24 (dk_at dksJ0_init_3_2 10 rfl rfl)
theorem dJ0_init_3_60 : decode cJ0_init_3 60 = .ok (.return_, 1) := dk_177 (dk_at dksJ0_init_3_2 13 rfl rfl)
theorem q88 : (Jvm.Cond.initialized "java/lang/Throwable") ∈ lw_all := lw_g (lw_at lw_m1 7 rfl) rfl
theorem q296 : (Jvm.Cond.instanceMethod ({ cls := "java/lang/Throwable", name := "<init>", desc := "(Ljava/lang/String;)V" } : Jvm.MethodName)) ∈ lw_all := lw_g (lw_at lw_m1 215 rfl) rfl
theorem q297 : (Jvm.Cond.code ({ cls := "java/lang/Throwable", name := "<init>", desc := "(Ljava/lang/String;)V" } : Jvm.MethodName) prog_36_method_2_code (2 : Nat) (Option.none : Option Jvm.ClassFile.FieldType)) ∈ lw_all := lw_g (lw_at lw_m1 216 rfl) rfl
theorem q298 : (Jvm.Cond.methodLink "java/lang/Throwable" (1 : Nat) ({ cls := "java/lang/Object", name := "<init>", desc := "()V" } : Jvm.MethodName)) ∈ lw_all := lw_g (lw_at lw_m1 217 rfl) rfl
theorem q299 : (Jvm.Cond.fieldLink "java/lang/Throwable" (13 : Nat) "java/lang/Throwable" "UNASSIGNED_STACK" "[Ljava/lang/StackTraceElement;") ∈ lw_all := lw_g (lw_at lw_m1 218 rfl) rfl
theorem q300 : (Jvm.Cond.laysStatic "java/lang/Throwable" "UNASSIGNED_STACK" "[Ljava/lang/StackTraceElement;") ∈ lw_tbl := lw_at lw_m1 219 rfl
theorem q301 : (Jvm.Cond.fieldLink "java/lang/Throwable" (20 : Nat) "java/lang/Throwable" "SUPPRESSED_SENTINEL" "Ljava/util/List;") ∈ lw_all := lw_g (lw_at lw_m1 220 rfl) rfl
theorem q302 : (Jvm.Cond.laysStatic "java/lang/Throwable" "SUPPRESSED_SENTINEL" "Ljava/util/List;") ∈ lw_tbl := lw_at lw_m1 221 rfl
theorem q303 : (Jvm.Cond.methodLink "java/lang/Throwable" (27 : Nat) ({ cls := "java/lang/Throwable", name := "fillInStackTrace", desc := "()Ljava/lang/Throwable;" } : Jvm.MethodName)) ∈ lw_all := lw_g (lw_at lw_m1 222 rfl) rfl
theorem q304 : (Jvm.Cond.instanceMethod ({ cls := "java/lang/Throwable", name := "fillInStackTrace", desc := "()Ljava/lang/Throwable;" } : Jvm.MethodName)) ∈ lw_all := lw_g (lw_at lw_m1 223 rfl) rfl
theorem q305 : (Jvm.Cond.sameMethod "java/lang/Throwable" "java/lang/Throwable" "fillInStackTrace" "()Ljava/lang/Throwable;") ∈ lw_all := lw_g (lw_at lw_m1 224 rfl) rfl
theorem q311 : (Jvm.Cond.codeSync ({ cls := "java/lang/Throwable", name := "fillInStackTrace", desc := "()Ljava/lang/Throwable;" } : Jvm.MethodName) prog_36_method_18_code (1 : Nat) (Option.some (Jvm.ClassFile.FieldType.object "java/lang/Throwable"))) ∈ lw_all := lw_g (lw_at lw_m1 230 rfl) rfl
theorem q312 : (Jvm.Cond.methodLink "java/lang/Throwable" (202 : Nat) ({ cls := "java/lang/Throwable", name := "fillInStackTrace", desc := "(I)Ljava/lang/Throwable;" } : Jvm.MethodName)) ∈ lw_all := lw_g (lw_at lw_m1 231 rfl) rfl
theorem q313 : (Jvm.Cond.privateMethod ({ cls := "java/lang/Throwable", name := "fillInStackTrace", desc := "(I)Ljava/lang/Throwable;" } : Jvm.MethodName)) ∈ lw_tbl := lw_at lw_m1 232 rfl
theorem q314 : (Jvm.Cond.instanceMethod ({ cls := "java/lang/Throwable", name := "fillInStackTrace", desc := "(I)Ljava/lang/Throwable;" } : Jvm.MethodName)) ∈ lw_all := lw_g (lw_at lw_m1 233 rfl) rfl
theorem q315 : (Jvm.Cond.instantiable "java/lang/Throwable" (6 : Nat)) ∈ lw_all := lw_g (lw_at lw_m1 234 rfl) rfl
theorem q316 : (Jvm.Cond.native ({ cls := "java/lang/Throwable", name := "fillInStackTrace", desc := "(I)Ljava/lang/Throwable;" } : Jvm.MethodName)) ∈ lw_all := lw_g (lw_at lw_m1 235 rfl) rfl
theorem q317 : (Jvm.Cond.fieldLink "java/lang/Throwable" (198 : Nat) "java/lang/Throwable" "backtrace" "Ljava/lang/Object;") ∈ lw_all := lw_g (lw_at lw_m1 236 rfl) rfl
theorem q318 : (Jvm.Cond.fieldLink "java/lang/Throwable" (31 : Nat) "java/lang/Throwable" "detailMessage" "Ljava/lang/String;") ∈ lw_all := lw_g (lw_at lw_m1 237 rfl) rfl
theorem q319 : (Jvm.Cond.fieldLink "java/lang/Throwable" (7 : Nat) "java/lang/Throwable" "cause" "Ljava/lang/Throwable;") ∈ lw_all := lw_g (lw_at lw_m1 238 rfl) rfl
theorem q320 : (Jvm.Cond.fieldLink "java/lang/Throwable" (17 : Nat) "java/lang/Throwable" "stackTrace" "[Ljava/lang/StackTraceElement;") ∈ lw_all := lw_g (lw_at lw_m1 239 rfl) rfl
theorem q321 : (Jvm.Cond.fieldLink "java/lang/Throwable" (24 : Nat) "java/lang/Throwable" "suppressedExceptions" "Ljava/util/List;") ∈ lw_all := lw_g (lw_at lw_m2 0 rfl) rfl
theorem q323 : (Jvm.Cond.soleField "java/lang/Throwable" "backtrace") ∈ lw_all := lw_g (lw_at lw_m2 2 rfl) rfl
theorem q325 : (Jvm.Cond.soleField "java/lang/Throwable" "detailMessage") ∈ lw_all := lw_g (lw_at lw_m2 4 rfl) rfl
theorem q327 : (Jvm.Cond.soleField "java/lang/Throwable" "cause") ∈ lw_all := lw_g (lw_at lw_m2 6 rfl) rfl
theorem q329 : (Jvm.Cond.soleField "java/lang/Throwable" "stackTrace") ∈ lw_all := lw_g (lw_at lw_m2 8 rfl) rfl
theorem q331 : (Jvm.Cond.soleField "java/lang/Throwable" "depth") ∈ lw_all := lw_g (lw_at lw_m2 10 rfl) rfl
theorem q333 : (Jvm.Cond.soleField "java/lang/Throwable" "suppressedExceptions") ∈ lw_all := lw_g (lw_at lw_m2 12 rfl) rfl
theorem q342 : (Jvm.Cond.declares ({ cls := "java/lang/Throwable", name := "<init>", desc := "()V" } : Jvm.MethodName)) ∈ lw_tbl := lw_at lw_m2 21 rfl
theorem q343 : (Jvm.Cond.declares ({ cls := "java/lang/Throwable", name := "<init>", desc := "(Ljava/lang/String;)V" } : Jvm.MethodName)) ∈ lw_tbl := lw_at lw_m2 22 rfl
theorem q345 : (Jvm.Cond.lays "java/lang/Throwable" "java/lang/Throwable" "cause" "Ljava/lang/Throwable;") ∈ lw_all := lw_g (lw_at lw_m2 24 rfl) rfl
theorem q346 : (Jvm.Cond.lays "java/lang/Throwable" "java/lang/Throwable" "stackTrace" "[Ljava/lang/StackTraceElement;") ∈ lw_all := lw_g (lw_at lw_m2 25 rfl) rfl
theorem q347 : (Jvm.Cond.lays "java/lang/Throwable" "java/lang/Throwable" "suppressedExceptions" "Ljava/util/List;") ∈ lw_all := lw_g (lw_at lw_m2 26 rfl) rfl
theorem q348 : (Jvm.Cond.lays "java/lang/Throwable" "java/lang/Throwable" "detailMessage" "Ljava/lang/String;") ∈ lw_all := lw_g (lw_at lw_m2 27 rfl) rfl
theorem q349 : (Jvm.Cond.lays "java/lang/Throwable" "java/lang/Throwable" "backtrace" "Ljava/lang/Object;") ∈ lw_all := lw_g (lw_at lw_m2 28 rfl) rfl
theorem q350 : (Jvm.Cond.fieldLink "java/lang/Throwable" (198 : Nat) "java/lang/Throwable" "backtrace" "Ljava/lang/Object;") ∈ lw_all := lw_g (lw_at lw_m2 29 rfl) rfl
theorem q351 : (Jvm.Cond.superclass "java/lang/Throwable" "java/lang/Object") ∈ lw_all := lw_g (lw_at lw_m2 30 rfl) rfl
theorem q352 : (Jvm.Cond.instanceMethod ({ cls := "java/lang/Throwable", name := "<init>", desc := "()V" } : Jvm.MethodName)) ∈ lw_all := lw_g (lw_at lw_m2 31 rfl) rfl
theorem q353 : (Jvm.Cond.code ({ cls := "java/lang/Throwable", name := "<init>", desc := "()V" } : Jvm.MethodName) prog_36_method_1_code (1 : Nat) (Option.none : Option Jvm.ClassFile.FieldType)) ∈ lw_all := lw_g (lw_at lw_m2 32 rfl) rfl
theorem q375 : (Jvm.Cond.instanceMethod ({ cls := "java/lang/Throwable", name := "<init>", desc := "(Ljava/lang/String;Ljava/lang/Throwable;ZZ)V" } : Jvm.MethodName)) ∈ lw_all := lw_g (lw_at lw_m2 54 rfl) rfl
theorem q376 : (Jvm.Cond.code ({ cls := "java/lang/Throwable", name := "<init>", desc := "(Ljava/lang/String;Ljava/lang/Throwable;ZZ)V" } : Jvm.MethodName) prog_36_method_5_code (5 : Nat) (Option.none : Option Jvm.ClassFile.FieldType)) ∈ lw_all := lw_g (lw_at lw_m2 55 rfl) rfl
theorem q1862 : (Jvm.Cond.sameMethod "java/lang/Throwable" "java/lang/Throwable" "fillInStackTrace" "(I)Ljava/lang/Throwable;") ∈ lw_all := lw_g (lw_at lw_m8 101 rfl) rfl
theorem in_J0 : ∀ w ∈ wsJ00, w ∈ lw_all := lw_in wsJ00 [345, 346, 347, 348, 349] (by decide +kernel) (by decide +kernel)

/-! java/lang/Exception -/
set_option maxRecDepth 100000
def RJ1 : String := "java/lang/Exception"
abbrev cJ1_init : ByteArray := prog_25_method_2_code
def yJ1_init : MethodName := ⟨RJ1, "<init>", "(Ljava/lang/String;)V"⟩
def dkwJ1_init_0 : List UInt8 := [42, 43, 183, 0, 7, 177]
abbrev dktJ1_init_0 : List UInt8 := dkwJ1_init_0 ++ []
theorem dksJ1_init_0 : cJ1_init.data.toList.drop 0 = dktJ1_init_0 := by decide +kernel
theorem dJ1_init_0 : decode cJ1_init 0 = .ok (.aload_n 0, 1) := dk_42 (dk_at dksJ1_init_0 0 rfl rfl)
theorem dJ1_init_1 : decode cJ1_init 1 = .ok (.aload_n 1, 1) := dk_43 (dk_at dksJ1_init_0 1 rfl rfl)
theorem dJ1_init_2 : decode cJ1_init 2 = .ok (.invokespecial 7, 3) := dk_183 0 7 (dk_at dksJ1_init_0 2 rfl rfl)
theorem dJ1_init_5 : decode cJ1_init 5 = .ok (.return_, 1) := dk_177 (dk_at dksJ1_init_0 5 rfl rfl)
abbrev cJ1_init_2 : ByteArray := prog_25_method_5_code
def yJ1_init_2 : MethodName := ⟨RJ1, "<init>", "(Ljava/lang/String;Ljava/lang/Throwable;ZZ)V"⟩
def dkwJ1_init_2_0 : List UInt8 := [42, 43, 44, 29, 21, 4, 183, 0, 16, 177]
abbrev dktJ1_init_2_0 : List UInt8 := dkwJ1_init_2_0 ++ []
theorem dksJ1_init_2_0 : cJ1_init_2.data.toList.drop 0 = dktJ1_init_2_0 := by decide +kernel
theorem dJ1_init_2_0 : decode cJ1_init_2 0 = .ok (.aload_n 0, 1) := dk_42 (dk_at dksJ1_init_2_0 0 rfl rfl)
theorem dJ1_init_2_1 : decode cJ1_init_2 1 = .ok (.aload_n 1, 1) := dk_43 (dk_at dksJ1_init_2_0 1 rfl rfl)
theorem dJ1_init_2_2 : decode cJ1_init_2 2 = .ok (.aload_n 2, 1) := dk_44 (dk_at dksJ1_init_2_0 2 rfl rfl)
theorem dJ1_init_2_3 : decode cJ1_init_2 3 = .ok (.iload_n 3, 1) := dk_29 (dk_at dksJ1_init_2_0 3 rfl rfl)
theorem dJ1_init_2_4 : decode cJ1_init_2 4 = .ok (.iload 4, 2) := dk_21 4 (dk_at dksJ1_init_2_0 4 rfl rfl)
theorem dJ1_init_2_6 : decode cJ1_init_2 6 = .ok (.invokespecial 16, 3) := dk_183 0 16 (dk_at dksJ1_init_2_0 6 rfl rfl)
theorem dJ1_init_2_9 : decode cJ1_init_2 9 = .ok (.return_, 1) := dk_177 (dk_at dksJ1_init_2_0 9 rfl rfl)
theorem q89 : (Jvm.Cond.initialized "java/lang/Exception") ∈ lw_all := lw_g (lw_at lw_m1 8 rfl) rfl
theorem q293 : (Jvm.Cond.instanceMethod ({ cls := "java/lang/Exception", name := "<init>", desc := "(Ljava/lang/String;)V" } : Jvm.MethodName)) ∈ lw_all := lw_g (lw_at lw_m1 212 rfl) rfl
theorem q294 : (Jvm.Cond.code ({ cls := "java/lang/Exception", name := "<init>", desc := "(Ljava/lang/String;)V" } : Jvm.MethodName) prog_25_method_2_code (2 : Nat) (Option.none : Option Jvm.ClassFile.FieldType)) ∈ lw_all := lw_g (lw_at lw_m1 213 rfl) rfl
theorem q295 : (Jvm.Cond.methodLink "java/lang/Exception" (7 : Nat) ({ cls := "java/lang/Throwable", name := "<init>", desc := "(Ljava/lang/String;)V" } : Jvm.MethodName)) ∈ lw_all := lw_g (lw_at lw_m1 214 rfl) rfl
theorem q340 : (Jvm.Cond.declares ({ cls := "java/lang/Exception", name := "<init>", desc := "()V" } : Jvm.MethodName)) ∈ lw_tbl := lw_at lw_m2 19 rfl
theorem q341 : (Jvm.Cond.declares ({ cls := "java/lang/Exception", name := "<init>", desc := "(Ljava/lang/String;)V" } : Jvm.MethodName)) ∈ lw_tbl := lw_at lw_m2 20 rfl
theorem q372 : (Jvm.Cond.instanceMethod ({ cls := "java/lang/Exception", name := "<init>", desc := "(Ljava/lang/String;Ljava/lang/Throwable;ZZ)V" } : Jvm.MethodName)) ∈ lw_all := lw_g (lw_at lw_m2 51 rfl) rfl
theorem q373 : (Jvm.Cond.code ({ cls := "java/lang/Exception", name := "<init>", desc := "(Ljava/lang/String;Ljava/lang/Throwable;ZZ)V" } : Jvm.MethodName) prog_25_method_5_code (5 : Nat) (Option.none : Option Jvm.ClassFile.FieldType)) ∈ lw_all := lw_g (lw_at lw_m2 52 rfl) rfl
theorem q374 : (Jvm.Cond.methodLink "java/lang/Exception" (16 : Nat) ({ cls := "java/lang/Throwable", name := "<init>", desc := "(Ljava/lang/String;Ljava/lang/Throwable;ZZ)V" } : Jvm.MethodName)) ∈ lw_all := lw_g (lw_at lw_m2 53 rfl) rfl

/-! jdk/internal/util/Preconditions -/
set_option maxRecDepth 100000
def RJ10 : String := "jdk/internal/util/Preconditions"
abbrev cJ10_checkIndex : ByteArray := prog_37_method_11_code
def yJ10_checkIndex : MethodName := ⟨RJ10, "checkIndex", "(IILjava/util/function/BiFunction;)I"⟩
def dkwJ10_checkIndex_0 : List UInt8 := [26, 155, 0, 8, 26, 27, 161, 0, 10, 44, 26, 27, 184, 0, 95, 191, 26, 172]
abbrev dktJ10_checkIndex_0 : List UInt8 := dkwJ10_checkIndex_0 ++ []
theorem dksJ10_checkIndex_0 : cJ10_checkIndex.data.toList.drop 0 = dktJ10_checkIndex_0 := by decide +kernel
theorem dJ10_checkIndex_0 : decode cJ10_checkIndex 0 = .ok (.iload_n 0, 1) := dk_26 (dk_at dksJ10_checkIndex_0 0 rfl rfl)
theorem dJ10_checkIndex_1 : decode cJ10_checkIndex 1 = .ok (.ifCond .lt 8, 3) := dk_155 0 8 (dk_at dksJ10_checkIndex_0 1 rfl rfl)
theorem dJ10_checkIndex_4 : decode cJ10_checkIndex 4 = .ok (.iload_n 0, 1) := dk_26 (dk_at dksJ10_checkIndex_0 4 rfl rfl)
theorem dJ10_checkIndex_5 : decode cJ10_checkIndex 5 = .ok (.iload_n 1, 1) := dk_27 (dk_at dksJ10_checkIndex_0 5 rfl rfl)
theorem dJ10_checkIndex_6 : decode cJ10_checkIndex 6 = .ok (.if_icmp .lt 10, 3) := dk_161 0 10 (dk_at dksJ10_checkIndex_0 6 rfl rfl)
theorem dJ10_checkIndex_9 : decode cJ10_checkIndex 9 = .ok (.aload_n 2, 1) := dk_44 (dk_at dksJ10_checkIndex_0 9 rfl rfl)
theorem dJ10_checkIndex_10 : decode cJ10_checkIndex 10 = .ok (.iload_n 0, 1) := dk_26 (dk_at dksJ10_checkIndex_0 10 rfl rfl)
theorem dJ10_checkIndex_11 : decode cJ10_checkIndex 11 = .ok (.iload_n 1, 1) := dk_27 (dk_at dksJ10_checkIndex_0 11 rfl rfl)
theorem dJ10_checkIndex_12 : decode cJ10_checkIndex 12 = .ok (.invokestatic 95, 3) := dk_184 0 95 (dk_at dksJ10_checkIndex_0 12 rfl rfl)
theorem dJ10_checkIndex_15 : decode cJ10_checkIndex 15 = .ok (.athrow, 1) := dk_191 (dk_at dksJ10_checkIndex_0 15 rfl rfl)
theorem dJ10_checkIndex_16 : decode cJ10_checkIndex 16 = .ok (.iload_n 0, 1) := dk_26 (dk_at dksJ10_checkIndex_0 16 rfl rfl)
theorem dJ10_checkIndex_17 : decode cJ10_checkIndex 17 = .ok (.ireturn, 1) := dk_172 (dk_at dksJ10_checkIndex_0 17 rfl rfl)
theorem q113 : (Jvm.Cond.initialized "jdk/internal/util/Preconditions") ∈ lw_all := lw_g (lw_at lw_m1 32 rfl) rfl
theorem q914 : (Jvm.Cond.laysStatic "jdk/internal/util/Preconditions" "SIOOBE_FORMATTER" "Ljava/util/function/BiFunction;") ∈ lw_tbl := lw_at lw_m4 113 rfl
theorem q916 : (Jvm.Cond.static ({ cls := "jdk/internal/util/Preconditions", name := "checkIndex", desc := "(IILjava/util/function/BiFunction;)I" } : Jvm.MethodName)) ∈ lw_all := lw_g (lw_at lw_m4 115 rfl) rfl
theorem q917 : (Jvm.Cond.code ({ cls := "jdk/internal/util/Preconditions", name := "checkIndex", desc := "(IILjava/util/function/BiFunction;)I" } : Jvm.MethodName) prog_37_method_11_code (3 : Nat) (Option.some Jvm.ClassFile.FieldType.int)) ∈ lw_all := lw_g (lw_at lw_m4 116 rfl) rfl

/-! java/lang/StringUTF16 -/
set_option maxRecDepth 100000
def RJ11 : String := "java/lang/StringUTF16"
abbrev cJ11_charAt : ByteArray := prog_34_method_83_code
def yJ11_charAt : MethodName := ⟨RJ11, "charAt", "([BI)C"⟩
def dkwJ11_charAt_0 : List UInt8 := [27, 42, 184, 0, 67, 42, 27, 184, 0, 71, 172]
abbrev dktJ11_charAt_0 : List UInt8 := dkwJ11_charAt_0 ++ []
theorem dksJ11_charAt_0 : cJ11_charAt.data.toList.drop 0 = dktJ11_charAt_0 := by decide +kernel
theorem dJ11_charAt_0 : decode cJ11_charAt 0 = .ok (.iload_n 1, 1) := dk_27 (dk_at dksJ11_charAt_0 0 rfl rfl)
theorem dJ11_charAt_1 : decode cJ11_charAt 1 = .ok (.aload_n 0, 1) := dk_42 (dk_at dksJ11_charAt_0 1 rfl rfl)
theorem dJ11_charAt_2 : decode cJ11_charAt 2 = .ok (.invokestatic 67, 3) := dk_184 0 67 (dk_at dksJ11_charAt_0 2 rfl rfl)
theorem dJ11_charAt_5 : decode cJ11_charAt 5 = .ok (.aload_n 0, 1) := dk_42 (dk_at dksJ11_charAt_0 5 rfl rfl)
theorem dJ11_charAt_6 : decode cJ11_charAt 6 = .ok (.iload_n 1, 1) := dk_27 (dk_at dksJ11_charAt_0 6 rfl rfl)
theorem dJ11_charAt_7 : decode cJ11_charAt 7 = .ok (.invokestatic 71, 3) := dk_184 0 71 (dk_at dksJ11_charAt_0 7 rfl rfl)
theorem dJ11_charAt_10 : decode cJ11_charAt 10 = .ok (.ireturn, 1) := dk_172 (dk_at dksJ11_charAt_0 10 rfl rfl)
abbrev cJ11_checkIndex : ByteArray := prog_34_method_91_code
def yJ11_checkIndex : MethodName := ⟨RJ11, "checkIndex", "(I[B)V"⟩
def dkwJ11_checkIndex_0 : List UInt8 := [26, 43, 184, 0, 48, 184, 1, 158, 177]
abbrev dktJ11_checkIndex_0 : List UInt8 := dkwJ11_checkIndex_0 ++ []
theorem dksJ11_checkIndex_0 : cJ11_checkIndex.data.toList.drop 0 = dktJ11_checkIndex_0 := by decide +kernel
theorem dJ11_checkIndex_0 : decode cJ11_checkIndex 0 = .ok (.iload_n 0, 1) := dk_26 (dk_at dksJ11_checkIndex_0 0 rfl rfl)
theorem dJ11_checkIndex_1 : decode cJ11_checkIndex 1 = .ok (.aload_n 1, 1) := dk_43 (dk_at dksJ11_checkIndex_0 1 rfl rfl)
theorem dJ11_checkIndex_2 : decode cJ11_checkIndex 2 = .ok (.invokestatic 48, 3) := dk_184 0 48 (dk_at dksJ11_checkIndex_0 2 rfl rfl)
theorem dJ11_checkIndex_5 : decode cJ11_checkIndex 5 = .ok (.invokestatic 414, 3) := dk_184 1 158 (dk_at dksJ11_checkIndex_0 5 rfl rfl)
theorem dJ11_checkIndex_8 : decode cJ11_checkIndex 8 = .ok (.return_, 1) := dk_177 (dk_at dksJ11_checkIndex_0 8 rfl rfl)
abbrev cJ11_length : ByteArray := prog_34_method_6_code
def yJ11_length : MethodName := ⟨RJ11, "length", "([B)I"⟩
def dkwJ11_length_0 : List UInt8 := [42, 190, 4, 122, 172]
abbrev dktJ11_length_0 : List UInt8 := dkwJ11_length_0 ++ []
theorem dksJ11_length_0 : cJ11_length.data.toList.drop 0 = dktJ11_length_0 := by decide +kernel
theorem dJ11_length_0 : decode cJ11_length 0 = .ok (.aload_n 0, 1) := dk_42 (dk_at dksJ11_length_0 0 rfl rfl)
theorem dJ11_length_1 : decode cJ11_length 1 = .ok (.arraylength, 1) := dk_190 (dk_at dksJ11_length_0 1 rfl rfl)
theorem dJ11_length_2 : decode cJ11_length 2 = .ok (.iconst 1, 1) := dk_4 (dk_at dksJ11_length_0 2 rfl rfl)
theorem dJ11_length_3 : decode cJ11_length 3 = .ok (.ishr, 1) := dk_122 (dk_at dksJ11_length_0 3 rfl rfl)
theorem dJ11_length_4 : decode cJ11_length 4 = .ok (.ireturn, 1) := dk_172 (dk_at dksJ11_length_0 4 rfl rfl)
abbrev cJ11_getChar : ByteArray := prog_34_method_5_code
def yJ11_getChar : MethodName := ⟨RJ11, "getChar", "([BI)C"⟩
def dkwJ11_getChar_2 : List UInt8 := [51, 17, 0, 255, 126, 178, 0, 63, 120, 128, 146, 172]
abbrev dktJ11_getChar_2 : List UInt8 := dkwJ11_getChar_2 ++ []
def dkwJ11_getChar_1 : List UInt8 := [183, 0, 56, 191, 27, 4, 120, 60, 42, 27, 132, 1, 1, 51, 17, 0, 255, 126, 178, 0, 59, 120, 42, 27]
abbrev dktJ11_getChar_1 : List UInt8 := dkwJ11_getChar_1 ++ dktJ11_getChar_2
def dkwJ11_getChar_0 : List UInt8 := [178, 0, 44, 154, 0, 25, 27, 155, 0, 11, 27, 42, 184, 0, 48, 161, 0, 13, 187, 0, 52, 89, 18, 54]
abbrev dktJ11_getChar_0 : List UInt8 := dkwJ11_getChar_0 ++ dktJ11_getChar_1
theorem dksJ11_getChar_0 : cJ11_getChar.data.toList.drop 0 = dktJ11_getChar_0 := by decide +kernel
theorem dksJ11_getChar_1 : cJ11_getChar.data.toList.drop 24 = dktJ11_getChar_1 := dk_seg dksJ11_getChar_0 24 rfl rfl
theorem dksJ11_getChar_2 : cJ11_getChar.data.toList.drop 48 = dktJ11_getChar_2 := dk_seg dksJ11_getChar_1 24 rfl rfl
theorem dJ11_getChar_0 : decode cJ11_getChar 0 = .ok (.getstatic 44, 3) := dk_178 0 44 (dk_at dksJ11_getChar_0 0 rfl rfl)
theorem dJ11_getChar_3 : decode cJ11_getChar 3 = .ok (.ifCond .ne 25, 3) := dk_154 0 25 (dk_at dksJ11_getChar_0 3 rfl rfl)
theorem dJ11_getChar_6 : decode cJ11_getChar 6 = .ok (.iload_n 1, 1) := dk_27 (dk_at dksJ11_getChar_0 6 rfl rfl)
theorem dJ11_getChar_7 : decode cJ11_getChar 7 = .ok (.ifCond .lt 11, 3) := dk_155 0 11 (dk_at dksJ11_getChar_0 7 rfl rfl)
theorem dJ11_getChar_10 : decode cJ11_getChar 10 = .ok (.iload_n 1, 1) := dk_27 (dk_at dksJ11_getChar_0 10 rfl rfl)
theorem dJ11_getChar_11 : decode cJ11_getChar 11 = .ok (.aload_n 0, 1) := dk_42 (dk_at dksJ11_getChar_0 11 rfl rfl)
theorem dJ11_getChar_12 : decode cJ11_getChar 12 = .ok (.invokestatic 48, 3) := dk_184 0 48 (dk_at dksJ11_getChar_0 12 rfl rfl)
theorem dJ11_getChar_15 : decode cJ11_getChar 15 = .ok (.if_icmp .lt 13, 3) := dk_161 0 13 (dk_at dksJ11_getChar_0 15 rfl rfl)
theorem dJ11_getChar_18 : decode cJ11_getChar 18 = .ok (.new 52, 3) := dk_187 0 52 (dk_at dksJ11_getChar_0 18 rfl rfl)
theorem dJ11_getChar_21 : decode cJ11_getChar 21 = .ok (.dup, 1) := dk_89 (dk_at dksJ11_getChar_0 21 rfl rfl)
theorem dJ11_getChar_22 : decode cJ11_getChar 22 = .ok (.ldc 54, 2) := dk_18 54 (dk_at dksJ11_getChar_0 22 rfl rfl)
theorem dJ11_getChar_24 : decode cJ11_getChar 24 = .ok (.invokespecial 56, 3) := dk_183 0 56 (dk_at dksJ11_getChar_1 0 rfl rfl)
theorem dJ11_getChar_27 : decode cJ11_getChar 27 = .ok (.athrow, 1) := dk_191 (dk_at dksJ11_getChar_1 3 rfl rfl)
theorem dJ11_getChar_28 : decode cJ11_getChar 28 = .ok (.iload_n 1, 1) := dk_27 (dk_at dksJ11_getChar_1 4 rfl rfl)
theorem dJ11_getChar_29 : decode cJ11_getChar 29 = .ok (.iconst 1, 1) := dk_4 (dk_at dksJ11_getChar_1 5 rfl rfl)
theorem dJ11_getChar_30 : decode cJ11_getChar 30 = .ok (.ishl, 1) := dk_120 (dk_at dksJ11_getChar_1 6 rfl rfl)
theorem dJ11_getChar_31 : decode cJ11_getChar 31 = .ok (.istore_n 1, 1) := dk_60 (dk_at dksJ11_getChar_1 7 rfl rfl)
theorem dJ11_getChar_32 : decode cJ11_getChar 32 = .ok (.aload_n 0, 1) := dk_42 (dk_at dksJ11_getChar_1 8 rfl rfl)
theorem dJ11_getChar_33 : decode cJ11_getChar 33 = .ok (.iload_n 1, 1) := dk_27 (dk_at dksJ11_getChar_1 9 rfl rfl)
theorem dJ11_getChar_34 : decode cJ11_getChar 34 = .ok (.iinc 1 1, 3) := dk_132 1 1 (dk_at dksJ11_getChar_1 10 rfl rfl)
theorem dJ11_getChar_37 : decode cJ11_getChar 37 = .ok (.baload, 1) := dk_51 (dk_at dksJ11_getChar_1 13 rfl rfl)
theorem dJ11_getChar_38 : decode cJ11_getChar 38 = .ok (.sipush 255, 3) := dk_17 0 255 (dk_at dksJ11_getChar_1 14 rfl rfl)
theorem dJ11_getChar_41 : decode cJ11_getChar 41 = .ok (.iand, 1) := dk_126 (dk_at dksJ11_getChar_1 17 rfl rfl)
theorem dJ11_getChar_42 : decode cJ11_getChar 42 = .ok (.getstatic 59, 3) := dk_178 0 59 (dk_at dksJ11_getChar_1 18 rfl rfl)
theorem dJ11_getChar_45 : decode cJ11_getChar 45 = .ok (.ishl, 1) := dk_120 (dk_at dksJ11_getChar_1 21 rfl rfl)
theorem dJ11_getChar_46 : decode cJ11_getChar 46 = .ok (.aload_n 0, 1) := dk_42 (dk_at dksJ11_getChar_1 22 rfl rfl)
theorem dJ11_getChar_47 : decode cJ11_getChar 47 = .ok (.iload_n 1, 1) := dk_27 (dk_at dksJ11_getChar_1 23 rfl rfl)
theorem dJ11_getChar_48 : decode cJ11_getChar 48 = .ok (.baload, 1) := dk_51 (dk_at dksJ11_getChar_2 0 rfl rfl)
theorem dJ11_getChar_49 : decode cJ11_getChar 49 = .ok (.sipush 255, 3) := dk_17 0 255 (dk_at dksJ11_getChar_2 1 rfl rfl)
theorem dJ11_getChar_52 : decode cJ11_getChar 52 = .ok (.iand, 1) := dk_126 (dk_at dksJ11_getChar_2 4 rfl rfl)
theorem dJ11_getChar_53 : decode cJ11_getChar 53 = .ok (.getstatic 63, 3) := dk_178 0 63 (dk_at dksJ11_getChar_2 5 rfl rfl)
theorem dJ11_getChar_56 : decode cJ11_getChar 56 = .ok (.ishl, 1) := dk_120 (dk_at dksJ11_getChar_2 8 rfl rfl)
theorem dJ11_getChar_57 : decode cJ11_getChar 57 = .ok (.ior, 1) := dk_128 (dk_at dksJ11_getChar_2 9 rfl rfl)
theorem dJ11_getChar_58 : decode cJ11_getChar 58 = .ok (.i2c, 1) := dk_146 (dk_at dksJ11_getChar_2 10 rfl rfl)
theorem dJ11_getChar_59 : decode cJ11_getChar 59 = .ok (.ireturn, 1) := dk_172 (dk_at dksJ11_getChar_2 11 rfl rfl)
theorem q114 : (Jvm.Cond.initialized "java/lang/StringUTF16") ∈ lw_all := lw_g (lw_at lw_m1 33 rfl) rfl
theorem q919 : (Jvm.Cond.static ({ cls := "java/lang/StringUTF16", name := "charAt", desc := "([BI)C" } : Jvm.MethodName)) ∈ lw_all := lw_g (lw_at lw_m4 118 rfl) rfl
theorem q920 : (Jvm.Cond.code ({ cls := "java/lang/StringUTF16", name := "charAt", desc := "([BI)C" } : Jvm.MethodName) prog_34_method_83_code (2 : Nat) (Option.some Jvm.ClassFile.FieldType.char)) ∈ lw_all := lw_g (lw_at lw_m4 119 rfl) rfl
theorem q921 : (Jvm.Cond.methodLink "java/lang/StringUTF16" (67 : Nat) ({ cls := "java/lang/StringUTF16", name := "checkIndex", desc := "(I[B)V" } : Jvm.MethodName)) ∈ lw_all := lw_g (lw_at lw_m4 120 rfl) rfl
theorem q922 : (Jvm.Cond.static ({ cls := "java/lang/StringUTF16", name := "checkIndex", desc := "(I[B)V" } : Jvm.MethodName)) ∈ lw_all := lw_g (lw_at lw_m4 121 rfl) rfl
theorem q923 : (Jvm.Cond.code ({ cls := "java/lang/StringUTF16", name := "checkIndex", desc := "(I[B)V" } : Jvm.MethodName) prog_34_method_91_code (2 : Nat) (Option.none : Option Jvm.ClassFile.FieldType)) ∈ lw_all := lw_g (lw_at lw_m4 122 rfl) rfl
theorem q924 : (Jvm.Cond.methodLink "java/lang/StringUTF16" (48 : Nat) ({ cls := "java/lang/StringUTF16", name := "length", desc := "([B)I" } : Jvm.MethodName)) ∈ lw_all := lw_g (lw_at lw_m4 123 rfl) rfl
theorem q925 : (Jvm.Cond.static ({ cls := "java/lang/StringUTF16", name := "length", desc := "([B)I" } : Jvm.MethodName)) ∈ lw_all := lw_g (lw_at lw_m4 124 rfl) rfl
theorem q926 : (Jvm.Cond.code ({ cls := "java/lang/StringUTF16", name := "length", desc := "([B)I" } : Jvm.MethodName) prog_34_method_6_code (1 : Nat) (Option.some Jvm.ClassFile.FieldType.int)) ∈ lw_all := lw_g (lw_at lw_m4 125 rfl) rfl
theorem q927 : (Jvm.Cond.methodLink "java/lang/StringUTF16" (414 : Nat) ({ cls := "java/lang/String", name := "checkIndex", desc := "(II)V" } : Jvm.MethodName)) ∈ lw_all := lw_g (lw_at lw_m4 126 rfl) rfl
theorem q928 : (Jvm.Cond.methodLink "java/lang/StringUTF16" (71 : Nat) ({ cls := "java/lang/StringUTF16", name := "getChar", desc := "([BI)C" } : Jvm.MethodName)) ∈ lw_all := lw_g (lw_at lw_m4 127 rfl) rfl
theorem q929 : (Jvm.Cond.static ({ cls := "java/lang/StringUTF16", name := "getChar", desc := "([BI)C" } : Jvm.MethodName)) ∈ lw_all := lw_g (lw_at lw_m4 128 rfl) rfl
theorem q930 : (Jvm.Cond.code ({ cls := "java/lang/StringUTF16", name := "getChar", desc := "([BI)C" } : Jvm.MethodName) prog_34_method_5_code (2 : Nat) (Option.some Jvm.ClassFile.FieldType.char)) ∈ lw_all := lw_g (lw_at lw_m4 129 rfl) rfl
theorem q931 : (Jvm.Cond.fieldLink "java/lang/StringUTF16" (44 : Nat) "java/lang/StringUTF16" "$assertionsDisabled" "Z") ∈ lw_all := lw_g (lw_at lw_m4 130 rfl) rfl
theorem q932 : (Jvm.Cond.laysStatic "java/lang/StringUTF16" "$assertionsDisabled" "Z") ∈ lw_tbl := lw_at lw_m4 131 rfl
theorem q933 : (Jvm.Cond.fieldLink "java/lang/StringUTF16" (59 : Nat) "java/lang/StringUTF16" "HI_BYTE_SHIFT" "I") ∈ lw_all := lw_g (lw_at lw_m4 132 rfl) rfl
theorem q934 : (Jvm.Cond.laysStatic "java/lang/StringUTF16" "HI_BYTE_SHIFT" "I") ∈ lw_tbl := lw_at lw_m4 133 rfl
theorem q935 : (Jvm.Cond.fieldLink "java/lang/StringUTF16" (63 : Nat) "java/lang/StringUTF16" "LO_BYTE_SHIFT" "I") ∈ lw_all := lw_g (lw_at lw_m4 134 rfl) rfl
theorem q936 : (Jvm.Cond.laysStatic "java/lang/StringUTF16" "LO_BYTE_SHIFT" "I") ∈ lw_tbl := lw_at lw_m4 135 rfl

/-! java/lang/Integer -/
set_option maxRecDepth 100000
def RJ12 : String := "java/lang/Integer"
abbrev cJ12_bitCount : ByteArray := prog_27_method_49_code
def yJ12_bitCount : MethodName := ⟨RJ12, "bitCount", "(I)I"⟩
def dkwJ12_bitCount_2 : List UInt8 := [26, 16, 63, 126, 172]
abbrev dktJ12_bitCount_2 : List UInt8 := dkwJ12_bitCount_2 ++ []
def dkwJ12_bitCount_1 : List UInt8 := [26, 26, 7, 124, 96, 19, 1, 11, 126, 59, 26, 26, 16, 8, 124, 96, 59, 26, 26, 16, 16, 124, 96, 59]
abbrev dktJ12_bitCount_1 : List UInt8 := dkwJ12_bitCount_1 ++ dktJ12_bitCount_2
def dkwJ12_bitCount_0 : List UInt8 := [26, 26, 4, 124, 19, 1, 9, 126, 100, 59, 26, 19, 1, 10, 126, 26, 5, 124, 19, 1, 10, 126, 96, 59]
abbrev dktJ12_bitCount_0 : List UInt8 := dkwJ12_bitCount_0 ++ dktJ12_bitCount_1
theorem dksJ12_bitCount_0 : cJ12_bitCount.data.toList.drop 0 = dktJ12_bitCount_0 := by decide +kernel
theorem dksJ12_bitCount_1 : cJ12_bitCount.data.toList.drop 24 = dktJ12_bitCount_1 := dk_seg dksJ12_bitCount_0 24 rfl rfl
theorem dksJ12_bitCount_2 : cJ12_bitCount.data.toList.drop 48 = dktJ12_bitCount_2 := dk_seg dksJ12_bitCount_1 24 rfl rfl
theorem dJ12_bitCount_0 : decode cJ12_bitCount 0 = .ok (.iload_n 0, 1) := dk_26 (dk_at dksJ12_bitCount_0 0 rfl rfl)
theorem dJ12_bitCount_1 : decode cJ12_bitCount 1 = .ok (.iload_n 0, 1) := dk_26 (dk_at dksJ12_bitCount_0 1 rfl rfl)
theorem dJ12_bitCount_2 : decode cJ12_bitCount 2 = .ok (.iconst 1, 1) := dk_4 (dk_at dksJ12_bitCount_0 2 rfl rfl)
theorem dJ12_bitCount_3 : decode cJ12_bitCount 3 = .ok (.iushr, 1) := dk_124 (dk_at dksJ12_bitCount_0 3 rfl rfl)
theorem dJ12_bitCount_4 : decode cJ12_bitCount 4 = .ok (.ldc_w 265, 3) := dk_19 1 9 (dk_at dksJ12_bitCount_0 4 rfl rfl)
theorem dJ12_bitCount_7 : decode cJ12_bitCount 7 = .ok (.iand, 1) := dk_126 (dk_at dksJ12_bitCount_0 7 rfl rfl)
theorem dJ12_bitCount_8 : decode cJ12_bitCount 8 = .ok (.isub, 1) := dk_100 (dk_at dksJ12_bitCount_0 8 rfl rfl)
theorem dJ12_bitCount_9 : decode cJ12_bitCount 9 = .ok (.istore_n 0, 1) := dk_59 (dk_at dksJ12_bitCount_0 9 rfl rfl)
theorem dJ12_bitCount_10 : decode cJ12_bitCount 10 = .ok (.iload_n 0, 1) := dk_26 (dk_at dksJ12_bitCount_0 10 rfl rfl)
theorem dJ12_bitCount_11 : decode cJ12_bitCount 11 = .ok (.ldc_w 266, 3) := dk_19 1 10 (dk_at dksJ12_bitCount_0 11 rfl rfl)
theorem dJ12_bitCount_14 : decode cJ12_bitCount 14 = .ok (.iand, 1) := dk_126 (dk_at dksJ12_bitCount_0 14 rfl rfl)
theorem dJ12_bitCount_15 : decode cJ12_bitCount 15 = .ok (.iload_n 0, 1) := dk_26 (dk_at dksJ12_bitCount_0 15 rfl rfl)
theorem dJ12_bitCount_16 : decode cJ12_bitCount 16 = .ok (.iconst 2, 1) := dk_5 (dk_at dksJ12_bitCount_0 16 rfl rfl)
theorem dJ12_bitCount_17 : decode cJ12_bitCount 17 = .ok (.iushr, 1) := dk_124 (dk_at dksJ12_bitCount_0 17 rfl rfl)
theorem dJ12_bitCount_18 : decode cJ12_bitCount 18 = .ok (.ldc_w 266, 3) := dk_19 1 10 (dk_at dksJ12_bitCount_0 18 rfl rfl)
theorem dJ12_bitCount_21 : decode cJ12_bitCount 21 = .ok (.iand, 1) := dk_126 (dk_at dksJ12_bitCount_0 21 rfl rfl)
theorem dJ12_bitCount_22 : decode cJ12_bitCount 22 = .ok (.iadd, 1) := dk_96 (dk_at dksJ12_bitCount_0 22 rfl rfl)
theorem dJ12_bitCount_23 : decode cJ12_bitCount 23 = .ok (.istore_n 0, 1) := dk_59 (dk_at dksJ12_bitCount_0 23 rfl rfl)
theorem dJ12_bitCount_24 : decode cJ12_bitCount 24 = .ok (.iload_n 0, 1) := dk_26 (dk_at dksJ12_bitCount_1 0 rfl rfl)
theorem dJ12_bitCount_25 : decode cJ12_bitCount 25 = .ok (.iload_n 0, 1) := dk_26 (dk_at dksJ12_bitCount_1 1 rfl rfl)
theorem dJ12_bitCount_26 : decode cJ12_bitCount 26 = .ok (.iconst 4, 1) := dk_7 (dk_at dksJ12_bitCount_1 2 rfl rfl)
theorem dJ12_bitCount_27 : decode cJ12_bitCount 27 = .ok (.iushr, 1) := dk_124 (dk_at dksJ12_bitCount_1 3 rfl rfl)
theorem dJ12_bitCount_28 : decode cJ12_bitCount 28 = .ok (.iadd, 1) := dk_96 (dk_at dksJ12_bitCount_1 4 rfl rfl)
theorem dJ12_bitCount_29 : decode cJ12_bitCount 29 = .ok (.ldc_w 267, 3) := dk_19 1 11 (dk_at dksJ12_bitCount_1 5 rfl rfl)
theorem dJ12_bitCount_32 : decode cJ12_bitCount 32 = .ok (.iand, 1) := dk_126 (dk_at dksJ12_bitCount_1 8 rfl rfl)
theorem dJ12_bitCount_33 : decode cJ12_bitCount 33 = .ok (.istore_n 0, 1) := dk_59 (dk_at dksJ12_bitCount_1 9 rfl rfl)
theorem dJ12_bitCount_34 : decode cJ12_bitCount 34 = .ok (.iload_n 0, 1) := dk_26 (dk_at dksJ12_bitCount_1 10 rfl rfl)
theorem dJ12_bitCount_35 : decode cJ12_bitCount 35 = .ok (.iload_n 0, 1) := dk_26 (dk_at dksJ12_bitCount_1 11 rfl rfl)
theorem dJ12_bitCount_36 : decode cJ12_bitCount 36 = .ok (.bipush 8, 2) := dk_16 8 (dk_at dksJ12_bitCount_1 12 rfl rfl)
theorem dJ12_bitCount_38 : decode cJ12_bitCount 38 = .ok (.iushr, 1) := dk_124 (dk_at dksJ12_bitCount_1 14 rfl rfl)
theorem dJ12_bitCount_39 : decode cJ12_bitCount 39 = .ok (.iadd, 1) := dk_96 (dk_at dksJ12_bitCount_1 15 rfl rfl)
theorem dJ12_bitCount_40 : decode cJ12_bitCount 40 = .ok (.istore_n 0, 1) := dk_59 (dk_at dksJ12_bitCount_1 16 rfl rfl)
theorem dJ12_bitCount_41 : decode cJ12_bitCount 41 = .ok (.iload_n 0, 1) := dk_26 (dk_at dksJ12_bitCount_1 17 rfl rfl)
theorem dJ12_bitCount_42 : decode cJ12_bitCount 42 = .ok (.iload_n 0, 1) := dk_26 (dk_at dksJ12_bitCount_1 18 rfl rfl)
theorem dJ12_bitCount_43 : decode cJ12_bitCount 43 = .ok (.bipush 16, 2) := dk_16 16 (dk_at dksJ12_bitCount_1 19 rfl rfl)
theorem dJ12_bitCount_45 : decode cJ12_bitCount 45 = .ok (.iushr, 1) := dk_124 (dk_at dksJ12_bitCount_1 21 rfl rfl)
theorem dJ12_bitCount_46 : decode cJ12_bitCount 46 = .ok (.iadd, 1) := dk_96 (dk_at dksJ12_bitCount_1 22 rfl rfl)
theorem dJ12_bitCount_47 : decode cJ12_bitCount 47 = .ok (.istore_n 0, 1) := dk_59 (dk_at dksJ12_bitCount_1 23 rfl rfl)
theorem dJ12_bitCount_48 : decode cJ12_bitCount 48 = .ok (.iload_n 0, 1) := dk_26 (dk_at dksJ12_bitCount_2 0 rfl rfl)
theorem dJ12_bitCount_49 : decode cJ12_bitCount 49 = .ok (.bipush 63, 2) := dk_16 63 (dk_at dksJ12_bitCount_2 1 rfl rfl)
theorem dJ12_bitCount_51 : decode cJ12_bitCount 51 = .ok (.iand, 1) := dk_126 (dk_at dksJ12_bitCount_2 3 rfl rfl)
theorem dJ12_bitCount_52 : decode cJ12_bitCount 52 = .ok (.ireturn, 1) := dk_172 (dk_at dksJ12_bitCount_2 4 rfl rfl)
theorem q116 : (Jvm.Cond.initialized "java/lang/Integer") ∈ lw_all := lw_g (lw_at lw_m1 35 rfl) rfl
theorem q1081 : (Jvm.Cond.static ({ cls := "java/lang/Integer", name := "bitCount", desc := "(I)I" } : Jvm.MethodName)) ∈ lw_all := lw_g (lw_at lw_m5 40 rfl) rfl
theorem q1082 : (Jvm.Cond.code ({ cls := "java/lang/Integer", name := "bitCount", desc := "(I)I" } : Jvm.MethodName) prog_27_method_49_code (1 : Nat) (Option.some Jvm.ClassFile.FieldType.int)) ∈ lw_all := lw_g (lw_at lw_m5 41 rfl) rfl
theorem q1083 : (Jvm.Cond.constant "java/lang/Integer" (265 : Nat) (1431655765 : Int32)) ∈ lw_all := lw_g (lw_at lw_m5 42 rfl) rfl
theorem q1084 : (Jvm.Cond.constant "java/lang/Integer" (266 : Nat) (858993459 : Int32)) ∈ lw_all := lw_g (lw_at lw_m5 43 rfl) rfl
theorem q1085 : (Jvm.Cond.constant "java/lang/Integer" (267 : Nat) (252645135 : Int32)) ∈ lw_all := lw_g (lw_at lw_m5 44 rfl) rfl

/-! java/lang/Long -/
set_option maxRecDepth 100000
def RJ13 : String := "java/lang/Long"
abbrev cJ13_bitCount : ByteArray := prog_28_method_50_code
def yJ13_bitCount : MethodName := ⟨RJ13, "bitCount", "(J)I"⟩
def dkwJ13_bitCount_2 : List UInt8 := [30, 30, 16, 32, 125, 97, 63, 30, 136, 16, 127, 126, 172]
abbrev dktJ13_bitCount_2 : List UInt8 := dkwJ13_bitCount_2 ++ []
def dkwJ13_bitCount_1 : List UInt8 := [30, 30, 7, 125, 97, 20, 1, 62, 127, 63, 30, 30, 16, 8, 125, 97, 63, 30, 30, 16, 16, 125, 97, 63]
abbrev dktJ13_bitCount_1 : List UInt8 := dkwJ13_bitCount_1 ++ dktJ13_bitCount_2
def dkwJ13_bitCount_0 : List UInt8 := [30, 30, 4, 125, 20, 1, 58, 127, 101, 63, 30, 20, 1, 60, 127, 30, 5, 125, 20, 1, 60, 127, 97, 63]
abbrev dktJ13_bitCount_0 : List UInt8 := dkwJ13_bitCount_0 ++ dktJ13_bitCount_1
theorem dksJ13_bitCount_0 : cJ13_bitCount.data.toList.drop 0 = dktJ13_bitCount_0 := by decide +kernel
theorem dksJ13_bitCount_1 : cJ13_bitCount.data.toList.drop 24 = dktJ13_bitCount_1 := dk_seg dksJ13_bitCount_0 24 rfl rfl
theorem dksJ13_bitCount_2 : cJ13_bitCount.data.toList.drop 48 = dktJ13_bitCount_2 := dk_seg dksJ13_bitCount_1 24 rfl rfl
theorem dJ13_bitCount_0 : decode cJ13_bitCount 0 = .ok (.lload_n 0, 1) := dk_30 (dk_at dksJ13_bitCount_0 0 rfl rfl)
theorem dJ13_bitCount_1 : decode cJ13_bitCount 1 = .ok (.lload_n 0, 1) := dk_30 (dk_at dksJ13_bitCount_0 1 rfl rfl)
theorem dJ13_bitCount_2 : decode cJ13_bitCount 2 = .ok (.iconst 1, 1) := dk_4 (dk_at dksJ13_bitCount_0 2 rfl rfl)
theorem dJ13_bitCount_3 : decode cJ13_bitCount 3 = .ok (.lushr, 1) := dk_125 (dk_at dksJ13_bitCount_0 3 rfl rfl)
theorem dJ13_bitCount_4 : decode cJ13_bitCount 4 = .ok (.ldc2_w 314, 3) := dk_20 1 58 (dk_at dksJ13_bitCount_0 4 rfl rfl)
theorem dJ13_bitCount_7 : decode cJ13_bitCount 7 = .ok (.land, 1) := dk_127 (dk_at dksJ13_bitCount_0 7 rfl rfl)
theorem dJ13_bitCount_8 : decode cJ13_bitCount 8 = .ok (.lsub, 1) := dk_101 (dk_at dksJ13_bitCount_0 8 rfl rfl)
theorem dJ13_bitCount_9 : decode cJ13_bitCount 9 = .ok (.lstore_n 0, 1) := dk_63 (dk_at dksJ13_bitCount_0 9 rfl rfl)
theorem dJ13_bitCount_10 : decode cJ13_bitCount 10 = .ok (.lload_n 0, 1) := dk_30 (dk_at dksJ13_bitCount_0 10 rfl rfl)
theorem dJ13_bitCount_11 : decode cJ13_bitCount 11 = .ok (.ldc2_w 316, 3) := dk_20 1 60 (dk_at dksJ13_bitCount_0 11 rfl rfl)
theorem dJ13_bitCount_14 : decode cJ13_bitCount 14 = .ok (.land, 1) := dk_127 (dk_at dksJ13_bitCount_0 14 rfl rfl)
theorem dJ13_bitCount_15 : decode cJ13_bitCount 15 = .ok (.lload_n 0, 1) := dk_30 (dk_at dksJ13_bitCount_0 15 rfl rfl)
theorem dJ13_bitCount_16 : decode cJ13_bitCount 16 = .ok (.iconst 2, 1) := dk_5 (dk_at dksJ13_bitCount_0 16 rfl rfl)
theorem dJ13_bitCount_17 : decode cJ13_bitCount 17 = .ok (.lushr, 1) := dk_125 (dk_at dksJ13_bitCount_0 17 rfl rfl)
theorem dJ13_bitCount_18 : decode cJ13_bitCount 18 = .ok (.ldc2_w 316, 3) := dk_20 1 60 (dk_at dksJ13_bitCount_0 18 rfl rfl)
theorem dJ13_bitCount_21 : decode cJ13_bitCount 21 = .ok (.land, 1) := dk_127 (dk_at dksJ13_bitCount_0 21 rfl rfl)
theorem dJ13_bitCount_22 : decode cJ13_bitCount 22 = .ok (.ladd, 1) := dk_97 (dk_at dksJ13_bitCount_0 22 rfl rfl)
theorem dJ13_bitCount_23 : decode cJ13_bitCount 23 = .ok (.lstore_n 0, 1) := dk_63 (dk_at dksJ13_bitCount_0 23 rfl rfl)
theorem dJ13_bitCount_24 : decode cJ13_bitCount 24 = .ok (.lload_n 0, 1) := dk_30 (dk_at dksJ13_bitCount_1 0 rfl rfl)
theorem dJ13_bitCount_25 : decode cJ13_bitCount 25 = .ok (.lload_n 0, 1) := dk_30 (dk_at dksJ13_bitCount_1 1 rfl rfl)
theorem dJ13_bitCount_26 : decode cJ13_bitCount 26 = .ok (.iconst 4, 1) := dk_7 (dk_at dksJ13_bitCount_1 2 rfl rfl)
theorem dJ13_bitCount_27 : decode cJ13_bitCount 27 = .ok (.lushr, 1) := dk_125 (dk_at dksJ13_bitCount_1 3 rfl rfl)
theorem dJ13_bitCount_28 : decode cJ13_bitCount 28 = .ok (.ladd, 1) := dk_97 (dk_at dksJ13_bitCount_1 4 rfl rfl)
theorem dJ13_bitCount_29 : decode cJ13_bitCount 29 = .ok (.ldc2_w 318, 3) := dk_20 1 62 (dk_at dksJ13_bitCount_1 5 rfl rfl)
theorem dJ13_bitCount_32 : decode cJ13_bitCount 32 = .ok (.land, 1) := dk_127 (dk_at dksJ13_bitCount_1 8 rfl rfl)
theorem dJ13_bitCount_33 : decode cJ13_bitCount 33 = .ok (.lstore_n 0, 1) := dk_63 (dk_at dksJ13_bitCount_1 9 rfl rfl)
theorem dJ13_bitCount_34 : decode cJ13_bitCount 34 = .ok (.lload_n 0, 1) := dk_30 (dk_at dksJ13_bitCount_1 10 rfl rfl)
theorem dJ13_bitCount_35 : decode cJ13_bitCount 35 = .ok (.lload_n 0, 1) := dk_30 (dk_at dksJ13_bitCount_1 11 rfl rfl)
theorem dJ13_bitCount_36 : decode cJ13_bitCount 36 = .ok (.bipush 8, 2) := dk_16 8 (dk_at dksJ13_bitCount_1 12 rfl rfl)
theorem dJ13_bitCount_38 : decode cJ13_bitCount 38 = .ok (.lushr, 1) := dk_125 (dk_at dksJ13_bitCount_1 14 rfl rfl)
theorem dJ13_bitCount_39 : decode cJ13_bitCount 39 = .ok (.ladd, 1) := dk_97 (dk_at dksJ13_bitCount_1 15 rfl rfl)
theorem dJ13_bitCount_40 : decode cJ13_bitCount 40 = .ok (.lstore_n 0, 1) := dk_63 (dk_at dksJ13_bitCount_1 16 rfl rfl)
theorem dJ13_bitCount_41 : decode cJ13_bitCount 41 = .ok (.lload_n 0, 1) := dk_30 (dk_at dksJ13_bitCount_1 17 rfl rfl)
theorem dJ13_bitCount_42 : decode cJ13_bitCount 42 = .ok (.lload_n 0, 1) := dk_30 (dk_at dksJ13_bitCount_1 18 rfl rfl)
theorem dJ13_bitCount_43 : decode cJ13_bitCount 43 = .ok (.bipush 16, 2) := dk_16 16 (dk_at dksJ13_bitCount_1 19 rfl rfl)
theorem dJ13_bitCount_45 : decode cJ13_bitCount 45 = .ok (.lushr, 1) := dk_125 (dk_at dksJ13_bitCount_1 21 rfl rfl)
theorem dJ13_bitCount_46 : decode cJ13_bitCount 46 = .ok (.ladd, 1) := dk_97 (dk_at dksJ13_bitCount_1 22 rfl rfl)
theorem dJ13_bitCount_47 : decode cJ13_bitCount 47 = .ok (.lstore_n 0, 1) := dk_63 (dk_at dksJ13_bitCount_1 23 rfl rfl)
theorem dJ13_bitCount_48 : decode cJ13_bitCount 48 = .ok (.lload_n 0, 1) := dk_30 (dk_at dksJ13_bitCount_2 0 rfl rfl)
theorem dJ13_bitCount_49 : decode cJ13_bitCount 49 = .ok (.lload_n 0, 1) := dk_30 (dk_at dksJ13_bitCount_2 1 rfl rfl)
theorem dJ13_bitCount_50 : decode cJ13_bitCount 50 = .ok (.bipush 32, 2) := dk_16 32 (dk_at dksJ13_bitCount_2 2 rfl rfl)
theorem dJ13_bitCount_52 : decode cJ13_bitCount 52 = .ok (.lushr, 1) := dk_125 (dk_at dksJ13_bitCount_2 4 rfl rfl)
theorem dJ13_bitCount_53 : decode cJ13_bitCount 53 = .ok (.ladd, 1) := dk_97 (dk_at dksJ13_bitCount_2 5 rfl rfl)
theorem dJ13_bitCount_54 : decode cJ13_bitCount 54 = .ok (.lstore_n 0, 1) := dk_63 (dk_at dksJ13_bitCount_2 6 rfl rfl)
theorem dJ13_bitCount_55 : decode cJ13_bitCount 55 = .ok (.lload_n 0, 1) := dk_30 (dk_at dksJ13_bitCount_2 7 rfl rfl)
theorem dJ13_bitCount_56 : decode cJ13_bitCount 56 = .ok (.l2i, 1) := dk_136 (dk_at dksJ13_bitCount_2 8 rfl rfl)
theorem dJ13_bitCount_57 : decode cJ13_bitCount 57 = .ok (.bipush 127, 2) := dk_16 127 (dk_at dksJ13_bitCount_2 9 rfl rfl)
theorem dJ13_bitCount_59 : decode cJ13_bitCount 59 = .ok (.iand, 1) := dk_126 (dk_at dksJ13_bitCount_2 11 rfl rfl)
theorem dJ13_bitCount_60 : decode cJ13_bitCount 60 = .ok (.ireturn, 1) := dk_172 (dk_at dksJ13_bitCount_2 12 rfl rfl)
theorem q117 : (Jvm.Cond.initialized "java/lang/Long") ∈ lw_all := lw_g (lw_at lw_m1 36 rfl) rfl
theorem q1365 : (Jvm.Cond.static ({ cls := "java/lang/Long", name := "bitCount", desc := "(J)I" } : Jvm.MethodName)) ∈ lw_all := lw_g (lw_at lw_m6 84 rfl) rfl
theorem q1366 : (Jvm.Cond.code ({ cls := "java/lang/Long", name := "bitCount", desc := "(J)I" } : Jvm.MethodName) prog_28_method_50_code (2 : Nat) (Option.some Jvm.ClassFile.FieldType.int)) ∈ lw_all := lw_g (lw_at lw_m6 85 rfl) rfl
theorem q1367 : (Jvm.Cond.constantLong "java/lang/Long" (314 : Nat) (6148914691236517205 : Int64)) ∈ lw_all := lw_g (lw_at lw_m6 86 rfl) rfl
theorem q1368 : (Jvm.Cond.constantLong "java/lang/Long" (316 : Nat) (3689348814741910323 : Int64)) ∈ lw_all := lw_g (lw_at lw_m6 87 rfl) rfl
theorem q1369 : (Jvm.Cond.constantLong "java/lang/Long" (318 : Nat) (1085102592571150095 : Int64)) ∈ lw_all := lw_g (lw_at lw_m6 88 rfl) rfl

/-! java/lang/Object -/
set_option maxRecDepth 100000
def RJ14 : String := "java/lang/Object"
abbrev cJ14_init : ByteArray := object_method_1_code
def yJ14_init : MethodName := ⟨RJ14, "<init>", "()V"⟩
theorem dJ14_init_0 : decode cJ14_init 0 = .ok (.return_, 1) := by decide +kernel
theorem q124 : (Jvm.Cond.instanceMethod ({ cls := "java/lang/Object", name := "<init>", desc := "()V" } : Jvm.MethodName)) ∈ lw_all := lw_g (lw_at lw_m1 43 rfl) rfl
theorem q125 : (Jvm.Cond.code ({ cls := "java/lang/Object", name := "<init>", desc := "()V" } : Jvm.MethodName) object_method_1_code (1 : Nat) (Option.none : Option Jvm.ClassFile.FieldType)) ∈ lw_all := lw_g (lw_at lw_m1 44 rfl) rfl

/-! java/lang/RuntimeException -/
set_option maxRecDepth 100000
def RJ2 : String := "java/lang/RuntimeException"
abbrev cJ2_init : ByteArray := prog_31_method_2_code
def yJ2_init : MethodName := ⟨RJ2, "<init>", "(Ljava/lang/String;)V"⟩
def dkwJ2_init_0 : List UInt8 := [42, 43, 183, 0, 7, 177]
abbrev dktJ2_init_0 : List UInt8 := dkwJ2_init_0 ++ []
theorem dksJ2_init_0 : cJ2_init.data.toList.drop 0 = dktJ2_init_0 := by decide +kernel
theorem dJ2_init_0 : decode cJ2_init 0 = .ok (.aload_n 0, 1) := dk_42 (dk_at dksJ2_init_0 0 rfl rfl)
theorem dJ2_init_1 : decode cJ2_init 1 = .ok (.aload_n 1, 1) := dk_43 (dk_at dksJ2_init_0 1 rfl rfl)
theorem dJ2_init_2 : decode cJ2_init 2 = .ok (.invokespecial 7, 3) := dk_183 0 7 (dk_at dksJ2_init_0 2 rfl rfl)
theorem dJ2_init_5 : decode cJ2_init 5 = .ok (.return_, 1) := dk_177 (dk_at dksJ2_init_0 5 rfl rfl)
theorem q90 : (Jvm.Cond.initialized "java/lang/RuntimeException") ∈ lw_all := lw_g (lw_at lw_m1 9 rfl) rfl
theorem q290 : (Jvm.Cond.instanceMethod ({ cls := "java/lang/RuntimeException", name := "<init>", desc := "(Ljava/lang/String;)V" } : Jvm.MethodName)) ∈ lw_all := lw_g (lw_at lw_m1 209 rfl) rfl
theorem q291 : (Jvm.Cond.code ({ cls := "java/lang/RuntimeException", name := "<init>", desc := "(Ljava/lang/String;)V" } : Jvm.MethodName) prog_31_method_2_code (2 : Nat) (Option.none : Option Jvm.ClassFile.FieldType)) ∈ lw_all := lw_g (lw_at lw_m1 210 rfl) rfl
theorem q292 : (Jvm.Cond.methodLink "java/lang/RuntimeException" (7 : Nat) ({ cls := "java/lang/Exception", name := "<init>", desc := "(Ljava/lang/String;)V" } : Jvm.MethodName)) ∈ lw_all := lw_g (lw_at lw_m1 211 rfl) rfl
theorem q338 : (Jvm.Cond.declares ({ cls := "java/lang/RuntimeException", name := "<init>", desc := "()V" } : Jvm.MethodName)) ∈ lw_tbl := lw_at lw_m2 17 rfl
theorem q339 : (Jvm.Cond.declares ({ cls := "java/lang/RuntimeException", name := "<init>", desc := "(Ljava/lang/String;)V" } : Jvm.MethodName)) ∈ lw_tbl := lw_at lw_m2 18 rfl

/-! java/lang/IndexOutOfBoundsException -/
set_option maxRecDepth 100000
def RJ3 : String := "java/lang/IndexOutOfBoundsException"
abbrev cJ3_init : ByteArray := prog_26_method_2_code
def yJ3_init : MethodName := ⟨RJ3, "<init>", "(Ljava/lang/String;)V"⟩
def dkwJ3_init_0 : List UInt8 := [42, 43, 183, 0, 7, 177]
abbrev dktJ3_init_0 : List UInt8 := dkwJ3_init_0 ++ []
theorem dksJ3_init_0 : cJ3_init.data.toList.drop 0 = dktJ3_init_0 := by decide +kernel
theorem dJ3_init_0 : decode cJ3_init 0 = .ok (.aload_n 0, 1) := dk_42 (dk_at dksJ3_init_0 0 rfl rfl)
theorem dJ3_init_1 : decode cJ3_init 1 = .ok (.aload_n 1, 1) := dk_43 (dk_at dksJ3_init_0 1 rfl rfl)
theorem dJ3_init_2 : decode cJ3_init 2 = .ok (.invokespecial 7, 3) := dk_183 0 7 (dk_at dksJ3_init_0 2 rfl rfl)
theorem dJ3_init_5 : decode cJ3_init 5 = .ok (.return_, 1) := dk_177 (dk_at dksJ3_init_0 5 rfl rfl)
theorem q91 : (Jvm.Cond.initialized "java/lang/IndexOutOfBoundsException") ∈ lw_all := lw_g (lw_at lw_m1 10 rfl) rfl
theorem q287 : (Jvm.Cond.instanceMethod ({ cls := "java/lang/IndexOutOfBoundsException", name := "<init>", desc := "(Ljava/lang/String;)V" } : Jvm.MethodName)) ∈ lw_all := lw_g (lw_at lw_m1 206 rfl) rfl
theorem q288 : (Jvm.Cond.code ({ cls := "java/lang/IndexOutOfBoundsException", name := "<init>", desc := "(Ljava/lang/String;)V" } : Jvm.MethodName) prog_26_method_2_code (2 : Nat) (Option.none : Option Jvm.ClassFile.FieldType)) ∈ lw_all := lw_g (lw_at lw_m1 207 rfl) rfl
theorem q289 : (Jvm.Cond.methodLink "java/lang/IndexOutOfBoundsException" (7 : Nat) ({ cls := "java/lang/RuntimeException", name := "<init>", desc := "(Ljava/lang/String;)V" } : Jvm.MethodName)) ∈ lw_all := lw_g (lw_at lw_m1 208 rfl) rfl
theorem q336 : (Jvm.Cond.declares ({ cls := "java/lang/IndexOutOfBoundsException", name := "<init>", desc := "()V" } : Jvm.MethodName)) ∈ lw_tbl := lw_at lw_m2 15 rfl
theorem q337 : (Jvm.Cond.declares ({ cls := "java/lang/IndexOutOfBoundsException", name := "<init>", desc := "(Ljava/lang/String;)V" } : Jvm.MethodName)) ∈ lw_tbl := lw_at lw_m2 16 rfl

/-! java/lang/ArrayIndexOutOfBoundsException -/
set_option maxRecDepth 100000
def RJ4 : String := "java/lang/ArrayIndexOutOfBoundsException"
def TJ4 : u_T := fun k => match k with
  | 0 => ("java/lang/Throwable", "backtrace", "Ljava/lang/Object;", false)
  | 1 => ("java/lang/Throwable", "detailMessage", "Ljava/lang/String;", false)
  | 2 => ("java/lang/Throwable", "cause", "Ljava/lang/Throwable;", false)
  | 3 => ("java/lang/Throwable", "stackTrace", "[Ljava/lang/StackTraceElement;", false)
  | 4 => ("java/lang/Throwable", "depth", "I", false)
  | _ => ("java/lang/Throwable", "suppressedExceptions", "Ljava/util/List;", false)
def tyJ4 : Nat → FieldType := fun k => match k with
  | 0 => .object "java/lang/Object"
  | 1 => .object "java/lang/String"
  | 2 => .object "java/lang/Throwable"
  | 3 => .array (.object "java/lang/StackTraceElement")
  | 4 => .int
  | _ => .object "java/util/List"
abbrev wsJ40 : List Cond := u_ws RJ4 TJ4 6
theorem nmJ4 : ∀ a, a < 6 → ∀ b, b < 6 → a ≠ b → (TJ4 a).2.1 ≠ (TJ4 b).2.1 := by decide +kernel
theorem tyJ4_ok : ∀ k, k < 6 → parseFieldDescriptor (TJ4 k).2.2.1 = some (tyJ4 k) := by decide +kernel
abbrev cJ4_init : ByteArray := prog_23_method_2_code
def yJ4_init : MethodName := ⟨RJ4, "<init>", "(Ljava/lang/String;)V"⟩
def dkwJ4_init_0 : List UInt8 := [42, 43, 183, 0, 7, 177]
abbrev dktJ4_init_0 : List UInt8 := dkwJ4_init_0 ++ []
theorem dksJ4_init_0 : cJ4_init.data.toList.drop 0 = dktJ4_init_0 := by decide +kernel
theorem dJ4_init_0 : decode cJ4_init 0 = .ok (.aload_n 0, 1) := dk_42 (dk_at dksJ4_init_0 0 rfl rfl)
theorem dJ4_init_1 : decode cJ4_init 1 = .ok (.aload_n 1, 1) := dk_43 (dk_at dksJ4_init_0 1 rfl rfl)
theorem dJ4_init_2 : decode cJ4_init 2 = .ok (.invokespecial 7, 3) := dk_183 0 7 (dk_at dksJ4_init_0 2 rfl rfl)
theorem dJ4_init_5 : decode cJ4_init 5 = .ok (.return_, 1) := dk_177 (dk_at dksJ4_init_0 5 rfl rfl)
theorem q92 : (Jvm.Cond.initialized "java/lang/ArrayIndexOutOfBoundsException") ∈ lw_all := lw_g (lw_at lw_m1 11 rfl) rfl
theorem q283 : (Jvm.Cond.instantiable "java/lang/ArrayIndexOutOfBoundsException" (6 : Nat)) ∈ lw_all := lw_g (lw_at lw_m1 202 rfl) rfl
theorem q284 : (Jvm.Cond.instanceMethod ({ cls := "java/lang/ArrayIndexOutOfBoundsException", name := "<init>", desc := "(Ljava/lang/String;)V" } : Jvm.MethodName)) ∈ lw_all := lw_g (lw_at lw_m1 203 rfl) rfl
theorem q285 : (Jvm.Cond.code ({ cls := "java/lang/ArrayIndexOutOfBoundsException", name := "<init>", desc := "(Ljava/lang/String;)V" } : Jvm.MethodName) prog_23_method_2_code (2 : Nat) (Option.none : Option Jvm.ClassFile.FieldType)) ∈ lw_all := lw_g (lw_at lw_m1 204 rfl) rfl
theorem q286 : (Jvm.Cond.methodLink "java/lang/ArrayIndexOutOfBoundsException" (7 : Nat) ({ cls := "java/lang/IndexOutOfBoundsException", name := "<init>", desc := "(Ljava/lang/String;)V" } : Jvm.MethodName)) ∈ lw_all := lw_g (lw_at lw_m1 205 rfl) rfl
theorem q308 : (Jvm.Cond.selects "java/lang/ArrayIndexOutOfBoundsException" ({ cls := "java/lang/Throwable", name := "fillInStackTrace", desc := "()Ljava/lang/Throwable;" } : Jvm.MethodName) ({ cls := "java/lang/Throwable", name := "fillInStackTrace", desc := "()Ljava/lang/Throwable;" } : Jvm.MethodName)) ∈ lw_all := lw_g (lw_at lw_m1 227 rfl) rfl
theorem q322 : (Jvm.Cond.lays "java/lang/ArrayIndexOutOfBoundsException" "java/lang/Throwable" "backtrace" "Ljava/lang/Object;") ∈ lw_all := lw_g (lw_at lw_m2 1 rfl) rfl
theorem q324 : (Jvm.Cond.lays "java/lang/ArrayIndexOutOfBoundsException" "java/lang/Throwable" "detailMessage" "Ljava/lang/String;") ∈ lw_all := lw_g (lw_at lw_m2 3 rfl) rfl
theorem q326 : (Jvm.Cond.lays "java/lang/ArrayIndexOutOfBoundsException" "java/lang/Throwable" "cause" "Ljava/lang/Throwable;") ∈ lw_all := lw_g (lw_at lw_m2 5 rfl) rfl
theorem q328 : (Jvm.Cond.lays "java/lang/ArrayIndexOutOfBoundsException" "java/lang/Throwable" "stackTrace" "[Ljava/lang/StackTraceElement;") ∈ lw_all := lw_g (lw_at lw_m2 7 rfl) rfl
theorem q330 : (Jvm.Cond.lays "java/lang/ArrayIndexOutOfBoundsException" "java/lang/Throwable" "depth" "I") ∈ lw_all := lw_g (lw_at lw_m2 9 rfl) rfl
theorem q332 : (Jvm.Cond.lays "java/lang/ArrayIndexOutOfBoundsException" "java/lang/Throwable" "suppressedExceptions" "Ljava/util/List;") ∈ lw_all := lw_g (lw_at lw_m2 11 rfl) rfl
theorem q334 : (Jvm.Cond.superclass "java/lang/ArrayIndexOutOfBoundsException" "java/lang/IndexOutOfBoundsException") ∈ lw_all := lw_g (lw_at lw_m2 13 rfl) rfl
theorem q335 : (Jvm.Cond.castable "java/lang/ArrayIndexOutOfBoundsException" "java/lang/ArrayIndexOutOfBoundsException") ∈ lw_tbl := lw_at lw_m2 14 rfl
theorem q344 : (Jvm.Cond.selects "java/lang/ArrayIndexOutOfBoundsException" ({ cls := "java/lang/Throwable", name := "fillInStackTrace", desc := "(I)Ljava/lang/Throwable;" } : Jvm.MethodName) ({ cls := "java/lang/Throwable", name := "fillInStackTrace", desc := "(I)Ljava/lang/Throwable;" } : Jvm.MethodName)) ∈ lw_all := lw_g (lw_at lw_m2 23 rfl) rfl
theorem q1866 : (Jvm.Cond.castable "java/lang/ArrayIndexOutOfBoundsException" "java/lang/IndexOutOfBoundsException") ∈ lw_tbl := lw_at lw_m8 105 rfl
theorem in_J4 : ∀ w ∈ wsJ40, w ∈ lw_all := lw_in wsJ40 [322, 324, 326, 328, 330, 332] (by decide +kernel) (by decide +kernel)

/-! java/lang/String -/
set_option maxRecDepth 100000
def RJ5 : String := "java/lang/String"
def TJ5 : u_T := fun k => match k with
  | 0 => ("java/lang/String", "value", "[B", true)
  | _ => ("java/lang/String", "coder", "B", true)
def tyJ5 : Nat → FieldType := fun k => match k with
  | 0 => .array .byte
  | _ => .byte
abbrev wsJ50 : List Cond := u_ws RJ5 TJ5 2
theorem nmJ5 : ∀ a, a < 2 → ∀ b, b < 2 → a ≠ b → (TJ5 a).2.1 ≠ (TJ5 b).2.1 := by decide +kernel
theorem tyJ5_ok : ∀ k, k < 2 → parseFieldDescriptor (TJ5 k).2.2.1 = some (tyJ5 k) := by decide +kernel
abbrev cJ5_length : ByteArray := prog_32_method_54_code
def yJ5_length : MethodName := ⟨RJ5, "length", "()I"⟩
def dkwJ5_length_0 : List UInt8 := [42, 180, 0, 9, 190, 42, 182, 1, 79, 122, 172]
abbrev dktJ5_length_0 : List UInt8 := dkwJ5_length_0 ++ []
theorem dksJ5_length_0 : cJ5_length.data.toList.drop 0 = dktJ5_length_0 := by decide +kernel
theorem dJ5_length_0 : decode cJ5_length 0 = .ok (.aload_n 0, 1) := dk_42 (dk_at dksJ5_length_0 0 rfl rfl)
theorem dJ5_length_1 : decode cJ5_length 1 = .ok (.getfield 9, 3) := dk_180 0 9 (dk_at dksJ5_length_0 1 rfl rfl)
theorem dJ5_length_4 : decode cJ5_length 4 = .ok (.arraylength, 1) := dk_190 (dk_at dksJ5_length_0 4 rfl rfl)
theorem dJ5_length_5 : decode cJ5_length 5 = .ok (.aload_n 0, 1) := dk_42 (dk_at dksJ5_length_0 5 rfl rfl)
theorem dJ5_length_6 : decode cJ5_length 6 = .ok (.invokevirtual 335, 3) := dk_182 1 79 (dk_at dksJ5_length_0 6 rfl rfl)
theorem dJ5_length_9 : decode cJ5_length 9 = .ok (.ishr, 1) := dk_122 (dk_at dksJ5_length_0 9 rfl rfl)
theorem dJ5_length_10 : decode cJ5_length 10 = .ok (.ireturn, 1) := dk_172 (dk_at dksJ5_length_0 10 rfl rfl)
abbrev cJ5_coder : ByteArray := prog_32_method_152_code
def yJ5_coder : MethodName := ⟨RJ5, "coder", "()B"⟩
def dkwJ5_coder_0 : List UInt8 := [178, 0, 38, 153, 0, 10, 42, 180, 0, 15, 167, 0, 4, 4, 172]
abbrev dktJ5_coder_0 : List UInt8 := dkwJ5_coder_0 ++ []
theorem dksJ5_coder_0 : cJ5_coder.data.toList.drop 0 = dktJ5_coder_0 := by decide +kernel
theorem dJ5_coder_0 : decode cJ5_coder 0 = .ok (.getstatic 38, 3) := dk_178 0 38 (dk_at dksJ5_coder_0 0 rfl rfl)
theorem dJ5_coder_3 : decode cJ5_coder 3 = .ok (.ifCond .eq 10, 3) := dk_153 0 10 (dk_at dksJ5_coder_0 3 rfl rfl)
theorem dJ5_coder_6 : decode cJ5_coder 6 = .ok (.aload_n 0, 1) := dk_42 (dk_at dksJ5_coder_0 6 rfl rfl)
theorem dJ5_coder_7 : decode cJ5_coder 7 = .ok (.getfield 15, 3) := dk_180 0 15 (dk_at dksJ5_coder_0 7 rfl rfl)
theorem dJ5_coder_10 : decode cJ5_coder 10 = .ok (.goto 4, 3) := dk_167 0 4 (dk_at dksJ5_coder_0 10 rfl rfl)
theorem dJ5_coder_13 : decode cJ5_coder 13 = .ok (.iconst 1, 1) := dk_4 (dk_at dksJ5_coder_0 13 rfl rfl)
theorem dJ5_coder_14 : decode cJ5_coder 14 = .ok (.ireturn, 1) := dk_172 (dk_at dksJ5_coder_0 14 rfl rfl)
abbrev cJ5_charAt : ByteArray := prog_32_method_56_code
def yJ5_charAt : MethodName := ⟨RJ5, "charAt", "(I)C"⟩
def dkwJ5_charAt_1 : List UInt8 := [172]
abbrev dktJ5_charAt_1 : List UInt8 := dkwJ5_charAt_1 ++ []
def dkwJ5_charAt_0 : List UInt8 := [42, 182, 1, 236, 153, 0, 12, 42, 180, 0, 9, 27, 184, 1, 239, 172, 42, 180, 0, 9, 27, 184, 1, 242]
abbrev dktJ5_charAt_0 : List UInt8 := dkwJ5_charAt_0 ++ dktJ5_charAt_1
theorem dksJ5_charAt_0 : cJ5_charAt.data.toList.drop 0 = dktJ5_charAt_0 := by decide +kernel
theorem dksJ5_charAt_1 : cJ5_charAt.data.toList.drop 24 = dktJ5_charAt_1 := dk_seg dksJ5_charAt_0 24 rfl rfl
theorem dJ5_charAt_0 : decode cJ5_charAt 0 = .ok (.aload_n 0, 1) := dk_42 (dk_at dksJ5_charAt_0 0 rfl rfl)
theorem dJ5_charAt_1 : decode cJ5_charAt 1 = .ok (.invokevirtual 492, 3) := dk_182 1 236 (dk_at dksJ5_charAt_0 1 rfl rfl)
theorem dJ5_charAt_4 : decode cJ5_charAt 4 = .ok (.ifCond .eq 12, 3) := dk_153 0 12 (dk_at dksJ5_charAt_0 4 rfl rfl)
theorem dJ5_charAt_7 : decode cJ5_charAt 7 = .ok (.aload_n 0, 1) := dk_42 (dk_at dksJ5_charAt_0 7 rfl rfl)
theorem dJ5_charAt_8 : decode cJ5_charAt 8 = .ok (.getfield 9, 3) := dk_180 0 9 (dk_at dksJ5_charAt_0 8 rfl rfl)
theorem dJ5_charAt_11 : decode cJ5_charAt 11 = .ok (.iload_n 1, 1) := dk_27 (dk_at dksJ5_charAt_0 11 rfl rfl)
theorem dJ5_charAt_12 : decode cJ5_charAt 12 = .ok (.invokestatic 495, 3) := dk_184 1 239 (dk_at dksJ5_charAt_0 12 rfl rfl)
theorem dJ5_charAt_15 : decode cJ5_charAt 15 = .ok (.ireturn, 1) := dk_172 (dk_at dksJ5_charAt_0 15 rfl rfl)
theorem dJ5_charAt_16 : decode cJ5_charAt 16 = .ok (.aload_n 0, 1) := dk_42 (dk_at dksJ5_charAt_0 16 rfl rfl)
theorem dJ5_charAt_17 : decode cJ5_charAt 17 = .ok (.getfield 9, 3) := dk_180 0 9 (dk_at dksJ5_charAt_0 17 rfl rfl)
theorem dJ5_charAt_20 : decode cJ5_charAt 20 = .ok (.iload_n 1, 1) := dk_27 (dk_at dksJ5_charAt_0 20 rfl rfl)
theorem dJ5_charAt_21 : decode cJ5_charAt 21 = .ok (.invokestatic 498, 3) := dk_184 1 242 (dk_at dksJ5_charAt_0 21 rfl rfl)
theorem dJ5_charAt_24 : decode cJ5_charAt 24 = .ok (.ireturn, 1) := dk_172 (dk_at dksJ5_charAt_1 0 rfl rfl)
abbrev cJ5_isLatin1 : ByteArray := prog_32_method_154_code
def yJ5_isLatin1 : MethodName := ⟨RJ5, "isLatin1", "()Z"⟩
def dkwJ5_isLatin1_0 : List UInt8 := [178, 0, 38, 153, 0, 14, 42, 180, 0, 15, 154, 0, 7, 4, 167, 0, 4, 3, 172]
abbrev dktJ5_isLatin1_0 : List UInt8 := dkwJ5_isLatin1_0 ++ []
theorem dksJ5_isLatin1_0 : cJ5_isLatin1.data.toList.drop 0 = dktJ5_isLatin1_0 := by decide +kernel
theorem dJ5_isLatin1_0 : decode cJ5_isLatin1 0 = .ok (.getstatic 38, 3) := dk_178 0 38 (dk_at dksJ5_isLatin1_0 0 rfl rfl)
theorem dJ5_isLatin1_3 : decode cJ5_isLatin1 3 = .ok (.ifCond .eq 14, 3) := dk_153 0 14 (dk_at dksJ5_isLatin1_0 3 rfl rfl)
theorem dJ5_isLatin1_6 : decode cJ5_isLatin1 6 = .ok (.aload_n 0, 1) := dk_42 (dk_at dksJ5_isLatin1_0 6 rfl rfl)
theorem dJ5_isLatin1_7 : decode cJ5_isLatin1 7 = .ok (.getfield 15, 3) := dk_180 0 15 (dk_at dksJ5_isLatin1_0 7 rfl rfl)
theorem dJ5_isLatin1_10 : decode cJ5_isLatin1 10 = .ok (.ifCond .ne 7, 3) := dk_154 0 7 (dk_at dksJ5_isLatin1_0 10 rfl rfl)
theorem dJ5_isLatin1_13 : decode cJ5_isLatin1 13 = .ok (.iconst 1, 1) := dk_4 (dk_at dksJ5_isLatin1_0 13 rfl rfl)
theorem dJ5_isLatin1_14 : decode cJ5_isLatin1 14 = .ok (.goto 4, 3) := dk_167 0 4 (dk_at dksJ5_isLatin1_0 14 rfl rfl)
theorem dJ5_isLatin1_17 : decode cJ5_isLatin1 17 = .ok (.iconst 0, 1) := dk_3 (dk_at dksJ5_isLatin1_0 17 rfl rfl)
theorem dJ5_isLatin1_18 : decode cJ5_isLatin1 18 = .ok (.ireturn, 1) := dk_172 (dk_at dksJ5_isLatin1_0 18 rfl rfl)
abbrev cJ5_checkIndex : ByteArray := prog_32_method_155_code
def yJ5_checkIndex : MethodName := ⟨RJ5, "checkIndex", "(II)V"⟩
def dkwJ5_checkIndex_0 : List UInt8 := [26, 27, 178, 4, 29, 184, 4, 35, 87, 177]
abbrev dktJ5_checkIndex_0 : List UInt8 := dkwJ5_checkIndex_0 ++ []
theorem dksJ5_checkIndex_0 : cJ5_checkIndex.data.toList.drop 0 = dktJ5_checkIndex_0 := by decide +kernel
theorem dJ5_checkIndex_0 : decode cJ5_checkIndex 0 = .ok (.iload_n 0, 1) := dk_26 (dk_at dksJ5_checkIndex_0 0 rfl rfl)
theorem dJ5_checkIndex_1 : decode cJ5_checkIndex 1 = .ok (.iload_n 1, 1) := dk_27 (dk_at dksJ5_checkIndex_0 1 rfl rfl)
theorem dJ5_checkIndex_2 : decode cJ5_checkIndex 2 = .ok (.getstatic 1053, 3) := dk_178 4 29 (dk_at dksJ5_checkIndex_0 2 rfl rfl)
theorem dJ5_checkIndex_5 : decode cJ5_checkIndex 5 = .ok (.invokestatic 1059, 3) := dk_184 4 35 (dk_at dksJ5_checkIndex_0 5 rfl rfl)
theorem dJ5_checkIndex_8 : decode cJ5_checkIndex 8 = .ok (.pop, 1) := dk_87 (dk_at dksJ5_checkIndex_0 8 rfl rfl)
theorem dJ5_checkIndex_9 : decode cJ5_checkIndex 9 = .ok (.return_, 1) := dk_177 (dk_at dksJ5_checkIndex_0 9 rfl rfl)
theorem q93 : (Jvm.Cond.initialized "java/lang/String") ∈ lw_all := lw_g (lw_at lw_m1 12 rfl) rfl
theorem q354 : (Jvm.Cond.instantiable "java/lang/String" (4 : Nat)) ∈ lw_all := lw_g (lw_at lw_m2 33 rfl) rfl
theorem q356 : (Jvm.Cond.laysFinal "java/lang/String" "java/lang/String" "value" "[B") ∈ lw_all := lw_g (lw_at lw_m2 35 rfl) rfl
theorem q357 : (Jvm.Cond.soleField "java/lang/String" "value") ∈ lw_all := lw_g (lw_at lw_m2 36 rfl) rfl
theorem q358 : (Jvm.Cond.laysFinal "java/lang/String" "java/lang/String" "coder" "B") ∈ lw_all := lw_g (lw_at lw_m2 37 rfl) rfl
theorem q359 : (Jvm.Cond.soleField "java/lang/String" "coder") ∈ lw_all := lw_g (lw_at lw_m2 38 rfl) rfl
theorem q890 : (Jvm.Cond.instanceMethod ({ cls := "java/lang/String", name := "length", desc := "()I" } : Jvm.MethodName)) ∈ lw_all := lw_g (lw_at lw_m4 89 rfl) rfl
theorem q891 : (Jvm.Cond.selects "java/lang/String" ({ cls := "java/lang/String", name := "length", desc := "()I" } : Jvm.MethodName) ({ cls := "java/lang/String", name := "length", desc := "()I" } : Jvm.MethodName)) ∈ lw_all := lw_g (lw_at lw_m4 90 rfl) rfl
theorem q892 : (Jvm.Cond.code ({ cls := "java/lang/String", name := "length", desc := "()I" } : Jvm.MethodName) prog_32_method_54_code (1 : Nat) (Option.some Jvm.ClassFile.FieldType.int)) ∈ lw_all := lw_g (lw_at lw_m4 91 rfl) rfl
theorem q893 : (Jvm.Cond.methodLink "java/lang/String" (335 : Nat) ({ cls := "java/lang/String", name := "coder", desc := "()B" } : Jvm.MethodName)) ∈ lw_all := lw_g (lw_at lw_m4 92 rfl) rfl
theorem q894 : (Jvm.Cond.instanceMethod ({ cls := "java/lang/String", name := "coder", desc := "()B" } : Jvm.MethodName)) ∈ lw_all := lw_g (lw_at lw_m4 93 rfl) rfl
theorem q895 : (Jvm.Cond.selects "java/lang/String" ({ cls := "java/lang/String", name := "coder", desc := "()B" } : Jvm.MethodName) ({ cls := "java/lang/String", name := "coder", desc := "()B" } : Jvm.MethodName)) ∈ lw_all := lw_g (lw_at lw_m4 94 rfl) rfl
theorem q896 : (Jvm.Cond.code ({ cls := "java/lang/String", name := "coder", desc := "()B" } : Jvm.MethodName) prog_32_method_152_code (1 : Nat) (Option.some Jvm.ClassFile.FieldType.byte)) ∈ lw_all := lw_g (lw_at lw_m4 95 rfl) rfl
theorem q897 : (Jvm.Cond.fieldLink "java/lang/String" (38 : Nat) "java/lang/String" "COMPACT_STRINGS" "Z") ∈ lw_all := lw_g (lw_at lw_m4 96 rfl) rfl
theorem q898 : (Jvm.Cond.laysStatic "java/lang/String" "COMPACT_STRINGS" "Z") ∈ lw_tbl := lw_at lw_m4 97 rfl
theorem q900 : (Jvm.Cond.instanceMethod ({ cls := "java/lang/String", name := "charAt", desc := "(I)C" } : Jvm.MethodName)) ∈ lw_all := lw_g (lw_at lw_m4 99 rfl) rfl
theorem q901 : (Jvm.Cond.selects "java/lang/String" ({ cls := "java/lang/String", name := "charAt", desc := "(I)C" } : Jvm.MethodName) ({ cls := "java/lang/String", name := "charAt", desc := "(I)C" } : Jvm.MethodName)) ∈ lw_all := lw_g (lw_at lw_m4 100 rfl) rfl
theorem q902 : (Jvm.Cond.code ({ cls := "java/lang/String", name := "charAt", desc := "(I)C" } : Jvm.MethodName) prog_32_method_56_code (2 : Nat) (Option.some Jvm.ClassFile.FieldType.char)) ∈ lw_all := lw_g (lw_at lw_m4 101 rfl) rfl
theorem q903 : (Jvm.Cond.methodLink "java/lang/String" (492 : Nat) ({ cls := "java/lang/String", name := "isLatin1", desc := "()Z" } : Jvm.MethodName)) ∈ lw_all := lw_g (lw_at lw_m4 102 rfl) rfl
theorem q904 : (Jvm.Cond.instanceMethod ({ cls := "java/lang/String", name := "isLatin1", desc := "()Z" } : Jvm.MethodName)) ∈ lw_all := lw_g (lw_at lw_m4 103 rfl) rfl
theorem q905 : (Jvm.Cond.selects "java/lang/String" ({ cls := "java/lang/String", name := "isLatin1", desc := "()Z" } : Jvm.MethodName) ({ cls := "java/lang/String", name := "isLatin1", desc := "()Z" } : Jvm.MethodName)) ∈ lw_all := lw_g (lw_at lw_m4 104 rfl) rfl
theorem q906 : (Jvm.Cond.code ({ cls := "java/lang/String", name := "isLatin1", desc := "()Z" } : Jvm.MethodName) prog_32_method_154_code (1 : Nat) (Option.some Jvm.ClassFile.FieldType.boolean)) ∈ lw_all := lw_g (lw_at lw_m4 105 rfl) rfl
theorem q907 : (Jvm.Cond.methodLink "java/lang/String" (495 : Nat) ({ cls := "java/lang/StringLatin1", name := "charAt", desc := "([BI)C" } : Jvm.MethodName)) ∈ lw_all := lw_g (lw_at lw_m4 106 rfl) rfl
theorem q911 : (Jvm.Cond.static ({ cls := "java/lang/String", name := "checkIndex", desc := "(II)V" } : Jvm.MethodName)) ∈ lw_all := lw_g (lw_at lw_m4 110 rfl) rfl
theorem q912 : (Jvm.Cond.code ({ cls := "java/lang/String", name := "checkIndex", desc := "(II)V" } : Jvm.MethodName) prog_32_method_155_code (2 : Nat) (Option.none : Option Jvm.ClassFile.FieldType)) ∈ lw_all := lw_g (lw_at lw_m4 111 rfl) rfl
theorem q913 : (Jvm.Cond.fieldLink "java/lang/String" (1053 : Nat) "jdk/internal/util/Preconditions" "SIOOBE_FORMATTER" "Ljava/util/function/BiFunction;") ∈ lw_all := lw_g (lw_at lw_m4 112 rfl) rfl
theorem q915 : (Jvm.Cond.methodLink "java/lang/String" (1059 : Nat) ({ cls := "jdk/internal/util/Preconditions", name := "checkIndex", desc := "(IILjava/util/function/BiFunction;)I" } : Jvm.MethodName)) ∈ lw_all := lw_g (lw_at lw_m4 114 rfl) rfl
theorem q918 : (Jvm.Cond.methodLink "java/lang/String" (498 : Nat) ({ cls := "java/lang/StringUTF16", name := "charAt", desc := "([BI)C" } : Jvm.MethodName)) ∈ lw_all := lw_g (lw_at lw_m4 117 rfl) rfl
theorem q1880 : (Jvm.Cond.fieldLink "java/lang/String" (9 : Nat) "java/lang/String" "value" "[B") ∈ lw_all := lw_g (lw_at lw_m8 119 rfl) rfl
theorem q1881 : (Jvm.Cond.fieldLink "java/lang/String" (15 : Nat) "java/lang/String" "coder" "B") ∈ lw_all := lw_g (lw_at lw_m8 120 rfl) rfl
theorem in_J5 : ∀ w ∈ wsJ50, w ∈ lw_all := lw_in wsJ50 [356, 358] (by decide +kernel) (by decide +kernel)

/-! java/lang/NegativeArraySizeException -/
set_option maxRecDepth 100000
def RJ6 : String := "java/lang/NegativeArraySizeException"
def TJ6 : u_T := fun k => match k with
  | 0 => ("java/lang/Throwable", "backtrace", "Ljava/lang/Object;", false)
  | 1 => ("java/lang/Throwable", "detailMessage", "Ljava/lang/String;", false)
  | 2 => ("java/lang/Throwable", "cause", "Ljava/lang/Throwable;", false)
  | 3 => ("java/lang/Throwable", "stackTrace", "[Ljava/lang/StackTraceElement;", false)
  | 4 => ("java/lang/Throwable", "depth", "I", false)
  | _ => ("java/lang/Throwable", "suppressedExceptions", "Ljava/util/List;", false)
def tyJ6 : Nat → FieldType := fun k => match k with
  | 0 => .object "java/lang/Object"
  | 1 => .object "java/lang/String"
  | 2 => .object "java/lang/Throwable"
  | 3 => .array (.object "java/lang/StackTraceElement")
  | 4 => .int
  | _ => .object "java/util/List"
abbrev wsJ60 : List Cond := u_ws RJ6 TJ6 6
theorem nmJ6 : ∀ a, a < 6 → ∀ b, b < 6 → a ≠ b → (TJ6 a).2.1 ≠ (TJ6 b).2.1 := by decide +kernel
theorem tyJ6_ok : ∀ k, k < 6 → parseFieldDescriptor (TJ6 k).2.2.1 = some (tyJ6 k) := by decide +kernel
abbrev cJ6_init : ByteArray := prog_30_method_2_code
def yJ6_init : MethodName := ⟨RJ6, "<init>", "(Ljava/lang/String;)V"⟩
def dkwJ6_init_0 : List UInt8 := [42, 43, 183, 0, 7, 177]
abbrev dktJ6_init_0 : List UInt8 := dkwJ6_init_0 ++ []
theorem dksJ6_init_0 : cJ6_init.data.toList.drop 0 = dktJ6_init_0 := by decide +kernel
theorem dJ6_init_0 : decode cJ6_init 0 = .ok (.aload_n 0, 1) := dk_42 (dk_at dksJ6_init_0 0 rfl rfl)
theorem dJ6_init_1 : decode cJ6_init 1 = .ok (.aload_n 1, 1) := dk_43 (dk_at dksJ6_init_0 1 rfl rfl)
theorem dJ6_init_2 : decode cJ6_init 2 = .ok (.invokespecial 7, 3) := dk_183 0 7 (dk_at dksJ6_init_0 2 rfl rfl)
theorem dJ6_init_5 : decode cJ6_init 5 = .ok (.return_, 1) := dk_177 (dk_at dksJ6_init_0 5 rfl rfl)
theorem q95 : (Jvm.Cond.initialized "java/lang/NegativeArraySizeException") ∈ lw_all := lw_g (lw_at lw_m1 14 rfl) rfl
theorem q310 : (Jvm.Cond.selects "java/lang/NegativeArraySizeException" ({ cls := "java/lang/Throwable", name := "fillInStackTrace", desc := "()Ljava/lang/Throwable;" } : Jvm.MethodName) ({ cls := "java/lang/Throwable", name := "fillInStackTrace", desc := "()Ljava/lang/Throwable;" } : Jvm.MethodName)) ∈ lw_all := lw_g (lw_at lw_m1 229 rfl) rfl
theorem q394 : (Jvm.Cond.instantiable "java/lang/NegativeArraySizeException" (6 : Nat)) ∈ lw_all := lw_g (lw_at lw_m2 73 rfl) rfl
theorem q395 : (Jvm.Cond.instanceMethod ({ cls := "java/lang/NegativeArraySizeException", name := "<init>", desc := "(Ljava/lang/String;)V" } : Jvm.MethodName)) ∈ lw_all := lw_g (lw_at lw_m2 74 rfl) rfl
theorem q396 : (Jvm.Cond.code ({ cls := "java/lang/NegativeArraySizeException", name := "<init>", desc := "(Ljava/lang/String;)V" } : Jvm.MethodName) prog_30_method_2_code (2 : Nat) (Option.none : Option Jvm.ClassFile.FieldType)) ∈ lw_all := lw_g (lw_at lw_m2 75 rfl) rfl
theorem q397 : (Jvm.Cond.methodLink "java/lang/NegativeArraySizeException" (7 : Nat) ({ cls := "java/lang/RuntimeException", name := "<init>", desc := "(Ljava/lang/String;)V" } : Jvm.MethodName)) ∈ lw_all := lw_g (lw_at lw_m2 76 rfl) rfl
theorem q398 : (Jvm.Cond.lays "java/lang/NegativeArraySizeException" "java/lang/Throwable" "backtrace" "Ljava/lang/Object;") ∈ lw_all := lw_g (lw_at lw_m2 77 rfl) rfl
theorem q399 : (Jvm.Cond.lays "java/lang/NegativeArraySizeException" "java/lang/Throwable" "detailMessage" "Ljava/lang/String;") ∈ lw_all := lw_g (lw_at lw_m2 78 rfl) rfl
theorem q400 : (Jvm.Cond.lays "java/lang/NegativeArraySizeException" "java/lang/Throwable" "cause" "Ljava/lang/Throwable;") ∈ lw_all := lw_g (lw_at lw_m2 79 rfl) rfl
theorem q401 : (Jvm.Cond.lays "java/lang/NegativeArraySizeException" "java/lang/Throwable" "stackTrace" "[Ljava/lang/StackTraceElement;") ∈ lw_all := lw_g (lw_at lw_m2 80 rfl) rfl
theorem q402 : (Jvm.Cond.lays "java/lang/NegativeArraySizeException" "java/lang/Throwable" "depth" "I") ∈ lw_all := lw_g (lw_at lw_m2 81 rfl) rfl
theorem q403 : (Jvm.Cond.lays "java/lang/NegativeArraySizeException" "java/lang/Throwable" "suppressedExceptions" "Ljava/util/List;") ∈ lw_all := lw_g (lw_at lw_m2 82 rfl) rfl
theorem q404 : (Jvm.Cond.superclass "java/lang/NegativeArraySizeException" "java/lang/RuntimeException") ∈ lw_all := lw_g (lw_at lw_m2 83 rfl) rfl
theorem q405 : (Jvm.Cond.castable "java/lang/NegativeArraySizeException" "java/lang/NegativeArraySizeException") ∈ lw_tbl := lw_at lw_m2 84 rfl
theorem q406 : (Jvm.Cond.selects "java/lang/NegativeArraySizeException" ({ cls := "java/lang/Throwable", name := "fillInStackTrace", desc := "(I)Ljava/lang/Throwable;" } : Jvm.MethodName) ({ cls := "java/lang/Throwable", name := "fillInStackTrace", desc := "(I)Ljava/lang/Throwable;" } : Jvm.MethodName)) ∈ lw_all := lw_g (lw_at lw_m2 85 rfl) rfl
theorem in_J6 : ∀ w ∈ wsJ60, w ∈ lw_all := lw_in wsJ60 [398, 399, 400, 401, 402, 403] (by decide +kernel) (by decide +kernel)

/-! java/lang/ClassCastException -/
set_option maxRecDepth 100000
def RJ7 : String := "java/lang/ClassCastException"
def TJ7 : u_T := fun k => match k with
  | 0 => ("java/lang/Throwable", "backtrace", "Ljava/lang/Object;", false)
  | 1 => ("java/lang/Throwable", "detailMessage", "Ljava/lang/String;", false)
  | 2 => ("java/lang/Throwable", "cause", "Ljava/lang/Throwable;", false)
  | 3 => ("java/lang/Throwable", "stackTrace", "[Ljava/lang/StackTraceElement;", false)
  | 4 => ("java/lang/Throwable", "depth", "I", false)
  | _ => ("java/lang/Throwable", "suppressedExceptions", "Ljava/util/List;", false)
def tyJ7 : Nat → FieldType := fun k => match k with
  | 0 => .object "java/lang/Object"
  | 1 => .object "java/lang/String"
  | 2 => .object "java/lang/Throwable"
  | 3 => .array (.object "java/lang/StackTraceElement")
  | 4 => .int
  | _ => .object "java/util/List"
abbrev wsJ70 : List Cond := u_ws RJ7 TJ7 6
theorem nmJ7 : ∀ a, a < 6 → ∀ b, b < 6 → a ≠ b → (TJ7 a).2.1 ≠ (TJ7 b).2.1 := by decide +kernel
theorem tyJ7_ok : ∀ k, k < 6 → parseFieldDescriptor (TJ7 k).2.2.1 = some (tyJ7 k) := by decide +kernel
abbrev cJ7_init : ByteArray := prog_24_method_2_code
def yJ7_init : MethodName := ⟨RJ7, "<init>", "(Ljava/lang/String;)V"⟩
def dkwJ7_init_0 : List UInt8 := [42, 43, 183, 0, 7, 177]
abbrev dktJ7_init_0 : List UInt8 := dkwJ7_init_0 ++ []
theorem dksJ7_init_0 : cJ7_init.data.toList.drop 0 = dktJ7_init_0 := by decide +kernel
theorem dJ7_init_0 : decode cJ7_init 0 = .ok (.aload_n 0, 1) := dk_42 (dk_at dksJ7_init_0 0 rfl rfl)
theorem dJ7_init_1 : decode cJ7_init 1 = .ok (.aload_n 1, 1) := dk_43 (dk_at dksJ7_init_0 1 rfl rfl)
theorem dJ7_init_2 : decode cJ7_init 2 = .ok (.invokespecial 7, 3) := dk_183 0 7 (dk_at dksJ7_init_0 2 rfl rfl)
theorem dJ7_init_5 : decode cJ7_init 5 = .ok (.return_, 1) := dk_177 (dk_at dksJ7_init_0 5 rfl rfl)
theorem q101 : (Jvm.Cond.initialized "java/lang/ClassCastException") ∈ lw_all := lw_g (lw_at lw_m1 20 rfl) rfl
theorem q309 : (Jvm.Cond.selects "java/lang/ClassCastException" ({ cls := "java/lang/Throwable", name := "fillInStackTrace", desc := "()Ljava/lang/Throwable;" } : Jvm.MethodName) ({ cls := "java/lang/Throwable", name := "fillInStackTrace", desc := "()Ljava/lang/Throwable;" } : Jvm.MethodName)) ∈ lw_all := lw_g (lw_at lw_m1 228 rfl) rfl
theorem q465 : (Jvm.Cond.instantiable "java/lang/ClassCastException" (6 : Nat)) ∈ lw_all := lw_g (lw_at lw_m2 144 rfl) rfl
theorem q466 : (Jvm.Cond.instanceMethod ({ cls := "java/lang/ClassCastException", name := "<init>", desc := "(Ljava/lang/String;)V" } : Jvm.MethodName)) ∈ lw_all := lw_g (lw_at lw_m2 145 rfl) rfl
theorem q467 : (Jvm.Cond.code ({ cls := "java/lang/ClassCastException", name := "<init>", desc := "(Ljava/lang/String;)V" } : Jvm.MethodName) prog_24_method_2_code (2 : Nat) (Option.none : Option Jvm.ClassFile.FieldType)) ∈ lw_all := lw_g (lw_at lw_m2 146 rfl) rfl
theorem q468 : (Jvm.Cond.methodLink "java/lang/ClassCastException" (7 : Nat) ({ cls := "java/lang/RuntimeException", name := "<init>", desc := "(Ljava/lang/String;)V" } : Jvm.MethodName)) ∈ lw_all := lw_g (lw_at lw_m2 147 rfl) rfl
theorem q469 : (Jvm.Cond.lays "java/lang/ClassCastException" "java/lang/Throwable" "backtrace" "Ljava/lang/Object;") ∈ lw_all := lw_g (lw_at lw_m2 148 rfl) rfl
theorem q470 : (Jvm.Cond.lays "java/lang/ClassCastException" "java/lang/Throwable" "detailMessage" "Ljava/lang/String;") ∈ lw_all := lw_g (lw_at lw_m2 149 rfl) rfl
theorem q471 : (Jvm.Cond.lays "java/lang/ClassCastException" "java/lang/Throwable" "cause" "Ljava/lang/Throwable;") ∈ lw_all := lw_g (lw_at lw_m2 150 rfl) rfl
theorem q472 : (Jvm.Cond.lays "java/lang/ClassCastException" "java/lang/Throwable" "stackTrace" "[Ljava/lang/StackTraceElement;") ∈ lw_all := lw_g (lw_at lw_m2 151 rfl) rfl
theorem q473 : (Jvm.Cond.lays "java/lang/ClassCastException" "java/lang/Throwable" "depth" "I") ∈ lw_all := lw_g (lw_at lw_m2 152 rfl) rfl
theorem q474 : (Jvm.Cond.lays "java/lang/ClassCastException" "java/lang/Throwable" "suppressedExceptions" "Ljava/util/List;") ∈ lw_all := lw_g (lw_at lw_m2 153 rfl) rfl
theorem q475 : (Jvm.Cond.superclass "java/lang/ClassCastException" "java/lang/RuntimeException") ∈ lw_all := lw_g (lw_at lw_m2 154 rfl) rfl
theorem q476 : (Jvm.Cond.castable "java/lang/ClassCastException" "java/lang/ClassCastException") ∈ lw_tbl := lw_at lw_m2 155 rfl
theorem q477 : (Jvm.Cond.selects "java/lang/ClassCastException" ({ cls := "java/lang/Throwable", name := "fillInStackTrace", desc := "(I)Ljava/lang/Throwable;" } : Jvm.MethodName) ({ cls := "java/lang/Throwable", name := "fillInStackTrace", desc := "(I)Ljava/lang/Throwable;" } : Jvm.MethodName)) ∈ lw_all := lw_g (lw_at lw_m2 156 rfl) rfl
theorem in_J7 : ∀ w ∈ wsJ70, w ∈ lw_all := lw_in wsJ70 [469, 470, 471, 472, 473, 474] (by decide +kernel) (by decide +kernel)

/-! java/lang/Math -/
set_option maxRecDepth 100000
def RJ8 : String := "java/lang/Math"
abbrev cJ8_max : ByteArray := prog_29_method_65_code
def yJ8_max : MethodName := ⟨RJ8, "max", "(II)I"⟩
def dkwJ8_max_0 : List UInt8 := [26, 27, 161, 0, 7, 26, 167, 0, 4, 27, 172]
abbrev dktJ8_max_0 : List UInt8 := dkwJ8_max_0 ++ []
theorem dksJ8_max_0 : cJ8_max.data.toList.drop 0 = dktJ8_max_0 := by decide +kernel
theorem dJ8_max_0 : decode cJ8_max 0 = .ok (.iload_n 0, 1) := dk_26 (dk_at dksJ8_max_0 0 rfl rfl)
theorem dJ8_max_1 : decode cJ8_max 1 = .ok (.iload_n 1, 1) := dk_27 (dk_at dksJ8_max_0 1 rfl rfl)
theorem dJ8_max_2 : decode cJ8_max 2 = .ok (.if_icmp .lt 7, 3) := dk_161 0 7 (dk_at dksJ8_max_0 2 rfl rfl)
theorem dJ8_max_5 : decode cJ8_max 5 = .ok (.iload_n 0, 1) := dk_26 (dk_at dksJ8_max_0 5 rfl rfl)
theorem dJ8_max_6 : decode cJ8_max 6 = .ok (.goto 4, 3) := dk_167 0 4 (dk_at dksJ8_max_0 6 rfl rfl)
theorem dJ8_max_9 : decode cJ8_max 9 = .ok (.iload_n 1, 1) := dk_27 (dk_at dksJ8_max_0 9 rfl rfl)
theorem dJ8_max_10 : decode cJ8_max 10 = .ok (.ireturn, 1) := dk_172 (dk_at dksJ8_max_0 10 rfl rfl)
abbrev cJ8_abs : ByteArray := prog_29_method_59_code
def yJ8_abs : MethodName := ⟨RJ8, "abs", "(I)I"⟩
def dkwJ8_abs_0 : List UInt8 := [26, 156, 0, 8, 26, 116, 167, 0, 4, 26, 172]
abbrev dktJ8_abs_0 : List UInt8 := dkwJ8_abs_0 ++ []
theorem dksJ8_abs_0 : cJ8_abs.data.toList.drop 0 = dktJ8_abs_0 := by decide +kernel
theorem dJ8_abs_0 : decode cJ8_abs 0 = .ok (.iload_n 0, 1) := dk_26 (dk_at dksJ8_abs_0 0 rfl rfl)
theorem dJ8_abs_1 : decode cJ8_abs 1 = .ok (.ifCond .ge 8, 3) := dk_156 0 8 (dk_at dksJ8_abs_0 1 rfl rfl)
theorem dJ8_abs_4 : decode cJ8_abs 4 = .ok (.iload_n 0, 1) := dk_26 (dk_at dksJ8_abs_0 4 rfl rfl)
theorem dJ8_abs_5 : decode cJ8_abs 5 = .ok (.ineg, 1) := dk_116 (dk_at dksJ8_abs_0 5 rfl rfl)
theorem dJ8_abs_6 : decode cJ8_abs 6 = .ok (.goto 4, 3) := dk_167 0 4 (dk_at dksJ8_abs_0 6 rfl rfl)
theorem dJ8_abs_9 : decode cJ8_abs 9 = .ok (.iload_n 0, 1) := dk_26 (dk_at dksJ8_abs_0 9 rfl rfl)
theorem dJ8_abs_10 : decode cJ8_abs 10 = .ok (.ireturn, 1) := dk_172 (dk_at dksJ8_abs_0 10 rfl rfl)
abbrev cJ8_min : ByteArray := prog_29_method_69_code
def yJ8_min : MethodName := ⟨RJ8, "min", "(II)I"⟩
def dkwJ8_min_0 : List UInt8 := [26, 27, 163, 0, 7, 26, 167, 0, 4, 27, 172]
abbrev dktJ8_min_0 : List UInt8 := dkwJ8_min_0 ++ []
theorem dksJ8_min_0 : cJ8_min.data.toList.drop 0 = dktJ8_min_0 := by decide +kernel
theorem dJ8_min_0 : decode cJ8_min 0 = .ok (.iload_n 0, 1) := dk_26 (dk_at dksJ8_min_0 0 rfl rfl)
theorem dJ8_min_1 : decode cJ8_min 1 = .ok (.iload_n 1, 1) := dk_27 (dk_at dksJ8_min_0 1 rfl rfl)
theorem dJ8_min_2 : decode cJ8_min 2 = .ok (.if_icmp .gt 7, 3) := dk_163 0 7 (dk_at dksJ8_min_0 2 rfl rfl)
theorem dJ8_min_5 : decode cJ8_min 5 = .ok (.iload_n 0, 1) := dk_26 (dk_at dksJ8_min_0 5 rfl rfl)
theorem dJ8_min_6 : decode cJ8_min 6 = .ok (.goto 4, 3) := dk_167 0 4 (dk_at dksJ8_min_0 6 rfl rfl)
theorem dJ8_min_9 : decode cJ8_min 9 = .ok (.iload_n 1, 1) := dk_27 (dk_at dksJ8_min_0 9 rfl rfl)
theorem dJ8_min_10 : decode cJ8_min 10 = .ok (.ireturn, 1) := dk_172 (dk_at dksJ8_min_0 10 rfl rfl)
theorem q103 : (Jvm.Cond.initialized "java/lang/Math") ∈ lw_all := lw_g (lw_at lw_m1 22 rfl) rfl
theorem q618 : (Jvm.Cond.static ({ cls := "java/lang/Math", name := "max", desc := "(II)I" } : Jvm.MethodName)) ∈ lw_all := lw_g (lw_at lw_m3 57 rfl) rfl
theorem q619 : (Jvm.Cond.code ({ cls := "java/lang/Math", name := "max", desc := "(II)I" } : Jvm.MethodName) prog_29_method_65_code (2 : Nat) (Option.some Jvm.ClassFile.FieldType.int)) ∈ lw_all := lw_g (lw_at lw_m3 58 rfl) rfl
theorem q1008 : (Jvm.Cond.static ({ cls := "java/lang/Math", name := "abs", desc := "(I)I" } : Jvm.MethodName)) ∈ lw_all := lw_g (lw_at lw_m4 207 rfl) rfl
theorem q1009 : (Jvm.Cond.code ({ cls := "java/lang/Math", name := "abs", desc := "(I)I" } : Jvm.MethodName) prog_29_method_59_code (1 : Nat) (Option.some Jvm.ClassFile.FieldType.int)) ∈ lw_all := lw_g (lw_at lw_m4 208 rfl) rfl
theorem q1011 : (Jvm.Cond.static ({ cls := "java/lang/Math", name := "min", desc := "(II)I" } : Jvm.MethodName)) ∈ lw_all := lw_g (lw_at lw_m4 210 rfl) rfl
theorem q1012 : (Jvm.Cond.code ({ cls := "java/lang/Math", name := "min", desc := "(II)I" } : Jvm.MethodName) prog_29_method_69_code (2 : Nat) (Option.some Jvm.ClassFile.FieldType.int)) ∈ lw_all := lw_g (lw_at lw_m4 211 rfl) rfl

/-! java/lang/StringLatin1 -/
set_option maxRecDepth 100000
def RJ9 : String := "java/lang/StringLatin1"
abbrev cJ9_charAt : ByteArray := prog_33_method_2_code
def yJ9_charAt : MethodName := ⟨RJ9, "charAt", "([BI)C"⟩
def dkwJ9_charAt_0 : List UInt8 := [27, 42, 190, 184, 0, 9, 42, 27, 51, 17, 0, 255, 126, 146, 172]
abbrev dktJ9_charAt_0 : List UInt8 := dkwJ9_charAt_0 ++ []
theorem dksJ9_charAt_0 : cJ9_charAt.data.toList.drop 0 = dktJ9_charAt_0 := by decide +kernel
theorem dJ9_charAt_0 : decode cJ9_charAt 0 = .ok (.iload_n 1, 1) := dk_27 (dk_at dksJ9_charAt_0 0 rfl rfl)
theorem dJ9_charAt_1 : decode cJ9_charAt 1 = .ok (.aload_n 0, 1) := dk_42 (dk_at dksJ9_charAt_0 1 rfl rfl)
theorem dJ9_charAt_2 : decode cJ9_charAt 2 = .ok (.arraylength, 1) := dk_190 (dk_at dksJ9_charAt_0 2 rfl rfl)
theorem dJ9_charAt_3 : decode cJ9_charAt 3 = .ok (.invokestatic 9, 3) := dk_184 0 9 (dk_at dksJ9_charAt_0 3 rfl rfl)
theorem dJ9_charAt_6 : decode cJ9_charAt 6 = .ok (.aload_n 0, 1) := dk_42 (dk_at dksJ9_charAt_0 6 rfl rfl)
theorem dJ9_charAt_7 : decode cJ9_charAt 7 = .ok (.iload_n 1, 1) := dk_27 (dk_at dksJ9_charAt_0 7 rfl rfl)
theorem dJ9_charAt_8 : decode cJ9_charAt 8 = .ok (.baload, 1) := dk_51 (dk_at dksJ9_charAt_0 8 rfl rfl)
theorem dJ9_charAt_9 : decode cJ9_charAt 9 = .ok (.sipush 255, 3) := dk_17 0 255 (dk_at dksJ9_charAt_0 9 rfl rfl)
theorem dJ9_charAt_12 : decode cJ9_charAt 12 = .ok (.iand, 1) := dk_126 (dk_at dksJ9_charAt_0 12 rfl rfl)
theorem dJ9_charAt_13 : decode cJ9_charAt 13 = .ok (.i2c, 1) := dk_146 (dk_at dksJ9_charAt_0 13 rfl rfl)
theorem dJ9_charAt_14 : decode cJ9_charAt 14 = .ok (.ireturn, 1) := dk_172 (dk_at dksJ9_charAt_0 14 rfl rfl)
theorem q112 : (Jvm.Cond.initialized "java/lang/StringLatin1") ∈ lw_all := lw_g (lw_at lw_m1 31 rfl) rfl
theorem q908 : (Jvm.Cond.static ({ cls := "java/lang/StringLatin1", name := "charAt", desc := "([BI)C" } : Jvm.MethodName)) ∈ lw_all := lw_g (lw_at lw_m4 107 rfl) rfl
theorem q909 : (Jvm.Cond.code ({ cls := "java/lang/StringLatin1", name := "charAt", desc := "([BI)C" } : Jvm.MethodName) prog_33_method_2_code (2 : Nat) (Option.some Jvm.ClassFile.FieldType.char)) ∈ lw_all := lw_g (lw_at lw_m4 108 rfl) rfl
theorem q910 : (Jvm.Cond.methodLink "java/lang/StringLatin1" (9 : Nat) ({ cls := "java/lang/String", name := "checkIndex", desc := "(II)V" } : Jvm.MethodName)) ∈ lw_all := lw_g (lw_at lw_m4 109 rfl) rfl

/-! the law's own entry -/
set_option maxRecDepth 100000
abbrev cL_law : ByteArray := code
def dkwL_law_56 : List UInt8 := [182, 0, 172, 159, 0, 5, 3, 172, 132, 3, 7, 167, 250, 99, 4, 172]
abbrev dktL_law_56 : List UInt8 := dkwL_law_56 ++ []
def dkwL_law_55 : List UInt8 := [182, 0, 168, 159, 0, 28, 3, 172, 43, 42, 29, 4, 96, 46, 182, 0, 169, 44, 42, 29, 4, 96, 46]
abbrev dktL_law_55 : List UInt8 := dkwL_law_55 ++ dktL_law_56
def dkwL_law_54 : List UInt8 := [159, 0, 54, 3, 172, 43, 182, 0, 161, 44, 182, 0, 164, 159, 0, 41, 3, 172, 43, 182, 0, 165, 44]
abbrev dktL_law_54 : List UInt8 := dkwL_law_54 ++ dktL_law_55
def dkwL_law_53 : List UInt8 := [159, 0, 77, 3, 172, 43, 42, 29, 4, 96, 46, 182, 0, 157, 44, 42, 29, 4, 96, 46, 182, 0, 160]
abbrev dktL_law_53 : List UInt8 := dkwL_law_53 ++ dktL_law_54
def dkwL_law_52 : List UInt8 := [182, 0, 153, 44, 42, 29, 4, 96, 46, 42, 29, 5, 96, 46, 42, 29, 6, 96, 46, 182, 0, 156]
abbrev dktL_law_52 : List UInt8 := dkwL_law_52 ++ dktL_law_53
def dkwL_law_51 : List UInt8 := [182, 0, 152, 159, 0, 120, 3, 172, 43, 42, 29, 4, 96, 46, 42, 29, 5, 96, 46, 42, 29, 6, 96, 46]
abbrev dktL_law_51 : List UInt8 := dkwL_law_51 ++ dktL_law_52
def dkwL_law_50 : List UInt8 := [182, 0, 148, 159, 0, 143, 3, 172, 43, 42, 29, 4, 96, 46, 182, 0, 149, 44, 42, 29, 4, 96, 46]
abbrev dktL_law_50 : List UInt8 := dkwL_law_50 ++ dktL_law_51
def dkwL_law_49 : List UInt8 := [182, 0, 144, 159, 0, 166, 3, 172, 43, 42, 29, 4, 96, 46, 182, 0, 145, 44, 42, 29, 4, 96, 46]
abbrev dktL_law_49 : List UInt8 := dkwL_law_49 ++ dktL_law_50
def dkwL_law_48 : List UInt8 := [4, 96, 46, 42, 29, 5, 96, 46, 182, 0, 141, 44, 42, 29, 4, 96, 46, 42, 29, 5, 96, 46]
abbrev dktL_law_48 : List UInt8 := dkwL_law_48 ++ dktL_law_49
def dkwL_law_47 : List UInt8 := [4, 96, 46, 42, 29, 5, 96, 46, 42, 29, 6, 96, 46, 182, 0, 140, 159, 0, 199, 3, 172, 43, 42, 29]
abbrev dktL_law_47 : List UInt8 := dkwL_law_47 ++ dktL_law_48
def dkwL_law_46 : List UInt8 := [3, 172, 43, 42, 29, 4, 96, 46, 42, 29, 5, 96, 46, 42, 29, 6, 96, 46, 182, 0, 137, 44, 42, 29]
abbrev dktL_law_46 : List UInt8 := dkwL_law_46 ++ dktL_law_47
def dkwL_law_45 : List UInt8 := [29, 5, 96, 46, 182, 0, 133, 44, 42, 29, 4, 96, 46, 42, 29, 5, 96, 46, 182, 0, 136, 159, 0, 242]
abbrev dktL_law_45 : List UInt8 := dkwL_law_45 ++ dktL_law_46
def dkwL_law_44 : List UInt8 := [182, 0, 129, 44, 42, 29, 4, 96, 46, 182, 0, 132, 159, 1, 19, 3, 172, 43, 42, 29, 4, 96, 46, 42]
abbrev dktL_law_44 : List UInt8 := dkwL_law_44 ++ dktL_law_45
def dkwL_law_43 : List UInt8 := [182, 0, 125, 44, 42, 29, 4, 96, 46, 182, 0, 128, 159, 1, 42, 3, 172, 43, 42, 29, 4, 96, 46]
abbrev dktL_law_43 : List UInt8 := dkwL_law_43 ++ dktL_law_44
def dkwL_law_42 : List UInt8 := [29, 4, 96, 46, 42, 29, 5, 96, 46, 182, 0, 124, 159, 1, 65, 3, 172, 43, 42, 29, 4, 96, 46]
abbrev dktL_law_42 : List UInt8 := dkwL_law_42 ++ dktL_law_43
def dkwL_law_41 : List UInt8 := [182, 0, 120, 159, 1, 98, 3, 172, 43, 42, 29, 4, 96, 46, 42, 29, 5, 96, 46, 182, 0, 121, 44, 42]
abbrev dktL_law_41 : List UInt8 := dkwL_law_41 ++ dktL_law_42
def dkwL_law_40 : List UInt8 := [182, 0, 116, 159, 1, 121, 3, 172, 43, 42, 29, 4, 96, 46, 182, 0, 117, 44, 42, 29, 4, 96, 46]
abbrev dktL_law_40 : List UInt8 := dkwL_law_40 ++ dktL_law_41
def dkwL_law_39 : List UInt8 := [29, 4, 96, 46, 42, 29, 5, 96, 46, 182, 0, 113, 44, 42, 29, 4, 96, 46, 42, 29, 5, 96, 46]
abbrev dktL_law_39 : List UInt8 := dkwL_law_39 ++ dktL_law_40
def dkwL_law_38 : List UInt8 := [182, 0, 109, 44, 42, 29, 4, 96, 46, 42, 29, 5, 96, 46, 182, 0, 112, 159, 1, 154, 3, 172, 43, 42]
abbrev dktL_law_38 : List UInt8 := dkwL_law_38 ++ dktL_law_39
def dkwL_law_37 : List UInt8 := [29, 6, 96, 46, 182, 0, 108, 159, 1, 187, 3, 172, 43, 42, 29, 4, 96, 46, 42, 29, 5, 96, 46]
abbrev dktL_law_37 : List UInt8 := dkwL_law_37 ++ dktL_law_38
def dkwL_law_36 : List UInt8 := [29, 5, 96, 46, 42, 29, 6, 96, 46, 182, 0, 105, 44, 42, 29, 4, 96, 46, 42, 29, 5, 96, 46, 42]
abbrev dktL_law_36 : List UInt8 := dkwL_law_36 ++ dktL_law_37
def dkwL_law_35 : List UInt8 := [182, 0, 101, 44, 42, 29, 4, 96, 46, 182, 0, 104, 159, 1, 230, 3, 172, 43, 42, 29, 4, 96, 46, 42]
abbrev dktL_law_35 : List UInt8 := dkwL_law_35 ++ dktL_law_36
def dkwL_law_34 : List UInt8 := [29, 4, 96, 46, 42, 29, 5, 96, 46, 182, 0, 100, 159, 1, 253, 3, 172, 43, 42, 29, 4, 96, 46]
abbrev dktL_law_34 : List UInt8 := dkwL_law_34 ++ dktL_law_35
def dkwL_law_33 : List UInt8 := [182, 0, 96, 159, 2, 30, 3, 172, 43, 42, 29, 4, 96, 46, 42, 29, 5, 96, 46, 182, 0, 97, 44, 42]
abbrev dktL_law_33 : List UInt8 := dkwL_law_33 ++ dktL_law_34
def dkwL_law_32 : List UInt8 := [29, 4, 96, 46, 42, 29, 5, 96, 46, 182, 0, 93, 44, 42, 29, 4, 96, 46, 42, 29, 5, 96, 46]
abbrev dktL_law_32 : List UInt8 := dkwL_law_32 ++ dktL_law_33
def dkwL_law_31 : List UInt8 := [182, 0, 89, 44, 42, 29, 4, 96, 46, 42, 29, 5, 96, 46, 182, 0, 92, 159, 2, 63, 3, 172, 43, 42]
abbrev dktL_law_31 : List UInt8 := dkwL_law_31 ++ dktL_law_32
def dkwL_law_30 : List UInt8 := [182, 0, 84, 44, 182, 0, 88, 159, 2, 96, 3, 172, 43, 42, 29, 4, 96, 46, 42, 29, 5, 96, 46]
abbrev dktL_law_30 : List UInt8 := dkwL_law_30 ++ dktL_law_31
def dkwL_law_29 : List UInt8 := [42, 29, 4, 96, 46, 182, 0, 80, 44, 42, 29, 4, 96, 46, 182, 0, 83, 159, 2, 109, 3, 172, 43]
abbrev dktL_law_29 : List UInt8 := dkwL_law_29 ++ dktL_law_30
def dkwL_law_28 : List UInt8 := [46, 182, 0, 76, 44, 42, 29, 4, 96, 46, 42, 29, 5, 96, 46, 182, 0, 79, 159, 2, 132, 3, 172, 43]
abbrev dktL_law_28 : List UInt8 := dkwL_law_28 ++ dktL_law_29
def dkwL_law_27 : List UInt8 := [46, 42, 29, 5, 96, 46, 182, 0, 75, 159, 2, 165, 3, 172, 43, 42, 29, 4, 96, 46, 42, 29, 5, 96]
abbrev dktL_law_27 : List UInt8 := dkwL_law_27 ++ dktL_law_28
def dkwL_law_26 : List UInt8 := [159, 2, 198, 3, 172, 43, 42, 29, 4, 96, 46, 42, 29, 5, 96, 46, 182, 0, 72, 44, 42, 29, 4, 96]
abbrev dktL_law_26 : List UInt8 := dkwL_law_26 ++ dktL_law_27
def dkwL_law_25 : List UInt8 := [42, 29, 5, 96, 46, 182, 0, 68, 44, 42, 29, 4, 96, 46, 42, 29, 5, 96, 46, 182, 0, 71]
abbrev dktL_law_25 : List UInt8 := dkwL_law_25 ++ dktL_law_26
def dkwL_law_24 : List UInt8 := [96, 46, 153, 0, 7, 4, 167, 0, 4, 3, 182, 0, 67, 159, 2, 231, 3, 172, 43, 42, 29, 4, 96, 46]
abbrev dktL_law_24 : List UInt8 := dkwL_law_24 ++ dktL_law_25
def dkwL_law_23 : List UInt8 := [29, 5, 96, 46, 153, 0, 7, 4, 167, 0, 4, 3, 182, 0, 63, 44, 42, 29, 4, 96, 46, 42, 29, 5]
abbrev dktL_law_23 : List UInt8 := dkwL_law_23 ++ dktL_law_24
def dkwL_law_22 : List UInt8 := [29, 4, 96, 46, 42, 29, 5, 96, 46, 182, 0, 62, 159, 3, 24, 3, 172, 43, 42, 29, 4, 96, 46, 42]
abbrev dktL_law_22 : List UInt8 := dkwL_law_22 ++ dktL_law_23
def dkwL_law_21 : List UInt8 := [182, 0, 58, 159, 3, 57, 3, 172, 43, 42, 29, 4, 96, 46, 42, 29, 5, 96, 46, 182, 0, 59, 44, 42]
abbrev dktL_law_21 : List UInt8 := dkwL_law_21 ++ dktL_law_22
def dkwL_law_20 : List UInt8 := [42, 29, 4, 96, 46, 42, 29, 5, 96, 46, 42, 29, 6, 96, 46, 153, 0, 7, 4, 167, 0, 4, 3]
abbrev dktL_law_20 : List UInt8 := dkwL_law_20 ++ dktL_law_21
def dkwL_law_19 : List UInt8 := [96, 46, 42, 29, 5, 96, 46, 42, 29, 6, 96, 46, 153, 0, 7, 4, 167, 0, 4, 3, 182, 0, 54, 44]
abbrev dktL_law_19 : List UInt8 := dkwL_law_19 ++ dktL_law_20
def dkwL_law_18 : List UInt8 := [46, 42, 29, 8, 96, 46, 42, 29, 16, 6, 96, 46, 182, 0, 53, 159, 3, 116, 3, 172, 43, 42, 29, 4]
abbrev dktL_law_18 : List UInt8 := dkwL_law_18 ++ dktL_law_19
def dkwL_law_17 : List UInt8 := [46, 182, 0, 49, 44, 42, 29, 4, 96, 46, 42, 29, 5, 96, 46, 42, 29, 6, 96, 46, 42, 29, 7, 96]
abbrev dktL_law_17 : List UInt8 := dkwL_law_17 ++ dktL_law_18
def dkwL_law_16 : List UInt8 := [29, 5, 96, 46, 42, 29, 6, 96, 46, 42, 29, 7, 96, 46, 42, 29, 8, 96, 46, 42, 29, 16, 6, 96]
abbrev dktL_law_16 : List UInt8 := dkwL_law_16 ++ dktL_law_17
def dkwL_law_15 : List UInt8 := [29, 4, 96, 46, 42, 29, 5, 96, 46, 182, 0, 48, 159, 3, 191, 3, 172, 43, 42, 29, 4, 96, 46, 42]
abbrev dktL_law_15 : List UInt8 := dkwL_law_15 ++ dktL_law_16
def dkwL_law_14 : List UInt8 := [182, 0, 44, 159, 3, 224, 3, 172, 43, 42, 29, 4, 96, 46, 42, 29, 5, 96, 46, 182, 0, 45, 44, 42]
abbrev dktL_law_14 : List UInt8 := dkwL_law_14 ++ dktL_law_15
def dkwL_law_13 : List UInt8 := [182, 0, 39, 159, 3, 247, 3, 172, 43, 42, 29, 4, 96, 46, 182, 0, 40, 44, 42, 29, 4, 96, 46]
abbrev dktL_law_13 : List UInt8 := dkwL_law_13 ++ dktL_law_14
def dkwL_law_12 : List UInt8 := [42, 29, 4, 96, 46, 42, 29, 5, 96, 46, 182, 0, 35, 44, 42, 29, 4, 96, 46, 42, 29, 5, 96, 46]
abbrev dktL_law_12 : List UInt8 := dkwL_law_12 ++ dktL_law_13
def dkwL_law_11 : List UInt8 := [182, 0, 30, 44, 42, 29, 4, 96, 46, 42, 29, 5, 96, 46, 182, 0, 34, 148, 153, 4, 24, 3, 172, 43]
abbrev dktL_law_11 : List UInt8 := dkwL_law_11 ++ dktL_law_12
def dkwL_law_10 : List UInt8 := [42, 29, 8, 96, 46, 182, 0, 29, 159, 4, 58, 3, 172, 43, 42, 29, 4, 96, 46, 42, 29, 5, 96, 46]
abbrev dktL_law_10 : List UInt8 := dkwL_law_10 ++ dktL_law_11
def dkwL_law_9 : List UInt8 := [182, 0, 25, 44, 42, 29, 4, 96, 46, 42, 29, 5, 96, 46, 42, 29, 6, 96, 46, 42, 29, 7, 96, 46]
abbrev dktL_law_9 : List UInt8 := dkwL_law_9 ++ dktL_law_10
def dkwL_law_8 : List UInt8 := [96, 46, 42, 29, 5, 96, 46, 42, 29, 6, 96, 46, 42, 29, 7, 96, 46, 42, 29, 8, 96, 46]
abbrev dktL_law_8 : List UInt8 := dkwL_law_8 ++ dktL_law_9
def dkwL_law_7 : List UInt8 := [121, 42, 29, 7, 96, 46, 133, 20, 0, 18, 127, 129, 182, 0, 24, 159, 4, 121, 3, 172, 43, 42, 29, 4]
abbrev dktL_law_7 : List UInt8 := dkwL_law_7 ++ dktL_law_8
def dkwL_law_6 : List UInt8 := [127, 129, 182, 0, 20, 44, 42, 29, 4, 96, 46, 42, 29, 5, 96, 46, 42, 29, 6, 96, 46, 133, 16, 32]
abbrev dktL_law_6 : List UInt8 := dkwL_law_6 ++ dktL_law_7
def dkwL_law_5 : List UInt8 := [46, 42, 29, 5, 96, 46, 42, 29, 6, 96, 46, 133, 16, 32, 121, 42, 29, 7, 96, 46, 133, 20, 0, 18]
abbrev dktL_law_5 : List UInt8 := dkwL_law_5 ++ dktL_law_6
def dkwL_law_4 : List UInt8 := [46, 42, 29, 5, 96, 46, 42, 29, 6, 96, 46, 182, 0, 17, 159, 4, 194, 3, 172, 43, 42, 29, 4, 96]
abbrev dktL_law_4 : List UInt8 := dkwL_law_4 ++ dktL_law_5
def dkwL_law_3 : List UInt8 := [43, 42, 29, 4, 96, 46, 42, 29, 5, 96, 46, 42, 29, 6, 96, 46, 182, 0, 13, 44, 42, 29, 4, 96]
abbrev dktL_law_3 : List UInt8 := dkwL_law_3 ++ dktL_law_4
def dkwL_law_2 : List UInt8 := [170, 0, 0, 0, 0, 5, 139, 0, 0, 0, 0, 0, 0, 0, 36, 0, 0, 0, 163, 0, 0, 0, 206, 0, 0, 1, 23, 0, 0, 1, 86, 0, 0, 1, 120, 0, 0, 1, 153, 0, 0, 1, 176, 0, 0, 1, 209, 0, 0, 2, 28, 0, 0, 2, 87, 0, 0, 2, 120, 0, 0, 2, 169, 0, 0, 2, 202, 0, 0, 2, 235, 0, 0, 3, 12, 0, 0, 3, 35, 0, 0, 3, 48, 0, 0, 3, 81, 0, 0, 3, 114, 0, 0, 3, 147, 0, 0, 3, 170, 0, 0, 3, 213, 0, 0, 3, 246, 0, 0, 4, 23, 0, 0, 4, 46, 0, 0, 4, 79, 0, 0, 4, 102, 0, 0, 4, 125, 0, 0, 4, 158, 0, 0, 4, 201, 0, 0, 4, 234, 0, 0, 5, 1, 0, 0, 5, 24, 0, 0, 5, 67, 0, 0, 5, 90, 0, 0, 5, 103, 0, 0, 5, 116]
abbrev dktL_law_2 : List UInt8 := dkwL_law_2 ++ dktL_law_3
def dkwL_law_1 : List UInt8 := [163, 5, 154, 42, 29, 46, 16, 63, 126]
abbrev dktL_law_1 : List UInt8 := dkwL_law_1 ++ dktL_law_2
def dkwL_law_0 : List UInt8 := [187, 0, 7, 89, 183, 0, 9, 76, 187, 0, 10, 89, 183, 0, 12, 77, 3, 62, 29, 42, 190, 16, 7, 100]
abbrev dktL_law_0 : List UInt8 := dkwL_law_0 ++ dktL_law_1
theorem dksL_law_0 : cL_law.data.toList.drop 0 = dktL_law_0 := by decide +kernel
theorem dksL_law_1 : cL_law.data.toList.drop 24 = dktL_law_1 := dk_seg dksL_law_0 24 rfl rfl
theorem dksL_law_2 : cL_law.data.toList.drop 33 = dktL_law_2 := dk_seg dksL_law_1 9 rfl rfl
theorem dksL_law_3 : cL_law.data.toList.drop 196 = dktL_law_3 := dk_seg dksL_law_2 163 rfl rfl
theorem dksL_law_4 : cL_law.data.toList.drop 220 = dktL_law_4 := dk_seg dksL_law_3 24 rfl rfl
theorem dksL_law_5 : cL_law.data.toList.drop 244 = dktL_law_5 := dk_seg dksL_law_4 24 rfl rfl
theorem dksL_law_6 : cL_law.data.toList.drop 268 = dktL_law_6 := dk_seg dksL_law_5 24 rfl rfl
theorem dksL_law_7 : cL_law.data.toList.drop 292 = dktL_law_7 := dk_seg dksL_law_6 24 rfl rfl
theorem dksL_law_8 : cL_law.data.toList.drop 316 = dktL_law_8 := dk_seg dksL_law_7 24 rfl rfl
theorem dksL_law_9 : cL_law.data.toList.drop 338 = dktL_law_9 := dk_seg dksL_law_8 22 rfl rfl
theorem dksL_law_10 : cL_law.data.toList.drop 362 = dktL_law_10 := dk_seg dksL_law_9 24 rfl rfl
theorem dksL_law_11 : cL_law.data.toList.drop 386 = dktL_law_11 := dk_seg dksL_law_10 24 rfl rfl
theorem dksL_law_12 : cL_law.data.toList.drop 410 = dktL_law_12 := dk_seg dksL_law_11 24 rfl rfl
theorem dksL_law_13 : cL_law.data.toList.drop 434 = dktL_law_13 := dk_seg dksL_law_12 24 rfl rfl
theorem dksL_law_14 : cL_law.data.toList.drop 457 = dktL_law_14 := dk_seg dksL_law_13 23 rfl rfl
theorem dksL_law_15 : cL_law.data.toList.drop 481 = dktL_law_15 := dk_seg dksL_law_14 24 rfl rfl
theorem dksL_law_16 : cL_law.data.toList.drop 505 = dktL_law_16 := dk_seg dksL_law_15 24 rfl rfl
theorem dksL_law_17 : cL_law.data.toList.drop 529 = dktL_law_17 := dk_seg dksL_law_16 24 rfl rfl
theorem dksL_law_18 : cL_law.data.toList.drop 553 = dktL_law_18 := dk_seg dksL_law_17 24 rfl rfl
theorem dksL_law_19 : cL_law.data.toList.drop 577 = dktL_law_19 := dk_seg dksL_law_18 24 rfl rfl
theorem dksL_law_20 : cL_law.data.toList.drop 601 = dktL_law_20 := dk_seg dksL_law_19 24 rfl rfl
theorem dksL_law_21 : cL_law.data.toList.drop 624 = dktL_law_21 := dk_seg dksL_law_20 23 rfl rfl
theorem dksL_law_22 : cL_law.data.toList.drop 648 = dktL_law_22 := dk_seg dksL_law_21 24 rfl rfl
theorem dksL_law_23 : cL_law.data.toList.drop 672 = dktL_law_23 := dk_seg dksL_law_22 24 rfl rfl
theorem dksL_law_24 : cL_law.data.toList.drop 696 = dktL_law_24 := dk_seg dksL_law_23 24 rfl rfl
theorem dksL_law_25 : cL_law.data.toList.drop 720 = dktL_law_25 := dk_seg dksL_law_24 24 rfl rfl
theorem dksL_law_26 : cL_law.data.toList.drop 742 = dktL_law_26 := dk_seg dksL_law_25 22 rfl rfl
theorem dksL_law_27 : cL_law.data.toList.drop 766 = dktL_law_27 := dk_seg dksL_law_26 24 rfl rfl
theorem dksL_law_28 : cL_law.data.toList.drop 790 = dktL_law_28 := dk_seg dksL_law_27 24 rfl rfl
theorem dksL_law_29 : cL_law.data.toList.drop 814 = dktL_law_29 := dk_seg dksL_law_28 24 rfl rfl
theorem dksL_law_30 : cL_law.data.toList.drop 837 = dktL_law_30 := dk_seg dksL_law_29 23 rfl rfl
theorem dksL_law_31 : cL_law.data.toList.drop 860 = dktL_law_31 := dk_seg dksL_law_30 23 rfl rfl
theorem dksL_law_32 : cL_law.data.toList.drop 884 = dktL_law_32 := dk_seg dksL_law_31 24 rfl rfl
theorem dksL_law_33 : cL_law.data.toList.drop 907 = dktL_law_33 := dk_seg dksL_law_32 23 rfl rfl
theorem dksL_law_34 : cL_law.data.toList.drop 931 = dktL_law_34 := dk_seg dksL_law_33 24 rfl rfl
theorem dksL_law_35 : cL_law.data.toList.drop 954 = dktL_law_35 := dk_seg dksL_law_34 23 rfl rfl
theorem dksL_law_36 : cL_law.data.toList.drop 978 = dktL_law_36 := dk_seg dksL_law_35 24 rfl rfl
theorem dksL_law_37 : cL_law.data.toList.drop 1002 = dktL_law_37 := dk_seg dksL_law_36 24 rfl rfl
theorem dksL_law_38 : cL_law.data.toList.drop 1025 = dktL_law_38 := dk_seg dksL_law_37 23 rfl rfl
theorem dksL_law_39 : cL_law.data.toList.drop 1049 = dktL_law_39 := dk_seg dksL_law_38 24 rfl rfl
theorem dksL_law_40 : cL_law.data.toList.drop 1072 = dktL_law_40 := dk_seg dksL_law_39 23 rfl rfl
theorem dksL_law_41 : cL_law.data.toList.drop 1095 = dktL_law_41 := dk_seg dksL_law_40 23 rfl rfl
theorem dksL_law_42 : cL_law.data.toList.drop 1119 = dktL_law_42 := dk_seg dksL_law_41 24 rfl rfl
theorem dksL_law_43 : cL_law.data.toList.drop 1142 = dktL_law_43 := dk_seg dksL_law_42 23 rfl rfl
theorem dksL_law_44 : cL_law.data.toList.drop 1165 = dktL_law_44 := dk_seg dksL_law_43 23 rfl rfl
theorem dksL_law_45 : cL_law.data.toList.drop 1189 = dktL_law_45 := dk_seg dksL_law_44 24 rfl rfl
theorem dksL_law_46 : cL_law.data.toList.drop 1213 = dktL_law_46 := dk_seg dksL_law_45 24 rfl rfl
theorem dksL_law_47 : cL_law.data.toList.drop 1237 = dktL_law_47 := dk_seg dksL_law_46 24 rfl rfl
theorem dksL_law_48 : cL_law.data.toList.drop 1261 = dktL_law_48 := dk_seg dksL_law_47 24 rfl rfl
theorem dksL_law_49 : cL_law.data.toList.drop 1283 = dktL_law_49 := dk_seg dksL_law_48 22 rfl rfl
theorem dksL_law_50 : cL_law.data.toList.drop 1306 = dktL_law_50 := dk_seg dksL_law_49 23 rfl rfl
theorem dksL_law_51 : cL_law.data.toList.drop 1329 = dktL_law_51 := dk_seg dksL_law_50 23 rfl rfl
theorem dksL_law_52 : cL_law.data.toList.drop 1353 = dktL_law_52 := dk_seg dksL_law_51 24 rfl rfl
theorem dksL_law_53 : cL_law.data.toList.drop 1375 = dktL_law_53 := dk_seg dksL_law_52 22 rfl rfl
theorem dksL_law_54 : cL_law.data.toList.drop 1398 = dktL_law_54 := dk_seg dksL_law_53 23 rfl rfl
theorem dksL_law_55 : cL_law.data.toList.drop 1421 = dktL_law_55 := dk_seg dksL_law_54 23 rfl rfl
theorem dksL_law_56 : cL_law.data.toList.drop 1444 = dktL_law_56 := dk_seg dksL_law_55 23 rfl rfl
theorem dL_law_0 : decode cL_law 0 = .ok (.new 7, 3) := dk_187 0 7 (dk_at dksL_law_0 0 rfl rfl)
theorem dL_law_3 : decode cL_law 3 = .ok (.dup, 1) := dk_89 (dk_at dksL_law_0 3 rfl rfl)
theorem dL_law_4 : decode cL_law 4 = .ok (.invokespecial 9, 3) := dk_183 0 9 (dk_at dksL_law_0 4 rfl rfl)
theorem dL_law_7 : decode cL_law 7 = .ok (.astore_n 1, 1) := dk_76 (dk_at dksL_law_0 7 rfl rfl)
theorem dL_law_8 : decode cL_law 8 = .ok (.new 10, 3) := dk_187 0 10 (dk_at dksL_law_0 8 rfl rfl)
theorem dL_law_11 : decode cL_law 11 = .ok (.dup, 1) := dk_89 (dk_at dksL_law_0 11 rfl rfl)
theorem dL_law_12 : decode cL_law 12 = .ok (.invokespecial 12, 3) := dk_183 0 12 (dk_at dksL_law_0 12 rfl rfl)
theorem dL_law_15 : decode cL_law 15 = .ok (.astore_n 2, 1) := dk_77 (dk_at dksL_law_0 15 rfl rfl)
theorem dL_law_16 : decode cL_law 16 = .ok (.iconst 0, 1) := dk_3 (dk_at dksL_law_0 16 rfl rfl)
theorem dL_law_17 : decode cL_law 17 = .ok (.istore_n 3, 1) := dk_62 (dk_at dksL_law_0 17 rfl rfl)
theorem dL_law_18 : decode cL_law 18 = .ok (.iload_n 3, 1) := dk_29 (dk_at dksL_law_0 18 rfl rfl)
theorem dL_law_19 : decode cL_law 19 = .ok (.aload_n 0, 1) := dk_42 (dk_at dksL_law_0 19 rfl rfl)
theorem dL_law_20 : decode cL_law 20 = .ok (.arraylength, 1) := dk_190 (dk_at dksL_law_0 20 rfl rfl)
theorem dL_law_21 : decode cL_law 21 = .ok (.bipush 7, 2) := dk_16 7 (dk_at dksL_law_0 21 rfl rfl)
theorem dL_law_23 : decode cL_law 23 = .ok (.isub, 1) := dk_100 (dk_at dksL_law_0 23 rfl rfl)
theorem dL_law_24 : decode cL_law 24 = .ok (.if_icmp .gt 1434, 3) := dk_163 5 154 (dk_at dksL_law_1 0 rfl rfl)
theorem dL_law_27 : decode cL_law 27 = .ok (.aload_n 0, 1) := dk_42 (dk_at dksL_law_1 3 rfl rfl)
theorem dL_law_28 : decode cL_law 28 = .ok (.iload_n 3, 1) := dk_29 (dk_at dksL_law_1 4 rfl rfl)
theorem dL_law_29 : decode cL_law 29 = .ok (.iaload, 1) := dk_46 (dk_at dksL_law_1 5 rfl rfl)
theorem dL_law_30 : decode cL_law 30 = .ok (.bipush 63, 2) := dk_16 63 (dk_at dksL_law_1 6 rfl rfl)
theorem dL_law_32 : decode cL_law 32 = .ok (.iand, 1) := dk_126 (dk_at dksL_law_1 8 rfl rfl)
theorem dL_law_33 : decode cL_law 33 = .ok (.tableswitch 1419 0 36 #[163, 206, 279, 342, 376, 409, 432, 465, 540, 599, 632, 681, 714, 747, 780, 803, 816, 849, 882, 915, 938, 981, 1014, 1047, 1070, 1103, 1126, 1149, 1182, 1225, 1258, 1281, 1304, 1347, 1370, 1383, 1396], 163) := by decide +kernel
theorem dL_law_196 : decode cL_law 196 = .ok (.aload_n 1, 1) := dk_43 (dk_at dksL_law_3 0 rfl rfl)
theorem dL_law_197 : decode cL_law 197 = .ok (.aload_n 0, 1) := dk_42 (dk_at dksL_law_3 1 rfl rfl)
theorem dL_law_198 : decode cL_law 198 = .ok (.iload_n 3, 1) := dk_29 (dk_at dksL_law_3 2 rfl rfl)
theorem dL_law_199 : decode cL_law 199 = .ok (.iconst 1, 1) := dk_4 (dk_at dksL_law_3 3 rfl rfl)
theorem dL_law_200 : decode cL_law 200 = .ok (.iadd, 1) := dk_96 (dk_at dksL_law_3 4 rfl rfl)
theorem dL_law_201 : decode cL_law 201 = .ok (.iaload, 1) := dk_46 (dk_at dksL_law_3 5 rfl rfl)
theorem dL_law_202 : decode cL_law 202 = .ok (.aload_n 0, 1) := dk_42 (dk_at dksL_law_3 6 rfl rfl)
theorem dL_law_203 : decode cL_law 203 = .ok (.iload_n 3, 1) := dk_29 (dk_at dksL_law_3 7 rfl rfl)
theorem dL_law_204 : decode cL_law 204 = .ok (.iconst 2, 1) := dk_5 (dk_at dksL_law_3 8 rfl rfl)
theorem dL_law_205 : decode cL_law 205 = .ok (.iadd, 1) := dk_96 (dk_at dksL_law_3 9 rfl rfl)
theorem dL_law_206 : decode cL_law 206 = .ok (.iaload, 1) := dk_46 (dk_at dksL_law_3 10 rfl rfl)
theorem dL_law_207 : decode cL_law 207 = .ok (.aload_n 0, 1) := dk_42 (dk_at dksL_law_3 11 rfl rfl)
theorem dL_law_208 : decode cL_law 208 = .ok (.iload_n 3, 1) := dk_29 (dk_at dksL_law_3 12 rfl rfl)
theorem dL_law_209 : decode cL_law 209 = .ok (.iconst 3, 1) := dk_6 (dk_at dksL_law_3 13 rfl rfl)
theorem dL_law_210 : decode cL_law 210 = .ok (.iadd, 1) := dk_96 (dk_at dksL_law_3 14 rfl rfl)
theorem dL_law_211 : decode cL_law 211 = .ok (.iaload, 1) := dk_46 (dk_at dksL_law_3 15 rfl rfl)
theorem dL_law_212 : decode cL_law 212 = .ok (.invokevirtual 13, 3) := dk_182 0 13 (dk_at dksL_law_3 16 rfl rfl)
theorem dL_law_215 : decode cL_law 215 = .ok (.aload_n 2, 1) := dk_44 (dk_at dksL_law_3 19 rfl rfl)
theorem dL_law_216 : decode cL_law 216 = .ok (.aload_n 0, 1) := dk_42 (dk_at dksL_law_3 20 rfl rfl)
theorem dL_law_217 : decode cL_law 217 = .ok (.iload_n 3, 1) := dk_29 (dk_at dksL_law_3 21 rfl rfl)
theorem dL_law_218 : decode cL_law 218 = .ok (.iconst 1, 1) := dk_4 (dk_at dksL_law_3 22 rfl rfl)
theorem dL_law_219 : decode cL_law 219 = .ok (.iadd, 1) := dk_96 (dk_at dksL_law_3 23 rfl rfl)
theorem dL_law_220 : decode cL_law 220 = .ok (.iaload, 1) := dk_46 (dk_at dksL_law_4 0 rfl rfl)
theorem dL_law_221 : decode cL_law 221 = .ok (.aload_n 0, 1) := dk_42 (dk_at dksL_law_4 1 rfl rfl)
theorem dL_law_222 : decode cL_law 222 = .ok (.iload_n 3, 1) := dk_29 (dk_at dksL_law_4 2 rfl rfl)
theorem dL_law_223 : decode cL_law 223 = .ok (.iconst 2, 1) := dk_5 (dk_at dksL_law_4 3 rfl rfl)
theorem dL_law_224 : decode cL_law 224 = .ok (.iadd, 1) := dk_96 (dk_at dksL_law_4 4 rfl rfl)
theorem dL_law_225 : decode cL_law 225 = .ok (.iaload, 1) := dk_46 (dk_at dksL_law_4 5 rfl rfl)
theorem dL_law_226 : decode cL_law 226 = .ok (.aload_n 0, 1) := dk_42 (dk_at dksL_law_4 6 rfl rfl)
theorem dL_law_227 : decode cL_law 227 = .ok (.iload_n 3, 1) := dk_29 (dk_at dksL_law_4 7 rfl rfl)
theorem dL_law_228 : decode cL_law 228 = .ok (.iconst 3, 1) := dk_6 (dk_at dksL_law_4 8 rfl rfl)
theorem dL_law_229 : decode cL_law 229 = .ok (.iadd, 1) := dk_96 (dk_at dksL_law_4 9 rfl rfl)
theorem dL_law_230 : decode cL_law 230 = .ok (.iaload, 1) := dk_46 (dk_at dksL_law_4 10 rfl rfl)
theorem dL_law_231 : decode cL_law 231 = .ok (.invokevirtual 17, 3) := dk_182 0 17 (dk_at dksL_law_4 11 rfl rfl)
theorem dL_law_234 : decode cL_law 234 = .ok (.if_icmp .eq 1218, 3) := dk_159 4 194 (dk_at dksL_law_4 14 rfl rfl)
theorem dL_law_237 : decode cL_law 237 = .ok (.iconst 0, 1) := dk_3 (dk_at dksL_law_4 17 rfl rfl)
theorem dL_law_238 : decode cL_law 238 = .ok (.ireturn, 1) := dk_172 (dk_at dksL_law_4 18 rfl rfl)
theorem dL_law_239 : decode cL_law 239 = .ok (.aload_n 1, 1) := dk_43 (dk_at dksL_law_4 19 rfl rfl)
theorem dL_law_240 : decode cL_law 240 = .ok (.aload_n 0, 1) := dk_42 (dk_at dksL_law_4 20 rfl rfl)
theorem dL_law_241 : decode cL_law 241 = .ok (.iload_n 3, 1) := dk_29 (dk_at dksL_law_4 21 rfl rfl)
theorem dL_law_242 : decode cL_law 242 = .ok (.iconst 1, 1) := dk_4 (dk_at dksL_law_4 22 rfl rfl)
theorem dL_law_243 : decode cL_law 243 = .ok (.iadd, 1) := dk_96 (dk_at dksL_law_4 23 rfl rfl)
theorem dL_law_244 : decode cL_law 244 = .ok (.iaload, 1) := dk_46 (dk_at dksL_law_5 0 rfl rfl)
theorem dL_law_245 : decode cL_law 245 = .ok (.aload_n 0, 1) := dk_42 (dk_at dksL_law_5 1 rfl rfl)
theorem dL_law_246 : decode cL_law 246 = .ok (.iload_n 3, 1) := dk_29 (dk_at dksL_law_5 2 rfl rfl)
theorem dL_law_247 : decode cL_law 247 = .ok (.iconst 2, 1) := dk_5 (dk_at dksL_law_5 3 rfl rfl)
theorem dL_law_248 : decode cL_law 248 = .ok (.iadd, 1) := dk_96 (dk_at dksL_law_5 4 rfl rfl)
theorem dL_law_249 : decode cL_law 249 = .ok (.iaload, 1) := dk_46 (dk_at dksL_law_5 5 rfl rfl)
theorem dL_law_250 : decode cL_law 250 = .ok (.aload_n 0, 1) := dk_42 (dk_at dksL_law_5 6 rfl rfl)
theorem dL_law_251 : decode cL_law 251 = .ok (.iload_n 3, 1) := dk_29 (dk_at dksL_law_5 7 rfl rfl)
theorem dL_law_252 : decode cL_law 252 = .ok (.iconst 3, 1) := dk_6 (dk_at dksL_law_5 8 rfl rfl)
theorem dL_law_253 : decode cL_law 253 = .ok (.iadd, 1) := dk_96 (dk_at dksL_law_5 9 rfl rfl)
theorem dL_law_254 : decode cL_law 254 = .ok (.iaload, 1) := dk_46 (dk_at dksL_law_5 10 rfl rfl)
theorem dL_law_255 : decode cL_law 255 = .ok (.i2l, 1) := dk_133 (dk_at dksL_law_5 11 rfl rfl)
theorem dL_law_256 : decode cL_law 256 = .ok (.bipush 32, 2) := dk_16 32 (dk_at dksL_law_5 12 rfl rfl)
theorem dL_law_258 : decode cL_law 258 = .ok (.lshl, 1) := dk_121 (dk_at dksL_law_5 14 rfl rfl)
theorem dL_law_259 : decode cL_law 259 = .ok (.aload_n 0, 1) := dk_42 (dk_at dksL_law_5 15 rfl rfl)
theorem dL_law_260 : decode cL_law 260 = .ok (.iload_n 3, 1) := dk_29 (dk_at dksL_law_5 16 rfl rfl)
theorem dL_law_261 : decode cL_law 261 = .ok (.iconst 4, 1) := dk_7 (dk_at dksL_law_5 17 rfl rfl)
theorem dL_law_262 : decode cL_law 262 = .ok (.iadd, 1) := dk_96 (dk_at dksL_law_5 18 rfl rfl)
theorem dL_law_263 : decode cL_law 263 = .ok (.iaload, 1) := dk_46 (dk_at dksL_law_5 19 rfl rfl)
theorem dL_law_264 : decode cL_law 264 = .ok (.i2l, 1) := dk_133 (dk_at dksL_law_5 20 rfl rfl)
theorem dL_law_265 : decode cL_law 265 = .ok (.ldc2_w 18, 3) := dk_20 0 18 (dk_at dksL_law_5 21 rfl rfl)
theorem dL_law_268 : decode cL_law 268 = .ok (.land, 1) := dk_127 (dk_at dksL_law_6 0 rfl rfl)
theorem dL_law_269 : decode cL_law 269 = .ok (.lor, 1) := dk_129 (dk_at dksL_law_6 1 rfl rfl)
theorem dL_law_270 : decode cL_law 270 = .ok (.invokevirtual 20, 3) := dk_182 0 20 (dk_at dksL_law_6 2 rfl rfl)
theorem dL_law_273 : decode cL_law 273 = .ok (.aload_n 2, 1) := dk_44 (dk_at dksL_law_6 5 rfl rfl)
theorem dL_law_274 : decode cL_law 274 = .ok (.aload_n 0, 1) := dk_42 (dk_at dksL_law_6 6 rfl rfl)
theorem dL_law_275 : decode cL_law 275 = .ok (.iload_n 3, 1) := dk_29 (dk_at dksL_law_6 7 rfl rfl)
theorem dL_law_276 : decode cL_law 276 = .ok (.iconst 1, 1) := dk_4 (dk_at dksL_law_6 8 rfl rfl)
theorem dL_law_277 : decode cL_law 277 = .ok (.iadd, 1) := dk_96 (dk_at dksL_law_6 9 rfl rfl)
theorem dL_law_278 : decode cL_law 278 = .ok (.iaload, 1) := dk_46 (dk_at dksL_law_6 10 rfl rfl)
theorem dL_law_279 : decode cL_law 279 = .ok (.aload_n 0, 1) := dk_42 (dk_at dksL_law_6 11 rfl rfl)
theorem dL_law_280 : decode cL_law 280 = .ok (.iload_n 3, 1) := dk_29 (dk_at dksL_law_6 12 rfl rfl)
theorem dL_law_281 : decode cL_law 281 = .ok (.iconst 2, 1) := dk_5 (dk_at dksL_law_6 13 rfl rfl)
theorem dL_law_282 : decode cL_law 282 = .ok (.iadd, 1) := dk_96 (dk_at dksL_law_6 14 rfl rfl)
theorem dL_law_283 : decode cL_law 283 = .ok (.iaload, 1) := dk_46 (dk_at dksL_law_6 15 rfl rfl)
theorem dL_law_284 : decode cL_law 284 = .ok (.aload_n 0, 1) := dk_42 (dk_at dksL_law_6 16 rfl rfl)
theorem dL_law_285 : decode cL_law 285 = .ok (.iload_n 3, 1) := dk_29 (dk_at dksL_law_6 17 rfl rfl)
theorem dL_law_286 : decode cL_law 286 = .ok (.iconst 3, 1) := dk_6 (dk_at dksL_law_6 18 rfl rfl)
theorem dL_law_287 : decode cL_law 287 = .ok (.iadd, 1) := dk_96 (dk_at dksL_law_6 19 rfl rfl)
theorem dL_law_288 : decode cL_law 288 = .ok (.iaload, 1) := dk_46 (dk_at dksL_law_6 20 rfl rfl)
theorem dL_law_289 : decode cL_law 289 = .ok (.i2l, 1) := dk_133 (dk_at dksL_law_6 21 rfl rfl)
theorem dL_law_290 : decode cL_law 290 = .ok (.bipush 32, 2) := dk_16 32 (dk_at dksL_law_6 22 rfl rfl)
theorem dL_law_292 : decode cL_law 292 = .ok (.lshl, 1) := dk_121 (dk_at dksL_law_7 0 rfl rfl)
theorem dL_law_293 : decode cL_law 293 = .ok (.aload_n 0, 1) := dk_42 (dk_at dksL_law_7 1 rfl rfl)
theorem dL_law_294 : decode cL_law 294 = .ok (.iload_n 3, 1) := dk_29 (dk_at dksL_law_7 2 rfl rfl)
theorem dL_law_295 : decode cL_law 295 = .ok (.iconst 4, 1) := dk_7 (dk_at dksL_law_7 3 rfl rfl)
theorem dL_law_296 : decode cL_law 296 = .ok (.iadd, 1) := dk_96 (dk_at dksL_law_7 4 rfl rfl)
theorem dL_law_297 : decode cL_law 297 = .ok (.iaload, 1) := dk_46 (dk_at dksL_law_7 5 rfl rfl)
theorem dL_law_298 : decode cL_law 298 = .ok (.i2l, 1) := dk_133 (dk_at dksL_law_7 6 rfl rfl)
theorem dL_law_299 : decode cL_law 299 = .ok (.ldc2_w 18, 3) := dk_20 0 18 (dk_at dksL_law_7 7 rfl rfl)
theorem dL_law_302 : decode cL_law 302 = .ok (.land, 1) := dk_127 (dk_at dksL_law_7 10 rfl rfl)
theorem dL_law_303 : decode cL_law 303 = .ok (.lor, 1) := dk_129 (dk_at dksL_law_7 11 rfl rfl)
theorem dL_law_304 : decode cL_law 304 = .ok (.invokevirtual 24, 3) := dk_182 0 24 (dk_at dksL_law_7 12 rfl rfl)
theorem dL_law_307 : decode cL_law 307 = .ok (.if_icmp .eq 1145, 3) := dk_159 4 121 (dk_at dksL_law_7 15 rfl rfl)
theorem dL_law_310 : decode cL_law 310 = .ok (.iconst 0, 1) := dk_3 (dk_at dksL_law_7 18 rfl rfl)
theorem dL_law_311 : decode cL_law 311 = .ok (.ireturn, 1) := dk_172 (dk_at dksL_law_7 19 rfl rfl)
theorem dL_law_312 : decode cL_law 312 = .ok (.aload_n 1, 1) := dk_43 (dk_at dksL_law_7 20 rfl rfl)
theorem dL_law_313 : decode cL_law 313 = .ok (.aload_n 0, 1) := dk_42 (dk_at dksL_law_7 21 rfl rfl)
theorem dL_law_314 : decode cL_law 314 = .ok (.iload_n 3, 1) := dk_29 (dk_at dksL_law_7 22 rfl rfl)
theorem dL_law_315 : decode cL_law 315 = .ok (.iconst 1, 1) := dk_4 (dk_at dksL_law_7 23 rfl rfl)
theorem dL_law_316 : decode cL_law 316 = .ok (.iadd, 1) := dk_96 (dk_at dksL_law_8 0 rfl rfl)
theorem dL_law_317 : decode cL_law 317 = .ok (.iaload, 1) := dk_46 (dk_at dksL_law_8 1 rfl rfl)
theorem dL_law_318 : decode cL_law 318 = .ok (.aload_n 0, 1) := dk_42 (dk_at dksL_law_8 2 rfl rfl)
theorem dL_law_319 : decode cL_law 319 = .ok (.iload_n 3, 1) := dk_29 (dk_at dksL_law_8 3 rfl rfl)
theorem dL_law_320 : decode cL_law 320 = .ok (.iconst 2, 1) := dk_5 (dk_at dksL_law_8 4 rfl rfl)
theorem dL_law_321 : decode cL_law 321 = .ok (.iadd, 1) := dk_96 (dk_at dksL_law_8 5 rfl rfl)
theorem dL_law_322 : decode cL_law 322 = .ok (.iaload, 1) := dk_46 (dk_at dksL_law_8 6 rfl rfl)
theorem dL_law_323 : decode cL_law 323 = .ok (.aload_n 0, 1) := dk_42 (dk_at dksL_law_8 7 rfl rfl)
theorem dL_law_324 : decode cL_law 324 = .ok (.iload_n 3, 1) := dk_29 (dk_at dksL_law_8 8 rfl rfl)
theorem dL_law_325 : decode cL_law 325 = .ok (.iconst 3, 1) := dk_6 (dk_at dksL_law_8 9 rfl rfl)
theorem dL_law_326 : decode cL_law 326 = .ok (.iadd, 1) := dk_96 (dk_at dksL_law_8 10 rfl rfl)
theorem dL_law_327 : decode cL_law 327 = .ok (.iaload, 1) := dk_46 (dk_at dksL_law_8 11 rfl rfl)
theorem dL_law_328 : decode cL_law 328 = .ok (.aload_n 0, 1) := dk_42 (dk_at dksL_law_8 12 rfl rfl)
theorem dL_law_329 : decode cL_law 329 = .ok (.iload_n 3, 1) := dk_29 (dk_at dksL_law_8 13 rfl rfl)
theorem dL_law_330 : decode cL_law 330 = .ok (.iconst 4, 1) := dk_7 (dk_at dksL_law_8 14 rfl rfl)
theorem dL_law_331 : decode cL_law 331 = .ok (.iadd, 1) := dk_96 (dk_at dksL_law_8 15 rfl rfl)
theorem dL_law_332 : decode cL_law 332 = .ok (.iaload, 1) := dk_46 (dk_at dksL_law_8 16 rfl rfl)
theorem dL_law_333 : decode cL_law 333 = .ok (.aload_n 0, 1) := dk_42 (dk_at dksL_law_8 17 rfl rfl)
theorem dL_law_334 : decode cL_law 334 = .ok (.iload_n 3, 1) := dk_29 (dk_at dksL_law_8 18 rfl rfl)
theorem dL_law_335 : decode cL_law 335 = .ok (.iconst 5, 1) := dk_8 (dk_at dksL_law_8 19 rfl rfl)
theorem dL_law_336 : decode cL_law 336 = .ok (.iadd, 1) := dk_96 (dk_at dksL_law_8 20 rfl rfl)
theorem dL_law_337 : decode cL_law 337 = .ok (.iaload, 1) := dk_46 (dk_at dksL_law_8 21 rfl rfl)
theorem dL_law_338 : decode cL_law 338 = .ok (.invokevirtual 25, 3) := dk_182 0 25 (dk_at dksL_law_9 0 rfl rfl)
theorem dL_law_341 : decode cL_law 341 = .ok (.aload_n 2, 1) := dk_44 (dk_at dksL_law_9 3 rfl rfl)
theorem dL_law_342 : decode cL_law 342 = .ok (.aload_n 0, 1) := dk_42 (dk_at dksL_law_9 4 rfl rfl)
theorem dL_law_343 : decode cL_law 343 = .ok (.iload_n 3, 1) := dk_29 (dk_at dksL_law_9 5 rfl rfl)
theorem dL_law_344 : decode cL_law 344 = .ok (.iconst 1, 1) := dk_4 (dk_at dksL_law_9 6 rfl rfl)
theorem dL_law_345 : decode cL_law 345 = .ok (.iadd, 1) := dk_96 (dk_at dksL_law_9 7 rfl rfl)
theorem dL_law_346 : decode cL_law 346 = .ok (.iaload, 1) := dk_46 (dk_at dksL_law_9 8 rfl rfl)
theorem dL_law_347 : decode cL_law 347 = .ok (.aload_n 0, 1) := dk_42 (dk_at dksL_law_9 9 rfl rfl)
theorem dL_law_348 : decode cL_law 348 = .ok (.iload_n 3, 1) := dk_29 (dk_at dksL_law_9 10 rfl rfl)
theorem dL_law_349 : decode cL_law 349 = .ok (.iconst 2, 1) := dk_5 (dk_at dksL_law_9 11 rfl rfl)
theorem dL_law_350 : decode cL_law 350 = .ok (.iadd, 1) := dk_96 (dk_at dksL_law_9 12 rfl rfl)
theorem dL_law_351 : decode cL_law 351 = .ok (.iaload, 1) := dk_46 (dk_at dksL_law_9 13 rfl rfl)
theorem dL_law_352 : decode cL_law 352 = .ok (.aload_n 0, 1) := dk_42 (dk_at dksL_law_9 14 rfl rfl)
theorem dL_law_353 : decode cL_law 353 = .ok (.iload_n 3, 1) := dk_29 (dk_at dksL_law_9 15 rfl rfl)
theorem dL_law_354 : decode cL_law 354 = .ok (.iconst 3, 1) := dk_6 (dk_at dksL_law_9 16 rfl rfl)
theorem dL_law_355 : decode cL_law 355 = .ok (.iadd, 1) := dk_96 (dk_at dksL_law_9 17 rfl rfl)
theorem dL_law_356 : decode cL_law 356 = .ok (.iaload, 1) := dk_46 (dk_at dksL_law_9 18 rfl rfl)
theorem dL_law_357 : decode cL_law 357 = .ok (.aload_n 0, 1) := dk_42 (dk_at dksL_law_9 19 rfl rfl)
theorem dL_law_358 : decode cL_law 358 = .ok (.iload_n 3, 1) := dk_29 (dk_at dksL_law_9 20 rfl rfl)
theorem dL_law_359 : decode cL_law 359 = .ok (.iconst 4, 1) := dk_7 (dk_at dksL_law_9 21 rfl rfl)
theorem dL_law_360 : decode cL_law 360 = .ok (.iadd, 1) := dk_96 (dk_at dksL_law_9 22 rfl rfl)
theorem dL_law_361 : decode cL_law 361 = .ok (.iaload, 1) := dk_46 (dk_at dksL_law_9 23 rfl rfl)
theorem dL_law_362 : decode cL_law 362 = .ok (.aload_n 0, 1) := dk_42 (dk_at dksL_law_10 0 rfl rfl)
theorem dL_law_363 : decode cL_law 363 = .ok (.iload_n 3, 1) := dk_29 (dk_at dksL_law_10 1 rfl rfl)
theorem dL_law_364 : decode cL_law 364 = .ok (.iconst 5, 1) := dk_8 (dk_at dksL_law_10 2 rfl rfl)
theorem dL_law_365 : decode cL_law 365 = .ok (.iadd, 1) := dk_96 (dk_at dksL_law_10 3 rfl rfl)
theorem dL_law_366 : decode cL_law 366 = .ok (.iaload, 1) := dk_46 (dk_at dksL_law_10 4 rfl rfl)
theorem dL_law_367 : decode cL_law 367 = .ok (.invokevirtual 29, 3) := dk_182 0 29 (dk_at dksL_law_10 5 rfl rfl)
theorem dL_law_370 : decode cL_law 370 = .ok (.if_icmp .eq 1082, 3) := dk_159 4 58 (dk_at dksL_law_10 8 rfl rfl)
theorem dL_law_373 : decode cL_law 373 = .ok (.iconst 0, 1) := dk_3 (dk_at dksL_law_10 11 rfl rfl)
theorem dL_law_374 : decode cL_law 374 = .ok (.ireturn, 1) := dk_172 (dk_at dksL_law_10 12 rfl rfl)
theorem dL_law_375 : decode cL_law 375 = .ok (.aload_n 1, 1) := dk_43 (dk_at dksL_law_10 13 rfl rfl)
theorem dL_law_376 : decode cL_law 376 = .ok (.aload_n 0, 1) := dk_42 (dk_at dksL_law_10 14 rfl rfl)
theorem dL_law_377 : decode cL_law 377 = .ok (.iload_n 3, 1) := dk_29 (dk_at dksL_law_10 15 rfl rfl)
theorem dL_law_378 : decode cL_law 378 = .ok (.iconst 1, 1) := dk_4 (dk_at dksL_law_10 16 rfl rfl)
theorem dL_law_379 : decode cL_law 379 = .ok (.iadd, 1) := dk_96 (dk_at dksL_law_10 17 rfl rfl)
theorem dL_law_380 : decode cL_law 380 = .ok (.iaload, 1) := dk_46 (dk_at dksL_law_10 18 rfl rfl)
theorem dL_law_381 : decode cL_law 381 = .ok (.aload_n 0, 1) := dk_42 (dk_at dksL_law_10 19 rfl rfl)
theorem dL_law_382 : decode cL_law 382 = .ok (.iload_n 3, 1) := dk_29 (dk_at dksL_law_10 20 rfl rfl)
theorem dL_law_383 : decode cL_law 383 = .ok (.iconst 2, 1) := dk_5 (dk_at dksL_law_10 21 rfl rfl)
theorem dL_law_384 : decode cL_law 384 = .ok (.iadd, 1) := dk_96 (dk_at dksL_law_10 22 rfl rfl)
theorem dL_law_385 : decode cL_law 385 = .ok (.iaload, 1) := dk_46 (dk_at dksL_law_10 23 rfl rfl)
theorem dL_law_386 : decode cL_law 386 = .ok (.invokevirtual 30, 3) := dk_182 0 30 (dk_at dksL_law_11 0 rfl rfl)
theorem dL_law_389 : decode cL_law 389 = .ok (.aload_n 2, 1) := dk_44 (dk_at dksL_law_11 3 rfl rfl)
theorem dL_law_390 : decode cL_law 390 = .ok (.aload_n 0, 1) := dk_42 (dk_at dksL_law_11 4 rfl rfl)
theorem dL_law_391 : decode cL_law 391 = .ok (.iload_n 3, 1) := dk_29 (dk_at dksL_law_11 5 rfl rfl)
theorem dL_law_392 : decode cL_law 392 = .ok (.iconst 1, 1) := dk_4 (dk_at dksL_law_11 6 rfl rfl)
theorem dL_law_393 : decode cL_law 393 = .ok (.iadd, 1) := dk_96 (dk_at dksL_law_11 7 rfl rfl)
theorem dL_law_394 : decode cL_law 394 = .ok (.iaload, 1) := dk_46 (dk_at dksL_law_11 8 rfl rfl)
theorem dL_law_395 : decode cL_law 395 = .ok (.aload_n 0, 1) := dk_42 (dk_at dksL_law_11 9 rfl rfl)
theorem dL_law_396 : decode cL_law 396 = .ok (.iload_n 3, 1) := dk_29 (dk_at dksL_law_11 10 rfl rfl)
theorem dL_law_397 : decode cL_law 397 = .ok (.iconst 2, 1) := dk_5 (dk_at dksL_law_11 11 rfl rfl)
theorem dL_law_398 : decode cL_law 398 = .ok (.iadd, 1) := dk_96 (dk_at dksL_law_11 12 rfl rfl)
theorem dL_law_399 : decode cL_law 399 = .ok (.iaload, 1) := dk_46 (dk_at dksL_law_11 13 rfl rfl)
theorem dL_law_400 : decode cL_law 400 = .ok (.invokevirtual 34, 3) := dk_182 0 34 (dk_at dksL_law_11 14 rfl rfl)
theorem dL_law_403 : decode cL_law 403 = .ok (.lcmp, 1) := dk_148 (dk_at dksL_law_11 17 rfl rfl)
theorem dL_law_404 : decode cL_law 404 = .ok (.ifCond .eq 1048, 3) := dk_153 4 24 (dk_at dksL_law_11 18 rfl rfl)
theorem dL_law_407 : decode cL_law 407 = .ok (.iconst 0, 1) := dk_3 (dk_at dksL_law_11 21 rfl rfl)
theorem dL_law_408 : decode cL_law 408 = .ok (.ireturn, 1) := dk_172 (dk_at dksL_law_11 22 rfl rfl)
theorem dL_law_409 : decode cL_law 409 = .ok (.aload_n 1, 1) := dk_43 (dk_at dksL_law_11 23 rfl rfl)
theorem dL_law_410 : decode cL_law 410 = .ok (.aload_n 0, 1) := dk_42 (dk_at dksL_law_12 0 rfl rfl)
theorem dL_law_411 : decode cL_law 411 = .ok (.iload_n 3, 1) := dk_29 (dk_at dksL_law_12 1 rfl rfl)
theorem dL_law_412 : decode cL_law 412 = .ok (.iconst 1, 1) := dk_4 (dk_at dksL_law_12 2 rfl rfl)
theorem dL_law_413 : decode cL_law 413 = .ok (.iadd, 1) := dk_96 (dk_at dksL_law_12 3 rfl rfl)
theorem dL_law_414 : decode cL_law 414 = .ok (.iaload, 1) := dk_46 (dk_at dksL_law_12 4 rfl rfl)
theorem dL_law_415 : decode cL_law 415 = .ok (.aload_n 0, 1) := dk_42 (dk_at dksL_law_12 5 rfl rfl)
theorem dL_law_416 : decode cL_law 416 = .ok (.iload_n 3, 1) := dk_29 (dk_at dksL_law_12 6 rfl rfl)
theorem dL_law_417 : decode cL_law 417 = .ok (.iconst 2, 1) := dk_5 (dk_at dksL_law_12 7 rfl rfl)
theorem dL_law_418 : decode cL_law 418 = .ok (.iadd, 1) := dk_96 (dk_at dksL_law_12 8 rfl rfl)
theorem dL_law_419 : decode cL_law 419 = .ok (.iaload, 1) := dk_46 (dk_at dksL_law_12 9 rfl rfl)
theorem dL_law_420 : decode cL_law 420 = .ok (.invokevirtual 35, 3) := dk_182 0 35 (dk_at dksL_law_12 10 rfl rfl)
theorem dL_law_423 : decode cL_law 423 = .ok (.aload_n 2, 1) := dk_44 (dk_at dksL_law_12 13 rfl rfl)
theorem dL_law_424 : decode cL_law 424 = .ok (.aload_n 0, 1) := dk_42 (dk_at dksL_law_12 14 rfl rfl)
theorem dL_law_425 : decode cL_law 425 = .ok (.iload_n 3, 1) := dk_29 (dk_at dksL_law_12 15 rfl rfl)
theorem dL_law_426 : decode cL_law 426 = .ok (.iconst 1, 1) := dk_4 (dk_at dksL_law_12 16 rfl rfl)
theorem dL_law_427 : decode cL_law 427 = .ok (.iadd, 1) := dk_96 (dk_at dksL_law_12 17 rfl rfl)
theorem dL_law_428 : decode cL_law 428 = .ok (.iaload, 1) := dk_46 (dk_at dksL_law_12 18 rfl rfl)
theorem dL_law_429 : decode cL_law 429 = .ok (.aload_n 0, 1) := dk_42 (dk_at dksL_law_12 19 rfl rfl)
theorem dL_law_430 : decode cL_law 430 = .ok (.iload_n 3, 1) := dk_29 (dk_at dksL_law_12 20 rfl rfl)
theorem dL_law_431 : decode cL_law 431 = .ok (.iconst 2, 1) := dk_5 (dk_at dksL_law_12 21 rfl rfl)
theorem dL_law_432 : decode cL_law 432 = .ok (.iadd, 1) := dk_96 (dk_at dksL_law_12 22 rfl rfl)
theorem dL_law_433 : decode cL_law 433 = .ok (.iaload, 1) := dk_46 (dk_at dksL_law_12 23 rfl rfl)
theorem dL_law_434 : decode cL_law 434 = .ok (.invokevirtual 39, 3) := dk_182 0 39 (dk_at dksL_law_13 0 rfl rfl)
theorem dL_law_437 : decode cL_law 437 = .ok (.if_icmp .eq 1015, 3) := dk_159 3 247 (dk_at dksL_law_13 3 rfl rfl)
theorem dL_law_440 : decode cL_law 440 = .ok (.iconst 0, 1) := dk_3 (dk_at dksL_law_13 6 rfl rfl)
theorem dL_law_441 : decode cL_law 441 = .ok (.ireturn, 1) := dk_172 (dk_at dksL_law_13 7 rfl rfl)
theorem dL_law_442 : decode cL_law 442 = .ok (.aload_n 1, 1) := dk_43 (dk_at dksL_law_13 8 rfl rfl)
theorem dL_law_443 : decode cL_law 443 = .ok (.aload_n 0, 1) := dk_42 (dk_at dksL_law_13 9 rfl rfl)
theorem dL_law_444 : decode cL_law 444 = .ok (.iload_n 3, 1) := dk_29 (dk_at dksL_law_13 10 rfl rfl)
theorem dL_law_445 : decode cL_law 445 = .ok (.iconst 1, 1) := dk_4 (dk_at dksL_law_13 11 rfl rfl)
theorem dL_law_446 : decode cL_law 446 = .ok (.iadd, 1) := dk_96 (dk_at dksL_law_13 12 rfl rfl)
theorem dL_law_447 : decode cL_law 447 = .ok (.iaload, 1) := dk_46 (dk_at dksL_law_13 13 rfl rfl)
theorem dL_law_448 : decode cL_law 448 = .ok (.invokevirtual 40, 3) := dk_182 0 40 (dk_at dksL_law_13 14 rfl rfl)
theorem dL_law_451 : decode cL_law 451 = .ok (.aload_n 2, 1) := dk_44 (dk_at dksL_law_13 17 rfl rfl)
theorem dL_law_452 : decode cL_law 452 = .ok (.aload_n 0, 1) := dk_42 (dk_at dksL_law_13 18 rfl rfl)
theorem dL_law_453 : decode cL_law 453 = .ok (.iload_n 3, 1) := dk_29 (dk_at dksL_law_13 19 rfl rfl)
theorem dL_law_454 : decode cL_law 454 = .ok (.iconst 1, 1) := dk_4 (dk_at dksL_law_13 20 rfl rfl)
theorem dL_law_455 : decode cL_law 455 = .ok (.iadd, 1) := dk_96 (dk_at dksL_law_13 21 rfl rfl)
theorem dL_law_456 : decode cL_law 456 = .ok (.iaload, 1) := dk_46 (dk_at dksL_law_13 22 rfl rfl)
theorem dL_law_457 : decode cL_law 457 = .ok (.invokevirtual 44, 3) := dk_182 0 44 (dk_at dksL_law_14 0 rfl rfl)
theorem dL_law_460 : decode cL_law 460 = .ok (.if_icmp .eq 992, 3) := dk_159 3 224 (dk_at dksL_law_14 3 rfl rfl)
theorem dL_law_463 : decode cL_law 463 = .ok (.iconst 0, 1) := dk_3 (dk_at dksL_law_14 6 rfl rfl)
theorem dL_law_464 : decode cL_law 464 = .ok (.ireturn, 1) := dk_172 (dk_at dksL_law_14 7 rfl rfl)
theorem dL_law_465 : decode cL_law 465 = .ok (.aload_n 1, 1) := dk_43 (dk_at dksL_law_14 8 rfl rfl)
theorem dL_law_466 : decode cL_law 466 = .ok (.aload_n 0, 1) := dk_42 (dk_at dksL_law_14 9 rfl rfl)
theorem dL_law_467 : decode cL_law 467 = .ok (.iload_n 3, 1) := dk_29 (dk_at dksL_law_14 10 rfl rfl)
theorem dL_law_468 : decode cL_law 468 = .ok (.iconst 1, 1) := dk_4 (dk_at dksL_law_14 11 rfl rfl)
theorem dL_law_469 : decode cL_law 469 = .ok (.iadd, 1) := dk_96 (dk_at dksL_law_14 12 rfl rfl)
theorem dL_law_470 : decode cL_law 470 = .ok (.iaload, 1) := dk_46 (dk_at dksL_law_14 13 rfl rfl)
theorem dL_law_471 : decode cL_law 471 = .ok (.aload_n 0, 1) := dk_42 (dk_at dksL_law_14 14 rfl rfl)
theorem dL_law_472 : decode cL_law 472 = .ok (.iload_n 3, 1) := dk_29 (dk_at dksL_law_14 15 rfl rfl)
theorem dL_law_473 : decode cL_law 473 = .ok (.iconst 2, 1) := dk_5 (dk_at dksL_law_14 16 rfl rfl)
theorem dL_law_474 : decode cL_law 474 = .ok (.iadd, 1) := dk_96 (dk_at dksL_law_14 17 rfl rfl)
theorem dL_law_475 : decode cL_law 475 = .ok (.iaload, 1) := dk_46 (dk_at dksL_law_14 18 rfl rfl)
theorem dL_law_476 : decode cL_law 476 = .ok (.invokevirtual 45, 3) := dk_182 0 45 (dk_at dksL_law_14 19 rfl rfl)
theorem dL_law_479 : decode cL_law 479 = .ok (.aload_n 2, 1) := dk_44 (dk_at dksL_law_14 22 rfl rfl)
theorem dL_law_480 : decode cL_law 480 = .ok (.aload_n 0, 1) := dk_42 (dk_at dksL_law_14 23 rfl rfl)
theorem dL_law_481 : decode cL_law 481 = .ok (.iload_n 3, 1) := dk_29 (dk_at dksL_law_15 0 rfl rfl)
theorem dL_law_482 : decode cL_law 482 = .ok (.iconst 1, 1) := dk_4 (dk_at dksL_law_15 1 rfl rfl)
theorem dL_law_483 : decode cL_law 483 = .ok (.iadd, 1) := dk_96 (dk_at dksL_law_15 2 rfl rfl)
theorem dL_law_484 : decode cL_law 484 = .ok (.iaload, 1) := dk_46 (dk_at dksL_law_15 3 rfl rfl)
theorem dL_law_485 : decode cL_law 485 = .ok (.aload_n 0, 1) := dk_42 (dk_at dksL_law_15 4 rfl rfl)
theorem dL_law_486 : decode cL_law 486 = .ok (.iload_n 3, 1) := dk_29 (dk_at dksL_law_15 5 rfl rfl)
theorem dL_law_487 : decode cL_law 487 = .ok (.iconst 2, 1) := dk_5 (dk_at dksL_law_15 6 rfl rfl)
theorem dL_law_488 : decode cL_law 488 = .ok (.iadd, 1) := dk_96 (dk_at dksL_law_15 7 rfl rfl)
theorem dL_law_489 : decode cL_law 489 = .ok (.iaload, 1) := dk_46 (dk_at dksL_law_15 8 rfl rfl)
theorem dL_law_490 : decode cL_law 490 = .ok (.invokevirtual 48, 3) := dk_182 0 48 (dk_at dksL_law_15 9 rfl rfl)
theorem dL_law_493 : decode cL_law 493 = .ok (.if_icmp .eq 959, 3) := dk_159 3 191 (dk_at dksL_law_15 12 rfl rfl)
theorem dL_law_496 : decode cL_law 496 = .ok (.iconst 0, 1) := dk_3 (dk_at dksL_law_15 15 rfl rfl)
theorem dL_law_497 : decode cL_law 497 = .ok (.ireturn, 1) := dk_172 (dk_at dksL_law_15 16 rfl rfl)
theorem dL_law_498 : decode cL_law 498 = .ok (.aload_n 1, 1) := dk_43 (dk_at dksL_law_15 17 rfl rfl)
theorem dL_law_499 : decode cL_law 499 = .ok (.aload_n 0, 1) := dk_42 (dk_at dksL_law_15 18 rfl rfl)
theorem dL_law_500 : decode cL_law 500 = .ok (.iload_n 3, 1) := dk_29 (dk_at dksL_law_15 19 rfl rfl)
theorem dL_law_501 : decode cL_law 501 = .ok (.iconst 1, 1) := dk_4 (dk_at dksL_law_15 20 rfl rfl)
theorem dL_law_502 : decode cL_law 502 = .ok (.iadd, 1) := dk_96 (dk_at dksL_law_15 21 rfl rfl)
theorem dL_law_503 : decode cL_law 503 = .ok (.iaload, 1) := dk_46 (dk_at dksL_law_15 22 rfl rfl)
theorem dL_law_504 : decode cL_law 504 = .ok (.aload_n 0, 1) := dk_42 (dk_at dksL_law_15 23 rfl rfl)
theorem dL_law_505 : decode cL_law 505 = .ok (.iload_n 3, 1) := dk_29 (dk_at dksL_law_16 0 rfl rfl)
theorem dL_law_506 : decode cL_law 506 = .ok (.iconst 2, 1) := dk_5 (dk_at dksL_law_16 1 rfl rfl)
theorem dL_law_507 : decode cL_law 507 = .ok (.iadd, 1) := dk_96 (dk_at dksL_law_16 2 rfl rfl)
theorem dL_law_508 : decode cL_law 508 = .ok (.iaload, 1) := dk_46 (dk_at dksL_law_16 3 rfl rfl)
theorem dL_law_509 : decode cL_law 509 = .ok (.aload_n 0, 1) := dk_42 (dk_at dksL_law_16 4 rfl rfl)
theorem dL_law_510 : decode cL_law 510 = .ok (.iload_n 3, 1) := dk_29 (dk_at dksL_law_16 5 rfl rfl)
theorem dL_law_511 : decode cL_law 511 = .ok (.iconst 3, 1) := dk_6 (dk_at dksL_law_16 6 rfl rfl)
theorem dL_law_512 : decode cL_law 512 = .ok (.iadd, 1) := dk_96 (dk_at dksL_law_16 7 rfl rfl)
theorem dL_law_513 : decode cL_law 513 = .ok (.iaload, 1) := dk_46 (dk_at dksL_law_16 8 rfl rfl)
theorem dL_law_514 : decode cL_law 514 = .ok (.aload_n 0, 1) := dk_42 (dk_at dksL_law_16 9 rfl rfl)
theorem dL_law_515 : decode cL_law 515 = .ok (.iload_n 3, 1) := dk_29 (dk_at dksL_law_16 10 rfl rfl)
theorem dL_law_516 : decode cL_law 516 = .ok (.iconst 4, 1) := dk_7 (dk_at dksL_law_16 11 rfl rfl)
theorem dL_law_517 : decode cL_law 517 = .ok (.iadd, 1) := dk_96 (dk_at dksL_law_16 12 rfl rfl)
theorem dL_law_518 : decode cL_law 518 = .ok (.iaload, 1) := dk_46 (dk_at dksL_law_16 13 rfl rfl)
theorem dL_law_519 : decode cL_law 519 = .ok (.aload_n 0, 1) := dk_42 (dk_at dksL_law_16 14 rfl rfl)
theorem dL_law_520 : decode cL_law 520 = .ok (.iload_n 3, 1) := dk_29 (dk_at dksL_law_16 15 rfl rfl)
theorem dL_law_521 : decode cL_law 521 = .ok (.iconst 5, 1) := dk_8 (dk_at dksL_law_16 16 rfl rfl)
theorem dL_law_522 : decode cL_law 522 = .ok (.iadd, 1) := dk_96 (dk_at dksL_law_16 17 rfl rfl)
theorem dL_law_523 : decode cL_law 523 = .ok (.iaload, 1) := dk_46 (dk_at dksL_law_16 18 rfl rfl)
theorem dL_law_524 : decode cL_law 524 = .ok (.aload_n 0, 1) := dk_42 (dk_at dksL_law_16 19 rfl rfl)
theorem dL_law_525 : decode cL_law 525 = .ok (.iload_n 3, 1) := dk_29 (dk_at dksL_law_16 20 rfl rfl)
theorem dL_law_526 : decode cL_law 526 = .ok (.bipush 6, 2) := dk_16 6 (dk_at dksL_law_16 21 rfl rfl)
theorem dL_law_528 : decode cL_law 528 = .ok (.iadd, 1) := dk_96 (dk_at dksL_law_16 23 rfl rfl)
theorem dL_law_529 : decode cL_law 529 = .ok (.iaload, 1) := dk_46 (dk_at dksL_law_17 0 rfl rfl)
theorem dL_law_530 : decode cL_law 530 = .ok (.invokevirtual 49, 3) := dk_182 0 49 (dk_at dksL_law_17 1 rfl rfl)
theorem dL_law_533 : decode cL_law 533 = .ok (.aload_n 2, 1) := dk_44 (dk_at dksL_law_17 4 rfl rfl)
theorem dL_law_534 : decode cL_law 534 = .ok (.aload_n 0, 1) := dk_42 (dk_at dksL_law_17 5 rfl rfl)
theorem dL_law_535 : decode cL_law 535 = .ok (.iload_n 3, 1) := dk_29 (dk_at dksL_law_17 6 rfl rfl)
theorem dL_law_536 : decode cL_law 536 = .ok (.iconst 1, 1) := dk_4 (dk_at dksL_law_17 7 rfl rfl)
theorem dL_law_537 : decode cL_law 537 = .ok (.iadd, 1) := dk_96 (dk_at dksL_law_17 8 rfl rfl)
theorem dL_law_538 : decode cL_law 538 = .ok (.iaload, 1) := dk_46 (dk_at dksL_law_17 9 rfl rfl)
theorem dL_law_539 : decode cL_law 539 = .ok (.aload_n 0, 1) := dk_42 (dk_at dksL_law_17 10 rfl rfl)
theorem dL_law_540 : decode cL_law 540 = .ok (.iload_n 3, 1) := dk_29 (dk_at dksL_law_17 11 rfl rfl)
theorem dL_law_541 : decode cL_law 541 = .ok (.iconst 2, 1) := dk_5 (dk_at dksL_law_17 12 rfl rfl)
theorem dL_law_542 : decode cL_law 542 = .ok (.iadd, 1) := dk_96 (dk_at dksL_law_17 13 rfl rfl)
theorem dL_law_543 : decode cL_law 543 = .ok (.iaload, 1) := dk_46 (dk_at dksL_law_17 14 rfl rfl)
theorem dL_law_544 : decode cL_law 544 = .ok (.aload_n 0, 1) := dk_42 (dk_at dksL_law_17 15 rfl rfl)
theorem dL_law_545 : decode cL_law 545 = .ok (.iload_n 3, 1) := dk_29 (dk_at dksL_law_17 16 rfl rfl)
theorem dL_law_546 : decode cL_law 546 = .ok (.iconst 3, 1) := dk_6 (dk_at dksL_law_17 17 rfl rfl)
theorem dL_law_547 : decode cL_law 547 = .ok (.iadd, 1) := dk_96 (dk_at dksL_law_17 18 rfl rfl)
theorem dL_law_548 : decode cL_law 548 = .ok (.iaload, 1) := dk_46 (dk_at dksL_law_17 19 rfl rfl)
theorem dL_law_549 : decode cL_law 549 = .ok (.aload_n 0, 1) := dk_42 (dk_at dksL_law_17 20 rfl rfl)
theorem dL_law_550 : decode cL_law 550 = .ok (.iload_n 3, 1) := dk_29 (dk_at dksL_law_17 21 rfl rfl)
theorem dL_law_551 : decode cL_law 551 = .ok (.iconst 4, 1) := dk_7 (dk_at dksL_law_17 22 rfl rfl)
theorem dL_law_552 : decode cL_law 552 = .ok (.iadd, 1) := dk_96 (dk_at dksL_law_17 23 rfl rfl)
theorem dL_law_553 : decode cL_law 553 = .ok (.iaload, 1) := dk_46 (dk_at dksL_law_18 0 rfl rfl)
theorem dL_law_554 : decode cL_law 554 = .ok (.aload_n 0, 1) := dk_42 (dk_at dksL_law_18 1 rfl rfl)
theorem dL_law_555 : decode cL_law 555 = .ok (.iload_n 3, 1) := dk_29 (dk_at dksL_law_18 2 rfl rfl)
theorem dL_law_556 : decode cL_law 556 = .ok (.iconst 5, 1) := dk_8 (dk_at dksL_law_18 3 rfl rfl)
theorem dL_law_557 : decode cL_law 557 = .ok (.iadd, 1) := dk_96 (dk_at dksL_law_18 4 rfl rfl)
theorem dL_law_558 : decode cL_law 558 = .ok (.iaload, 1) := dk_46 (dk_at dksL_law_18 5 rfl rfl)
theorem dL_law_559 : decode cL_law 559 = .ok (.aload_n 0, 1) := dk_42 (dk_at dksL_law_18 6 rfl rfl)
theorem dL_law_560 : decode cL_law 560 = .ok (.iload_n 3, 1) := dk_29 (dk_at dksL_law_18 7 rfl rfl)
theorem dL_law_561 : decode cL_law 561 = .ok (.bipush 6, 2) := dk_16 6 (dk_at dksL_law_18 8 rfl rfl)
theorem dL_law_563 : decode cL_law 563 = .ok (.iadd, 1) := dk_96 (dk_at dksL_law_18 10 rfl rfl)
theorem dL_law_564 : decode cL_law 564 = .ok (.iaload, 1) := dk_46 (dk_at dksL_law_18 11 rfl rfl)
theorem dL_law_565 : decode cL_law 565 = .ok (.invokevirtual 53, 3) := dk_182 0 53 (dk_at dksL_law_18 12 rfl rfl)
theorem dL_law_568 : decode cL_law 568 = .ok (.if_icmp .eq 884, 3) := dk_159 3 116 (dk_at dksL_law_18 15 rfl rfl)
theorem dL_law_571 : decode cL_law 571 = .ok (.iconst 0, 1) := dk_3 (dk_at dksL_law_18 18 rfl rfl)
theorem dL_law_572 : decode cL_law 572 = .ok (.ireturn, 1) := dk_172 (dk_at dksL_law_18 19 rfl rfl)
theorem dL_law_573 : decode cL_law 573 = .ok (.aload_n 1, 1) := dk_43 (dk_at dksL_law_18 20 rfl rfl)
theorem dL_law_574 : decode cL_law 574 = .ok (.aload_n 0, 1) := dk_42 (dk_at dksL_law_18 21 rfl rfl)
theorem dL_law_575 : decode cL_law 575 = .ok (.iload_n 3, 1) := dk_29 (dk_at dksL_law_18 22 rfl rfl)
theorem dL_law_576 : decode cL_law 576 = .ok (.iconst 1, 1) := dk_4 (dk_at dksL_law_18 23 rfl rfl)
theorem dL_law_577 : decode cL_law 577 = .ok (.iadd, 1) := dk_96 (dk_at dksL_law_19 0 rfl rfl)
theorem dL_law_578 : decode cL_law 578 = .ok (.iaload, 1) := dk_46 (dk_at dksL_law_19 1 rfl rfl)
theorem dL_law_579 : decode cL_law 579 = .ok (.aload_n 0, 1) := dk_42 (dk_at dksL_law_19 2 rfl rfl)
theorem dL_law_580 : decode cL_law 580 = .ok (.iload_n 3, 1) := dk_29 (dk_at dksL_law_19 3 rfl rfl)
theorem dL_law_581 : decode cL_law 581 = .ok (.iconst 2, 1) := dk_5 (dk_at dksL_law_19 4 rfl rfl)
theorem dL_law_582 : decode cL_law 582 = .ok (.iadd, 1) := dk_96 (dk_at dksL_law_19 5 rfl rfl)
theorem dL_law_583 : decode cL_law 583 = .ok (.iaload, 1) := dk_46 (dk_at dksL_law_19 6 rfl rfl)
theorem dL_law_584 : decode cL_law 584 = .ok (.aload_n 0, 1) := dk_42 (dk_at dksL_law_19 7 rfl rfl)
theorem dL_law_585 : decode cL_law 585 = .ok (.iload_n 3, 1) := dk_29 (dk_at dksL_law_19 8 rfl rfl)
theorem dL_law_586 : decode cL_law 586 = .ok (.iconst 3, 1) := dk_6 (dk_at dksL_law_19 9 rfl rfl)
theorem dL_law_587 : decode cL_law 587 = .ok (.iadd, 1) := dk_96 (dk_at dksL_law_19 10 rfl rfl)
theorem dL_law_588 : decode cL_law 588 = .ok (.iaload, 1) := dk_46 (dk_at dksL_law_19 11 rfl rfl)
theorem dL_law_589 : decode cL_law 589 = .ok (.ifCond .eq 7, 3) := dk_153 0 7 (dk_at dksL_law_19 12 rfl rfl)
theorem dL_law_592 : decode cL_law 592 = .ok (.iconst 1, 1) := dk_4 (dk_at dksL_law_19 15 rfl rfl)
theorem dL_law_593 : decode cL_law 593 = .ok (.goto 4, 3) := dk_167 0 4 (dk_at dksL_law_19 16 rfl rfl)
theorem dL_law_596 : decode cL_law 596 = .ok (.iconst 0, 1) := dk_3 (dk_at dksL_law_19 19 rfl rfl)
theorem dL_law_597 : decode cL_law 597 = .ok (.invokevirtual 54, 3) := dk_182 0 54 (dk_at dksL_law_19 20 rfl rfl)
theorem dL_law_600 : decode cL_law 600 = .ok (.aload_n 2, 1) := dk_44 (dk_at dksL_law_19 23 rfl rfl)
theorem dL_law_601 : decode cL_law 601 = .ok (.aload_n 0, 1) := dk_42 (dk_at dksL_law_20 0 rfl rfl)
theorem dL_law_602 : decode cL_law 602 = .ok (.iload_n 3, 1) := dk_29 (dk_at dksL_law_20 1 rfl rfl)
theorem dL_law_603 : decode cL_law 603 = .ok (.iconst 1, 1) := dk_4 (dk_at dksL_law_20 2 rfl rfl)
theorem dL_law_604 : decode cL_law 604 = .ok (.iadd, 1) := dk_96 (dk_at dksL_law_20 3 rfl rfl)
theorem dL_law_605 : decode cL_law 605 = .ok (.iaload, 1) := dk_46 (dk_at dksL_law_20 4 rfl rfl)
theorem dL_law_606 : decode cL_law 606 = .ok (.aload_n 0, 1) := dk_42 (dk_at dksL_law_20 5 rfl rfl)
theorem dL_law_607 : decode cL_law 607 = .ok (.iload_n 3, 1) := dk_29 (dk_at dksL_law_20 6 rfl rfl)
theorem dL_law_608 : decode cL_law 608 = .ok (.iconst 2, 1) := dk_5 (dk_at dksL_law_20 7 rfl rfl)
theorem dL_law_609 : decode cL_law 609 = .ok (.iadd, 1) := dk_96 (dk_at dksL_law_20 8 rfl rfl)
theorem dL_law_610 : decode cL_law 610 = .ok (.iaload, 1) := dk_46 (dk_at dksL_law_20 9 rfl rfl)
theorem dL_law_611 : decode cL_law 611 = .ok (.aload_n 0, 1) := dk_42 (dk_at dksL_law_20 10 rfl rfl)
theorem dL_law_612 : decode cL_law 612 = .ok (.iload_n 3, 1) := dk_29 (dk_at dksL_law_20 11 rfl rfl)
theorem dL_law_613 : decode cL_law 613 = .ok (.iconst 3, 1) := dk_6 (dk_at dksL_law_20 12 rfl rfl)
theorem dL_law_614 : decode cL_law 614 = .ok (.iadd, 1) := dk_96 (dk_at dksL_law_20 13 rfl rfl)
theorem dL_law_615 : decode cL_law 615 = .ok (.iaload, 1) := dk_46 (dk_at dksL_law_20 14 rfl rfl)
theorem dL_law_616 : decode cL_law 616 = .ok (.ifCond .eq 7, 3) := dk_153 0 7 (dk_at dksL_law_20 15 rfl rfl)
theorem dL_law_619 : decode cL_law 619 = .ok (.iconst 1, 1) := dk_4 (dk_at dksL_law_20 18 rfl rfl)
theorem dL_law_620 : decode cL_law 620 = .ok (.goto 4, 3) := dk_167 0 4 (dk_at dksL_law_20 19 rfl rfl)
theorem dL_law_623 : decode cL_law 623 = .ok (.iconst 0, 1) := dk_3 (dk_at dksL_law_20 22 rfl rfl)
theorem dL_law_624 : decode cL_law 624 = .ok (.invokevirtual 58, 3) := dk_182 0 58 (dk_at dksL_law_21 0 rfl rfl)
theorem dL_law_627 : decode cL_law 627 = .ok (.if_icmp .eq 825, 3) := dk_159 3 57 (dk_at dksL_law_21 3 rfl rfl)
theorem dL_law_630 : decode cL_law 630 = .ok (.iconst 0, 1) := dk_3 (dk_at dksL_law_21 6 rfl rfl)
theorem dL_law_631 : decode cL_law 631 = .ok (.ireturn, 1) := dk_172 (dk_at dksL_law_21 7 rfl rfl)
theorem dL_law_632 : decode cL_law 632 = .ok (.aload_n 1, 1) := dk_43 (dk_at dksL_law_21 8 rfl rfl)
theorem dL_law_633 : decode cL_law 633 = .ok (.aload_n 0, 1) := dk_42 (dk_at dksL_law_21 9 rfl rfl)
theorem dL_law_634 : decode cL_law 634 = .ok (.iload_n 3, 1) := dk_29 (dk_at dksL_law_21 10 rfl rfl)
theorem dL_law_635 : decode cL_law 635 = .ok (.iconst 1, 1) := dk_4 (dk_at dksL_law_21 11 rfl rfl)
theorem dL_law_636 : decode cL_law 636 = .ok (.iadd, 1) := dk_96 (dk_at dksL_law_21 12 rfl rfl)
theorem dL_law_637 : decode cL_law 637 = .ok (.iaload, 1) := dk_46 (dk_at dksL_law_21 13 rfl rfl)
theorem dL_law_638 : decode cL_law 638 = .ok (.aload_n 0, 1) := dk_42 (dk_at dksL_law_21 14 rfl rfl)
theorem dL_law_639 : decode cL_law 639 = .ok (.iload_n 3, 1) := dk_29 (dk_at dksL_law_21 15 rfl rfl)
theorem dL_law_640 : decode cL_law 640 = .ok (.iconst 2, 1) := dk_5 (dk_at dksL_law_21 16 rfl rfl)
theorem dL_law_641 : decode cL_law 641 = .ok (.iadd, 1) := dk_96 (dk_at dksL_law_21 17 rfl rfl)
theorem dL_law_642 : decode cL_law 642 = .ok (.iaload, 1) := dk_46 (dk_at dksL_law_21 18 rfl rfl)
theorem dL_law_643 : decode cL_law 643 = .ok (.invokevirtual 59, 3) := dk_182 0 59 (dk_at dksL_law_21 19 rfl rfl)
theorem dL_law_646 : decode cL_law 646 = .ok (.aload_n 2, 1) := dk_44 (dk_at dksL_law_21 22 rfl rfl)
theorem dL_law_647 : decode cL_law 647 = .ok (.aload_n 0, 1) := dk_42 (dk_at dksL_law_21 23 rfl rfl)
theorem dL_law_648 : decode cL_law 648 = .ok (.iload_n 3, 1) := dk_29 (dk_at dksL_law_22 0 rfl rfl)
theorem dL_law_649 : decode cL_law 649 = .ok (.iconst 1, 1) := dk_4 (dk_at dksL_law_22 1 rfl rfl)
theorem dL_law_650 : decode cL_law 650 = .ok (.iadd, 1) := dk_96 (dk_at dksL_law_22 2 rfl rfl)
theorem dL_law_651 : decode cL_law 651 = .ok (.iaload, 1) := dk_46 (dk_at dksL_law_22 3 rfl rfl)
theorem dL_law_652 : decode cL_law 652 = .ok (.aload_n 0, 1) := dk_42 (dk_at dksL_law_22 4 rfl rfl)
theorem dL_law_653 : decode cL_law 653 = .ok (.iload_n 3, 1) := dk_29 (dk_at dksL_law_22 5 rfl rfl)
theorem dL_law_654 : decode cL_law 654 = .ok (.iconst 2, 1) := dk_5 (dk_at dksL_law_22 6 rfl rfl)
theorem dL_law_655 : decode cL_law 655 = .ok (.iadd, 1) := dk_96 (dk_at dksL_law_22 7 rfl rfl)
theorem dL_law_656 : decode cL_law 656 = .ok (.iaload, 1) := dk_46 (dk_at dksL_law_22 8 rfl rfl)
theorem dL_law_657 : decode cL_law 657 = .ok (.invokevirtual 62, 3) := dk_182 0 62 (dk_at dksL_law_22 9 rfl rfl)
theorem dL_law_660 : decode cL_law 660 = .ok (.if_icmp .eq 792, 3) := dk_159 3 24 (dk_at dksL_law_22 12 rfl rfl)
theorem dL_law_663 : decode cL_law 663 = .ok (.iconst 0, 1) := dk_3 (dk_at dksL_law_22 15 rfl rfl)
theorem dL_law_664 : decode cL_law 664 = .ok (.ireturn, 1) := dk_172 (dk_at dksL_law_22 16 rfl rfl)
theorem dL_law_665 : decode cL_law 665 = .ok (.aload_n 1, 1) := dk_43 (dk_at dksL_law_22 17 rfl rfl)
theorem dL_law_666 : decode cL_law 666 = .ok (.aload_n 0, 1) := dk_42 (dk_at dksL_law_22 18 rfl rfl)
theorem dL_law_667 : decode cL_law 667 = .ok (.iload_n 3, 1) := dk_29 (dk_at dksL_law_22 19 rfl rfl)
theorem dL_law_668 : decode cL_law 668 = .ok (.iconst 1, 1) := dk_4 (dk_at dksL_law_22 20 rfl rfl)
theorem dL_law_669 : decode cL_law 669 = .ok (.iadd, 1) := dk_96 (dk_at dksL_law_22 21 rfl rfl)
theorem dL_law_670 : decode cL_law 670 = .ok (.iaload, 1) := dk_46 (dk_at dksL_law_22 22 rfl rfl)
theorem dL_law_671 : decode cL_law 671 = .ok (.aload_n 0, 1) := dk_42 (dk_at dksL_law_22 23 rfl rfl)
theorem dL_law_672 : decode cL_law 672 = .ok (.iload_n 3, 1) := dk_29 (dk_at dksL_law_23 0 rfl rfl)
theorem dL_law_673 : decode cL_law 673 = .ok (.iconst 2, 1) := dk_5 (dk_at dksL_law_23 1 rfl rfl)
theorem dL_law_674 : decode cL_law 674 = .ok (.iadd, 1) := dk_96 (dk_at dksL_law_23 2 rfl rfl)
theorem dL_law_675 : decode cL_law 675 = .ok (.iaload, 1) := dk_46 (dk_at dksL_law_23 3 rfl rfl)
theorem dL_law_676 : decode cL_law 676 = .ok (.ifCond .eq 7, 3) := dk_153 0 7 (dk_at dksL_law_23 4 rfl rfl)
theorem dL_law_679 : decode cL_law 679 = .ok (.iconst 1, 1) := dk_4 (dk_at dksL_law_23 7 rfl rfl)
theorem dL_law_680 : decode cL_law 680 = .ok (.goto 4, 3) := dk_167 0 4 (dk_at dksL_law_23 8 rfl rfl)
theorem dL_law_683 : decode cL_law 683 = .ok (.iconst 0, 1) := dk_3 (dk_at dksL_law_23 11 rfl rfl)
theorem dL_law_684 : decode cL_law 684 = .ok (.invokevirtual 63, 3) := dk_182 0 63 (dk_at dksL_law_23 12 rfl rfl)
theorem dL_law_687 : decode cL_law 687 = .ok (.aload_n 2, 1) := dk_44 (dk_at dksL_law_23 15 rfl rfl)
theorem dL_law_688 : decode cL_law 688 = .ok (.aload_n 0, 1) := dk_42 (dk_at dksL_law_23 16 rfl rfl)
theorem dL_law_689 : decode cL_law 689 = .ok (.iload_n 3, 1) := dk_29 (dk_at dksL_law_23 17 rfl rfl)
theorem dL_law_690 : decode cL_law 690 = .ok (.iconst 1, 1) := dk_4 (dk_at dksL_law_23 18 rfl rfl)
theorem dL_law_691 : decode cL_law 691 = .ok (.iadd, 1) := dk_96 (dk_at dksL_law_23 19 rfl rfl)
theorem dL_law_692 : decode cL_law 692 = .ok (.iaload, 1) := dk_46 (dk_at dksL_law_23 20 rfl rfl)
theorem dL_law_693 : decode cL_law 693 = .ok (.aload_n 0, 1) := dk_42 (dk_at dksL_law_23 21 rfl rfl)
theorem dL_law_694 : decode cL_law 694 = .ok (.iload_n 3, 1) := dk_29 (dk_at dksL_law_23 22 rfl rfl)
theorem dL_law_695 : decode cL_law 695 = .ok (.iconst 2, 1) := dk_5 (dk_at dksL_law_23 23 rfl rfl)
theorem dL_law_696 : decode cL_law 696 = .ok (.iadd, 1) := dk_96 (dk_at dksL_law_24 0 rfl rfl)
theorem dL_law_697 : decode cL_law 697 = .ok (.iaload, 1) := dk_46 (dk_at dksL_law_24 1 rfl rfl)
theorem dL_law_698 : decode cL_law 698 = .ok (.ifCond .eq 7, 3) := dk_153 0 7 (dk_at dksL_law_24 2 rfl rfl)
theorem dL_law_701 : decode cL_law 701 = .ok (.iconst 1, 1) := dk_4 (dk_at dksL_law_24 5 rfl rfl)
theorem dL_law_702 : decode cL_law 702 = .ok (.goto 4, 3) := dk_167 0 4 (dk_at dksL_law_24 6 rfl rfl)
theorem dL_law_705 : decode cL_law 705 = .ok (.iconst 0, 1) := dk_3 (dk_at dksL_law_24 9 rfl rfl)
theorem dL_law_706 : decode cL_law 706 = .ok (.invokevirtual 67, 3) := dk_182 0 67 (dk_at dksL_law_24 10 rfl rfl)
theorem dL_law_709 : decode cL_law 709 = .ok (.if_icmp .eq 743, 3) := dk_159 2 231 (dk_at dksL_law_24 13 rfl rfl)
theorem dL_law_712 : decode cL_law 712 = .ok (.iconst 0, 1) := dk_3 (dk_at dksL_law_24 16 rfl rfl)
theorem dL_law_713 : decode cL_law 713 = .ok (.ireturn, 1) := dk_172 (dk_at dksL_law_24 17 rfl rfl)
theorem dL_law_714 : decode cL_law 714 = .ok (.aload_n 1, 1) := dk_43 (dk_at dksL_law_24 18 rfl rfl)
theorem dL_law_715 : decode cL_law 715 = .ok (.aload_n 0, 1) := dk_42 (dk_at dksL_law_24 19 rfl rfl)
theorem dL_law_716 : decode cL_law 716 = .ok (.iload_n 3, 1) := dk_29 (dk_at dksL_law_24 20 rfl rfl)
theorem dL_law_717 : decode cL_law 717 = .ok (.iconst 1, 1) := dk_4 (dk_at dksL_law_24 21 rfl rfl)
theorem dL_law_718 : decode cL_law 718 = .ok (.iadd, 1) := dk_96 (dk_at dksL_law_24 22 rfl rfl)
theorem dL_law_719 : decode cL_law 719 = .ok (.iaload, 1) := dk_46 (dk_at dksL_law_24 23 rfl rfl)
theorem dL_law_720 : decode cL_law 720 = .ok (.aload_n 0, 1) := dk_42 (dk_at dksL_law_25 0 rfl rfl)
theorem dL_law_721 : decode cL_law 721 = .ok (.iload_n 3, 1) := dk_29 (dk_at dksL_law_25 1 rfl rfl)
theorem dL_law_722 : decode cL_law 722 = .ok (.iconst 2, 1) := dk_5 (dk_at dksL_law_25 2 rfl rfl)
theorem dL_law_723 : decode cL_law 723 = .ok (.iadd, 1) := dk_96 (dk_at dksL_law_25 3 rfl rfl)
theorem dL_law_724 : decode cL_law 724 = .ok (.iaload, 1) := dk_46 (dk_at dksL_law_25 4 rfl rfl)
theorem dL_law_725 : decode cL_law 725 = .ok (.invokevirtual 68, 3) := dk_182 0 68 (dk_at dksL_law_25 5 rfl rfl)
theorem dL_law_728 : decode cL_law 728 = .ok (.aload_n 2, 1) := dk_44 (dk_at dksL_law_25 8 rfl rfl)
theorem dL_law_729 : decode cL_law 729 = .ok (.aload_n 0, 1) := dk_42 (dk_at dksL_law_25 9 rfl rfl)
theorem dL_law_730 : decode cL_law 730 = .ok (.iload_n 3, 1) := dk_29 (dk_at dksL_law_25 10 rfl rfl)
theorem dL_law_731 : decode cL_law 731 = .ok (.iconst 1, 1) := dk_4 (dk_at dksL_law_25 11 rfl rfl)
theorem dL_law_732 : decode cL_law 732 = .ok (.iadd, 1) := dk_96 (dk_at dksL_law_25 12 rfl rfl)
theorem dL_law_733 : decode cL_law 733 = .ok (.iaload, 1) := dk_46 (dk_at dksL_law_25 13 rfl rfl)
theorem dL_law_734 : decode cL_law 734 = .ok (.aload_n 0, 1) := dk_42 (dk_at dksL_law_25 14 rfl rfl)
theorem dL_law_735 : decode cL_law 735 = .ok (.iload_n 3, 1) := dk_29 (dk_at dksL_law_25 15 rfl rfl)
theorem dL_law_736 : decode cL_law 736 = .ok (.iconst 2, 1) := dk_5 (dk_at dksL_law_25 16 rfl rfl)
theorem dL_law_737 : decode cL_law 737 = .ok (.iadd, 1) := dk_96 (dk_at dksL_law_25 17 rfl rfl)
theorem dL_law_738 : decode cL_law 738 = .ok (.iaload, 1) := dk_46 (dk_at dksL_law_25 18 rfl rfl)
theorem dL_law_739 : decode cL_law 739 = .ok (.invokevirtual 71, 3) := dk_182 0 71 (dk_at dksL_law_25 19 rfl rfl)
theorem dL_law_742 : decode cL_law 742 = .ok (.if_icmp .eq 710, 3) := dk_159 2 198 (dk_at dksL_law_26 0 rfl rfl)
theorem dL_law_745 : decode cL_law 745 = .ok (.iconst 0, 1) := dk_3 (dk_at dksL_law_26 3 rfl rfl)
theorem dL_law_746 : decode cL_law 746 = .ok (.ireturn, 1) := dk_172 (dk_at dksL_law_26 4 rfl rfl)
theorem dL_law_747 : decode cL_law 747 = .ok (.aload_n 1, 1) := dk_43 (dk_at dksL_law_26 5 rfl rfl)
theorem dL_law_748 : decode cL_law 748 = .ok (.aload_n 0, 1) := dk_42 (dk_at dksL_law_26 6 rfl rfl)
theorem dL_law_749 : decode cL_law 749 = .ok (.iload_n 3, 1) := dk_29 (dk_at dksL_law_26 7 rfl rfl)
theorem dL_law_750 : decode cL_law 750 = .ok (.iconst 1, 1) := dk_4 (dk_at dksL_law_26 8 rfl rfl)
theorem dL_law_751 : decode cL_law 751 = .ok (.iadd, 1) := dk_96 (dk_at dksL_law_26 9 rfl rfl)
theorem dL_law_752 : decode cL_law 752 = .ok (.iaload, 1) := dk_46 (dk_at dksL_law_26 10 rfl rfl)
theorem dL_law_753 : decode cL_law 753 = .ok (.aload_n 0, 1) := dk_42 (dk_at dksL_law_26 11 rfl rfl)
theorem dL_law_754 : decode cL_law 754 = .ok (.iload_n 3, 1) := dk_29 (dk_at dksL_law_26 12 rfl rfl)
theorem dL_law_755 : decode cL_law 755 = .ok (.iconst 2, 1) := dk_5 (dk_at dksL_law_26 13 rfl rfl)
theorem dL_law_756 : decode cL_law 756 = .ok (.iadd, 1) := dk_96 (dk_at dksL_law_26 14 rfl rfl)
theorem dL_law_757 : decode cL_law 757 = .ok (.iaload, 1) := dk_46 (dk_at dksL_law_26 15 rfl rfl)
theorem dL_law_758 : decode cL_law 758 = .ok (.invokevirtual 72, 3) := dk_182 0 72 (dk_at dksL_law_26 16 rfl rfl)
theorem dL_law_761 : decode cL_law 761 = .ok (.aload_n 2, 1) := dk_44 (dk_at dksL_law_26 19 rfl rfl)
theorem dL_law_762 : decode cL_law 762 = .ok (.aload_n 0, 1) := dk_42 (dk_at dksL_law_26 20 rfl rfl)
theorem dL_law_763 : decode cL_law 763 = .ok (.iload_n 3, 1) := dk_29 (dk_at dksL_law_26 21 rfl rfl)
theorem dL_law_764 : decode cL_law 764 = .ok (.iconst 1, 1) := dk_4 (dk_at dksL_law_26 22 rfl rfl)
theorem dL_law_765 : decode cL_law 765 = .ok (.iadd, 1) := dk_96 (dk_at dksL_law_26 23 rfl rfl)
theorem dL_law_766 : decode cL_law 766 = .ok (.iaload, 1) := dk_46 (dk_at dksL_law_27 0 rfl rfl)
theorem dL_law_767 : decode cL_law 767 = .ok (.aload_n 0, 1) := dk_42 (dk_at dksL_law_27 1 rfl rfl)
theorem dL_law_768 : decode cL_law 768 = .ok (.iload_n 3, 1) := dk_29 (dk_at dksL_law_27 2 rfl rfl)
theorem dL_law_769 : decode cL_law 769 = .ok (.iconst 2, 1) := dk_5 (dk_at dksL_law_27 3 rfl rfl)
theorem dL_law_770 : decode cL_law 770 = .ok (.iadd, 1) := dk_96 (dk_at dksL_law_27 4 rfl rfl)
theorem dL_law_771 : decode cL_law 771 = .ok (.iaload, 1) := dk_46 (dk_at dksL_law_27 5 rfl rfl)
theorem dL_law_772 : decode cL_law 772 = .ok (.invokevirtual 75, 3) := dk_182 0 75 (dk_at dksL_law_27 6 rfl rfl)
theorem dL_law_775 : decode cL_law 775 = .ok (.if_icmp .eq 677, 3) := dk_159 2 165 (dk_at dksL_law_27 9 rfl rfl)
theorem dL_law_778 : decode cL_law 778 = .ok (.iconst 0, 1) := dk_3 (dk_at dksL_law_27 12 rfl rfl)
theorem dL_law_779 : decode cL_law 779 = .ok (.ireturn, 1) := dk_172 (dk_at dksL_law_27 13 rfl rfl)
theorem dL_law_780 : decode cL_law 780 = .ok (.aload_n 1, 1) := dk_43 (dk_at dksL_law_27 14 rfl rfl)
theorem dL_law_781 : decode cL_law 781 = .ok (.aload_n 0, 1) := dk_42 (dk_at dksL_law_27 15 rfl rfl)
theorem dL_law_782 : decode cL_law 782 = .ok (.iload_n 3, 1) := dk_29 (dk_at dksL_law_27 16 rfl rfl)
theorem dL_law_783 : decode cL_law 783 = .ok (.iconst 1, 1) := dk_4 (dk_at dksL_law_27 17 rfl rfl)
theorem dL_law_784 : decode cL_law 784 = .ok (.iadd, 1) := dk_96 (dk_at dksL_law_27 18 rfl rfl)
theorem dL_law_785 : decode cL_law 785 = .ok (.iaload, 1) := dk_46 (dk_at dksL_law_27 19 rfl rfl)
theorem dL_law_786 : decode cL_law 786 = .ok (.aload_n 0, 1) := dk_42 (dk_at dksL_law_27 20 rfl rfl)
theorem dL_law_787 : decode cL_law 787 = .ok (.iload_n 3, 1) := dk_29 (dk_at dksL_law_27 21 rfl rfl)
theorem dL_law_788 : decode cL_law 788 = .ok (.iconst 2, 1) := dk_5 (dk_at dksL_law_27 22 rfl rfl)
theorem dL_law_789 : decode cL_law 789 = .ok (.iadd, 1) := dk_96 (dk_at dksL_law_27 23 rfl rfl)
theorem dL_law_790 : decode cL_law 790 = .ok (.iaload, 1) := dk_46 (dk_at dksL_law_28 0 rfl rfl)
theorem dL_law_791 : decode cL_law 791 = .ok (.invokevirtual 76, 3) := dk_182 0 76 (dk_at dksL_law_28 1 rfl rfl)
theorem dL_law_794 : decode cL_law 794 = .ok (.aload_n 2, 1) := dk_44 (dk_at dksL_law_28 4 rfl rfl)
theorem dL_law_795 : decode cL_law 795 = .ok (.aload_n 0, 1) := dk_42 (dk_at dksL_law_28 5 rfl rfl)
theorem dL_law_796 : decode cL_law 796 = .ok (.iload_n 3, 1) := dk_29 (dk_at dksL_law_28 6 rfl rfl)
theorem dL_law_797 : decode cL_law 797 = .ok (.iconst 1, 1) := dk_4 (dk_at dksL_law_28 7 rfl rfl)
theorem dL_law_798 : decode cL_law 798 = .ok (.iadd, 1) := dk_96 (dk_at dksL_law_28 8 rfl rfl)
theorem dL_law_799 : decode cL_law 799 = .ok (.iaload, 1) := dk_46 (dk_at dksL_law_28 9 rfl rfl)
theorem dL_law_800 : decode cL_law 800 = .ok (.aload_n 0, 1) := dk_42 (dk_at dksL_law_28 10 rfl rfl)
theorem dL_law_801 : decode cL_law 801 = .ok (.iload_n 3, 1) := dk_29 (dk_at dksL_law_28 11 rfl rfl)
theorem dL_law_802 : decode cL_law 802 = .ok (.iconst 2, 1) := dk_5 (dk_at dksL_law_28 12 rfl rfl)
theorem dL_law_803 : decode cL_law 803 = .ok (.iadd, 1) := dk_96 (dk_at dksL_law_28 13 rfl rfl)
theorem dL_law_804 : decode cL_law 804 = .ok (.iaload, 1) := dk_46 (dk_at dksL_law_28 14 rfl rfl)
theorem dL_law_805 : decode cL_law 805 = .ok (.invokevirtual 79, 3) := dk_182 0 79 (dk_at dksL_law_28 15 rfl rfl)
theorem dL_law_808 : decode cL_law 808 = .ok (.if_icmp .eq 644, 3) := dk_159 2 132 (dk_at dksL_law_28 18 rfl rfl)
theorem dL_law_811 : decode cL_law 811 = .ok (.iconst 0, 1) := dk_3 (dk_at dksL_law_28 21 rfl rfl)
theorem dL_law_812 : decode cL_law 812 = .ok (.ireturn, 1) := dk_172 (dk_at dksL_law_28 22 rfl rfl)
theorem dL_law_813 : decode cL_law 813 = .ok (.aload_n 1, 1) := dk_43 (dk_at dksL_law_28 23 rfl rfl)
theorem dL_law_814 : decode cL_law 814 = .ok (.aload_n 0, 1) := dk_42 (dk_at dksL_law_29 0 rfl rfl)
theorem dL_law_815 : decode cL_law 815 = .ok (.iload_n 3, 1) := dk_29 (dk_at dksL_law_29 1 rfl rfl)
theorem dL_law_816 : decode cL_law 816 = .ok (.iconst 1, 1) := dk_4 (dk_at dksL_law_29 2 rfl rfl)
theorem dL_law_817 : decode cL_law 817 = .ok (.iadd, 1) := dk_96 (dk_at dksL_law_29 3 rfl rfl)
theorem dL_law_818 : decode cL_law 818 = .ok (.iaload, 1) := dk_46 (dk_at dksL_law_29 4 rfl rfl)
theorem dL_law_819 : decode cL_law 819 = .ok (.invokevirtual 80, 3) := dk_182 0 80 (dk_at dksL_law_29 5 rfl rfl)
theorem dL_law_822 : decode cL_law 822 = .ok (.aload_n 2, 1) := dk_44 (dk_at dksL_law_29 8 rfl rfl)
theorem dL_law_823 : decode cL_law 823 = .ok (.aload_n 0, 1) := dk_42 (dk_at dksL_law_29 9 rfl rfl)
theorem dL_law_824 : decode cL_law 824 = .ok (.iload_n 3, 1) := dk_29 (dk_at dksL_law_29 10 rfl rfl)
theorem dL_law_825 : decode cL_law 825 = .ok (.iconst 1, 1) := dk_4 (dk_at dksL_law_29 11 rfl rfl)
theorem dL_law_826 : decode cL_law 826 = .ok (.iadd, 1) := dk_96 (dk_at dksL_law_29 12 rfl rfl)
theorem dL_law_827 : decode cL_law 827 = .ok (.iaload, 1) := dk_46 (dk_at dksL_law_29 13 rfl rfl)
theorem dL_law_828 : decode cL_law 828 = .ok (.invokevirtual 83, 3) := dk_182 0 83 (dk_at dksL_law_29 14 rfl rfl)
theorem dL_law_831 : decode cL_law 831 = .ok (.if_icmp .eq 621, 3) := dk_159 2 109 (dk_at dksL_law_29 17 rfl rfl)
theorem dL_law_834 : decode cL_law 834 = .ok (.iconst 0, 1) := dk_3 (dk_at dksL_law_29 20 rfl rfl)
theorem dL_law_835 : decode cL_law 835 = .ok (.ireturn, 1) := dk_172 (dk_at dksL_law_29 21 rfl rfl)
theorem dL_law_836 : decode cL_law 836 = .ok (.aload_n 1, 1) := dk_43 (dk_at dksL_law_29 22 rfl rfl)
theorem dL_law_837 : decode cL_law 837 = .ok (.invokevirtual 84, 3) := dk_182 0 84 (dk_at dksL_law_30 0 rfl rfl)
theorem dL_law_840 : decode cL_law 840 = .ok (.aload_n 2, 1) := dk_44 (dk_at dksL_law_30 3 rfl rfl)
theorem dL_law_841 : decode cL_law 841 = .ok (.invokevirtual 88, 3) := dk_182 0 88 (dk_at dksL_law_30 4 rfl rfl)
theorem dL_law_844 : decode cL_law 844 = .ok (.if_icmp .eq 608, 3) := dk_159 2 96 (dk_at dksL_law_30 7 rfl rfl)
theorem dL_law_847 : decode cL_law 847 = .ok (.iconst 0, 1) := dk_3 (dk_at dksL_law_30 10 rfl rfl)
theorem dL_law_848 : decode cL_law 848 = .ok (.ireturn, 1) := dk_172 (dk_at dksL_law_30 11 rfl rfl)
theorem dL_law_849 : decode cL_law 849 = .ok (.aload_n 1, 1) := dk_43 (dk_at dksL_law_30 12 rfl rfl)
theorem dL_law_850 : decode cL_law 850 = .ok (.aload_n 0, 1) := dk_42 (dk_at dksL_law_30 13 rfl rfl)
theorem dL_law_851 : decode cL_law 851 = .ok (.iload_n 3, 1) := dk_29 (dk_at dksL_law_30 14 rfl rfl)
theorem dL_law_852 : decode cL_law 852 = .ok (.iconst 1, 1) := dk_4 (dk_at dksL_law_30 15 rfl rfl)
theorem dL_law_853 : decode cL_law 853 = .ok (.iadd, 1) := dk_96 (dk_at dksL_law_30 16 rfl rfl)
theorem dL_law_854 : decode cL_law 854 = .ok (.iaload, 1) := dk_46 (dk_at dksL_law_30 17 rfl rfl)
theorem dL_law_855 : decode cL_law 855 = .ok (.aload_n 0, 1) := dk_42 (dk_at dksL_law_30 18 rfl rfl)
theorem dL_law_856 : decode cL_law 856 = .ok (.iload_n 3, 1) := dk_29 (dk_at dksL_law_30 19 rfl rfl)
theorem dL_law_857 : decode cL_law 857 = .ok (.iconst 2, 1) := dk_5 (dk_at dksL_law_30 20 rfl rfl)
theorem dL_law_858 : decode cL_law 858 = .ok (.iadd, 1) := dk_96 (dk_at dksL_law_30 21 rfl rfl)
theorem dL_law_859 : decode cL_law 859 = .ok (.iaload, 1) := dk_46 (dk_at dksL_law_30 22 rfl rfl)
theorem dL_law_860 : decode cL_law 860 = .ok (.invokevirtual 89, 3) := dk_182 0 89 (dk_at dksL_law_31 0 rfl rfl)
theorem dL_law_863 : decode cL_law 863 = .ok (.aload_n 2, 1) := dk_44 (dk_at dksL_law_31 3 rfl rfl)
theorem dL_law_864 : decode cL_law 864 = .ok (.aload_n 0, 1) := dk_42 (dk_at dksL_law_31 4 rfl rfl)
theorem dL_law_865 : decode cL_law 865 = .ok (.iload_n 3, 1) := dk_29 (dk_at dksL_law_31 5 rfl rfl)
theorem dL_law_866 : decode cL_law 866 = .ok (.iconst 1, 1) := dk_4 (dk_at dksL_law_31 6 rfl rfl)
theorem dL_law_867 : decode cL_law 867 = .ok (.iadd, 1) := dk_96 (dk_at dksL_law_31 7 rfl rfl)
theorem dL_law_868 : decode cL_law 868 = .ok (.iaload, 1) := dk_46 (dk_at dksL_law_31 8 rfl rfl)
theorem dL_law_869 : decode cL_law 869 = .ok (.aload_n 0, 1) := dk_42 (dk_at dksL_law_31 9 rfl rfl)
theorem dL_law_870 : decode cL_law 870 = .ok (.iload_n 3, 1) := dk_29 (dk_at dksL_law_31 10 rfl rfl)
theorem dL_law_871 : decode cL_law 871 = .ok (.iconst 2, 1) := dk_5 (dk_at dksL_law_31 11 rfl rfl)
theorem dL_law_872 : decode cL_law 872 = .ok (.iadd, 1) := dk_96 (dk_at dksL_law_31 12 rfl rfl)
theorem dL_law_873 : decode cL_law 873 = .ok (.iaload, 1) := dk_46 (dk_at dksL_law_31 13 rfl rfl)
theorem dL_law_874 : decode cL_law 874 = .ok (.invokevirtual 92, 3) := dk_182 0 92 (dk_at dksL_law_31 14 rfl rfl)
theorem dL_law_877 : decode cL_law 877 = .ok (.if_icmp .eq 575, 3) := dk_159 2 63 (dk_at dksL_law_31 17 rfl rfl)
theorem dL_law_880 : decode cL_law 880 = .ok (.iconst 0, 1) := dk_3 (dk_at dksL_law_31 20 rfl rfl)
theorem dL_law_881 : decode cL_law 881 = .ok (.ireturn, 1) := dk_172 (dk_at dksL_law_31 21 rfl rfl)
theorem dL_law_882 : decode cL_law 882 = .ok (.aload_n 1, 1) := dk_43 (dk_at dksL_law_31 22 rfl rfl)
theorem dL_law_883 : decode cL_law 883 = .ok (.aload_n 0, 1) := dk_42 (dk_at dksL_law_31 23 rfl rfl)
theorem dL_law_884 : decode cL_law 884 = .ok (.iload_n 3, 1) := dk_29 (dk_at dksL_law_32 0 rfl rfl)
theorem dL_law_885 : decode cL_law 885 = .ok (.iconst 1, 1) := dk_4 (dk_at dksL_law_32 1 rfl rfl)
theorem dL_law_886 : decode cL_law 886 = .ok (.iadd, 1) := dk_96 (dk_at dksL_law_32 2 rfl rfl)
theorem dL_law_887 : decode cL_law 887 = .ok (.iaload, 1) := dk_46 (dk_at dksL_law_32 3 rfl rfl)
theorem dL_law_888 : decode cL_law 888 = .ok (.aload_n 0, 1) := dk_42 (dk_at dksL_law_32 4 rfl rfl)
theorem dL_law_889 : decode cL_law 889 = .ok (.iload_n 3, 1) := dk_29 (dk_at dksL_law_32 5 rfl rfl)
theorem dL_law_890 : decode cL_law 890 = .ok (.iconst 2, 1) := dk_5 (dk_at dksL_law_32 6 rfl rfl)
theorem dL_law_891 : decode cL_law 891 = .ok (.iadd, 1) := dk_96 (dk_at dksL_law_32 7 rfl rfl)
theorem dL_law_892 : decode cL_law 892 = .ok (.iaload, 1) := dk_46 (dk_at dksL_law_32 8 rfl rfl)
theorem dL_law_893 : decode cL_law 893 = .ok (.invokevirtual 93, 3) := dk_182 0 93 (dk_at dksL_law_32 9 rfl rfl)
theorem dL_law_896 : decode cL_law 896 = .ok (.aload_n 2, 1) := dk_44 (dk_at dksL_law_32 12 rfl rfl)
theorem dL_law_897 : decode cL_law 897 = .ok (.aload_n 0, 1) := dk_42 (dk_at dksL_law_32 13 rfl rfl)
theorem dL_law_898 : decode cL_law 898 = .ok (.iload_n 3, 1) := dk_29 (dk_at dksL_law_32 14 rfl rfl)
theorem dL_law_899 : decode cL_law 899 = .ok (.iconst 1, 1) := dk_4 (dk_at dksL_law_32 15 rfl rfl)
theorem dL_law_900 : decode cL_law 900 = .ok (.iadd, 1) := dk_96 (dk_at dksL_law_32 16 rfl rfl)
theorem dL_law_901 : decode cL_law 901 = .ok (.iaload, 1) := dk_46 (dk_at dksL_law_32 17 rfl rfl)
theorem dL_law_902 : decode cL_law 902 = .ok (.aload_n 0, 1) := dk_42 (dk_at dksL_law_32 18 rfl rfl)
theorem dL_law_903 : decode cL_law 903 = .ok (.iload_n 3, 1) := dk_29 (dk_at dksL_law_32 19 rfl rfl)
theorem dL_law_904 : decode cL_law 904 = .ok (.iconst 2, 1) := dk_5 (dk_at dksL_law_32 20 rfl rfl)
theorem dL_law_905 : decode cL_law 905 = .ok (.iadd, 1) := dk_96 (dk_at dksL_law_32 21 rfl rfl)
theorem dL_law_906 : decode cL_law 906 = .ok (.iaload, 1) := dk_46 (dk_at dksL_law_32 22 rfl rfl)
theorem dL_law_907 : decode cL_law 907 = .ok (.invokevirtual 96, 3) := dk_182 0 96 (dk_at dksL_law_33 0 rfl rfl)
theorem dL_law_910 : decode cL_law 910 = .ok (.if_icmp .eq 542, 3) := dk_159 2 30 (dk_at dksL_law_33 3 rfl rfl)
theorem dL_law_913 : decode cL_law 913 = .ok (.iconst 0, 1) := dk_3 (dk_at dksL_law_33 6 rfl rfl)
theorem dL_law_914 : decode cL_law 914 = .ok (.ireturn, 1) := dk_172 (dk_at dksL_law_33 7 rfl rfl)
theorem dL_law_915 : decode cL_law 915 = .ok (.aload_n 1, 1) := dk_43 (dk_at dksL_law_33 8 rfl rfl)
theorem dL_law_916 : decode cL_law 916 = .ok (.aload_n 0, 1) := dk_42 (dk_at dksL_law_33 9 rfl rfl)
theorem dL_law_917 : decode cL_law 917 = .ok (.iload_n 3, 1) := dk_29 (dk_at dksL_law_33 10 rfl rfl)
theorem dL_law_918 : decode cL_law 918 = .ok (.iconst 1, 1) := dk_4 (dk_at dksL_law_33 11 rfl rfl)
theorem dL_law_919 : decode cL_law 919 = .ok (.iadd, 1) := dk_96 (dk_at dksL_law_33 12 rfl rfl)
theorem dL_law_920 : decode cL_law 920 = .ok (.iaload, 1) := dk_46 (dk_at dksL_law_33 13 rfl rfl)
theorem dL_law_921 : decode cL_law 921 = .ok (.aload_n 0, 1) := dk_42 (dk_at dksL_law_33 14 rfl rfl)
theorem dL_law_922 : decode cL_law 922 = .ok (.iload_n 3, 1) := dk_29 (dk_at dksL_law_33 15 rfl rfl)
theorem dL_law_923 : decode cL_law 923 = .ok (.iconst 2, 1) := dk_5 (dk_at dksL_law_33 16 rfl rfl)
theorem dL_law_924 : decode cL_law 924 = .ok (.iadd, 1) := dk_96 (dk_at dksL_law_33 17 rfl rfl)
theorem dL_law_925 : decode cL_law 925 = .ok (.iaload, 1) := dk_46 (dk_at dksL_law_33 18 rfl rfl)
theorem dL_law_926 : decode cL_law 926 = .ok (.invokevirtual 97, 3) := dk_182 0 97 (dk_at dksL_law_33 19 rfl rfl)
theorem dL_law_929 : decode cL_law 929 = .ok (.aload_n 2, 1) := dk_44 (dk_at dksL_law_33 22 rfl rfl)
theorem dL_law_930 : decode cL_law 930 = .ok (.aload_n 0, 1) := dk_42 (dk_at dksL_law_33 23 rfl rfl)
theorem dL_law_931 : decode cL_law 931 = .ok (.iload_n 3, 1) := dk_29 (dk_at dksL_law_34 0 rfl rfl)
theorem dL_law_932 : decode cL_law 932 = .ok (.iconst 1, 1) := dk_4 (dk_at dksL_law_34 1 rfl rfl)
theorem dL_law_933 : decode cL_law 933 = .ok (.iadd, 1) := dk_96 (dk_at dksL_law_34 2 rfl rfl)
theorem dL_law_934 : decode cL_law 934 = .ok (.iaload, 1) := dk_46 (dk_at dksL_law_34 3 rfl rfl)
theorem dL_law_935 : decode cL_law 935 = .ok (.aload_n 0, 1) := dk_42 (dk_at dksL_law_34 4 rfl rfl)
theorem dL_law_936 : decode cL_law 936 = .ok (.iload_n 3, 1) := dk_29 (dk_at dksL_law_34 5 rfl rfl)
theorem dL_law_937 : decode cL_law 937 = .ok (.iconst 2, 1) := dk_5 (dk_at dksL_law_34 6 rfl rfl)
theorem dL_law_938 : decode cL_law 938 = .ok (.iadd, 1) := dk_96 (dk_at dksL_law_34 7 rfl rfl)
theorem dL_law_939 : decode cL_law 939 = .ok (.iaload, 1) := dk_46 (dk_at dksL_law_34 8 rfl rfl)
theorem dL_law_940 : decode cL_law 940 = .ok (.invokevirtual 100, 3) := dk_182 0 100 (dk_at dksL_law_34 9 rfl rfl)
theorem dL_law_943 : decode cL_law 943 = .ok (.if_icmp .eq 509, 3) := dk_159 1 253 (dk_at dksL_law_34 12 rfl rfl)
theorem dL_law_946 : decode cL_law 946 = .ok (.iconst 0, 1) := dk_3 (dk_at dksL_law_34 15 rfl rfl)
theorem dL_law_947 : decode cL_law 947 = .ok (.ireturn, 1) := dk_172 (dk_at dksL_law_34 16 rfl rfl)
theorem dL_law_948 : decode cL_law 948 = .ok (.aload_n 1, 1) := dk_43 (dk_at dksL_law_34 17 rfl rfl)
theorem dL_law_949 : decode cL_law 949 = .ok (.aload_n 0, 1) := dk_42 (dk_at dksL_law_34 18 rfl rfl)
theorem dL_law_950 : decode cL_law 950 = .ok (.iload_n 3, 1) := dk_29 (dk_at dksL_law_34 19 rfl rfl)
theorem dL_law_951 : decode cL_law 951 = .ok (.iconst 1, 1) := dk_4 (dk_at dksL_law_34 20 rfl rfl)
theorem dL_law_952 : decode cL_law 952 = .ok (.iadd, 1) := dk_96 (dk_at dksL_law_34 21 rfl rfl)
theorem dL_law_953 : decode cL_law 953 = .ok (.iaload, 1) := dk_46 (dk_at dksL_law_34 22 rfl rfl)
theorem dL_law_954 : decode cL_law 954 = .ok (.invokevirtual 101, 3) := dk_182 0 101 (dk_at dksL_law_35 0 rfl rfl)
theorem dL_law_957 : decode cL_law 957 = .ok (.aload_n 2, 1) := dk_44 (dk_at dksL_law_35 3 rfl rfl)
theorem dL_law_958 : decode cL_law 958 = .ok (.aload_n 0, 1) := dk_42 (dk_at dksL_law_35 4 rfl rfl)
theorem dL_law_959 : decode cL_law 959 = .ok (.iload_n 3, 1) := dk_29 (dk_at dksL_law_35 5 rfl rfl)
theorem dL_law_960 : decode cL_law 960 = .ok (.iconst 1, 1) := dk_4 (dk_at dksL_law_35 6 rfl rfl)
theorem dL_law_961 : decode cL_law 961 = .ok (.iadd, 1) := dk_96 (dk_at dksL_law_35 7 rfl rfl)
theorem dL_law_962 : decode cL_law 962 = .ok (.iaload, 1) := dk_46 (dk_at dksL_law_35 8 rfl rfl)
theorem dL_law_963 : decode cL_law 963 = .ok (.invokevirtual 104, 3) := dk_182 0 104 (dk_at dksL_law_35 9 rfl rfl)
theorem dL_law_966 : decode cL_law 966 = .ok (.if_icmp .eq 486, 3) := dk_159 1 230 (dk_at dksL_law_35 12 rfl rfl)
theorem dL_law_969 : decode cL_law 969 = .ok (.iconst 0, 1) := dk_3 (dk_at dksL_law_35 15 rfl rfl)
theorem dL_law_970 : decode cL_law 970 = .ok (.ireturn, 1) := dk_172 (dk_at dksL_law_35 16 rfl rfl)
theorem dL_law_971 : decode cL_law 971 = .ok (.aload_n 1, 1) := dk_43 (dk_at dksL_law_35 17 rfl rfl)
theorem dL_law_972 : decode cL_law 972 = .ok (.aload_n 0, 1) := dk_42 (dk_at dksL_law_35 18 rfl rfl)
theorem dL_law_973 : decode cL_law 973 = .ok (.iload_n 3, 1) := dk_29 (dk_at dksL_law_35 19 rfl rfl)
theorem dL_law_974 : decode cL_law 974 = .ok (.iconst 1, 1) := dk_4 (dk_at dksL_law_35 20 rfl rfl)
theorem dL_law_975 : decode cL_law 975 = .ok (.iadd, 1) := dk_96 (dk_at dksL_law_35 21 rfl rfl)
theorem dL_law_976 : decode cL_law 976 = .ok (.iaload, 1) := dk_46 (dk_at dksL_law_35 22 rfl rfl)
theorem dL_law_977 : decode cL_law 977 = .ok (.aload_n 0, 1) := dk_42 (dk_at dksL_law_35 23 rfl rfl)
theorem dL_law_978 : decode cL_law 978 = .ok (.iload_n 3, 1) := dk_29 (dk_at dksL_law_36 0 rfl rfl)
theorem dL_law_979 : decode cL_law 979 = .ok (.iconst 2, 1) := dk_5 (dk_at dksL_law_36 1 rfl rfl)
theorem dL_law_980 : decode cL_law 980 = .ok (.iadd, 1) := dk_96 (dk_at dksL_law_36 2 rfl rfl)
theorem dL_law_981 : decode cL_law 981 = .ok (.iaload, 1) := dk_46 (dk_at dksL_law_36 3 rfl rfl)
theorem dL_law_982 : decode cL_law 982 = .ok (.aload_n 0, 1) := dk_42 (dk_at dksL_law_36 4 rfl rfl)
theorem dL_law_983 : decode cL_law 983 = .ok (.iload_n 3, 1) := dk_29 (dk_at dksL_law_36 5 rfl rfl)
theorem dL_law_984 : decode cL_law 984 = .ok (.iconst 3, 1) := dk_6 (dk_at dksL_law_36 6 rfl rfl)
theorem dL_law_985 : decode cL_law 985 = .ok (.iadd, 1) := dk_96 (dk_at dksL_law_36 7 rfl rfl)
theorem dL_law_986 : decode cL_law 986 = .ok (.iaload, 1) := dk_46 (dk_at dksL_law_36 8 rfl rfl)
theorem dL_law_987 : decode cL_law 987 = .ok (.invokevirtual 105, 3) := dk_182 0 105 (dk_at dksL_law_36 9 rfl rfl)
theorem dL_law_990 : decode cL_law 990 = .ok (.aload_n 2, 1) := dk_44 (dk_at dksL_law_36 12 rfl rfl)
theorem dL_law_991 : decode cL_law 991 = .ok (.aload_n 0, 1) := dk_42 (dk_at dksL_law_36 13 rfl rfl)
theorem dL_law_992 : decode cL_law 992 = .ok (.iload_n 3, 1) := dk_29 (dk_at dksL_law_36 14 rfl rfl)
theorem dL_law_993 : decode cL_law 993 = .ok (.iconst 1, 1) := dk_4 (dk_at dksL_law_36 15 rfl rfl)
theorem dL_law_994 : decode cL_law 994 = .ok (.iadd, 1) := dk_96 (dk_at dksL_law_36 16 rfl rfl)
theorem dL_law_995 : decode cL_law 995 = .ok (.iaload, 1) := dk_46 (dk_at dksL_law_36 17 rfl rfl)
theorem dL_law_996 : decode cL_law 996 = .ok (.aload_n 0, 1) := dk_42 (dk_at dksL_law_36 18 rfl rfl)
theorem dL_law_997 : decode cL_law 997 = .ok (.iload_n 3, 1) := dk_29 (dk_at dksL_law_36 19 rfl rfl)
theorem dL_law_998 : decode cL_law 998 = .ok (.iconst 2, 1) := dk_5 (dk_at dksL_law_36 20 rfl rfl)
theorem dL_law_999 : decode cL_law 999 = .ok (.iadd, 1) := dk_96 (dk_at dksL_law_36 21 rfl rfl)
theorem dL_law_1000 : decode cL_law 1000 = .ok (.iaload, 1) := dk_46 (dk_at dksL_law_36 22 rfl rfl)
theorem dL_law_1001 : decode cL_law 1001 = .ok (.aload_n 0, 1) := dk_42 (dk_at dksL_law_36 23 rfl rfl)
theorem dL_law_1002 : decode cL_law 1002 = .ok (.iload_n 3, 1) := dk_29 (dk_at dksL_law_37 0 rfl rfl)
theorem dL_law_1003 : decode cL_law 1003 = .ok (.iconst 3, 1) := dk_6 (dk_at dksL_law_37 1 rfl rfl)
theorem dL_law_1004 : decode cL_law 1004 = .ok (.iadd, 1) := dk_96 (dk_at dksL_law_37 2 rfl rfl)
theorem dL_law_1005 : decode cL_law 1005 = .ok (.iaload, 1) := dk_46 (dk_at dksL_law_37 3 rfl rfl)
theorem dL_law_1006 : decode cL_law 1006 = .ok (.invokevirtual 108, 3) := dk_182 0 108 (dk_at dksL_law_37 4 rfl rfl)
theorem dL_law_1009 : decode cL_law 1009 = .ok (.if_icmp .eq 443, 3) := dk_159 1 187 (dk_at dksL_law_37 7 rfl rfl)
theorem dL_law_1012 : decode cL_law 1012 = .ok (.iconst 0, 1) := dk_3 (dk_at dksL_law_37 10 rfl rfl)
theorem dL_law_1013 : decode cL_law 1013 = .ok (.ireturn, 1) := dk_172 (dk_at dksL_law_37 11 rfl rfl)
theorem dL_law_1014 : decode cL_law 1014 = .ok (.aload_n 1, 1) := dk_43 (dk_at dksL_law_37 12 rfl rfl)
theorem dL_law_1015 : decode cL_law 1015 = .ok (.aload_n 0, 1) := dk_42 (dk_at dksL_law_37 13 rfl rfl)
theorem dL_law_1016 : decode cL_law 1016 = .ok (.iload_n 3, 1) := dk_29 (dk_at dksL_law_37 14 rfl rfl)
theorem dL_law_1017 : decode cL_law 1017 = .ok (.iconst 1, 1) := dk_4 (dk_at dksL_law_37 15 rfl rfl)
theorem dL_law_1018 : decode cL_law 1018 = .ok (.iadd, 1) := dk_96 (dk_at dksL_law_37 16 rfl rfl)
theorem dL_law_1019 : decode cL_law 1019 = .ok (.iaload, 1) := dk_46 (dk_at dksL_law_37 17 rfl rfl)
theorem dL_law_1020 : decode cL_law 1020 = .ok (.aload_n 0, 1) := dk_42 (dk_at dksL_law_37 18 rfl rfl)
theorem dL_law_1021 : decode cL_law 1021 = .ok (.iload_n 3, 1) := dk_29 (dk_at dksL_law_37 19 rfl rfl)
theorem dL_law_1022 : decode cL_law 1022 = .ok (.iconst 2, 1) := dk_5 (dk_at dksL_law_37 20 rfl rfl)
theorem dL_law_1023 : decode cL_law 1023 = .ok (.iadd, 1) := dk_96 (dk_at dksL_law_37 21 rfl rfl)
theorem dL_law_1024 : decode cL_law 1024 = .ok (.iaload, 1) := dk_46 (dk_at dksL_law_37 22 rfl rfl)
theorem dL_law_1025 : decode cL_law 1025 = .ok (.invokevirtual 109, 3) := dk_182 0 109 (dk_at dksL_law_38 0 rfl rfl)
theorem dL_law_1028 : decode cL_law 1028 = .ok (.aload_n 2, 1) := dk_44 (dk_at dksL_law_38 3 rfl rfl)
theorem dL_law_1029 : decode cL_law 1029 = .ok (.aload_n 0, 1) := dk_42 (dk_at dksL_law_38 4 rfl rfl)
theorem dL_law_1030 : decode cL_law 1030 = .ok (.iload_n 3, 1) := dk_29 (dk_at dksL_law_38 5 rfl rfl)
theorem dL_law_1031 : decode cL_law 1031 = .ok (.iconst 1, 1) := dk_4 (dk_at dksL_law_38 6 rfl rfl)
theorem dL_law_1032 : decode cL_law 1032 = .ok (.iadd, 1) := dk_96 (dk_at dksL_law_38 7 rfl rfl)
theorem dL_law_1033 : decode cL_law 1033 = .ok (.iaload, 1) := dk_46 (dk_at dksL_law_38 8 rfl rfl)
theorem dL_law_1034 : decode cL_law 1034 = .ok (.aload_n 0, 1) := dk_42 (dk_at dksL_law_38 9 rfl rfl)
theorem dL_law_1035 : decode cL_law 1035 = .ok (.iload_n 3, 1) := dk_29 (dk_at dksL_law_38 10 rfl rfl)
theorem dL_law_1036 : decode cL_law 1036 = .ok (.iconst 2, 1) := dk_5 (dk_at dksL_law_38 11 rfl rfl)
theorem dL_law_1037 : decode cL_law 1037 = .ok (.iadd, 1) := dk_96 (dk_at dksL_law_38 12 rfl rfl)
theorem dL_law_1038 : decode cL_law 1038 = .ok (.iaload, 1) := dk_46 (dk_at dksL_law_38 13 rfl rfl)
theorem dL_law_1039 : decode cL_law 1039 = .ok (.invokevirtual 112, 3) := dk_182 0 112 (dk_at dksL_law_38 14 rfl rfl)
theorem dL_law_1042 : decode cL_law 1042 = .ok (.if_icmp .eq 410, 3) := dk_159 1 154 (dk_at dksL_law_38 17 rfl rfl)
theorem dL_law_1045 : decode cL_law 1045 = .ok (.iconst 0, 1) := dk_3 (dk_at dksL_law_38 20 rfl rfl)
theorem dL_law_1046 : decode cL_law 1046 = .ok (.ireturn, 1) := dk_172 (dk_at dksL_law_38 21 rfl rfl)
theorem dL_law_1047 : decode cL_law 1047 = .ok (.aload_n 1, 1) := dk_43 (dk_at dksL_law_38 22 rfl rfl)
theorem dL_law_1048 : decode cL_law 1048 = .ok (.aload_n 0, 1) := dk_42 (dk_at dksL_law_38 23 rfl rfl)
theorem dL_law_1049 : decode cL_law 1049 = .ok (.iload_n 3, 1) := dk_29 (dk_at dksL_law_39 0 rfl rfl)
theorem dL_law_1050 : decode cL_law 1050 = .ok (.iconst 1, 1) := dk_4 (dk_at dksL_law_39 1 rfl rfl)
theorem dL_law_1051 : decode cL_law 1051 = .ok (.iadd, 1) := dk_96 (dk_at dksL_law_39 2 rfl rfl)
theorem dL_law_1052 : decode cL_law 1052 = .ok (.iaload, 1) := dk_46 (dk_at dksL_law_39 3 rfl rfl)
theorem dL_law_1053 : decode cL_law 1053 = .ok (.aload_n 0, 1) := dk_42 (dk_at dksL_law_39 4 rfl rfl)
theorem dL_law_1054 : decode cL_law 1054 = .ok (.iload_n 3, 1) := dk_29 (dk_at dksL_law_39 5 rfl rfl)
theorem dL_law_1055 : decode cL_law 1055 = .ok (.iconst 2, 1) := dk_5 (dk_at dksL_law_39 6 rfl rfl)
theorem dL_law_1056 : decode cL_law 1056 = .ok (.iadd, 1) := dk_96 (dk_at dksL_law_39 7 rfl rfl)
theorem dL_law_1057 : decode cL_law 1057 = .ok (.iaload, 1) := dk_46 (dk_at dksL_law_39 8 rfl rfl)
theorem dL_law_1058 : decode cL_law 1058 = .ok (.invokevirtual 113, 3) := dk_182 0 113 (dk_at dksL_law_39 9 rfl rfl)
theorem dL_law_1061 : decode cL_law 1061 = .ok (.aload_n 2, 1) := dk_44 (dk_at dksL_law_39 12 rfl rfl)
theorem dL_law_1062 : decode cL_law 1062 = .ok (.aload_n 0, 1) := dk_42 (dk_at dksL_law_39 13 rfl rfl)
theorem dL_law_1063 : decode cL_law 1063 = .ok (.iload_n 3, 1) := dk_29 (dk_at dksL_law_39 14 rfl rfl)
theorem dL_law_1064 : decode cL_law 1064 = .ok (.iconst 1, 1) := dk_4 (dk_at dksL_law_39 15 rfl rfl)
theorem dL_law_1065 : decode cL_law 1065 = .ok (.iadd, 1) := dk_96 (dk_at dksL_law_39 16 rfl rfl)
theorem dL_law_1066 : decode cL_law 1066 = .ok (.iaload, 1) := dk_46 (dk_at dksL_law_39 17 rfl rfl)
theorem dL_law_1067 : decode cL_law 1067 = .ok (.aload_n 0, 1) := dk_42 (dk_at dksL_law_39 18 rfl rfl)
theorem dL_law_1068 : decode cL_law 1068 = .ok (.iload_n 3, 1) := dk_29 (dk_at dksL_law_39 19 rfl rfl)
theorem dL_law_1069 : decode cL_law 1069 = .ok (.iconst 2, 1) := dk_5 (dk_at dksL_law_39 20 rfl rfl)
theorem dL_law_1070 : decode cL_law 1070 = .ok (.iadd, 1) := dk_96 (dk_at dksL_law_39 21 rfl rfl)
theorem dL_law_1071 : decode cL_law 1071 = .ok (.iaload, 1) := dk_46 (dk_at dksL_law_39 22 rfl rfl)
theorem dL_law_1072 : decode cL_law 1072 = .ok (.invokevirtual 116, 3) := dk_182 0 116 (dk_at dksL_law_40 0 rfl rfl)
theorem dL_law_1075 : decode cL_law 1075 = .ok (.if_icmp .eq 377, 3) := dk_159 1 121 (dk_at dksL_law_40 3 rfl rfl)
theorem dL_law_1078 : decode cL_law 1078 = .ok (.iconst 0, 1) := dk_3 (dk_at dksL_law_40 6 rfl rfl)
theorem dL_law_1079 : decode cL_law 1079 = .ok (.ireturn, 1) := dk_172 (dk_at dksL_law_40 7 rfl rfl)
theorem dL_law_1080 : decode cL_law 1080 = .ok (.aload_n 1, 1) := dk_43 (dk_at dksL_law_40 8 rfl rfl)
theorem dL_law_1081 : decode cL_law 1081 = .ok (.aload_n 0, 1) := dk_42 (dk_at dksL_law_40 9 rfl rfl)
theorem dL_law_1082 : decode cL_law 1082 = .ok (.iload_n 3, 1) := dk_29 (dk_at dksL_law_40 10 rfl rfl)
theorem dL_law_1083 : decode cL_law 1083 = .ok (.iconst 1, 1) := dk_4 (dk_at dksL_law_40 11 rfl rfl)
theorem dL_law_1084 : decode cL_law 1084 = .ok (.iadd, 1) := dk_96 (dk_at dksL_law_40 12 rfl rfl)
theorem dL_law_1085 : decode cL_law 1085 = .ok (.iaload, 1) := dk_46 (dk_at dksL_law_40 13 rfl rfl)
theorem dL_law_1086 : decode cL_law 1086 = .ok (.invokevirtual 117, 3) := dk_182 0 117 (dk_at dksL_law_40 14 rfl rfl)
theorem dL_law_1089 : decode cL_law 1089 = .ok (.aload_n 2, 1) := dk_44 (dk_at dksL_law_40 17 rfl rfl)
theorem dL_law_1090 : decode cL_law 1090 = .ok (.aload_n 0, 1) := dk_42 (dk_at dksL_law_40 18 rfl rfl)
theorem dL_law_1091 : decode cL_law 1091 = .ok (.iload_n 3, 1) := dk_29 (dk_at dksL_law_40 19 rfl rfl)
theorem dL_law_1092 : decode cL_law 1092 = .ok (.iconst 1, 1) := dk_4 (dk_at dksL_law_40 20 rfl rfl)
theorem dL_law_1093 : decode cL_law 1093 = .ok (.iadd, 1) := dk_96 (dk_at dksL_law_40 21 rfl rfl)
theorem dL_law_1094 : decode cL_law 1094 = .ok (.iaload, 1) := dk_46 (dk_at dksL_law_40 22 rfl rfl)
theorem dL_law_1095 : decode cL_law 1095 = .ok (.invokevirtual 120, 3) := dk_182 0 120 (dk_at dksL_law_41 0 rfl rfl)
theorem dL_law_1098 : decode cL_law 1098 = .ok (.if_icmp .eq 354, 3) := dk_159 1 98 (dk_at dksL_law_41 3 rfl rfl)
theorem dL_law_1101 : decode cL_law 1101 = .ok (.iconst 0, 1) := dk_3 (dk_at dksL_law_41 6 rfl rfl)
theorem dL_law_1102 : decode cL_law 1102 = .ok (.ireturn, 1) := dk_172 (dk_at dksL_law_41 7 rfl rfl)
theorem dL_law_1103 : decode cL_law 1103 = .ok (.aload_n 1, 1) := dk_43 (dk_at dksL_law_41 8 rfl rfl)
theorem dL_law_1104 : decode cL_law 1104 = .ok (.aload_n 0, 1) := dk_42 (dk_at dksL_law_41 9 rfl rfl)
theorem dL_law_1105 : decode cL_law 1105 = .ok (.iload_n 3, 1) := dk_29 (dk_at dksL_law_41 10 rfl rfl)
theorem dL_law_1106 : decode cL_law 1106 = .ok (.iconst 1, 1) := dk_4 (dk_at dksL_law_41 11 rfl rfl)
theorem dL_law_1107 : decode cL_law 1107 = .ok (.iadd, 1) := dk_96 (dk_at dksL_law_41 12 rfl rfl)
theorem dL_law_1108 : decode cL_law 1108 = .ok (.iaload, 1) := dk_46 (dk_at dksL_law_41 13 rfl rfl)
theorem dL_law_1109 : decode cL_law 1109 = .ok (.aload_n 0, 1) := dk_42 (dk_at dksL_law_41 14 rfl rfl)
theorem dL_law_1110 : decode cL_law 1110 = .ok (.iload_n 3, 1) := dk_29 (dk_at dksL_law_41 15 rfl rfl)
theorem dL_law_1111 : decode cL_law 1111 = .ok (.iconst 2, 1) := dk_5 (dk_at dksL_law_41 16 rfl rfl)
theorem dL_law_1112 : decode cL_law 1112 = .ok (.iadd, 1) := dk_96 (dk_at dksL_law_41 17 rfl rfl)
theorem dL_law_1113 : decode cL_law 1113 = .ok (.iaload, 1) := dk_46 (dk_at dksL_law_41 18 rfl rfl)
theorem dL_law_1114 : decode cL_law 1114 = .ok (.invokevirtual 121, 3) := dk_182 0 121 (dk_at dksL_law_41 19 rfl rfl)
theorem dL_law_1117 : decode cL_law 1117 = .ok (.aload_n 2, 1) := dk_44 (dk_at dksL_law_41 22 rfl rfl)
theorem dL_law_1118 : decode cL_law 1118 = .ok (.aload_n 0, 1) := dk_42 (dk_at dksL_law_41 23 rfl rfl)
theorem dL_law_1119 : decode cL_law 1119 = .ok (.iload_n 3, 1) := dk_29 (dk_at dksL_law_42 0 rfl rfl)
theorem dL_law_1120 : decode cL_law 1120 = .ok (.iconst 1, 1) := dk_4 (dk_at dksL_law_42 1 rfl rfl)
theorem dL_law_1121 : decode cL_law 1121 = .ok (.iadd, 1) := dk_96 (dk_at dksL_law_42 2 rfl rfl)
theorem dL_law_1122 : decode cL_law 1122 = .ok (.iaload, 1) := dk_46 (dk_at dksL_law_42 3 rfl rfl)
theorem dL_law_1123 : decode cL_law 1123 = .ok (.aload_n 0, 1) := dk_42 (dk_at dksL_law_42 4 rfl rfl)
theorem dL_law_1124 : decode cL_law 1124 = .ok (.iload_n 3, 1) := dk_29 (dk_at dksL_law_42 5 rfl rfl)
theorem dL_law_1125 : decode cL_law 1125 = .ok (.iconst 2, 1) := dk_5 (dk_at dksL_law_42 6 rfl rfl)
theorem dL_law_1126 : decode cL_law 1126 = .ok (.iadd, 1) := dk_96 (dk_at dksL_law_42 7 rfl rfl)
theorem dL_law_1127 : decode cL_law 1127 = .ok (.iaload, 1) := dk_46 (dk_at dksL_law_42 8 rfl rfl)
theorem dL_law_1128 : decode cL_law 1128 = .ok (.invokevirtual 124, 3) := dk_182 0 124 (dk_at dksL_law_42 9 rfl rfl)
theorem dL_law_1131 : decode cL_law 1131 = .ok (.if_icmp .eq 321, 3) := dk_159 1 65 (dk_at dksL_law_42 12 rfl rfl)
theorem dL_law_1134 : decode cL_law 1134 = .ok (.iconst 0, 1) := dk_3 (dk_at dksL_law_42 15 rfl rfl)
theorem dL_law_1135 : decode cL_law 1135 = .ok (.ireturn, 1) := dk_172 (dk_at dksL_law_42 16 rfl rfl)
theorem dL_law_1136 : decode cL_law 1136 = .ok (.aload_n 1, 1) := dk_43 (dk_at dksL_law_42 17 rfl rfl)
theorem dL_law_1137 : decode cL_law 1137 = .ok (.aload_n 0, 1) := dk_42 (dk_at dksL_law_42 18 rfl rfl)
theorem dL_law_1138 : decode cL_law 1138 = .ok (.iload_n 3, 1) := dk_29 (dk_at dksL_law_42 19 rfl rfl)
theorem dL_law_1139 : decode cL_law 1139 = .ok (.iconst 1, 1) := dk_4 (dk_at dksL_law_42 20 rfl rfl)
theorem dL_law_1140 : decode cL_law 1140 = .ok (.iadd, 1) := dk_96 (dk_at dksL_law_42 21 rfl rfl)
theorem dL_law_1141 : decode cL_law 1141 = .ok (.iaload, 1) := dk_46 (dk_at dksL_law_42 22 rfl rfl)
theorem dL_law_1142 : decode cL_law 1142 = .ok (.invokevirtual 125, 3) := dk_182 0 125 (dk_at dksL_law_43 0 rfl rfl)
theorem dL_law_1145 : decode cL_law 1145 = .ok (.aload_n 2, 1) := dk_44 (dk_at dksL_law_43 3 rfl rfl)
theorem dL_law_1146 : decode cL_law 1146 = .ok (.aload_n 0, 1) := dk_42 (dk_at dksL_law_43 4 rfl rfl)
theorem dL_law_1147 : decode cL_law 1147 = .ok (.iload_n 3, 1) := dk_29 (dk_at dksL_law_43 5 rfl rfl)
theorem dL_law_1148 : decode cL_law 1148 = .ok (.iconst 1, 1) := dk_4 (dk_at dksL_law_43 6 rfl rfl)
theorem dL_law_1149 : decode cL_law 1149 = .ok (.iadd, 1) := dk_96 (dk_at dksL_law_43 7 rfl rfl)
theorem dL_law_1150 : decode cL_law 1150 = .ok (.iaload, 1) := dk_46 (dk_at dksL_law_43 8 rfl rfl)
theorem dL_law_1151 : decode cL_law 1151 = .ok (.invokevirtual 128, 3) := dk_182 0 128 (dk_at dksL_law_43 9 rfl rfl)
theorem dL_law_1154 : decode cL_law 1154 = .ok (.if_icmp .eq 298, 3) := dk_159 1 42 (dk_at dksL_law_43 12 rfl rfl)
theorem dL_law_1157 : decode cL_law 1157 = .ok (.iconst 0, 1) := dk_3 (dk_at dksL_law_43 15 rfl rfl)
theorem dL_law_1158 : decode cL_law 1158 = .ok (.ireturn, 1) := dk_172 (dk_at dksL_law_43 16 rfl rfl)
theorem dL_law_1159 : decode cL_law 1159 = .ok (.aload_n 1, 1) := dk_43 (dk_at dksL_law_43 17 rfl rfl)
theorem dL_law_1160 : decode cL_law 1160 = .ok (.aload_n 0, 1) := dk_42 (dk_at dksL_law_43 18 rfl rfl)
theorem dL_law_1161 : decode cL_law 1161 = .ok (.iload_n 3, 1) := dk_29 (dk_at dksL_law_43 19 rfl rfl)
theorem dL_law_1162 : decode cL_law 1162 = .ok (.iconst 1, 1) := dk_4 (dk_at dksL_law_43 20 rfl rfl)
theorem dL_law_1163 : decode cL_law 1163 = .ok (.iadd, 1) := dk_96 (dk_at dksL_law_43 21 rfl rfl)
theorem dL_law_1164 : decode cL_law 1164 = .ok (.iaload, 1) := dk_46 (dk_at dksL_law_43 22 rfl rfl)
theorem dL_law_1165 : decode cL_law 1165 = .ok (.invokevirtual 129, 3) := dk_182 0 129 (dk_at dksL_law_44 0 rfl rfl)
theorem dL_law_1168 : decode cL_law 1168 = .ok (.aload_n 2, 1) := dk_44 (dk_at dksL_law_44 3 rfl rfl)
theorem dL_law_1169 : decode cL_law 1169 = .ok (.aload_n 0, 1) := dk_42 (dk_at dksL_law_44 4 rfl rfl)
theorem dL_law_1170 : decode cL_law 1170 = .ok (.iload_n 3, 1) := dk_29 (dk_at dksL_law_44 5 rfl rfl)
theorem dL_law_1171 : decode cL_law 1171 = .ok (.iconst 1, 1) := dk_4 (dk_at dksL_law_44 6 rfl rfl)
theorem dL_law_1172 : decode cL_law 1172 = .ok (.iadd, 1) := dk_96 (dk_at dksL_law_44 7 rfl rfl)
theorem dL_law_1173 : decode cL_law 1173 = .ok (.iaload, 1) := dk_46 (dk_at dksL_law_44 8 rfl rfl)
theorem dL_law_1174 : decode cL_law 1174 = .ok (.invokevirtual 132, 3) := dk_182 0 132 (dk_at dksL_law_44 9 rfl rfl)
theorem dL_law_1177 : decode cL_law 1177 = .ok (.if_icmp .eq 275, 3) := dk_159 1 19 (dk_at dksL_law_44 12 rfl rfl)
theorem dL_law_1180 : decode cL_law 1180 = .ok (.iconst 0, 1) := dk_3 (dk_at dksL_law_44 15 rfl rfl)
theorem dL_law_1181 : decode cL_law 1181 = .ok (.ireturn, 1) := dk_172 (dk_at dksL_law_44 16 rfl rfl)
theorem dL_law_1182 : decode cL_law 1182 = .ok (.aload_n 1, 1) := dk_43 (dk_at dksL_law_44 17 rfl rfl)
theorem dL_law_1183 : decode cL_law 1183 = .ok (.aload_n 0, 1) := dk_42 (dk_at dksL_law_44 18 rfl rfl)
theorem dL_law_1184 : decode cL_law 1184 = .ok (.iload_n 3, 1) := dk_29 (dk_at dksL_law_44 19 rfl rfl)
theorem dL_law_1185 : decode cL_law 1185 = .ok (.iconst 1, 1) := dk_4 (dk_at dksL_law_44 20 rfl rfl)
theorem dL_law_1186 : decode cL_law 1186 = .ok (.iadd, 1) := dk_96 (dk_at dksL_law_44 21 rfl rfl)
theorem dL_law_1187 : decode cL_law 1187 = .ok (.iaload, 1) := dk_46 (dk_at dksL_law_44 22 rfl rfl)
theorem dL_law_1188 : decode cL_law 1188 = .ok (.aload_n 0, 1) := dk_42 (dk_at dksL_law_44 23 rfl rfl)
theorem dL_law_1189 : decode cL_law 1189 = .ok (.iload_n 3, 1) := dk_29 (dk_at dksL_law_45 0 rfl rfl)
theorem dL_law_1190 : decode cL_law 1190 = .ok (.iconst 2, 1) := dk_5 (dk_at dksL_law_45 1 rfl rfl)
theorem dL_law_1191 : decode cL_law 1191 = .ok (.iadd, 1) := dk_96 (dk_at dksL_law_45 2 rfl rfl)
theorem dL_law_1192 : decode cL_law 1192 = .ok (.iaload, 1) := dk_46 (dk_at dksL_law_45 3 rfl rfl)
theorem dL_law_1193 : decode cL_law 1193 = .ok (.invokevirtual 133, 3) := dk_182 0 133 (dk_at dksL_law_45 4 rfl rfl)
theorem dL_law_1196 : decode cL_law 1196 = .ok (.aload_n 2, 1) := dk_44 (dk_at dksL_law_45 7 rfl rfl)
theorem dL_law_1197 : decode cL_law 1197 = .ok (.aload_n 0, 1) := dk_42 (dk_at dksL_law_45 8 rfl rfl)
theorem dL_law_1198 : decode cL_law 1198 = .ok (.iload_n 3, 1) := dk_29 (dk_at dksL_law_45 9 rfl rfl)
theorem dL_law_1199 : decode cL_law 1199 = .ok (.iconst 1, 1) := dk_4 (dk_at dksL_law_45 10 rfl rfl)
theorem dL_law_1200 : decode cL_law 1200 = .ok (.iadd, 1) := dk_96 (dk_at dksL_law_45 11 rfl rfl)
theorem dL_law_1201 : decode cL_law 1201 = .ok (.iaload, 1) := dk_46 (dk_at dksL_law_45 12 rfl rfl)
theorem dL_law_1202 : decode cL_law 1202 = .ok (.aload_n 0, 1) := dk_42 (dk_at dksL_law_45 13 rfl rfl)
theorem dL_law_1203 : decode cL_law 1203 = .ok (.iload_n 3, 1) := dk_29 (dk_at dksL_law_45 14 rfl rfl)
theorem dL_law_1204 : decode cL_law 1204 = .ok (.iconst 2, 1) := dk_5 (dk_at dksL_law_45 15 rfl rfl)
theorem dL_law_1205 : decode cL_law 1205 = .ok (.iadd, 1) := dk_96 (dk_at dksL_law_45 16 rfl rfl)
theorem dL_law_1206 : decode cL_law 1206 = .ok (.iaload, 1) := dk_46 (dk_at dksL_law_45 17 rfl rfl)
theorem dL_law_1207 : decode cL_law 1207 = .ok (.invokevirtual 136, 3) := dk_182 0 136 (dk_at dksL_law_45 18 rfl rfl)
theorem dL_law_1210 : decode cL_law 1210 = .ok (.if_icmp .eq 242, 3) := dk_159 0 242 (dk_at dksL_law_45 21 rfl rfl)
theorem dL_law_1213 : decode cL_law 1213 = .ok (.iconst 0, 1) := dk_3 (dk_at dksL_law_46 0 rfl rfl)
theorem dL_law_1214 : decode cL_law 1214 = .ok (.ireturn, 1) := dk_172 (dk_at dksL_law_46 1 rfl rfl)
theorem dL_law_1215 : decode cL_law 1215 = .ok (.aload_n 1, 1) := dk_43 (dk_at dksL_law_46 2 rfl rfl)
theorem dL_law_1216 : decode cL_law 1216 = .ok (.aload_n 0, 1) := dk_42 (dk_at dksL_law_46 3 rfl rfl)
theorem dL_law_1217 : decode cL_law 1217 = .ok (.iload_n 3, 1) := dk_29 (dk_at dksL_law_46 4 rfl rfl)
theorem dL_law_1218 : decode cL_law 1218 = .ok (.iconst 1, 1) := dk_4 (dk_at dksL_law_46 5 rfl rfl)
theorem dL_law_1219 : decode cL_law 1219 = .ok (.iadd, 1) := dk_96 (dk_at dksL_law_46 6 rfl rfl)
theorem dL_law_1220 : decode cL_law 1220 = .ok (.iaload, 1) := dk_46 (dk_at dksL_law_46 7 rfl rfl)
theorem dL_law_1221 : decode cL_law 1221 = .ok (.aload_n 0, 1) := dk_42 (dk_at dksL_law_46 8 rfl rfl)
theorem dL_law_1222 : decode cL_law 1222 = .ok (.iload_n 3, 1) := dk_29 (dk_at dksL_law_46 9 rfl rfl)
theorem dL_law_1223 : decode cL_law 1223 = .ok (.iconst 2, 1) := dk_5 (dk_at dksL_law_46 10 rfl rfl)
theorem dL_law_1224 : decode cL_law 1224 = .ok (.iadd, 1) := dk_96 (dk_at dksL_law_46 11 rfl rfl)
theorem dL_law_1225 : decode cL_law 1225 = .ok (.iaload, 1) := dk_46 (dk_at dksL_law_46 12 rfl rfl)
theorem dL_law_1226 : decode cL_law 1226 = .ok (.aload_n 0, 1) := dk_42 (dk_at dksL_law_46 13 rfl rfl)
theorem dL_law_1227 : decode cL_law 1227 = .ok (.iload_n 3, 1) := dk_29 (dk_at dksL_law_46 14 rfl rfl)
theorem dL_law_1228 : decode cL_law 1228 = .ok (.iconst 3, 1) := dk_6 (dk_at dksL_law_46 15 rfl rfl)
theorem dL_law_1229 : decode cL_law 1229 = .ok (.iadd, 1) := dk_96 (dk_at dksL_law_46 16 rfl rfl)
theorem dL_law_1230 : decode cL_law 1230 = .ok (.iaload, 1) := dk_46 (dk_at dksL_law_46 17 rfl rfl)
theorem dL_law_1231 : decode cL_law 1231 = .ok (.invokevirtual 137, 3) := dk_182 0 137 (dk_at dksL_law_46 18 rfl rfl)
theorem dL_law_1234 : decode cL_law 1234 = .ok (.aload_n 2, 1) := dk_44 (dk_at dksL_law_46 21 rfl rfl)
theorem dL_law_1235 : decode cL_law 1235 = .ok (.aload_n 0, 1) := dk_42 (dk_at dksL_law_46 22 rfl rfl)
theorem dL_law_1236 : decode cL_law 1236 = .ok (.iload_n 3, 1) := dk_29 (dk_at dksL_law_46 23 rfl rfl)
theorem dL_law_1237 : decode cL_law 1237 = .ok (.iconst 1, 1) := dk_4 (dk_at dksL_law_47 0 rfl rfl)
theorem dL_law_1238 : decode cL_law 1238 = .ok (.iadd, 1) := dk_96 (dk_at dksL_law_47 1 rfl rfl)
theorem dL_law_1239 : decode cL_law 1239 = .ok (.iaload, 1) := dk_46 (dk_at dksL_law_47 2 rfl rfl)
theorem dL_law_1240 : decode cL_law 1240 = .ok (.aload_n 0, 1) := dk_42 (dk_at dksL_law_47 3 rfl rfl)
theorem dL_law_1241 : decode cL_law 1241 = .ok (.iload_n 3, 1) := dk_29 (dk_at dksL_law_47 4 rfl rfl)
theorem dL_law_1242 : decode cL_law 1242 = .ok (.iconst 2, 1) := dk_5 (dk_at dksL_law_47 5 rfl rfl)
theorem dL_law_1243 : decode cL_law 1243 = .ok (.iadd, 1) := dk_96 (dk_at dksL_law_47 6 rfl rfl)
theorem dL_law_1244 : decode cL_law 1244 = .ok (.iaload, 1) := dk_46 (dk_at dksL_law_47 7 rfl rfl)
theorem dL_law_1245 : decode cL_law 1245 = .ok (.aload_n 0, 1) := dk_42 (dk_at dksL_law_47 8 rfl rfl)
theorem dL_law_1246 : decode cL_law 1246 = .ok (.iload_n 3, 1) := dk_29 (dk_at dksL_law_47 9 rfl rfl)
theorem dL_law_1247 : decode cL_law 1247 = .ok (.iconst 3, 1) := dk_6 (dk_at dksL_law_47 10 rfl rfl)
theorem dL_law_1248 : decode cL_law 1248 = .ok (.iadd, 1) := dk_96 (dk_at dksL_law_47 11 rfl rfl)
theorem dL_law_1249 : decode cL_law 1249 = .ok (.iaload, 1) := dk_46 (dk_at dksL_law_47 12 rfl rfl)
theorem dL_law_1250 : decode cL_law 1250 = .ok (.invokevirtual 140, 3) := dk_182 0 140 (dk_at dksL_law_47 13 rfl rfl)
theorem dL_law_1253 : decode cL_law 1253 = .ok (.if_icmp .eq 199, 3) := dk_159 0 199 (dk_at dksL_law_47 16 rfl rfl)
theorem dL_law_1256 : decode cL_law 1256 = .ok (.iconst 0, 1) := dk_3 (dk_at dksL_law_47 19 rfl rfl)
theorem dL_law_1257 : decode cL_law 1257 = .ok (.ireturn, 1) := dk_172 (dk_at dksL_law_47 20 rfl rfl)
theorem dL_law_1258 : decode cL_law 1258 = .ok (.aload_n 1, 1) := dk_43 (dk_at dksL_law_47 21 rfl rfl)
theorem dL_law_1259 : decode cL_law 1259 = .ok (.aload_n 0, 1) := dk_42 (dk_at dksL_law_47 22 rfl rfl)
theorem dL_law_1260 : decode cL_law 1260 = .ok (.iload_n 3, 1) := dk_29 (dk_at dksL_law_47 23 rfl rfl)
theorem dL_law_1261 : decode cL_law 1261 = .ok (.iconst 1, 1) := dk_4 (dk_at dksL_law_48 0 rfl rfl)
theorem dL_law_1262 : decode cL_law 1262 = .ok (.iadd, 1) := dk_96 (dk_at dksL_law_48 1 rfl rfl)
theorem dL_law_1263 : decode cL_law 1263 = .ok (.iaload, 1) := dk_46 (dk_at dksL_law_48 2 rfl rfl)
theorem dL_law_1264 : decode cL_law 1264 = .ok (.aload_n 0, 1) := dk_42 (dk_at dksL_law_48 3 rfl rfl)
theorem dL_law_1265 : decode cL_law 1265 = .ok (.iload_n 3, 1) := dk_29 (dk_at dksL_law_48 4 rfl rfl)
theorem dL_law_1266 : decode cL_law 1266 = .ok (.iconst 2, 1) := dk_5 (dk_at dksL_law_48 5 rfl rfl)
theorem dL_law_1267 : decode cL_law 1267 = .ok (.iadd, 1) := dk_96 (dk_at dksL_law_48 6 rfl rfl)
theorem dL_law_1268 : decode cL_law 1268 = .ok (.iaload, 1) := dk_46 (dk_at dksL_law_48 7 rfl rfl)
theorem dL_law_1269 : decode cL_law 1269 = .ok (.invokevirtual 141, 3) := dk_182 0 141 (dk_at dksL_law_48 8 rfl rfl)
theorem dL_law_1272 : decode cL_law 1272 = .ok (.aload_n 2, 1) := dk_44 (dk_at dksL_law_48 11 rfl rfl)
theorem dL_law_1273 : decode cL_law 1273 = .ok (.aload_n 0, 1) := dk_42 (dk_at dksL_law_48 12 rfl rfl)
theorem dL_law_1274 : decode cL_law 1274 = .ok (.iload_n 3, 1) := dk_29 (dk_at dksL_law_48 13 rfl rfl)
theorem dL_law_1275 : decode cL_law 1275 = .ok (.iconst 1, 1) := dk_4 (dk_at dksL_law_48 14 rfl rfl)
theorem dL_law_1276 : decode cL_law 1276 = .ok (.iadd, 1) := dk_96 (dk_at dksL_law_48 15 rfl rfl)
theorem dL_law_1277 : decode cL_law 1277 = .ok (.iaload, 1) := dk_46 (dk_at dksL_law_48 16 rfl rfl)
theorem dL_law_1278 : decode cL_law 1278 = .ok (.aload_n 0, 1) := dk_42 (dk_at dksL_law_48 17 rfl rfl)
theorem dL_law_1279 : decode cL_law 1279 = .ok (.iload_n 3, 1) := dk_29 (dk_at dksL_law_48 18 rfl rfl)
theorem dL_law_1280 : decode cL_law 1280 = .ok (.iconst 2, 1) := dk_5 (dk_at dksL_law_48 19 rfl rfl)
theorem dL_law_1281 : decode cL_law 1281 = .ok (.iadd, 1) := dk_96 (dk_at dksL_law_48 20 rfl rfl)
theorem dL_law_1282 : decode cL_law 1282 = .ok (.iaload, 1) := dk_46 (dk_at dksL_law_48 21 rfl rfl)
theorem dL_law_1283 : decode cL_law 1283 = .ok (.invokevirtual 144, 3) := dk_182 0 144 (dk_at dksL_law_49 0 rfl rfl)
theorem dL_law_1286 : decode cL_law 1286 = .ok (.if_icmp .eq 166, 3) := dk_159 0 166 (dk_at dksL_law_49 3 rfl rfl)
theorem dL_law_1289 : decode cL_law 1289 = .ok (.iconst 0, 1) := dk_3 (dk_at dksL_law_49 6 rfl rfl)
theorem dL_law_1290 : decode cL_law 1290 = .ok (.ireturn, 1) := dk_172 (dk_at dksL_law_49 7 rfl rfl)
theorem dL_law_1291 : decode cL_law 1291 = .ok (.aload_n 1, 1) := dk_43 (dk_at dksL_law_49 8 rfl rfl)
theorem dL_law_1292 : decode cL_law 1292 = .ok (.aload_n 0, 1) := dk_42 (dk_at dksL_law_49 9 rfl rfl)
theorem dL_law_1293 : decode cL_law 1293 = .ok (.iload_n 3, 1) := dk_29 (dk_at dksL_law_49 10 rfl rfl)
theorem dL_law_1294 : decode cL_law 1294 = .ok (.iconst 1, 1) := dk_4 (dk_at dksL_law_49 11 rfl rfl)
theorem dL_law_1295 : decode cL_law 1295 = .ok (.iadd, 1) := dk_96 (dk_at dksL_law_49 12 rfl rfl)
theorem dL_law_1296 : decode cL_law 1296 = .ok (.iaload, 1) := dk_46 (dk_at dksL_law_49 13 rfl rfl)
theorem dL_law_1297 : decode cL_law 1297 = .ok (.invokevirtual 145, 3) := dk_182 0 145 (dk_at dksL_law_49 14 rfl rfl)
theorem dL_law_1300 : decode cL_law 1300 = .ok (.aload_n 2, 1) := dk_44 (dk_at dksL_law_49 17 rfl rfl)
theorem dL_law_1301 : decode cL_law 1301 = .ok (.aload_n 0, 1) := dk_42 (dk_at dksL_law_49 18 rfl rfl)
theorem dL_law_1302 : decode cL_law 1302 = .ok (.iload_n 3, 1) := dk_29 (dk_at dksL_law_49 19 rfl rfl)
theorem dL_law_1303 : decode cL_law 1303 = .ok (.iconst 1, 1) := dk_4 (dk_at dksL_law_49 20 rfl rfl)
theorem dL_law_1304 : decode cL_law 1304 = .ok (.iadd, 1) := dk_96 (dk_at dksL_law_49 21 rfl rfl)
theorem dL_law_1305 : decode cL_law 1305 = .ok (.iaload, 1) := dk_46 (dk_at dksL_law_49 22 rfl rfl)
theorem dL_law_1306 : decode cL_law 1306 = .ok (.invokevirtual 148, 3) := dk_182 0 148 (dk_at dksL_law_50 0 rfl rfl)
theorem dL_law_1309 : decode cL_law 1309 = .ok (.if_icmp .eq 143, 3) := dk_159 0 143 (dk_at dksL_law_50 3 rfl rfl)
theorem dL_law_1312 : decode cL_law 1312 = .ok (.iconst 0, 1) := dk_3 (dk_at dksL_law_50 6 rfl rfl)
theorem dL_law_1313 : decode cL_law 1313 = .ok (.ireturn, 1) := dk_172 (dk_at dksL_law_50 7 rfl rfl)
theorem dL_law_1314 : decode cL_law 1314 = .ok (.aload_n 1, 1) := dk_43 (dk_at dksL_law_50 8 rfl rfl)
theorem dL_law_1315 : decode cL_law 1315 = .ok (.aload_n 0, 1) := dk_42 (dk_at dksL_law_50 9 rfl rfl)
theorem dL_law_1316 : decode cL_law 1316 = .ok (.iload_n 3, 1) := dk_29 (dk_at dksL_law_50 10 rfl rfl)
theorem dL_law_1317 : decode cL_law 1317 = .ok (.iconst 1, 1) := dk_4 (dk_at dksL_law_50 11 rfl rfl)
theorem dL_law_1318 : decode cL_law 1318 = .ok (.iadd, 1) := dk_96 (dk_at dksL_law_50 12 rfl rfl)
theorem dL_law_1319 : decode cL_law 1319 = .ok (.iaload, 1) := dk_46 (dk_at dksL_law_50 13 rfl rfl)
theorem dL_law_1320 : decode cL_law 1320 = .ok (.invokevirtual 149, 3) := dk_182 0 149 (dk_at dksL_law_50 14 rfl rfl)
theorem dL_law_1323 : decode cL_law 1323 = .ok (.aload_n 2, 1) := dk_44 (dk_at dksL_law_50 17 rfl rfl)
theorem dL_law_1324 : decode cL_law 1324 = .ok (.aload_n 0, 1) := dk_42 (dk_at dksL_law_50 18 rfl rfl)
theorem dL_law_1325 : decode cL_law 1325 = .ok (.iload_n 3, 1) := dk_29 (dk_at dksL_law_50 19 rfl rfl)
theorem dL_law_1326 : decode cL_law 1326 = .ok (.iconst 1, 1) := dk_4 (dk_at dksL_law_50 20 rfl rfl)
theorem dL_law_1327 : decode cL_law 1327 = .ok (.iadd, 1) := dk_96 (dk_at dksL_law_50 21 rfl rfl)
theorem dL_law_1328 : decode cL_law 1328 = .ok (.iaload, 1) := dk_46 (dk_at dksL_law_50 22 rfl rfl)
theorem dL_law_1329 : decode cL_law 1329 = .ok (.invokevirtual 152, 3) := dk_182 0 152 (dk_at dksL_law_51 0 rfl rfl)
theorem dL_law_1332 : decode cL_law 1332 = .ok (.if_icmp .eq 120, 3) := dk_159 0 120 (dk_at dksL_law_51 3 rfl rfl)
theorem dL_law_1335 : decode cL_law 1335 = .ok (.iconst 0, 1) := dk_3 (dk_at dksL_law_51 6 rfl rfl)
theorem dL_law_1336 : decode cL_law 1336 = .ok (.ireturn, 1) := dk_172 (dk_at dksL_law_51 7 rfl rfl)
theorem dL_law_1337 : decode cL_law 1337 = .ok (.aload_n 1, 1) := dk_43 (dk_at dksL_law_51 8 rfl rfl)
theorem dL_law_1338 : decode cL_law 1338 = .ok (.aload_n 0, 1) := dk_42 (dk_at dksL_law_51 9 rfl rfl)
theorem dL_law_1339 : decode cL_law 1339 = .ok (.iload_n 3, 1) := dk_29 (dk_at dksL_law_51 10 rfl rfl)
theorem dL_law_1340 : decode cL_law 1340 = .ok (.iconst 1, 1) := dk_4 (dk_at dksL_law_51 11 rfl rfl)
theorem dL_law_1341 : decode cL_law 1341 = .ok (.iadd, 1) := dk_96 (dk_at dksL_law_51 12 rfl rfl)
theorem dL_law_1342 : decode cL_law 1342 = .ok (.iaload, 1) := dk_46 (dk_at dksL_law_51 13 rfl rfl)
theorem dL_law_1343 : decode cL_law 1343 = .ok (.aload_n 0, 1) := dk_42 (dk_at dksL_law_51 14 rfl rfl)
theorem dL_law_1344 : decode cL_law 1344 = .ok (.iload_n 3, 1) := dk_29 (dk_at dksL_law_51 15 rfl rfl)
theorem dL_law_1345 : decode cL_law 1345 = .ok (.iconst 2, 1) := dk_5 (dk_at dksL_law_51 16 rfl rfl)
theorem dL_law_1346 : decode cL_law 1346 = .ok (.iadd, 1) := dk_96 (dk_at dksL_law_51 17 rfl rfl)
theorem dL_law_1347 : decode cL_law 1347 = .ok (.iaload, 1) := dk_46 (dk_at dksL_law_51 18 rfl rfl)
theorem dL_law_1348 : decode cL_law 1348 = .ok (.aload_n 0, 1) := dk_42 (dk_at dksL_law_51 19 rfl rfl)
theorem dL_law_1349 : decode cL_law 1349 = .ok (.iload_n 3, 1) := dk_29 (dk_at dksL_law_51 20 rfl rfl)
theorem dL_law_1350 : decode cL_law 1350 = .ok (.iconst 3, 1) := dk_6 (dk_at dksL_law_51 21 rfl rfl)
theorem dL_law_1351 : decode cL_law 1351 = .ok (.iadd, 1) := dk_96 (dk_at dksL_law_51 22 rfl rfl)
theorem dL_law_1352 : decode cL_law 1352 = .ok (.iaload, 1) := dk_46 (dk_at dksL_law_51 23 rfl rfl)
theorem dL_law_1353 : decode cL_law 1353 = .ok (.invokevirtual 153, 3) := dk_182 0 153 (dk_at dksL_law_52 0 rfl rfl)
theorem dL_law_1356 : decode cL_law 1356 = .ok (.aload_n 2, 1) := dk_44 (dk_at dksL_law_52 3 rfl rfl)
theorem dL_law_1357 : decode cL_law 1357 = .ok (.aload_n 0, 1) := dk_42 (dk_at dksL_law_52 4 rfl rfl)
theorem dL_law_1358 : decode cL_law 1358 = .ok (.iload_n 3, 1) := dk_29 (dk_at dksL_law_52 5 rfl rfl)
theorem dL_law_1359 : decode cL_law 1359 = .ok (.iconst 1, 1) := dk_4 (dk_at dksL_law_52 6 rfl rfl)
theorem dL_law_1360 : decode cL_law 1360 = .ok (.iadd, 1) := dk_96 (dk_at dksL_law_52 7 rfl rfl)
theorem dL_law_1361 : decode cL_law 1361 = .ok (.iaload, 1) := dk_46 (dk_at dksL_law_52 8 rfl rfl)
theorem dL_law_1362 : decode cL_law 1362 = .ok (.aload_n 0, 1) := dk_42 (dk_at dksL_law_52 9 rfl rfl)
theorem dL_law_1363 : decode cL_law 1363 = .ok (.iload_n 3, 1) := dk_29 (dk_at dksL_law_52 10 rfl rfl)
theorem dL_law_1364 : decode cL_law 1364 = .ok (.iconst 2, 1) := dk_5 (dk_at dksL_law_52 11 rfl rfl)
theorem dL_law_1365 : decode cL_law 1365 = .ok (.iadd, 1) := dk_96 (dk_at dksL_law_52 12 rfl rfl)
theorem dL_law_1366 : decode cL_law 1366 = .ok (.iaload, 1) := dk_46 (dk_at dksL_law_52 13 rfl rfl)
theorem dL_law_1367 : decode cL_law 1367 = .ok (.aload_n 0, 1) := dk_42 (dk_at dksL_law_52 14 rfl rfl)
theorem dL_law_1368 : decode cL_law 1368 = .ok (.iload_n 3, 1) := dk_29 (dk_at dksL_law_52 15 rfl rfl)
theorem dL_law_1369 : decode cL_law 1369 = .ok (.iconst 3, 1) := dk_6 (dk_at dksL_law_52 16 rfl rfl)
theorem dL_law_1370 : decode cL_law 1370 = .ok (.iadd, 1) := dk_96 (dk_at dksL_law_52 17 rfl rfl)
theorem dL_law_1371 : decode cL_law 1371 = .ok (.iaload, 1) := dk_46 (dk_at dksL_law_52 18 rfl rfl)
theorem dL_law_1372 : decode cL_law 1372 = .ok (.invokevirtual 156, 3) := dk_182 0 156 (dk_at dksL_law_52 19 rfl rfl)
theorem dL_law_1375 : decode cL_law 1375 = .ok (.if_icmp .eq 77, 3) := dk_159 0 77 (dk_at dksL_law_53 0 rfl rfl)
theorem dL_law_1378 : decode cL_law 1378 = .ok (.iconst 0, 1) := dk_3 (dk_at dksL_law_53 3 rfl rfl)
theorem dL_law_1379 : decode cL_law 1379 = .ok (.ireturn, 1) := dk_172 (dk_at dksL_law_53 4 rfl rfl)
theorem dL_law_1380 : decode cL_law 1380 = .ok (.aload_n 1, 1) := dk_43 (dk_at dksL_law_53 5 rfl rfl)
theorem dL_law_1381 : decode cL_law 1381 = .ok (.aload_n 0, 1) := dk_42 (dk_at dksL_law_53 6 rfl rfl)
theorem dL_law_1382 : decode cL_law 1382 = .ok (.iload_n 3, 1) := dk_29 (dk_at dksL_law_53 7 rfl rfl)
theorem dL_law_1383 : decode cL_law 1383 = .ok (.iconst 1, 1) := dk_4 (dk_at dksL_law_53 8 rfl rfl)
theorem dL_law_1384 : decode cL_law 1384 = .ok (.iadd, 1) := dk_96 (dk_at dksL_law_53 9 rfl rfl)
theorem dL_law_1385 : decode cL_law 1385 = .ok (.iaload, 1) := dk_46 (dk_at dksL_law_53 10 rfl rfl)
theorem dL_law_1386 : decode cL_law 1386 = .ok (.invokevirtual 157, 3) := dk_182 0 157 (dk_at dksL_law_53 11 rfl rfl)
theorem dL_law_1389 : decode cL_law 1389 = .ok (.aload_n 2, 1) := dk_44 (dk_at dksL_law_53 14 rfl rfl)
theorem dL_law_1390 : decode cL_law 1390 = .ok (.aload_n 0, 1) := dk_42 (dk_at dksL_law_53 15 rfl rfl)
theorem dL_law_1391 : decode cL_law 1391 = .ok (.iload_n 3, 1) := dk_29 (dk_at dksL_law_53 16 rfl rfl)
theorem dL_law_1392 : decode cL_law 1392 = .ok (.iconst 1, 1) := dk_4 (dk_at dksL_law_53 17 rfl rfl)
theorem dL_law_1393 : decode cL_law 1393 = .ok (.iadd, 1) := dk_96 (dk_at dksL_law_53 18 rfl rfl)
theorem dL_law_1394 : decode cL_law 1394 = .ok (.iaload, 1) := dk_46 (dk_at dksL_law_53 19 rfl rfl)
theorem dL_law_1395 : decode cL_law 1395 = .ok (.invokevirtual 160, 3) := dk_182 0 160 (dk_at dksL_law_53 20 rfl rfl)
theorem dL_law_1398 : decode cL_law 1398 = .ok (.if_icmp .eq 54, 3) := dk_159 0 54 (dk_at dksL_law_54 0 rfl rfl)
theorem dL_law_1401 : decode cL_law 1401 = .ok (.iconst 0, 1) := dk_3 (dk_at dksL_law_54 3 rfl rfl)
theorem dL_law_1402 : decode cL_law 1402 = .ok (.ireturn, 1) := dk_172 (dk_at dksL_law_54 4 rfl rfl)
theorem dL_law_1403 : decode cL_law 1403 = .ok (.aload_n 1, 1) := dk_43 (dk_at dksL_law_54 5 rfl rfl)
theorem dL_law_1404 : decode cL_law 1404 = .ok (.invokevirtual 161, 3) := dk_182 0 161 (dk_at dksL_law_54 6 rfl rfl)
theorem dL_law_1407 : decode cL_law 1407 = .ok (.aload_n 2, 1) := dk_44 (dk_at dksL_law_54 9 rfl rfl)
theorem dL_law_1408 : decode cL_law 1408 = .ok (.invokevirtual 164, 3) := dk_182 0 164 (dk_at dksL_law_54 10 rfl rfl)
theorem dL_law_1411 : decode cL_law 1411 = .ok (.if_icmp .eq 41, 3) := dk_159 0 41 (dk_at dksL_law_54 13 rfl rfl)
theorem dL_law_1414 : decode cL_law 1414 = .ok (.iconst 0, 1) := dk_3 (dk_at dksL_law_54 16 rfl rfl)
theorem dL_law_1415 : decode cL_law 1415 = .ok (.ireturn, 1) := dk_172 (dk_at dksL_law_54 17 rfl rfl)
theorem dL_law_1416 : decode cL_law 1416 = .ok (.aload_n 1, 1) := dk_43 (dk_at dksL_law_54 18 rfl rfl)
theorem dL_law_1417 : decode cL_law 1417 = .ok (.invokevirtual 165, 3) := dk_182 0 165 (dk_at dksL_law_54 19 rfl rfl)
theorem dL_law_1420 : decode cL_law 1420 = .ok (.aload_n 2, 1) := dk_44 (dk_at dksL_law_54 22 rfl rfl)
theorem dL_law_1421 : decode cL_law 1421 = .ok (.invokevirtual 168, 3) := dk_182 0 168 (dk_at dksL_law_55 0 rfl rfl)
theorem dL_law_1424 : decode cL_law 1424 = .ok (.if_icmp .eq 28, 3) := dk_159 0 28 (dk_at dksL_law_55 3 rfl rfl)
theorem dL_law_1427 : decode cL_law 1427 = .ok (.iconst 0, 1) := dk_3 (dk_at dksL_law_55 6 rfl rfl)
theorem dL_law_1428 : decode cL_law 1428 = .ok (.ireturn, 1) := dk_172 (dk_at dksL_law_55 7 rfl rfl)
theorem dL_law_1429 : decode cL_law 1429 = .ok (.aload_n 1, 1) := dk_43 (dk_at dksL_law_55 8 rfl rfl)
theorem dL_law_1430 : decode cL_law 1430 = .ok (.aload_n 0, 1) := dk_42 (dk_at dksL_law_55 9 rfl rfl)
theorem dL_law_1431 : decode cL_law 1431 = .ok (.iload_n 3, 1) := dk_29 (dk_at dksL_law_55 10 rfl rfl)
theorem dL_law_1432 : decode cL_law 1432 = .ok (.iconst 1, 1) := dk_4 (dk_at dksL_law_55 11 rfl rfl)
theorem dL_law_1433 : decode cL_law 1433 = .ok (.iadd, 1) := dk_96 (dk_at dksL_law_55 12 rfl rfl)
theorem dL_law_1434 : decode cL_law 1434 = .ok (.iaload, 1) := dk_46 (dk_at dksL_law_55 13 rfl rfl)
theorem dL_law_1435 : decode cL_law 1435 = .ok (.invokevirtual 169, 3) := dk_182 0 169 (dk_at dksL_law_55 14 rfl rfl)
theorem dL_law_1438 : decode cL_law 1438 = .ok (.aload_n 2, 1) := dk_44 (dk_at dksL_law_55 17 rfl rfl)
theorem dL_law_1439 : decode cL_law 1439 = .ok (.aload_n 0, 1) := dk_42 (dk_at dksL_law_55 18 rfl rfl)
theorem dL_law_1440 : decode cL_law 1440 = .ok (.iload_n 3, 1) := dk_29 (dk_at dksL_law_55 19 rfl rfl)
theorem dL_law_1441 : decode cL_law 1441 = .ok (.iconst 1, 1) := dk_4 (dk_at dksL_law_55 20 rfl rfl)
theorem dL_law_1442 : decode cL_law 1442 = .ok (.iadd, 1) := dk_96 (dk_at dksL_law_55 21 rfl rfl)
theorem dL_law_1443 : decode cL_law 1443 = .ok (.iaload, 1) := dk_46 (dk_at dksL_law_55 22 rfl rfl)
theorem dL_law_1444 : decode cL_law 1444 = .ok (.invokevirtual 172, 3) := dk_182 0 172 (dk_at dksL_law_56 0 rfl rfl)
theorem dL_law_1447 : decode cL_law 1447 = .ok (.if_icmp .eq 5, 3) := dk_159 0 5 (dk_at dksL_law_56 3 rfl rfl)
theorem dL_law_1450 : decode cL_law 1450 = .ok (.iconst 0, 1) := dk_3 (dk_at dksL_law_56 6 rfl rfl)
theorem dL_law_1451 : decode cL_law 1451 = .ok (.ireturn, 1) := dk_172 (dk_at dksL_law_56 7 rfl rfl)
theorem dL_law_1452 : decode cL_law 1452 = .ok (.iinc 3 7, 3) := dk_132 3 7 (dk_at dksL_law_56 8 rfl rfl)
theorem dL_law_1455 : decode cL_law 1455 = .ok (.goto (-1437), 3) := dk_167 250 99 (dk_at dksL_law_56 11 rfl rfl)
theorem dL_law_1458 : decode cL_law 1458 = .ok (.iconst 1, 1) := dk_4 (dk_at dksL_law_56 14 rfl rfl)
theorem dL_law_1459 : decode cL_law 1459 = .ok (.ireturn, 1) := dk_172 (dk_at dksL_law_56 15 rfl rfl)

/-! TaxOnLooks$Trace -/
set_option maxRecDepth 100000
def RX1 : String := "TaxOnLooks$Trace"
def TX1 : u_T := fun k => match k with
  | 0 => ("TaxOnLooks$Trace", "bodies", "[I", true)
  | _ => ("TaxOnLooks$Trace", "many", "I", false)
def tyX1 : Nat → FieldType := fun k => match k with
  | 0 => .array .int
  | _ => .int
abbrev wsX10 : List Cond := u_ws RX1 TX1 2
theorem nmX1 : ∀ a, a < 2 → ∀ b, b < 2 → a ≠ b → (TX1 a).2.1 ≠ (TX1 b).2.1 := by decide +kernel
theorem tyX1_ok : ∀ k, k < 2 → parseFieldDescriptor (TX1 k).2.2.1 = some (tyX1 k) := by decide +kernel
abbrev cX1_init : ByteArray := prog_19_method_1_code
def yX1_init : MethodName := ⟨RX1, "<init>", "()V"⟩
def dkwX1_init_0 : List UInt8 := [42, 183, 0, 3, 42, 16, 20, 188, 10, 181, 0, 9, 177]
abbrev dktX1_init_0 : List UInt8 := dkwX1_init_0 ++ []
theorem dksX1_init_0 : cX1_init.data.toList.drop 0 = dktX1_init_0 := by decide +kernel
theorem dX1_init_0 : decode cX1_init 0 = .ok (.aload_n 0, 1) := dk_42 (dk_at dksX1_init_0 0 rfl rfl)
theorem dX1_init_1 : decode cX1_init 1 = .ok (.invokespecial 3, 3) := dk_183 0 3 (dk_at dksX1_init_0 1 rfl rfl)
theorem dX1_init_4 : decode cX1_init 4 = .ok (.aload_n 0, 1) := dk_42 (dk_at dksX1_init_0 4 rfl rfl)
theorem dX1_init_5 : decode cX1_init 5 = .ok (.bipush 20, 2) := dk_16 20 (dk_at dksX1_init_0 5 rfl rfl)
theorem dX1_init_7 : decode cX1_init 7 = .ok (.newarray .int, 2) := dk_188_10 (dk_at dksX1_init_0 7 rfl rfl)
theorem dX1_init_9 : decode cX1_init 9 = .ok (.putfield 9, 3) := dk_181 0 9 (dk_at dksX1_init_0 9 rfl rfl)
theorem dX1_init_12 : decode cX1_init 12 = .ok (.return_, 1) := dk_177 (dk_at dksX1_init_0 12 rfl rfl)
abbrev cX1_runs : ByteArray := prog_19_method_2_code
def yX1_runs : MethodName := ⟨RX1, "runs", "(I)V"⟩
def dkwX1_runs_1 : List UInt8 := [4, 96, 181, 0, 15, 177]
abbrev dktX1_runs_1 : List UInt8 := dkwX1_runs_1 ++ []
def dkwX1_runs_0 : List UInt8 := [42, 180, 0, 15, 16, 20, 162, 0, 13, 42, 180, 0, 9, 42, 180, 0, 15, 27, 79, 42, 89, 180, 0, 15]
abbrev dktX1_runs_0 : List UInt8 := dkwX1_runs_0 ++ dktX1_runs_1
theorem dksX1_runs_0 : cX1_runs.data.toList.drop 0 = dktX1_runs_0 := by decide +kernel
theorem dksX1_runs_1 : cX1_runs.data.toList.drop 24 = dktX1_runs_1 := dk_seg dksX1_runs_0 24 rfl rfl
theorem dX1_runs_0 : decode cX1_runs 0 = .ok (.aload_n 0, 1) := dk_42 (dk_at dksX1_runs_0 0 rfl rfl)
theorem dX1_runs_1 : decode cX1_runs 1 = .ok (.getfield 15, 3) := dk_180 0 15 (dk_at dksX1_runs_0 1 rfl rfl)
theorem dX1_runs_4 : decode cX1_runs 4 = .ok (.bipush 20, 2) := dk_16 20 (dk_at dksX1_runs_0 4 rfl rfl)
theorem dX1_runs_6 : decode cX1_runs 6 = .ok (.if_icmp .ge 13, 3) := dk_162 0 13 (dk_at dksX1_runs_0 6 rfl rfl)
theorem dX1_runs_9 : decode cX1_runs 9 = .ok (.aload_n 0, 1) := dk_42 (dk_at dksX1_runs_0 9 rfl rfl)
theorem dX1_runs_10 : decode cX1_runs 10 = .ok (.getfield 9, 3) := dk_180 0 9 (dk_at dksX1_runs_0 10 rfl rfl)
theorem dX1_runs_13 : decode cX1_runs 13 = .ok (.aload_n 0, 1) := dk_42 (dk_at dksX1_runs_0 13 rfl rfl)
theorem dX1_runs_14 : decode cX1_runs 14 = .ok (.getfield 15, 3) := dk_180 0 15 (dk_at dksX1_runs_0 14 rfl rfl)
theorem dX1_runs_17 : decode cX1_runs 17 = .ok (.iload_n 1, 1) := dk_27 (dk_at dksX1_runs_0 17 rfl rfl)
theorem dX1_runs_18 : decode cX1_runs 18 = .ok (.iastore, 1) := dk_79 (dk_at dksX1_runs_0 18 rfl rfl)
theorem dX1_runs_19 : decode cX1_runs 19 = .ok (.aload_n 0, 1) := dk_42 (dk_at dksX1_runs_0 19 rfl rfl)
theorem dX1_runs_20 : decode cX1_runs 20 = .ok (.dup, 1) := dk_89 (dk_at dksX1_runs_0 20 rfl rfl)
theorem dX1_runs_21 : decode cX1_runs 21 = .ok (.getfield 15, 3) := dk_180 0 15 (dk_at dksX1_runs_0 21 rfl rfl)
theorem dX1_runs_24 : decode cX1_runs 24 = .ok (.iconst 1, 1) := dk_4 (dk_at dksX1_runs_1 0 rfl rfl)
theorem dX1_runs_25 : decode cX1_runs 25 = .ok (.iadd, 1) := dk_96 (dk_at dksX1_runs_1 1 rfl rfl)
theorem dX1_runs_26 : decode cX1_runs 26 = .ok (.putfield 15, 3) := dk_181 0 15 (dk_at dksX1_runs_1 2 rfl rfl)
theorem dX1_runs_29 : decode cX1_runs 29 = .ok (.return_, 1) := dk_177 (dk_at dksX1_runs_1 5 rfl rfl)
theorem q83 : (Jvm.Cond.initialized "TaxOnLooks$Trace") ∈ lw_all := lw_g (lw_at lw_m1 2 rfl) rfl
theorem q129 : (Jvm.Cond.instantiable "TaxOnLooks$Trace" (2 : Nat)) ∈ lw_all := lw_g (lw_at lw_m1 48 rfl) rfl
theorem q131 : (Jvm.Cond.instanceMethod ({ cls := "TaxOnLooks$Trace", name := "<init>", desc := "()V" } : Jvm.MethodName)) ∈ lw_all := lw_g (lw_at lw_m1 50 rfl) rfl
theorem q132 : (Jvm.Cond.code ({ cls := "TaxOnLooks$Trace", name := "<init>", desc := "()V" } : Jvm.MethodName) prog_19_method_1_code (1 : Nat) (Option.none : Option Jvm.ClassFile.FieldType)) ∈ lw_all := lw_g (lw_at lw_m1 51 rfl) rfl
theorem q133 : (Jvm.Cond.methodLink "TaxOnLooks$Trace" (3 : Nat) ({ cls := "java/lang/Object", name := "<init>", desc := "()V" } : Jvm.MethodName)) ∈ lw_all := lw_g (lw_at lw_m1 52 rfl) rfl
theorem q134 : (Jvm.Cond.fieldLink "TaxOnLooks$Trace" (9 : Nat) "TaxOnLooks$Trace" "bodies" "[I") ∈ lw_all := lw_g (lw_at lw_m1 53 rfl) rfl
theorem q136 : (Jvm.Cond.fieldLink "TaxOnLooks$Trace" (15 : Nat) "TaxOnLooks$Trace" "many" "I") ∈ lw_all := lw_g (lw_at lw_m1 55 rfl) rfl
theorem q138 : (Jvm.Cond.laysFinal "TaxOnLooks$Trace" "TaxOnLooks$Trace" "bodies" "[I") ∈ lw_all := lw_g (lw_at lw_m1 57 rfl) rfl
theorem q139 : (Jvm.Cond.soleField "TaxOnLooks$Trace" "bodies") ∈ lw_all := lw_g (lw_at lw_m1 58 rfl) rfl
theorem q140 : (Jvm.Cond.lays "TaxOnLooks$Trace" "TaxOnLooks$Trace" "many" "I") ∈ lw_all := lw_g (lw_at lw_m1 59 rfl) rfl
theorem q141 : (Jvm.Cond.soleField "TaxOnLooks$Trace" "many") ∈ lw_all := lw_g (lw_at lw_m1 60 rfl) rfl
theorem q142 : (Jvm.Cond.superclass "TaxOnLooks$Trace" "java/lang/Object") ∈ lw_all := lw_g (lw_at lw_m1 61 rfl) rfl
theorem q1278 : (Jvm.Cond.instanceMethod ({ cls := "TaxOnLooks$Trace", name := "runs", desc := "(I)V" } : Jvm.MethodName)) ∈ lw_all := lw_g (lw_at lw_m5 237 rfl) rfl
theorem q1279 : (Jvm.Cond.selects "TaxOnLooks$Trace" ({ cls := "TaxOnLooks$Trace", name := "runs", desc := "(I)V" } : Jvm.MethodName) ({ cls := "TaxOnLooks$Trace", name := "runs", desc := "(I)V" } : Jvm.MethodName)) ∈ lw_all := lw_g (lw_at lw_m5 238 rfl) rfl
theorem q1280 : (Jvm.Cond.code ({ cls := "TaxOnLooks$Trace", name := "runs", desc := "(I)V" } : Jvm.MethodName) prog_19_method_2_code (2 : Nat) (Option.none : Option Jvm.ClassFile.FieldType)) ∈ lw_all := lw_g (lw_at lw_m5 239 rfl) rfl
theorem in_X1 : ∀ w ∈ wsX10, w ∈ lw_all := lw_in wsX10 [138, 140] (by decide +kernel) (by decide +kernel)

/-! TaxOnLooks$Ints -/
set_option maxRecDepth 100000
def RX10 : String := "TaxOnLooks$Ints"
def TX10 : u_T := fun k => match k with
  | _ => ("TaxOnLooks$Ints", "e", "[I", true)
def tyX10 : Nat → FieldType := fun k => match k with
  | _ => .array .int
abbrev wsX100 : List Cond := u_ws RX10 TX10 1
theorem nmX10 : ∀ a, a < 1 → ∀ b, b < 1 → a ≠ b → (TX10 a).2.1 ≠ (TX10 b).2.1 := by decide +kernel
theorem tyX10_ok : ∀ k, k < 1 → parseFieldDescriptor (TX10 k).2.2.1 = some (tyX10 k) := by decide +kernel
abbrev cX10_init : ByteArray := prog_8_method_1_code
def yX10_init : MethodName := ⟨RX10, "<init>", "(I)V"⟩
def dkwX10_init_0 : List UInt8 := [42, 183, 0, 1, 42, 27, 188, 10, 181, 0, 7, 177]
abbrev dktX10_init_0 : List UInt8 := dkwX10_init_0 ++ []
theorem dksX10_init_0 : cX10_init.data.toList.drop 0 = dktX10_init_0 := by decide +kernel
theorem dX10_init_0 : decode cX10_init 0 = .ok (.aload_n 0, 1) := dk_42 (dk_at dksX10_init_0 0 rfl rfl)
theorem dX10_init_1 : decode cX10_init 1 = .ok (.invokespecial 1, 3) := dk_183 0 1 (dk_at dksX10_init_0 1 rfl rfl)
theorem dX10_init_4 : decode cX10_init 4 = .ok (.aload_n 0, 1) := dk_42 (dk_at dksX10_init_0 4 rfl rfl)
theorem dX10_init_5 : decode cX10_init 5 = .ok (.iload_n 1, 1) := dk_27 (dk_at dksX10_init_0 5 rfl rfl)
theorem dX10_init_6 : decode cX10_init 6 = .ok (.newarray .int, 2) := dk_188_10 (dk_at dksX10_init_0 6 rfl rfl)
theorem dX10_init_8 : decode cX10_init 8 = .ok (.putfield 7, 3) := dk_181 0 7 (dk_at dksX10_init_0 8 rfl rfl)
theorem dX10_init_11 : decode cX10_init 11 = .ok (.return_, 1) := dk_177 (dk_at dksX10_init_0 11 rfl rfl)
abbrev cX10_put : ByteArray := prog_8_method_4_code
def yX10_put : MethodName := ⟨RX10, "put", "(IJ)V"⟩
def dkwX10_put_0 : List UInt8 := [42, 180, 0, 7, 27, 32, 136, 79, 177]
abbrev dktX10_put_0 : List UInt8 := dkwX10_put_0 ++ []
theorem dksX10_put_0 : cX10_put.data.toList.drop 0 = dktX10_put_0 := by decide +kernel
theorem dX10_put_0 : decode cX10_put 0 = .ok (.aload_n 0, 1) := dk_42 (dk_at dksX10_put_0 0 rfl rfl)
theorem dX10_put_1 : decode cX10_put 1 = .ok (.getfield 7, 3) := dk_180 0 7 (dk_at dksX10_put_0 1 rfl rfl)
theorem dX10_put_4 : decode cX10_put 4 = .ok (.iload_n 1, 1) := dk_27 (dk_at dksX10_put_0 4 rfl rfl)
theorem dX10_put_5 : decode cX10_put 5 = .ok (.lload_n 2, 1) := dk_32 (dk_at dksX10_put_0 5 rfl rfl)
theorem dX10_put_6 : decode cX10_put 6 = .ok (.l2i, 1) := dk_136 (dk_at dksX10_put_0 6 rfl rfl)
theorem dX10_put_7 : decode cX10_put 7 = .ok (.iastore, 1) := dk_79 (dk_at dksX10_put_0 7 rfl rfl)
theorem dX10_put_8 : decode cX10_put 8 = .ok (.return_, 1) := dk_177 (dk_at dksX10_put_0 8 rfl rfl)
abbrev cX10_sort : ByteArray := prog_8_method_2_code
def yX10_sort : MethodName := ⟨RX10, "sort", "()I"⟩
theorem dX10_sort_0 : decode cX10_sort 0 = .ok (.iconst 2, 1) := by decide +kernel
theorem dX10_sort_1 : decode cX10_sort 1 = .ok (.ireturn, 1) := by decide +kernel
abbrev cX10_held : ByteArray := prog_8_method_8_code
def yX10_held : MethodName := ⟨RX10, "held", "()Ljava/lang/Object;"⟩
theorem dX10_held_0 : decode cX10_held 0 = .ok (.aload_n 0, 1) := by decide +kernel
theorem dX10_held_1 : decode cX10_held 1 = .ok (.getfield 7, 3) := by decide +kernel
theorem dX10_held_4 : decode cX10_held 4 = .ok (.areturn, 1) := by decide +kernel
abbrev cX10_get : ByteArray := prog_8_method_5_code
def yX10_get : MethodName := ⟨RX10, "get", "(I)J"⟩
def dkwX10_get_0 : List UInt8 := [42, 180, 0, 7, 27, 46, 133, 173]
abbrev dktX10_get_0 : List UInt8 := dkwX10_get_0 ++ []
theorem dksX10_get_0 : cX10_get.data.toList.drop 0 = dktX10_get_0 := by decide +kernel
theorem dX10_get_0 : decode cX10_get 0 = .ok (.aload_n 0, 1) := dk_42 (dk_at dksX10_get_0 0 rfl rfl)
theorem dX10_get_1 : decode cX10_get 1 = .ok (.getfield 7, 3) := dk_180 0 7 (dk_at dksX10_get_0 1 rfl rfl)
theorem dX10_get_4 : decode cX10_get 4 = .ok (.iload_n 1, 1) := dk_27 (dk_at dksX10_get_0 4 rfl rfl)
theorem dX10_get_5 : decode cX10_get 5 = .ok (.iaload, 1) := dk_46 (dk_at dksX10_get_0 5 rfl rfl)
theorem dX10_get_6 : decode cX10_get 6 = .ok (.i2l, 1) := dk_133 (dk_at dksX10_get_0 6 rfl rfl)
theorem dX10_get_7 : decode cX10_get 7 = .ok (.lreturn, 1) := dk_173 (dk_at dksX10_get_0 7 rfl rfl)
abbrev cX10_length : ByteArray := prog_8_method_3_code
def yX10_length : MethodName := ⟨RX10, "length", "()I"⟩
def dkwX10_length_0 : List UInt8 := [42, 180, 0, 7, 190, 172]
abbrev dktX10_length_0 : List UInt8 := dkwX10_length_0 ++ []
theorem dksX10_length_0 : cX10_length.data.toList.drop 0 = dktX10_length_0 := by decide +kernel
theorem dX10_length_0 : decode cX10_length 0 = .ok (.aload_n 0, 1) := dk_42 (dk_at dksX10_length_0 0 rfl rfl)
theorem dX10_length_1 : decode cX10_length 1 = .ok (.getfield 7, 3) := dk_180 0 7 (dk_at dksX10_length_0 1 rfl rfl)
theorem dX10_length_4 : decode cX10_length 4 = .ok (.arraylength, 1) := dk_190 (dk_at dksX10_length_0 4 rfl rfl)
theorem dX10_length_5 : decode cX10_length 5 = .ok (.ireturn, 1) := dk_172 (dk_at dksX10_length_0 5 rfl rfl)
theorem q99 : (Jvm.Cond.initialized "TaxOnLooks$Ints") ∈ lw_all := lw_g (lw_at lw_m1 18 rfl) rfl
theorem q432 : (Jvm.Cond.instantiable "TaxOnLooks$Ints" (1 : Nat)) ∈ lw_all := lw_g (lw_at lw_m2 111 rfl) rfl
theorem q434 : (Jvm.Cond.instanceMethod ({ cls := "TaxOnLooks$Ints", name := "<init>", desc := "(I)V" } : Jvm.MethodName)) ∈ lw_all := lw_g (lw_at lw_m2 113 rfl) rfl
theorem q435 : (Jvm.Cond.code ({ cls := "TaxOnLooks$Ints", name := "<init>", desc := "(I)V" } : Jvm.MethodName) prog_8_method_1_code (2 : Nat) (Option.none : Option Jvm.ClassFile.FieldType)) ∈ lw_all := lw_g (lw_at lw_m2 114 rfl) rfl
theorem q436 : (Jvm.Cond.methodLink "TaxOnLooks$Ints" (1 : Nat) ({ cls := "TaxOnLooks$Row", name := "<init>", desc := "()V" } : Jvm.MethodName)) ∈ lw_all := lw_g (lw_at lw_m2 115 rfl) rfl
theorem q437 : (Jvm.Cond.fieldLink "TaxOnLooks$Ints" (7 : Nat) "TaxOnLooks$Ints" "e" "[I") ∈ lw_all := lw_g (lw_at lw_m2 116 rfl) rfl
theorem q438 : (Jvm.Cond.laysFinal "TaxOnLooks$Ints" "TaxOnLooks$Ints" "e" "[I") ∈ lw_all := lw_g (lw_at lw_m2 117 rfl) rfl
theorem q439 : (Jvm.Cond.soleField "TaxOnLooks$Ints" "e") ∈ lw_all := lw_g (lw_at lw_m2 118 rfl) rfl
theorem q440 : (Jvm.Cond.superclass "TaxOnLooks$Ints" "TaxOnLooks$Row") ∈ lw_all := lw_g (lw_at lw_m2 119 rfl) rfl
theorem q488 : (Jvm.Cond.selects "TaxOnLooks$Ints" ({ cls := "TaxOnLooks$Row", name := "put", desc := "(IJ)V" } : Jvm.MethodName) ({ cls := "TaxOnLooks$Ints", name := "put", desc := "(IJ)V" } : Jvm.MethodName)) ∈ lw_all := lw_g (lw_at lw_m2 167 rfl) rfl
theorem q489 : (Jvm.Cond.instanceMethod ({ cls := "TaxOnLooks$Ints", name := "put", desc := "(IJ)V" } : Jvm.MethodName)) ∈ lw_all := lw_g (lw_at lw_m2 168 rfl) rfl
theorem q490 : (Jvm.Cond.code ({ cls := "TaxOnLooks$Ints", name := "put", desc := "(IJ)V" } : Jvm.MethodName) prog_8_method_4_code (4 : Nat) (Option.none : Option Jvm.ClassFile.FieldType)) ∈ lw_all := lw_g (lw_at lw_m2 169 rfl) rfl
theorem q513 : (Jvm.Cond.selects "TaxOnLooks$Ints" ({ cls := "TaxOnLooks$Row", name := "sort", desc := "()I" } : Jvm.MethodName) ({ cls := "TaxOnLooks$Ints", name := "sort", desc := "()I" } : Jvm.MethodName)) ∈ lw_all := lw_g (lw_at lw_m2 192 rfl) rfl
theorem q514 : (Jvm.Cond.instanceMethod ({ cls := "TaxOnLooks$Ints", name := "sort", desc := "()I" } : Jvm.MethodName)) ∈ lw_all := lw_g (lw_at lw_m2 193 rfl) rfl
theorem q515 : (Jvm.Cond.code ({ cls := "TaxOnLooks$Ints", name := "sort", desc := "()I" } : Jvm.MethodName) prog_8_method_2_code (1 : Nat) (Option.some Jvm.ClassFile.FieldType.int)) ∈ lw_all := lw_g (lw_at lw_m2 194 rfl) rfl
theorem q528 : (Jvm.Cond.selects "TaxOnLooks$Ints" ({ cls := "TaxOnLooks$Row", name := "held", desc := "()Ljava/lang/Object;" } : Jvm.MethodName) ({ cls := "TaxOnLooks$Ints", name := "held", desc := "()Ljava/lang/Object;" } : Jvm.MethodName)) ∈ lw_all := lw_g (lw_at lw_m2 207 rfl) rfl
theorem q529 : (Jvm.Cond.instanceMethod ({ cls := "TaxOnLooks$Ints", name := "held", desc := "()Ljava/lang/Object;" } : Jvm.MethodName)) ∈ lw_all := lw_g (lw_at lw_m2 208 rfl) rfl
theorem q530 : (Jvm.Cond.code ({ cls := "TaxOnLooks$Ints", name := "held", desc := "()Ljava/lang/Object;" } : Jvm.MethodName) prog_8_method_8_code (1 : Nat) (Option.some (Jvm.ClassFile.FieldType.object "java/lang/Object"))) ∈ lw_all := lw_g (lw_at lw_m2 209 rfl) rfl
theorem q550 : (Jvm.Cond.selects "TaxOnLooks$Ints" ({ cls := "TaxOnLooks$Row", name := "get", desc := "(I)J" } : Jvm.MethodName) ({ cls := "TaxOnLooks$Ints", name := "get", desc := "(I)J" } : Jvm.MethodName)) ∈ lw_all := lw_g (lw_at lw_m2 229 rfl) rfl
theorem q551 : (Jvm.Cond.instanceMethod ({ cls := "TaxOnLooks$Ints", name := "get", desc := "(I)J" } : Jvm.MethodName)) ∈ lw_all := lw_g (lw_at lw_m2 230 rfl) rfl
theorem q552 : (Jvm.Cond.code ({ cls := "TaxOnLooks$Ints", name := "get", desc := "(I)J" } : Jvm.MethodName) prog_8_method_5_code (2 : Nat) (Option.some Jvm.ClassFile.FieldType.long)) ∈ lw_all := lw_g (lw_at lw_m2 231 rfl) rfl
theorem q862 : (Jvm.Cond.selects "TaxOnLooks$Ints" ({ cls := "TaxOnLooks$Row", name := "length", desc := "()I" } : Jvm.MethodName) ({ cls := "TaxOnLooks$Ints", name := "length", desc := "()I" } : Jvm.MethodName)) ∈ lw_all := lw_g (lw_at lw_m4 61 rfl) rfl
theorem q863 : (Jvm.Cond.instanceMethod ({ cls := "TaxOnLooks$Ints", name := "length", desc := "()I" } : Jvm.MethodName)) ∈ lw_all := lw_g (lw_at lw_m4 62 rfl) rfl
theorem q864 : (Jvm.Cond.code ({ cls := "TaxOnLooks$Ints", name := "length", desc := "()I" } : Jvm.MethodName) prog_8_method_3_code (1 : Nat) (Option.some Jvm.ClassFile.FieldType.int)) ∈ lw_all := lw_g (lw_at lw_m4 63 rfl) rfl
theorem q875 : (Jvm.Cond.selects "TaxOnLooks$Ints" ({ cls := "TaxOnLooks$Row", name := "asInt", desc := "(I)I" } : Jvm.MethodName) ({ cls := "TaxOnLooks$Row", name := "asInt", desc := "(I)I" } : Jvm.MethodName)) ∈ lw_all := lw_g (lw_at lw_m4 74 rfl) rfl
theorem q1868 : (Jvm.Cond.castable "TaxOnLooks$Ints" "TaxOnLooks$Row") ∈ lw_tbl := lw_at lw_m8 107 rfl
theorem in_X10 : ∀ w ∈ wsX100, w ∈ lw_all := lw_in wsX100 [438] (by decide +kernel) (by decide +kernel)

/-! TaxOnLooks$Longs -/
set_option maxRecDepth 100000
def RX11 : String := "TaxOnLooks$Longs"
def TX11 : u_T := fun k => match k with
  | _ => ("TaxOnLooks$Longs", "e", "[J", true)
def tyX11 : Nat → FieldType := fun k => match k with
  | _ => .array .long
abbrev wsX110 : List Cond := u_ws RX11 TX11 1
theorem nmX11 : ∀ a, a < 1 → ∀ b, b < 1 → a ≠ b → (TX11 a).2.1 ≠ (TX11 b).2.1 := by decide +kernel
theorem tyX11_ok : ∀ k, k < 1 → parseFieldDescriptor (TX11 k).2.2.1 = some (tyX11 k) := by decide +kernel
abbrev cX11_init : ByteArray := prog_9_method_1_code
def yX11_init : MethodName := ⟨RX11, "<init>", "(I)V"⟩
def dkwX11_init_0 : List UInt8 := [42, 183, 0, 1, 42, 27, 188, 11, 181, 0, 7, 177]
abbrev dktX11_init_0 : List UInt8 := dkwX11_init_0 ++ []
theorem dksX11_init_0 : cX11_init.data.toList.drop 0 = dktX11_init_0 := by decide +kernel
theorem dX11_init_0 : decode cX11_init 0 = .ok (.aload_n 0, 1) := dk_42 (dk_at dksX11_init_0 0 rfl rfl)
theorem dX11_init_1 : decode cX11_init 1 = .ok (.invokespecial 1, 3) := dk_183 0 1 (dk_at dksX11_init_0 1 rfl rfl)
theorem dX11_init_4 : decode cX11_init 4 = .ok (.aload_n 0, 1) := dk_42 (dk_at dksX11_init_0 4 rfl rfl)
theorem dX11_init_5 : decode cX11_init 5 = .ok (.iload_n 1, 1) := dk_27 (dk_at dksX11_init_0 5 rfl rfl)
theorem dX11_init_6 : decode cX11_init 6 = .ok (.newarray .long, 2) := dk_188_11 (dk_at dksX11_init_0 6 rfl rfl)
theorem dX11_init_8 : decode cX11_init 8 = .ok (.putfield 7, 3) := dk_181 0 7 (dk_at dksX11_init_0 8 rfl rfl)
theorem dX11_init_11 : decode cX11_init 11 = .ok (.return_, 1) := dk_177 (dk_at dksX11_init_0 11 rfl rfl)
abbrev cX11_put : ByteArray := prog_9_method_4_code
def yX11_put : MethodName := ⟨RX11, "put", "(IJ)V"⟩
def dkwX11_put_0 : List UInt8 := [42, 180, 0, 7, 27, 32, 80, 177]
abbrev dktX11_put_0 : List UInt8 := dkwX11_put_0 ++ []
theorem dksX11_put_0 : cX11_put.data.toList.drop 0 = dktX11_put_0 := by decide +kernel
theorem dX11_put_0 : decode cX11_put 0 = .ok (.aload_n 0, 1) := dk_42 (dk_at dksX11_put_0 0 rfl rfl)
theorem dX11_put_1 : decode cX11_put 1 = .ok (.getfield 7, 3) := dk_180 0 7 (dk_at dksX11_put_0 1 rfl rfl)
theorem dX11_put_4 : decode cX11_put 4 = .ok (.iload_n 1, 1) := dk_27 (dk_at dksX11_put_0 4 rfl rfl)
theorem dX11_put_5 : decode cX11_put 5 = .ok (.lload_n 2, 1) := dk_32 (dk_at dksX11_put_0 5 rfl rfl)
theorem dX11_put_6 : decode cX11_put 6 = .ok (.lastore, 1) := dk_80 (dk_at dksX11_put_0 6 rfl rfl)
theorem dX11_put_7 : decode cX11_put 7 = .ok (.return_, 1) := dk_177 (dk_at dksX11_put_0 7 rfl rfl)
abbrev cX11_sort : ByteArray := prog_9_method_2_code
def yX11_sort : MethodName := ⟨RX11, "sort", "()I"⟩
theorem dX11_sort_0 : decode cX11_sort 0 = .ok (.iconst 3, 1) := by decide +kernel
theorem dX11_sort_1 : decode cX11_sort 1 = .ok (.ireturn, 1) := by decide +kernel
abbrev cX11_held : ByteArray := prog_9_method_8_code
def yX11_held : MethodName := ⟨RX11, "held", "()Ljava/lang/Object;"⟩
theorem dX11_held_0 : decode cX11_held 0 = .ok (.aload_n 0, 1) := by decide +kernel
theorem dX11_held_1 : decode cX11_held 1 = .ok (.getfield 7, 3) := by decide +kernel
theorem dX11_held_4 : decode cX11_held 4 = .ok (.areturn, 1) := by decide +kernel
abbrev cX11_get : ByteArray := prog_9_method_5_code
def yX11_get : MethodName := ⟨RX11, "get", "(I)J"⟩
def dkwX11_get_0 : List UInt8 := [42, 180, 0, 7, 27, 47, 173]
abbrev dktX11_get_0 : List UInt8 := dkwX11_get_0 ++ []
theorem dksX11_get_0 : cX11_get.data.toList.drop 0 = dktX11_get_0 := by decide +kernel
theorem dX11_get_0 : decode cX11_get 0 = .ok (.aload_n 0, 1) := dk_42 (dk_at dksX11_get_0 0 rfl rfl)
theorem dX11_get_1 : decode cX11_get 1 = .ok (.getfield 7, 3) := dk_180 0 7 (dk_at dksX11_get_0 1 rfl rfl)
theorem dX11_get_4 : decode cX11_get 4 = .ok (.iload_n 1, 1) := dk_27 (dk_at dksX11_get_0 4 rfl rfl)
theorem dX11_get_5 : decode cX11_get 5 = .ok (.laload, 1) := dk_47 (dk_at dksX11_get_0 5 rfl rfl)
theorem dX11_get_6 : decode cX11_get 6 = .ok (.lreturn, 1) := dk_173 (dk_at dksX11_get_0 6 rfl rfl)
abbrev cX11_length : ByteArray := prog_9_method_3_code
def yX11_length : MethodName := ⟨RX11, "length", "()I"⟩
def dkwX11_length_0 : List UInt8 := [42, 180, 0, 7, 190, 172]
abbrev dktX11_length_0 : List UInt8 := dkwX11_length_0 ++ []
theorem dksX11_length_0 : cX11_length.data.toList.drop 0 = dktX11_length_0 := by decide +kernel
theorem dX11_length_0 : decode cX11_length 0 = .ok (.aload_n 0, 1) := dk_42 (dk_at dksX11_length_0 0 rfl rfl)
theorem dX11_length_1 : decode cX11_length 1 = .ok (.getfield 7, 3) := dk_180 0 7 (dk_at dksX11_length_0 1 rfl rfl)
theorem dX11_length_4 : decode cX11_length 4 = .ok (.arraylength, 1) := dk_190 (dk_at dksX11_length_0 4 rfl rfl)
theorem dX11_length_5 : decode cX11_length 5 = .ok (.ireturn, 1) := dk_172 (dk_at dksX11_length_0 5 rfl rfl)
theorem q100 : (Jvm.Cond.initialized "TaxOnLooks$Longs") ∈ lw_all := lw_g (lw_at lw_m1 19 rfl) rfl
theorem q442 : (Jvm.Cond.instantiable "TaxOnLooks$Longs" (1 : Nat)) ∈ lw_all := lw_g (lw_at lw_m2 121 rfl) rfl
theorem q444 : (Jvm.Cond.instanceMethod ({ cls := "TaxOnLooks$Longs", name := "<init>", desc := "(I)V" } : Jvm.MethodName)) ∈ lw_all := lw_g (lw_at lw_m2 123 rfl) rfl
theorem q445 : (Jvm.Cond.code ({ cls := "TaxOnLooks$Longs", name := "<init>", desc := "(I)V" } : Jvm.MethodName) prog_9_method_1_code (2 : Nat) (Option.none : Option Jvm.ClassFile.FieldType)) ∈ lw_all := lw_g (lw_at lw_m2 124 rfl) rfl
theorem q446 : (Jvm.Cond.methodLink "TaxOnLooks$Longs" (1 : Nat) ({ cls := "TaxOnLooks$Row", name := "<init>", desc := "()V" } : Jvm.MethodName)) ∈ lw_all := lw_g (lw_at lw_m2 125 rfl) rfl
theorem q447 : (Jvm.Cond.fieldLink "TaxOnLooks$Longs" (7 : Nat) "TaxOnLooks$Longs" "e" "[J") ∈ lw_all := lw_g (lw_at lw_m2 126 rfl) rfl
theorem q448 : (Jvm.Cond.laysFinal "TaxOnLooks$Longs" "TaxOnLooks$Longs" "e" "[J") ∈ lw_all := lw_g (lw_at lw_m2 127 rfl) rfl
theorem q449 : (Jvm.Cond.soleField "TaxOnLooks$Longs" "e") ∈ lw_all := lw_g (lw_at lw_m2 128 rfl) rfl
theorem q450 : (Jvm.Cond.superclass "TaxOnLooks$Longs" "TaxOnLooks$Row") ∈ lw_all := lw_g (lw_at lw_m2 129 rfl) rfl
theorem q491 : (Jvm.Cond.selects "TaxOnLooks$Longs" ({ cls := "TaxOnLooks$Row", name := "put", desc := "(IJ)V" } : Jvm.MethodName) ({ cls := "TaxOnLooks$Longs", name := "put", desc := "(IJ)V" } : Jvm.MethodName)) ∈ lw_all := lw_g (lw_at lw_m2 170 rfl) rfl
theorem q492 : (Jvm.Cond.instanceMethod ({ cls := "TaxOnLooks$Longs", name := "put", desc := "(IJ)V" } : Jvm.MethodName)) ∈ lw_all := lw_g (lw_at lw_m2 171 rfl) rfl
theorem q493 : (Jvm.Cond.code ({ cls := "TaxOnLooks$Longs", name := "put", desc := "(IJ)V" } : Jvm.MethodName) prog_9_method_4_code (4 : Nat) (Option.none : Option Jvm.ClassFile.FieldType)) ∈ lw_all := lw_g (lw_at lw_m2 172 rfl) rfl
theorem q516 : (Jvm.Cond.selects "TaxOnLooks$Longs" ({ cls := "TaxOnLooks$Row", name := "sort", desc := "()I" } : Jvm.MethodName) ({ cls := "TaxOnLooks$Longs", name := "sort", desc := "()I" } : Jvm.MethodName)) ∈ lw_all := lw_g (lw_at lw_m2 195 rfl) rfl
theorem q517 : (Jvm.Cond.instanceMethod ({ cls := "TaxOnLooks$Longs", name := "sort", desc := "()I" } : Jvm.MethodName)) ∈ lw_all := lw_g (lw_at lw_m2 196 rfl) rfl
theorem q518 : (Jvm.Cond.code ({ cls := "TaxOnLooks$Longs", name := "sort", desc := "()I" } : Jvm.MethodName) prog_9_method_2_code (1 : Nat) (Option.some Jvm.ClassFile.FieldType.int)) ∈ lw_all := lw_g (lw_at lw_m2 197 rfl) rfl
theorem q531 : (Jvm.Cond.selects "TaxOnLooks$Longs" ({ cls := "TaxOnLooks$Row", name := "held", desc := "()Ljava/lang/Object;" } : Jvm.MethodName) ({ cls := "TaxOnLooks$Longs", name := "held", desc := "()Ljava/lang/Object;" } : Jvm.MethodName)) ∈ lw_all := lw_g (lw_at lw_m2 210 rfl) rfl
theorem q532 : (Jvm.Cond.instanceMethod ({ cls := "TaxOnLooks$Longs", name := "held", desc := "()Ljava/lang/Object;" } : Jvm.MethodName)) ∈ lw_all := lw_g (lw_at lw_m2 211 rfl) rfl
theorem q533 : (Jvm.Cond.code ({ cls := "TaxOnLooks$Longs", name := "held", desc := "()Ljava/lang/Object;" } : Jvm.MethodName) prog_9_method_8_code (1 : Nat) (Option.some (Jvm.ClassFile.FieldType.object "java/lang/Object"))) ∈ lw_all := lw_g (lw_at lw_m2 212 rfl) rfl
theorem q553 : (Jvm.Cond.selects "TaxOnLooks$Longs" ({ cls := "TaxOnLooks$Row", name := "get", desc := "(I)J" } : Jvm.MethodName) ({ cls := "TaxOnLooks$Longs", name := "get", desc := "(I)J" } : Jvm.MethodName)) ∈ lw_all := lw_g (lw_at lw_m2 232 rfl) rfl
theorem q554 : (Jvm.Cond.instanceMethod ({ cls := "TaxOnLooks$Longs", name := "get", desc := "(I)J" } : Jvm.MethodName)) ∈ lw_all := lw_g (lw_at lw_m2 233 rfl) rfl
theorem q555 : (Jvm.Cond.code ({ cls := "TaxOnLooks$Longs", name := "get", desc := "(I)J" } : Jvm.MethodName) prog_9_method_5_code (2 : Nat) (Option.some Jvm.ClassFile.FieldType.long)) ∈ lw_all := lw_g (lw_at lw_m2 234 rfl) rfl
theorem q865 : (Jvm.Cond.selects "TaxOnLooks$Longs" ({ cls := "TaxOnLooks$Row", name := "length", desc := "()I" } : Jvm.MethodName) ({ cls := "TaxOnLooks$Longs", name := "length", desc := "()I" } : Jvm.MethodName)) ∈ lw_all := lw_g (lw_at lw_m4 64 rfl) rfl
theorem q866 : (Jvm.Cond.instanceMethod ({ cls := "TaxOnLooks$Longs", name := "length", desc := "()I" } : Jvm.MethodName)) ∈ lw_all := lw_g (lw_at lw_m4 65 rfl) rfl
theorem q867 : (Jvm.Cond.code ({ cls := "TaxOnLooks$Longs", name := "length", desc := "()I" } : Jvm.MethodName) prog_9_method_3_code (1 : Nat) (Option.some Jvm.ClassFile.FieldType.int)) ∈ lw_all := lw_g (lw_at lw_m4 66 rfl) rfl
theorem q876 : (Jvm.Cond.selects "TaxOnLooks$Longs" ({ cls := "TaxOnLooks$Row", name := "asInt", desc := "(I)I" } : Jvm.MethodName) ({ cls := "TaxOnLooks$Row", name := "asInt", desc := "(I)I" } : Jvm.MethodName)) ∈ lw_all := lw_g (lw_at lw_m4 75 rfl) rfl
theorem q1869 : (Jvm.Cond.castable "TaxOnLooks$Longs" "TaxOnLooks$Row") ∈ lw_tbl := lw_at lw_m8 108 rfl
theorem in_X11 : ∀ w ∈ wsX110, w ∈ lw_all := lw_in wsX110 [448] (by decide +kernel) (by decide +kernel)

/-! TaxOnLooks$Person -/
set_option maxRecDepth 100000
def RX12 : String := "TaxOnLooks$Person"
def TX12 : u_T := fun k => match k with
  | 0 => ("TaxOnLooks$Person", "index", "I", true)
  | 1 => ("TaxOnLooks$Person", "by", "I", true)
  | _ => ("TaxOnLooks$Person", "shame", "I", true)
def tyX12 : Nat → FieldType := fun k => match k with
  | 0 => .int
  | 1 => .int
  | _ => .int
abbrev wsX120 : List Cond := u_ws RX12 TX12 3
theorem nmX12 : ∀ a, a < 3 → ∀ b, b < 3 → a ≠ b → (TX12 a).2.1 ≠ (TX12 b).2.1 := by decide +kernel
theorem tyX12_ok : ∀ k, k < 3 → parseFieldDescriptor (TX12 k).2.2.1 = some (tyX12 k) := by decide +kernel
abbrev cX12_shows : ByteArray := prog_11_method_3_code
def yX12_shows : MethodName := ⟨RX12, "shows", "(I)I"⟩
theorem dX12_shows_0 : decode cX12_shows 0 = .ok (.iload_n 1, 1) := by decide +kernel
theorem dX12_shows_1 : decode cX12_shows 1 = .ok (.ireturn, 1) := by decide +kernel
abbrev cX12_init : ByteArray := prog_11_method_1_code
def yX12_init : MethodName := ⟨RX12, "<init>", "(III)V"⟩
def dkwX12_init_0 : List UInt8 := [42, 183, 0, 1, 42, 27, 181, 0, 7, 42, 28, 181, 0, 13, 42, 29, 181, 0, 16, 177]
abbrev dktX12_init_0 : List UInt8 := dkwX12_init_0 ++ []
theorem dksX12_init_0 : cX12_init.data.toList.drop 0 = dktX12_init_0 := by decide +kernel
theorem dX12_init_0 : decode cX12_init 0 = .ok (.aload_n 0, 1) := dk_42 (dk_at dksX12_init_0 0 rfl rfl)
theorem dX12_init_1 : decode cX12_init 1 = .ok (.invokespecial 1, 3) := dk_183 0 1 (dk_at dksX12_init_0 1 rfl rfl)
theorem dX12_init_4 : decode cX12_init 4 = .ok (.aload_n 0, 1) := dk_42 (dk_at dksX12_init_0 4 rfl rfl)
theorem dX12_init_5 : decode cX12_init 5 = .ok (.iload_n 1, 1) := dk_27 (dk_at dksX12_init_0 5 rfl rfl)
theorem dX12_init_6 : decode cX12_init 6 = .ok (.putfield 7, 3) := dk_181 0 7 (dk_at dksX12_init_0 6 rfl rfl)
theorem dX12_init_9 : decode cX12_init 9 = .ok (.aload_n 0, 1) := dk_42 (dk_at dksX12_init_0 9 rfl rfl)
theorem dX12_init_10 : decode cX12_init 10 = .ok (.iload_n 2, 1) := dk_28 (dk_at dksX12_init_0 10 rfl rfl)
theorem dX12_init_11 : decode cX12_init 11 = .ok (.putfield 13, 3) := dk_181 0 13 (dk_at dksX12_init_0 11 rfl rfl)
theorem dX12_init_14 : decode cX12_init 14 = .ok (.aload_n 0, 1) := dk_42 (dk_at dksX12_init_0 14 rfl rfl)
theorem dX12_init_15 : decode cX12_init 15 = .ok (.iload_n 3, 1) := dk_29 (dk_at dksX12_init_0 15 rfl rfl)
theorem dX12_init_16 : decode cX12_init 16 = .ok (.putfield 16, 3) := dk_181 0 16 (dk_at dksX12_init_0 16 rfl rfl)
theorem dX12_init_19 : decode cX12_init 19 = .ok (.return_, 1) := dk_177 (dk_at dksX12_init_0 19 rfl rfl)
abbrev cX12_kind : ByteArray := prog_11_method_2_code
def yX12_kind : MethodName := ⟨RX12, "kind", "()I"⟩
theorem dX12_kind_0 : decode cX12_kind 0 = .ok (.iconst 0, 1) := by decide +kernel
theorem dX12_kind_1 : decode cX12_kind 1 = .ok (.ireturn, 1) := by decide +kernel
abbrev cX12_looksAtAll : ByteArray := prog_11_method_4_code
def yX12_looksAtAll : MethodName := ⟨RX12, "looksAtAll", "()Z"⟩
theorem dX12_looksAtAll_0 : decode cX12_looksAtAll 0 = .ok (.iconst 1, 1) := by decide +kernel
theorem dX12_looksAtAll_1 : decode cX12_looksAtAll 1 = .ok (.ireturn, 1) := by decide +kernel
abbrev cX12_looksAtOne : ByteArray := prog_11_method_5_code
def yX12_looksAtOne : MethodName := ⟨RX12, "looksAtOne", "()Z"⟩
theorem dX12_looksAtOne_0 : decode cX12_looksAtOne 0 = .ok (.iconst 0, 1) := by decide +kernel
theorem dX12_looksAtOne_1 : decode cX12_looksAtOne 1 = .ok (.ireturn, 1) := by decide +kernel
abbrev cX12_owes : ByteArray := prog_11_method_6_code
def yX12_owes : MethodName := ⟨RX12, "owes", "(I)I"⟩
theorem dX12_owes_0 : decode cX12_owes 0 = .ok (.iload_n 1, 1) := by decide +kernel
theorem dX12_owes_1 : decode cX12_owes 1 = .ok (.ireturn, 1) := by decide +kernel
abbrev cX12_looking : ByteArray := prog_11_method_7_code
def yX12_looking : MethodName := ⟨RX12, "looking", "(ILTaxOnLooks$Trace;)I"⟩
def dkwX12_looking_0 : List UInt8 := [44, 16, 10, 182, 0, 19, 27, 42, 180, 0, 7, 96, 172]
abbrev dktX12_looking_0 : List UInt8 := dkwX12_looking_0 ++ []
theorem dksX12_looking_0 : cX12_looking.data.toList.drop 0 = dktX12_looking_0 := by decide +kernel
theorem dX12_looking_0 : decode cX12_looking 0 = .ok (.aload_n 2, 1) := dk_44 (dk_at dksX12_looking_0 0 rfl rfl)
theorem dX12_looking_1 : decode cX12_looking 1 = .ok (.bipush 10, 2) := dk_16 10 (dk_at dksX12_looking_0 1 rfl rfl)
theorem dX12_looking_3 : decode cX12_looking 3 = .ok (.invokevirtual 19, 3) := dk_182 0 19 (dk_at dksX12_looking_0 3 rfl rfl)
theorem dX12_looking_6 : decode cX12_looking 6 = .ok (.iload_n 1, 1) := dk_27 (dk_at dksX12_looking_0 6 rfl rfl)
theorem dX12_looking_7 : decode cX12_looking 7 = .ok (.aload_n 0, 1) := dk_42 (dk_at dksX12_looking_0 7 rfl rfl)
theorem dX12_looking_8 : decode cX12_looking 8 = .ok (.getfield 7, 3) := dk_180 0 7 (dk_at dksX12_looking_0 8 rfl rfl)
theorem dX12_looking_11 : decode cX12_looking 11 = .ok (.iadd, 1) := dk_96 (dk_at dksX12_looking_0 11 rfl rfl)
theorem dX12_looking_12 : decode cX12_looking 12 = .ok (.ireturn, 1) := dk_172 (dk_at dksX12_looking_0 12 rfl rfl)
abbrev cX12_walking : ByteArray := prog_11_method_8_code
def yX12_walking : MethodName := ⟨RX12, "walking", "(ILTaxOnLooks$Trace;)I"⟩
def dkwX12_walking_0 : List UInt8 := [44, 16, 11, 182, 0, 19, 42, 27, 44, 182, 0, 25, 5, 104, 172]
abbrev dktX12_walking_0 : List UInt8 := dkwX12_walking_0 ++ []
theorem dksX12_walking_0 : cX12_walking.data.toList.drop 0 = dktX12_walking_0 := by decide +kernel
theorem dX12_walking_0 : decode cX12_walking 0 = .ok (.aload_n 2, 1) := dk_44 (dk_at dksX12_walking_0 0 rfl rfl)
theorem dX12_walking_1 : decode cX12_walking 1 = .ok (.bipush 11, 2) := dk_16 11 (dk_at dksX12_walking_0 1 rfl rfl)
theorem dX12_walking_3 : decode cX12_walking 3 = .ok (.invokevirtual 19, 3) := dk_182 0 19 (dk_at dksX12_walking_0 3 rfl rfl)
theorem dX12_walking_6 : decode cX12_walking 6 = .ok (.aload_n 0, 1) := dk_42 (dk_at dksX12_walking_0 6 rfl rfl)
theorem dX12_walking_7 : decode cX12_walking 7 = .ok (.iload_n 1, 1) := dk_27 (dk_at dksX12_walking_0 7 rfl rfl)
theorem dX12_walking_8 : decode cX12_walking 8 = .ok (.aload_n 2, 1) := dk_44 (dk_at dksX12_walking_0 8 rfl rfl)
theorem dX12_walking_9 : decode cX12_walking 9 = .ok (.invokevirtual 25, 3) := dk_182 0 25 (dk_at dksX12_walking_0 9 rfl rfl)
theorem dX12_walking_12 : decode cX12_walking 12 = .ok (.iconst 2, 1) := dk_5 (dk_at dksX12_walking_0 12 rfl rfl)
theorem dX12_walking_13 : decode cX12_walking 13 = .ok (.imul, 1) := dk_104 (dk_at dksX12_walking_0 13 rfl rfl)
theorem dX12_walking_14 : decode cX12_walking 14 = .ok (.ireturn, 1) := dk_172 (dk_at dksX12_walking_0 14 rfl rfl)
abbrev cX12_paying : ByteArray := prog_11_method_9_code
def yX12_paying : MethodName := ⟨RX12, "paying", "(ILTaxOnLooks$Trace;)I"⟩
def dkwX12_paying_1 : List UInt8 := [182, 0, 25, 130, 172]
abbrev dktX12_paying_1 : List UInt8 := dkwX12_paying_1 ++ []
def dkwX12_paying_0 : List UInt8 := [44, 16, 12, 182, 0, 19, 42, 27, 44, 182, 0, 29, 62, 29, 42, 27, 42, 180, 0, 13, 100, 44]
abbrev dktX12_paying_0 : List UInt8 := dkwX12_paying_0 ++ dktX12_paying_1
theorem dksX12_paying_0 : cX12_paying.data.toList.drop 0 = dktX12_paying_0 := by decide +kernel
theorem dksX12_paying_1 : cX12_paying.data.toList.drop 22 = dktX12_paying_1 := dk_seg dksX12_paying_0 22 rfl rfl
theorem dX12_paying_0 : decode cX12_paying 0 = .ok (.aload_n 2, 1) := dk_44 (dk_at dksX12_paying_0 0 rfl rfl)
theorem dX12_paying_1 : decode cX12_paying 1 = .ok (.bipush 12, 2) := dk_16 12 (dk_at dksX12_paying_0 1 rfl rfl)
theorem dX12_paying_3 : decode cX12_paying 3 = .ok (.invokevirtual 19, 3) := dk_182 0 19 (dk_at dksX12_paying_0 3 rfl rfl)
theorem dX12_paying_6 : decode cX12_paying 6 = .ok (.aload_n 0, 1) := dk_42 (dk_at dksX12_paying_0 6 rfl rfl)
theorem dX12_paying_7 : decode cX12_paying 7 = .ok (.iload_n 1, 1) := dk_27 (dk_at dksX12_paying_0 7 rfl rfl)
theorem dX12_paying_8 : decode cX12_paying 8 = .ok (.aload_n 2, 1) := dk_44 (dk_at dksX12_paying_0 8 rfl rfl)
theorem dX12_paying_9 : decode cX12_paying 9 = .ok (.invokevirtual 29, 3) := dk_182 0 29 (dk_at dksX12_paying_0 9 rfl rfl)
theorem dX12_paying_12 : decode cX12_paying 12 = .ok (.istore_n 3, 1) := dk_62 (dk_at dksX12_paying_0 12 rfl rfl)
theorem dX12_paying_13 : decode cX12_paying 13 = .ok (.iload_n 3, 1) := dk_29 (dk_at dksX12_paying_0 13 rfl rfl)
theorem dX12_paying_14 : decode cX12_paying 14 = .ok (.aload_n 0, 1) := dk_42 (dk_at dksX12_paying_0 14 rfl rfl)
theorem dX12_paying_15 : decode cX12_paying 15 = .ok (.iload_n 1, 1) := dk_27 (dk_at dksX12_paying_0 15 rfl rfl)
theorem dX12_paying_16 : decode cX12_paying 16 = .ok (.aload_n 0, 1) := dk_42 (dk_at dksX12_paying_0 16 rfl rfl)
theorem dX12_paying_17 : decode cX12_paying 17 = .ok (.getfield 13, 3) := dk_180 0 13 (dk_at dksX12_paying_0 17 rfl rfl)
theorem dX12_paying_20 : decode cX12_paying 20 = .ok (.isub, 1) := dk_100 (dk_at dksX12_paying_0 20 rfl rfl)
theorem dX12_paying_21 : decode cX12_paying 21 = .ok (.aload_n 2, 1) := dk_44 (dk_at dksX12_paying_0 21 rfl rfl)
theorem dX12_paying_22 : decode cX12_paying 22 = .ok (.invokevirtual 25, 3) := dk_182 0 25 (dk_at dksX12_paying_1 0 rfl rfl)
theorem dX12_paying_25 : decode cX12_paying 25 = .ok (.ixor, 1) := dk_130 (dk_at dksX12_paying_1 3 rfl rfl)
theorem dX12_paying_26 : decode cX12_paying 26 = .ok (.ireturn, 1) := dk_172 (dk_at dksX12_paying_1 4 rfl rfl)
theorem q104 : (Jvm.Cond.initialized "TaxOnLooks$Person") ∈ lw_all := lw_g (lw_at lw_m1 23 rfl) rfl
theorem q592 : (Jvm.Cond.instanceMethod ({ cls := "TaxOnLooks$Person", name := "shows", desc := "(I)I" } : Jvm.MethodName)) ∈ lw_all := lw_g (lw_at lw_m3 31 rfl) rfl
theorem q593 : (Jvm.Cond.selects "TaxOnLooks$Person" ({ cls := "TaxOnLooks$Person", name := "shows", desc := "(I)I" } : Jvm.MethodName) ({ cls := "TaxOnLooks$Person", name := "shows", desc := "(I)I" } : Jvm.MethodName)) ∈ lw_all := lw_g (lw_at lw_m3 32 rfl) rfl
theorem q594 : (Jvm.Cond.sameMethod "TaxOnLooks$Person" "TaxOnLooks$Person" "shows" "(I)I") ∈ lw_all := lw_g (lw_at lw_m3 33 rfl) rfl
theorem q604 : (Jvm.Cond.code ({ cls := "TaxOnLooks$Person", name := "shows", desc := "(I)I" } : Jvm.MethodName) prog_11_method_3_code (2 : Nat) (Option.some Jvm.ClassFile.FieldType.int)) ∈ lw_all := lw_g (lw_at lw_m3 43 rfl) rfl
theorem q614 : (Jvm.Cond.declares ({ cls := "TaxOnLooks$Person", name := "shows", desc := "(I)I" } : Jvm.MethodName)) ∈ lw_tbl := lw_at lw_m3 53 rfl
theorem q649 : (Jvm.Cond.instanceMethod ({ cls := "TaxOnLooks$Person", name := "<init>", desc := "(III)V" } : Jvm.MethodName)) ∈ lw_all := lw_g (lw_at lw_m3 88 rfl) rfl
theorem q650 : (Jvm.Cond.code ({ cls := "TaxOnLooks$Person", name := "<init>", desc := "(III)V" } : Jvm.MethodName) prog_11_method_1_code (4 : Nat) (Option.none : Option Jvm.ClassFile.FieldType)) ∈ lw_all := lw_g (lw_at lw_m3 89 rfl) rfl
theorem q651 : (Jvm.Cond.methodLink "TaxOnLooks$Person" (1 : Nat) ({ cls := "java/lang/Object", name := "<init>", desc := "()V" } : Jvm.MethodName)) ∈ lw_all := lw_g (lw_at lw_m3 90 rfl) rfl
theorem q652 : (Jvm.Cond.fieldLink "TaxOnLooks$Person" (7 : Nat) "TaxOnLooks$Person" "index" "I") ∈ lw_all := lw_g (lw_at lw_m3 91 rfl) rfl
theorem q665 : (Jvm.Cond.fieldLink "TaxOnLooks$Person" (13 : Nat) "TaxOnLooks$Person" "by" "I") ∈ lw_all := lw_g (lw_at lw_m3 104 rfl) rfl
theorem q673 : (Jvm.Cond.fieldLink "TaxOnLooks$Person" (16 : Nat) "TaxOnLooks$Person" "shame" "I") ∈ lw_all := lw_g (lw_at lw_m3 112 rfl) rfl
theorem q682 : (Jvm.Cond.soleField "TaxOnLooks$Person" "index") ∈ lw_all := lw_g (lw_at lw_m3 121 rfl) rfl
theorem q684 : (Jvm.Cond.soleField "TaxOnLooks$Person" "by") ∈ lw_all := lw_g (lw_at lw_m3 123 rfl) rfl
theorem q686 : (Jvm.Cond.soleField "TaxOnLooks$Person" "shame") ∈ lw_all := lw_g (lw_at lw_m3 125 rfl) rfl
theorem q734 : (Jvm.Cond.instantiable "TaxOnLooks$Person" (3 : Nat)) ∈ lw_all := lw_g (lw_at lw_m3 173 rfl) rfl
theorem q736 : (Jvm.Cond.laysFinal "TaxOnLooks$Person" "TaxOnLooks$Person" "index" "I") ∈ lw_all := lw_g (lw_at lw_m3 175 rfl) rfl
theorem q737 : (Jvm.Cond.laysFinal "TaxOnLooks$Person" "TaxOnLooks$Person" "by" "I") ∈ lw_all := lw_g (lw_at lw_m3 176 rfl) rfl
theorem q738 : (Jvm.Cond.laysFinal "TaxOnLooks$Person" "TaxOnLooks$Person" "shame" "I") ∈ lw_all := lw_g (lw_at lw_m3 177 rfl) rfl
theorem q739 : (Jvm.Cond.superclass "TaxOnLooks$Person" "java/lang/Object") ∈ lw_all := lw_g (lw_at lw_m3 178 rfl) rfl
theorem q783 : (Jvm.Cond.instanceMethod ({ cls := "TaxOnLooks$Person", name := "kind", desc := "()I" } : Jvm.MethodName)) ∈ lw_all := lw_g (lw_at lw_m3 222 rfl) rfl
theorem q784 : (Jvm.Cond.selects "TaxOnLooks$Person" ({ cls := "TaxOnLooks$Person", name := "kind", desc := "()I" } : Jvm.MethodName) ({ cls := "TaxOnLooks$Person", name := "kind", desc := "()I" } : Jvm.MethodName)) ∈ lw_all := lw_g (lw_at lw_m3 223 rfl) rfl
theorem q785 : (Jvm.Cond.sameMethod "TaxOnLooks$Person" "TaxOnLooks$Person" "kind" "()I") ∈ lw_all := lw_g (lw_at lw_m3 224 rfl) rfl
theorem q804 : (Jvm.Cond.code ({ cls := "TaxOnLooks$Person", name := "kind", desc := "()I" } : Jvm.MethodName) prog_11_method_2_code (1 : Nat) (Option.some Jvm.ClassFile.FieldType.int)) ∈ lw_all := lw_g (lw_at lw_m4 3 rfl) rfl
theorem q1031 : (Jvm.Cond.instanceMethod ({ cls := "TaxOnLooks$Person", name := "looksAtAll", desc := "()Z" } : Jvm.MethodName)) ∈ lw_all := lw_g (lw_at lw_m4 230 rfl) rfl
theorem q1032 : (Jvm.Cond.selects "TaxOnLooks$Person" ({ cls := "TaxOnLooks$Person", name := "looksAtAll", desc := "()Z" } : Jvm.MethodName) ({ cls := "TaxOnLooks$Person", name := "looksAtAll", desc := "()Z" } : Jvm.MethodName)) ∈ lw_all := lw_g (lw_at lw_m4 231 rfl) rfl
theorem q1033 : (Jvm.Cond.sameMethod "TaxOnLooks$Person" "TaxOnLooks$Person" "looksAtAll" "()Z") ∈ lw_all := lw_g (lw_at lw_m4 232 rfl) rfl
theorem q1042 : (Jvm.Cond.code ({ cls := "TaxOnLooks$Person", name := "looksAtAll", desc := "()Z" } : Jvm.MethodName) prog_11_method_4_code (1 : Nat) (Option.some Jvm.ClassFile.FieldType.boolean)) ∈ lw_all := lw_g (lw_at lw_m5 1 rfl) rfl
theorem q1050 : (Jvm.Cond.instanceMethod ({ cls := "TaxOnLooks$Person", name := "looksAtOne", desc := "()Z" } : Jvm.MethodName)) ∈ lw_all := lw_g (lw_at lw_m5 9 rfl) rfl
theorem q1051 : (Jvm.Cond.selects "TaxOnLooks$Person" ({ cls := "TaxOnLooks$Person", name := "looksAtOne", desc := "()Z" } : Jvm.MethodName) ({ cls := "TaxOnLooks$Person", name := "looksAtOne", desc := "()Z" } : Jvm.MethodName)) ∈ lw_all := lw_g (lw_at lw_m5 10 rfl) rfl
theorem q1052 : (Jvm.Cond.sameMethod "TaxOnLooks$Person" "TaxOnLooks$Person" "looksAtOne" "()Z") ∈ lw_all := lw_g (lw_at lw_m5 11 rfl) rfl
theorem q1061 : (Jvm.Cond.code ({ cls := "TaxOnLooks$Person", name := "looksAtOne", desc := "()Z" } : Jvm.MethodName) prog_11_method_5_code (1 : Nat) (Option.some Jvm.ClassFile.FieldType.boolean)) ∈ lw_all := lw_g (lw_at lw_m5 20 rfl) rfl
theorem q1087 : (Jvm.Cond.instanceMethod ({ cls := "TaxOnLooks$Person", name := "owes", desc := "(I)I" } : Jvm.MethodName)) ∈ lw_all := lw_g (lw_at lw_m5 46 rfl) rfl
theorem q1088 : (Jvm.Cond.selects "TaxOnLooks$Person" ({ cls := "TaxOnLooks$Person", name := "owes", desc := "(I)I" } : Jvm.MethodName) ({ cls := "TaxOnLooks$Person", name := "owes", desc := "(I)I" } : Jvm.MethodName)) ∈ lw_all := lw_g (lw_at lw_m5 47 rfl) rfl
theorem q1089 : (Jvm.Cond.sameMethod "TaxOnLooks$Person" "TaxOnLooks$Person" "owes" "(I)I") ∈ lw_all := lw_g (lw_at lw_m5 48 rfl) rfl
theorem q1100 : (Jvm.Cond.code ({ cls := "TaxOnLooks$Person", name := "owes", desc := "(I)I" } : Jvm.MethodName) prog_11_method_6_code (2 : Nat) (Option.some Jvm.ClassFile.FieldType.int)) ∈ lw_all := lw_g (lw_at lw_m5 59 rfl) rfl
theorem q1271 : (Jvm.Cond.instanceMethod ({ cls := "TaxOnLooks$Person", name := "looking", desc := "(ILTaxOnLooks$Trace;)I" } : Jvm.MethodName)) ∈ lw_all := lw_g (lw_at lw_m5 230 rfl) rfl
theorem q1272 : (Jvm.Cond.selects "TaxOnLooks$Person" ({ cls := "TaxOnLooks$Person", name := "looking", desc := "(ILTaxOnLooks$Trace;)I" } : Jvm.MethodName) ({ cls := "TaxOnLooks$Person", name := "looking", desc := "(ILTaxOnLooks$Trace;)I" } : Jvm.MethodName)) ∈ lw_all := lw_g (lw_at lw_m5 231 rfl) rfl
theorem q1273 : (Jvm.Cond.sameMethod "TaxOnLooks$Person" "TaxOnLooks$Person" "looking" "(ILTaxOnLooks$Trace;)I") ∈ lw_all := lw_g (lw_at lw_m5 232 rfl) rfl
theorem q1286 : (Jvm.Cond.code ({ cls := "TaxOnLooks$Person", name := "looking", desc := "(ILTaxOnLooks$Trace;)I" } : Jvm.MethodName) prog_11_method_7_code (3 : Nat) (Option.some Jvm.ClassFile.FieldType.int)) ∈ lw_all := lw_g (lw_at lw_m6 5 rfl) rfl
theorem q1287 : (Jvm.Cond.methodLink "TaxOnLooks$Person" (19 : Nat) ({ cls := "TaxOnLooks$Trace", name := "runs", desc := "(I)V" } : Jvm.MethodName)) ∈ lw_all := lw_g (lw_at lw_m6 6 rfl) rfl
theorem q1302 : (Jvm.Cond.instanceMethod ({ cls := "TaxOnLooks$Person", name := "walking", desc := "(ILTaxOnLooks$Trace;)I" } : Jvm.MethodName)) ∈ lw_all := lw_g (lw_at lw_m6 21 rfl) rfl
theorem q1303 : (Jvm.Cond.selects "TaxOnLooks$Person" ({ cls := "TaxOnLooks$Person", name := "walking", desc := "(ILTaxOnLooks$Trace;)I" } : Jvm.MethodName) ({ cls := "TaxOnLooks$Person", name := "walking", desc := "(ILTaxOnLooks$Trace;)I" } : Jvm.MethodName)) ∈ lw_all := lw_g (lw_at lw_m6 22 rfl) rfl
theorem q1304 : (Jvm.Cond.sameMethod "TaxOnLooks$Person" "TaxOnLooks$Person" "walking" "(ILTaxOnLooks$Trace;)I") ∈ lw_all := lw_g (lw_at lw_m6 23 rfl) rfl
theorem q1312 : (Jvm.Cond.code ({ cls := "TaxOnLooks$Person", name := "walking", desc := "(ILTaxOnLooks$Trace;)I" } : Jvm.MethodName) prog_11_method_8_code (3 : Nat) (Option.some Jvm.ClassFile.FieldType.int)) ∈ lw_all := lw_g (lw_at lw_m6 31 rfl) rfl
theorem q1313 : (Jvm.Cond.methodLink "TaxOnLooks$Person" (25 : Nat) ({ cls := "TaxOnLooks$Person", name := "looking", desc := "(ILTaxOnLooks$Trace;)I" } : Jvm.MethodName)) ∈ lw_all := lw_g (lw_at lw_m6 32 rfl) rfl
theorem q1321 : (Jvm.Cond.declares ({ cls := "TaxOnLooks$Person", name := "walking", desc := "(ILTaxOnLooks$Trace;)I" } : Jvm.MethodName)) ∈ lw_tbl := lw_at lw_m6 40 rfl
theorem q1323 : (Jvm.Cond.instanceMethod ({ cls := "TaxOnLooks$Person", name := "paying", desc := "(ILTaxOnLooks$Trace;)I" } : Jvm.MethodName)) ∈ lw_all := lw_g (lw_at lw_m6 42 rfl) rfl
theorem q1324 : (Jvm.Cond.selects "TaxOnLooks$Person" ({ cls := "TaxOnLooks$Person", name := "paying", desc := "(ILTaxOnLooks$Trace;)I" } : Jvm.MethodName) ({ cls := "TaxOnLooks$Person", name := "paying", desc := "(ILTaxOnLooks$Trace;)I" } : Jvm.MethodName)) ∈ lw_all := lw_g (lw_at lw_m6 43 rfl) rfl
theorem q1325 : (Jvm.Cond.sameMethod "TaxOnLooks$Person" "TaxOnLooks$Person" "paying" "(ILTaxOnLooks$Trace;)I") ∈ lw_all := lw_g (lw_at lw_m6 44 rfl) rfl
theorem q1335 : (Jvm.Cond.declares ({ cls := "TaxOnLooks$Person", name := "paying", desc := "(ILTaxOnLooks$Trace;)I" } : Jvm.MethodName)) ∈ lw_tbl := lw_at lw_m6 54 rfl
theorem q1336 : (Jvm.Cond.code ({ cls := "TaxOnLooks$Person", name := "paying", desc := "(ILTaxOnLooks$Trace;)I" } : Jvm.MethodName) prog_11_method_9_code (4 : Nat) (Option.some Jvm.ClassFile.FieldType.int)) ∈ lw_all := lw_g (lw_at lw_m6 55 rfl) rfl
theorem q1337 : (Jvm.Cond.methodLink "TaxOnLooks$Person" (29 : Nat) ({ cls := "TaxOnLooks$Person", name := "walking", desc := "(ILTaxOnLooks$Trace;)I" } : Jvm.MethodName)) ∈ lw_all := lw_g (lw_at lw_m6 56 rfl) rfl
theorem in_X12 : ∀ w ∈ wsX120, w ∈ lw_all := lw_in wsX120 [736, 737, 738] (by decide +kernel) (by decide +kernel)

/-! TaxOnLooks$Beauty -/
set_option maxRecDepth 100000
def RX13 : String := "TaxOnLooks$Beauty"
def TX13 : u_T := fun k => match k with
  | 0 => ("TaxOnLooks$Person", "index", "I", true)
  | 1 => ("TaxOnLooks$Person", "by", "I", true)
  | _ => ("TaxOnLooks$Person", "shame", "I", true)
def tyX13 : Nat → FieldType := fun k => match k with
  | 0 => .int
  | 1 => .int
  | _ => .int
abbrev wsX130 : List Cond := u_ws RX13 TX13 3
theorem nmX13 : ∀ a, a < 3 → ∀ b, b < 3 → a ≠ b → (TX13 a).2.1 ≠ (TX13 b).2.1 := by decide +kernel
theorem tyX13_ok : ∀ k, k < 3 → parseFieldDescriptor (TX13 k).2.2.1 = some (tyX13 k) := by decide +kernel
abbrev cX13_shows : ByteArray := prog_3_method_3_code
def yX13_shows : MethodName := ⟨RX13, "shows", "(I)I"⟩
def dkwX13_shows_0 : List UInt8 := [5, 42, 27, 183, 0, 9, 104, 172]
abbrev dktX13_shows_0 : List UInt8 := dkwX13_shows_0 ++ []
theorem dksX13_shows_0 : cX13_shows.data.toList.drop 0 = dktX13_shows_0 := by decide +kernel
theorem dX13_shows_0 : decode cX13_shows 0 = .ok (.iconst 2, 1) := dk_5 (dk_at dksX13_shows_0 0 rfl rfl)
theorem dX13_shows_1 : decode cX13_shows 1 = .ok (.aload_n 0, 1) := dk_42 (dk_at dksX13_shows_0 1 rfl rfl)
theorem dX13_shows_2 : decode cX13_shows 2 = .ok (.iload_n 1, 1) := dk_27 (dk_at dksX13_shows_0 2 rfl rfl)
theorem dX13_shows_3 : decode cX13_shows 3 = .ok (.invokespecial 9, 3) := dk_183 0 9 (dk_at dksX13_shows_0 3 rfl rfl)
theorem dX13_shows_6 : decode cX13_shows 6 = .ok (.imul, 1) := dk_104 (dk_at dksX13_shows_0 6 rfl rfl)
theorem dX13_shows_7 : decode cX13_shows 7 = .ok (.ireturn, 1) := dk_172 (dk_at dksX13_shows_0 7 rfl rfl)
abbrev cX13_init : ByteArray := prog_3_method_1_code
def yX13_init : MethodName := ⟨RX13, "<init>", "(III)V"⟩
def dkwX13_init_0 : List UInt8 := [42, 27, 28, 29, 183, 0, 3, 177]
abbrev dktX13_init_0 : List UInt8 := dkwX13_init_0 ++ []
theorem dksX13_init_0 : cX13_init.data.toList.drop 0 = dktX13_init_0 := by decide +kernel
theorem dX13_init_0 : decode cX13_init 0 = .ok (.aload_n 0, 1) := dk_42 (dk_at dksX13_init_0 0 rfl rfl)
theorem dX13_init_1 : decode cX13_init 1 = .ok (.iload_n 1, 1) := dk_27 (dk_at dksX13_init_0 1 rfl rfl)
theorem dX13_init_2 : decode cX13_init 2 = .ok (.iload_n 2, 1) := dk_28 (dk_at dksX13_init_0 2 rfl rfl)
theorem dX13_init_3 : decode cX13_init 3 = .ok (.iload_n 3, 1) := dk_29 (dk_at dksX13_init_0 3 rfl rfl)
theorem dX13_init_4 : decode cX13_init 4 = .ok (.invokespecial 3, 3) := dk_183 0 3 (dk_at dksX13_init_0 4 rfl rfl)
theorem dX13_init_7 : decode cX13_init 7 = .ok (.return_, 1) := dk_177 (dk_at dksX13_init_0 7 rfl rfl)
abbrev cX13_kind : ByteArray := prog_3_method_2_code
def yX13_kind : MethodName := ⟨RX13, "kind", "()I"⟩
theorem dX13_kind_0 : decode cX13_kind 0 = .ok (.iconst 1, 1) := by decide +kernel
theorem dX13_kind_1 : decode cX13_kind 1 = .ok (.ireturn, 1) := by decide +kernel
abbrev cX13_looking : ByteArray := prog_3_method_4_code
def yX13_looking : MethodName := ⟨RX13, "looking", "(ILTaxOnLooks$Trace;)I"⟩
def dkwX13_looking_0 : List UInt8 := [44, 16, 20, 182, 0, 13, 42, 27, 44, 183, 0, 19, 42, 180, 0, 23, 96, 172]
abbrev dktX13_looking_0 : List UInt8 := dkwX13_looking_0 ++ []
theorem dksX13_looking_0 : cX13_looking.data.toList.drop 0 = dktX13_looking_0 := by decide +kernel
theorem dX13_looking_0 : decode cX13_looking 0 = .ok (.aload_n 2, 1) := dk_44 (dk_at dksX13_looking_0 0 rfl rfl)
theorem dX13_looking_1 : decode cX13_looking 1 = .ok (.bipush 20, 2) := dk_16 20 (dk_at dksX13_looking_0 1 rfl rfl)
theorem dX13_looking_3 : decode cX13_looking 3 = .ok (.invokevirtual 13, 3) := dk_182 0 13 (dk_at dksX13_looking_0 3 rfl rfl)
theorem dX13_looking_6 : decode cX13_looking 6 = .ok (.aload_n 0, 1) := dk_42 (dk_at dksX13_looking_0 6 rfl rfl)
theorem dX13_looking_7 : decode cX13_looking 7 = .ok (.iload_n 1, 1) := dk_27 (dk_at dksX13_looking_0 7 rfl rfl)
theorem dX13_looking_8 : decode cX13_looking 8 = .ok (.aload_n 2, 1) := dk_44 (dk_at dksX13_looking_0 8 rfl rfl)
theorem dX13_looking_9 : decode cX13_looking 9 = .ok (.invokespecial 19, 3) := dk_183 0 19 (dk_at dksX13_looking_0 9 rfl rfl)
theorem dX13_looking_12 : decode cX13_looking 12 = .ok (.aload_n 0, 1) := dk_42 (dk_at dksX13_looking_0 12 rfl rfl)
theorem dX13_looking_13 : decode cX13_looking 13 = .ok (.getfield 23, 3) := dk_180 0 23 (dk_at dksX13_looking_0 13 rfl rfl)
theorem dX13_looking_16 : decode cX13_looking 16 = .ok (.iadd, 1) := dk_96 (dk_at dksX13_looking_0 16 rfl rfl)
theorem dX13_looking_17 : decode cX13_looking 17 = .ok (.ireturn, 1) := dk_172 (dk_at dksX13_looking_0 17 rfl rfl)
theorem q105 : (Jvm.Cond.initialized "TaxOnLooks$Beauty") ∈ lw_all := lw_g (lw_at lw_m1 24 rfl) rfl
theorem q600 : (Jvm.Cond.instanceMethod ({ cls := "TaxOnLooks$Beauty", name := "shows", desc := "(I)I" } : Jvm.MethodName)) ∈ lw_all := lw_g (lw_at lw_m3 39 rfl) rfl
theorem q601 : (Jvm.Cond.code ({ cls := "TaxOnLooks$Beauty", name := "shows", desc := "(I)I" } : Jvm.MethodName) prog_3_method_3_code (2 : Nat) (Option.some Jvm.ClassFile.FieldType.int)) ∈ lw_all := lw_g (lw_at lw_m3 40 rfl) rfl
theorem q602 : (Jvm.Cond.methodLink "TaxOnLooks$Beauty" (9 : Nat) ({ cls := "TaxOnLooks$Person", name := "shows", desc := "(I)I" } : Jvm.MethodName)) ∈ lw_all := lw_g (lw_at lw_m3 41 rfl) rfl
theorem q603 : (Jvm.Cond.superclass "TaxOnLooks$Beauty" "TaxOnLooks$Person") ∈ lw_all := lw_g (lw_at lw_m3 42 rfl) rfl
theorem q605 : (Jvm.Cond.selects "TaxOnLooks$Beauty" ({ cls := "TaxOnLooks$Person", name := "shows", desc := "(I)I" } : Jvm.MethodName) ({ cls := "TaxOnLooks$Beauty", name := "shows", desc := "(I)I" } : Jvm.MethodName)) ∈ lw_all := lw_g (lw_at lw_m3 44 rfl) rfl
theorem q644 : (Jvm.Cond.instantiable "TaxOnLooks$Beauty" (3 : Nat)) ∈ lw_all := lw_g (lw_at lw_m3 83 rfl) rfl
theorem q646 : (Jvm.Cond.instanceMethod ({ cls := "TaxOnLooks$Beauty", name := "<init>", desc := "(III)V" } : Jvm.MethodName)) ∈ lw_all := lw_g (lw_at lw_m3 85 rfl) rfl
theorem q647 : (Jvm.Cond.code ({ cls := "TaxOnLooks$Beauty", name := "<init>", desc := "(III)V" } : Jvm.MethodName) prog_3_method_1_code (4 : Nat) (Option.none : Option Jvm.ClassFile.FieldType)) ∈ lw_all := lw_g (lw_at lw_m3 86 rfl) rfl
theorem q648 : (Jvm.Cond.methodLink "TaxOnLooks$Beauty" (3 : Nat) ({ cls := "TaxOnLooks$Person", name := "<init>", desc := "(III)V" } : Jvm.MethodName)) ∈ lw_all := lw_g (lw_at lw_m3 87 rfl) rfl
theorem q654 : (Jvm.Cond.sameField "TaxOnLooks$Beauty" "TaxOnLooks$Person" "index" "I") ∈ lw_all := lw_g (lw_at lw_m3 93 rfl) rfl
theorem q668 : (Jvm.Cond.fieldLink "TaxOnLooks$Beauty" (23 : Nat) "TaxOnLooks$Beauty" "by" "I") ∈ lw_all := lw_g (lw_at lw_m3 107 rfl) rfl
theorem q669 : (Jvm.Cond.sameField "TaxOnLooks$Beauty" "TaxOnLooks$Person" "by" "I") ∈ lw_all := lw_g (lw_at lw_m3 108 rfl) rfl
theorem q681 : (Jvm.Cond.laysFinal "TaxOnLooks$Beauty" "TaxOnLooks$Person" "index" "I") ∈ lw_all := lw_g (lw_at lw_m3 120 rfl) rfl
theorem q683 : (Jvm.Cond.laysFinal "TaxOnLooks$Beauty" "TaxOnLooks$Person" "by" "I") ∈ lw_all := lw_g (lw_at lw_m3 122 rfl) rfl
theorem q685 : (Jvm.Cond.laysFinal "TaxOnLooks$Beauty" "TaxOnLooks$Person" "shame" "I") ∈ lw_all := lw_g (lw_at lw_m3 124 rfl) rfl
theorem q789 : (Jvm.Cond.selects "TaxOnLooks$Beauty" ({ cls := "TaxOnLooks$Person", name := "kind", desc := "()I" } : Jvm.MethodName) ({ cls := "TaxOnLooks$Beauty", name := "kind", desc := "()I" } : Jvm.MethodName)) ∈ lw_all := lw_g (lw_at lw_m3 228 rfl) rfl
theorem q790 : (Jvm.Cond.instanceMethod ({ cls := "TaxOnLooks$Beauty", name := "kind", desc := "()I" } : Jvm.MethodName)) ∈ lw_all := lw_g (lw_at lw_m3 229 rfl) rfl
theorem q791 : (Jvm.Cond.code ({ cls := "TaxOnLooks$Beauty", name := "kind", desc := "()I" } : Jvm.MethodName) prog_3_method_2_code (1 : Nat) (Option.some Jvm.ClassFile.FieldType.int)) ∈ lw_all := lw_g (lw_at lw_m3 230 rfl) rfl
theorem q1035 : (Jvm.Cond.selects "TaxOnLooks$Beauty" ({ cls := "TaxOnLooks$Person", name := "looksAtAll", desc := "()Z" } : Jvm.MethodName) ({ cls := "TaxOnLooks$Person", name := "looksAtAll", desc := "()Z" } : Jvm.MethodName)) ∈ lw_all := lw_g (lw_at lw_m4 234 rfl) rfl
theorem q1054 : (Jvm.Cond.selects "TaxOnLooks$Beauty" ({ cls := "TaxOnLooks$Person", name := "looksAtOne", desc := "()Z" } : Jvm.MethodName) ({ cls := "TaxOnLooks$Person", name := "looksAtOne", desc := "()Z" } : Jvm.MethodName)) ∈ lw_all := lw_g (lw_at lw_m5 13 rfl) rfl
theorem q1093 : (Jvm.Cond.selects "TaxOnLooks$Beauty" ({ cls := "TaxOnLooks$Person", name := "owes", desc := "(I)I" } : Jvm.MethodName) ({ cls := "TaxOnLooks$Person", name := "owes", desc := "(I)I" } : Jvm.MethodName)) ∈ lw_all := lw_g (lw_at lw_m5 52 rfl) rfl
theorem q1282 : (Jvm.Cond.instanceMethod ({ cls := "TaxOnLooks$Beauty", name := "looking", desc := "(ILTaxOnLooks$Trace;)I" } : Jvm.MethodName)) ∈ lw_all := lw_g (lw_at lw_m6 1 rfl) rfl
theorem q1283 : (Jvm.Cond.code ({ cls := "TaxOnLooks$Beauty", name := "looking", desc := "(ILTaxOnLooks$Trace;)I" } : Jvm.MethodName) prog_3_method_4_code (3 : Nat) (Option.some Jvm.ClassFile.FieldType.int)) ∈ lw_all := lw_g (lw_at lw_m6 2 rfl) rfl
theorem q1284 : (Jvm.Cond.methodLink "TaxOnLooks$Beauty" (13 : Nat) ({ cls := "TaxOnLooks$Trace", name := "runs", desc := "(I)V" } : Jvm.MethodName)) ∈ lw_all := lw_g (lw_at lw_m6 3 rfl) rfl
theorem q1285 : (Jvm.Cond.methodLink "TaxOnLooks$Beauty" (19 : Nat) ({ cls := "TaxOnLooks$Person", name := "looking", desc := "(ILTaxOnLooks$Trace;)I" } : Jvm.MethodName)) ∈ lw_all := lw_g (lw_at lw_m6 4 rfl) rfl
theorem q1288 : (Jvm.Cond.selects "TaxOnLooks$Beauty" ({ cls := "TaxOnLooks$Person", name := "looking", desc := "(ILTaxOnLooks$Trace;)I" } : Jvm.MethodName) ({ cls := "TaxOnLooks$Beauty", name := "looking", desc := "(ILTaxOnLooks$Trace;)I" } : Jvm.MethodName)) ∈ lw_all := lw_g (lw_at lw_m6 7 rfl) rfl
theorem q1306 : (Jvm.Cond.selects "TaxOnLooks$Beauty" ({ cls := "TaxOnLooks$Person", name := "walking", desc := "(ILTaxOnLooks$Trace;)I" } : Jvm.MethodName) ({ cls := "TaxOnLooks$Person", name := "walking", desc := "(ILTaxOnLooks$Trace;)I" } : Jvm.MethodName)) ∈ lw_all := lw_g (lw_at lw_m6 25 rfl) rfl
theorem q1327 : (Jvm.Cond.selects "TaxOnLooks$Beauty" ({ cls := "TaxOnLooks$Person", name := "paying", desc := "(ILTaxOnLooks$Trace;)I" } : Jvm.MethodName) ({ cls := "TaxOnLooks$Person", name := "paying", desc := "(ILTaxOnLooks$Trace;)I" } : Jvm.MethodName)) ∈ lw_all := lw_g (lw_at lw_m6 46 rfl) rfl
theorem q1863 : (Jvm.Cond.sameMethod "TaxOnLooks$Beauty" "TaxOnLooks$Beauty" "shows" "(I)I") ∈ lw_all := lw_g (lw_at lw_m8 102 rfl) rfl
theorem q1864 : (Jvm.Cond.sameMethod "TaxOnLooks$Beauty" "TaxOnLooks$Beauty" "looking" "(ILTaxOnLooks$Trace;)I") ∈ lw_all := lw_g (lw_at lw_m8 103 rfl) rfl
theorem q1872 : (Jvm.Cond.castable "TaxOnLooks$Beauty" "TaxOnLooks$Person") ∈ lw_tbl := lw_at lw_m8 111 rfl
theorem in_X13 : ∀ w ∈ wsX130, w ∈ lw_all := lw_in wsX130 [681, 683, 685] (by decide +kernel) (by decide +kernel)

/-! TaxOnLooks$Actress -/
set_option maxRecDepth 100000
def RX14 : String := "TaxOnLooks$Actress"
def TX14 : u_T := fun k => match k with
  | 0 => ("TaxOnLooks$Person", "index", "I", true)
  | 1 => ("TaxOnLooks$Person", "by", "I", true)
  | _ => ("TaxOnLooks$Person", "shame", "I", true)
def tyX14 : Nat → FieldType := fun k => match k with
  | 0 => .int
  | 1 => .int
  | _ => .int
abbrev wsX140 : List Cond := u_ws RX14 TX14 3
theorem nmX14 : ∀ a, a < 3 → ∀ b, b < 3 → a ≠ b → (TX14 a).2.1 ≠ (TX14 b).2.1 := by decide +kernel
theorem tyX14_ok : ∀ k, k < 3 → parseFieldDescriptor (TX14 k).2.2.1 = some (tyX14 k) := by decide +kernel
abbrev cX14_shows : ByteArray := prog_2_method_3_code
def yX14_shows : MethodName := ⟨RX14, "shows", "(I)I"⟩
def dkwX14_shows_0 : List UInt8 := [42, 27, 183, 0, 9, 42, 180, 0, 13, 96, 172]
abbrev dktX14_shows_0 : List UInt8 := dkwX14_shows_0 ++ []
theorem dksX14_shows_0 : cX14_shows.data.toList.drop 0 = dktX14_shows_0 := by decide +kernel
theorem dX14_shows_0 : decode cX14_shows 0 = .ok (.aload_n 0, 1) := dk_42 (dk_at dksX14_shows_0 0 rfl rfl)
theorem dX14_shows_1 : decode cX14_shows 1 = .ok (.iload_n 1, 1) := dk_27 (dk_at dksX14_shows_0 1 rfl rfl)
theorem dX14_shows_2 : decode cX14_shows 2 = .ok (.invokespecial 9, 3) := dk_183 0 9 (dk_at dksX14_shows_0 2 rfl rfl)
theorem dX14_shows_5 : decode cX14_shows 5 = .ok (.aload_n 0, 1) := dk_42 (dk_at dksX14_shows_0 5 rfl rfl)
theorem dX14_shows_6 : decode cX14_shows 6 = .ok (.getfield 13, 3) := dk_180 0 13 (dk_at dksX14_shows_0 6 rfl rfl)
theorem dX14_shows_9 : decode cX14_shows 9 = .ok (.iadd, 1) := dk_96 (dk_at dksX14_shows_0 9 rfl rfl)
theorem dX14_shows_10 : decode cX14_shows 10 = .ok (.ireturn, 1) := dk_172 (dk_at dksX14_shows_0 10 rfl rfl)
abbrev cX14_init : ByteArray := prog_2_method_1_code
def yX14_init : MethodName := ⟨RX14, "<init>", "(III)V"⟩
def dkwX14_init_0 : List UInt8 := [42, 27, 28, 29, 183, 0, 3, 177]
abbrev dktX14_init_0 : List UInt8 := dkwX14_init_0 ++ []
theorem dksX14_init_0 : cX14_init.data.toList.drop 0 = dktX14_init_0 := by decide +kernel
theorem dX14_init_0 : decode cX14_init 0 = .ok (.aload_n 0, 1) := dk_42 (dk_at dksX14_init_0 0 rfl rfl)
theorem dX14_init_1 : decode cX14_init 1 = .ok (.iload_n 1, 1) := dk_27 (dk_at dksX14_init_0 1 rfl rfl)
theorem dX14_init_2 : decode cX14_init 2 = .ok (.iload_n 2, 1) := dk_28 (dk_at dksX14_init_0 2 rfl rfl)
theorem dX14_init_3 : decode cX14_init 3 = .ok (.iload_n 3, 1) := dk_29 (dk_at dksX14_init_0 3 rfl rfl)
theorem dX14_init_4 : decode cX14_init 4 = .ok (.invokespecial 3, 3) := dk_183 0 3 (dk_at dksX14_init_0 4 rfl rfl)
theorem dX14_init_7 : decode cX14_init 7 = .ok (.return_, 1) := dk_177 (dk_at dksX14_init_0 7 rfl rfl)
abbrev cX14_kind : ByteArray := prog_2_method_2_code
def yX14_kind : MethodName := ⟨RX14, "kind", "()I"⟩
theorem dX14_kind_0 : decode cX14_kind 0 = .ok (.iconst 2, 1) := by decide +kernel
theorem dX14_kind_1 : decode cX14_kind 1 = .ok (.ireturn, 1) := by decide +kernel
abbrev cX14_owes : ByteArray := prog_2_method_4_code
def yX14_owes : MethodName := ⟨RX14, "owes", "(I)I"⟩
def dkwX14_owes_0 : List UInt8 := [27, 27, 16, 9, 108, 100, 172]
abbrev dktX14_owes_0 : List UInt8 := dkwX14_owes_0 ++ []
theorem dksX14_owes_0 : cX14_owes.data.toList.drop 0 = dktX14_owes_0 := by decide +kernel
theorem dX14_owes_0 : decode cX14_owes 0 = .ok (.iload_n 1, 1) := dk_27 (dk_at dksX14_owes_0 0 rfl rfl)
theorem dX14_owes_1 : decode cX14_owes 1 = .ok (.iload_n 1, 1) := dk_27 (dk_at dksX14_owes_0 1 rfl rfl)
theorem dX14_owes_2 : decode cX14_owes 2 = .ok (.bipush 9, 2) := dk_16 9 (dk_at dksX14_owes_0 2 rfl rfl)
theorem dX14_owes_4 : decode cX14_owes 4 = .ok (.idiv, 1) := dk_108 (dk_at dksX14_owes_0 4 rfl rfl)
theorem dX14_owes_5 : decode cX14_owes 5 = .ok (.isub, 1) := dk_100 (dk_at dksX14_owes_0 5 rfl rfl)
theorem dX14_owes_6 : decode cX14_owes 6 = .ok (.ireturn, 1) := dk_172 (dk_at dksX14_owes_0 6 rfl rfl)
abbrev cX14_looking : ByteArray := prog_2_method_5_code
def yX14_looking : MethodName := ⟨RX14, "looking", "(ILTaxOnLooks$Trace;)I"⟩
def dkwX14_looking_0 : List UInt8 := [44, 16, 40, 182, 0, 19, 42, 27, 4, 96, 44, 183, 0, 25, 172]
abbrev dktX14_looking_0 : List UInt8 := dkwX14_looking_0 ++ []
theorem dksX14_looking_0 : cX14_looking.data.toList.drop 0 = dktX14_looking_0 := by decide +kernel
theorem dX14_looking_0 : decode cX14_looking 0 = .ok (.aload_n 2, 1) := dk_44 (dk_at dksX14_looking_0 0 rfl rfl)
theorem dX14_looking_1 : decode cX14_looking 1 = .ok (.bipush 40, 2) := dk_16 40 (dk_at dksX14_looking_0 1 rfl rfl)
theorem dX14_looking_3 : decode cX14_looking 3 = .ok (.invokevirtual 19, 3) := dk_182 0 19 (dk_at dksX14_looking_0 3 rfl rfl)
theorem dX14_looking_6 : decode cX14_looking 6 = .ok (.aload_n 0, 1) := dk_42 (dk_at dksX14_looking_0 6 rfl rfl)
theorem dX14_looking_7 : decode cX14_looking 7 = .ok (.iload_n 1, 1) := dk_27 (dk_at dksX14_looking_0 7 rfl rfl)
theorem dX14_looking_8 : decode cX14_looking 8 = .ok (.iconst 1, 1) := dk_4 (dk_at dksX14_looking_0 8 rfl rfl)
theorem dX14_looking_9 : decode cX14_looking 9 = .ok (.iadd, 1) := dk_96 (dk_at dksX14_looking_0 9 rfl rfl)
theorem dX14_looking_10 : decode cX14_looking 10 = .ok (.aload_n 2, 1) := dk_44 (dk_at dksX14_looking_0 10 rfl rfl)
theorem dX14_looking_11 : decode cX14_looking 11 = .ok (.invokespecial 25, 3) := dk_183 0 25 (dk_at dksX14_looking_0 11 rfl rfl)
theorem dX14_looking_14 : decode cX14_looking 14 = .ok (.ireturn, 1) := dk_172 (dk_at dksX14_looking_0 14 rfl rfl)
theorem q106 : (Jvm.Cond.initialized "TaxOnLooks$Actress") ∈ lw_all := lw_g (lw_at lw_m1 25 rfl) rfl
theorem q595 : (Jvm.Cond.selects "TaxOnLooks$Actress" ({ cls := "TaxOnLooks$Person", name := "shows", desc := "(I)I" } : Jvm.MethodName) ({ cls := "TaxOnLooks$Actress", name := "shows", desc := "(I)I" } : Jvm.MethodName)) ∈ lw_all := lw_g (lw_at lw_m3 34 rfl) rfl
theorem q596 : (Jvm.Cond.instanceMethod ({ cls := "TaxOnLooks$Actress", name := "shows", desc := "(I)I" } : Jvm.MethodName)) ∈ lw_all := lw_g (lw_at lw_m3 35 rfl) rfl
theorem q597 : (Jvm.Cond.code ({ cls := "TaxOnLooks$Actress", name := "shows", desc := "(I)I" } : Jvm.MethodName) prog_2_method_3_code (2 : Nat) (Option.some Jvm.ClassFile.FieldType.int)) ∈ lw_all := lw_g (lw_at lw_m3 36 rfl) rfl
theorem q598 : (Jvm.Cond.methodLink "TaxOnLooks$Actress" (9 : Nat) ({ cls := "TaxOnLooks$Beauty", name := "shows", desc := "(I)I" } : Jvm.MethodName)) ∈ lw_all := lw_g (lw_at lw_m3 37 rfl) rfl
theorem q599 : (Jvm.Cond.superclass "TaxOnLooks$Actress" "TaxOnLooks$Beauty") ∈ lw_all := lw_g (lw_at lw_m3 38 rfl) rfl
theorem q656 : (Jvm.Cond.sameField "TaxOnLooks$Actress" "TaxOnLooks$Person" "index" "I") ∈ lw_all := lw_g (lw_at lw_m3 95 rfl) rfl
theorem q666 : (Jvm.Cond.fieldLink "TaxOnLooks$Actress" (13 : Nat) "TaxOnLooks$Actress" "by" "I") ∈ lw_all := lw_g (lw_at lw_m3 105 rfl) rfl
theorem q667 : (Jvm.Cond.sameField "TaxOnLooks$Actress" "TaxOnLooks$Person" "by" "I") ∈ lw_all := lw_g (lw_at lw_m3 106 rfl) rfl
theorem q688 : (Jvm.Cond.instantiable "TaxOnLooks$Actress" (3 : Nat)) ∈ lw_all := lw_g (lw_at lw_m3 127 rfl) rfl
theorem q690 : (Jvm.Cond.instanceMethod ({ cls := "TaxOnLooks$Actress", name := "<init>", desc := "(III)V" } : Jvm.MethodName)) ∈ lw_all := lw_g (lw_at lw_m3 129 rfl) rfl
theorem q691 : (Jvm.Cond.code ({ cls := "TaxOnLooks$Actress", name := "<init>", desc := "(III)V" } : Jvm.MethodName) prog_2_method_1_code (4 : Nat) (Option.none : Option Jvm.ClassFile.FieldType)) ∈ lw_all := lw_g (lw_at lw_m3 130 rfl) rfl
theorem q692 : (Jvm.Cond.methodLink "TaxOnLooks$Actress" (3 : Nat) ({ cls := "TaxOnLooks$Beauty", name := "<init>", desc := "(III)V" } : Jvm.MethodName)) ∈ lw_all := lw_g (lw_at lw_m3 131 rfl) rfl
theorem q693 : (Jvm.Cond.laysFinal "TaxOnLooks$Actress" "TaxOnLooks$Person" "index" "I") ∈ lw_all := lw_g (lw_at lw_m3 132 rfl) rfl
theorem q694 : (Jvm.Cond.laysFinal "TaxOnLooks$Actress" "TaxOnLooks$Person" "by" "I") ∈ lw_all := lw_g (lw_at lw_m3 133 rfl) rfl
theorem q695 : (Jvm.Cond.laysFinal "TaxOnLooks$Actress" "TaxOnLooks$Person" "shame" "I") ∈ lw_all := lw_g (lw_at lw_m3 134 rfl) rfl
theorem q786 : (Jvm.Cond.selects "TaxOnLooks$Actress" ({ cls := "TaxOnLooks$Person", name := "kind", desc := "()I" } : Jvm.MethodName) ({ cls := "TaxOnLooks$Actress", name := "kind", desc := "()I" } : Jvm.MethodName)) ∈ lw_all := lw_g (lw_at lw_m3 225 rfl) rfl
theorem q787 : (Jvm.Cond.instanceMethod ({ cls := "TaxOnLooks$Actress", name := "kind", desc := "()I" } : Jvm.MethodName)) ∈ lw_all := lw_g (lw_at lw_m3 226 rfl) rfl
theorem q788 : (Jvm.Cond.code ({ cls := "TaxOnLooks$Actress", name := "kind", desc := "()I" } : Jvm.MethodName) prog_2_method_2_code (1 : Nat) (Option.some Jvm.ClassFile.FieldType.int)) ∈ lw_all := lw_g (lw_at lw_m3 227 rfl) rfl
theorem q1034 : (Jvm.Cond.selects "TaxOnLooks$Actress" ({ cls := "TaxOnLooks$Person", name := "looksAtAll", desc := "()Z" } : Jvm.MethodName) ({ cls := "TaxOnLooks$Person", name := "looksAtAll", desc := "()Z" } : Jvm.MethodName)) ∈ lw_all := lw_g (lw_at lw_m4 233 rfl) rfl
theorem q1053 : (Jvm.Cond.selects "TaxOnLooks$Actress" ({ cls := "TaxOnLooks$Person", name := "looksAtOne", desc := "()Z" } : Jvm.MethodName) ({ cls := "TaxOnLooks$Person", name := "looksAtOne", desc := "()Z" } : Jvm.MethodName)) ∈ lw_all := lw_g (lw_at lw_m5 12 rfl) rfl
theorem q1090 : (Jvm.Cond.selects "TaxOnLooks$Actress" ({ cls := "TaxOnLooks$Person", name := "owes", desc := "(I)I" } : Jvm.MethodName) ({ cls := "TaxOnLooks$Actress", name := "owes", desc := "(I)I" } : Jvm.MethodName)) ∈ lw_all := lw_g (lw_at lw_m5 49 rfl) rfl
theorem q1091 : (Jvm.Cond.instanceMethod ({ cls := "TaxOnLooks$Actress", name := "owes", desc := "(I)I" } : Jvm.MethodName)) ∈ lw_all := lw_g (lw_at lw_m5 50 rfl) rfl
theorem q1092 : (Jvm.Cond.code ({ cls := "TaxOnLooks$Actress", name := "owes", desc := "(I)I" } : Jvm.MethodName) prog_2_method_4_code (2 : Nat) (Option.some Jvm.ClassFile.FieldType.int)) ∈ lw_all := lw_g (lw_at lw_m5 51 rfl) rfl
theorem q1274 : (Jvm.Cond.selects "TaxOnLooks$Actress" ({ cls := "TaxOnLooks$Person", name := "looking", desc := "(ILTaxOnLooks$Trace;)I" } : Jvm.MethodName) ({ cls := "TaxOnLooks$Actress", name := "looking", desc := "(ILTaxOnLooks$Trace;)I" } : Jvm.MethodName)) ∈ lw_all := lw_g (lw_at lw_m5 233 rfl) rfl
theorem q1275 : (Jvm.Cond.instanceMethod ({ cls := "TaxOnLooks$Actress", name := "looking", desc := "(ILTaxOnLooks$Trace;)I" } : Jvm.MethodName)) ∈ lw_all := lw_g (lw_at lw_m5 234 rfl) rfl
theorem q1276 : (Jvm.Cond.code ({ cls := "TaxOnLooks$Actress", name := "looking", desc := "(ILTaxOnLooks$Trace;)I" } : Jvm.MethodName) prog_2_method_5_code (3 : Nat) (Option.some Jvm.ClassFile.FieldType.int)) ∈ lw_all := lw_g (lw_at lw_m5 235 rfl) rfl
theorem q1277 : (Jvm.Cond.methodLink "TaxOnLooks$Actress" (19 : Nat) ({ cls := "TaxOnLooks$Trace", name := "runs", desc := "(I)V" } : Jvm.MethodName)) ∈ lw_all := lw_g (lw_at lw_m5 236 rfl) rfl
theorem q1281 : (Jvm.Cond.methodLink "TaxOnLooks$Actress" (25 : Nat) ({ cls := "TaxOnLooks$Beauty", name := "looking", desc := "(ILTaxOnLooks$Trace;)I" } : Jvm.MethodName)) ∈ lw_all := lw_g (lw_at lw_m6 0 rfl) rfl
theorem q1305 : (Jvm.Cond.selects "TaxOnLooks$Actress" ({ cls := "TaxOnLooks$Person", name := "walking", desc := "(ILTaxOnLooks$Trace;)I" } : Jvm.MethodName) ({ cls := "TaxOnLooks$Person", name := "walking", desc := "(ILTaxOnLooks$Trace;)I" } : Jvm.MethodName)) ∈ lw_all := lw_g (lw_at lw_m6 24 rfl) rfl
theorem q1326 : (Jvm.Cond.selects "TaxOnLooks$Actress" ({ cls := "TaxOnLooks$Person", name := "paying", desc := "(ILTaxOnLooks$Trace;)I" } : Jvm.MethodName) ({ cls := "TaxOnLooks$Person", name := "paying", desc := "(ILTaxOnLooks$Trace;)I" } : Jvm.MethodName)) ∈ lw_all := lw_g (lw_at lw_m6 45 rfl) rfl
theorem q1871 : (Jvm.Cond.castable "TaxOnLooks$Actress" "TaxOnLooks$Person") ∈ lw_tbl := lw_at lw_m8 110 rfl
theorem q1877 : (Jvm.Cond.castable "TaxOnLooks$Actress" "TaxOnLooks$Beauty") ∈ lw_tbl := lw_at lw_m8 116 rfl
theorem in_X14 : ∀ w ∈ wsX140, w ∈ lw_all := lw_in wsX140 [693, 694, 695] (by decide +kernel) (by decide +kernel)

/-! TaxOnLooks$Blind -/
set_option maxRecDepth 100000
def RX15 : String := "TaxOnLooks$Blind"
def TX15 : u_T := fun k => match k with
  | 0 => ("TaxOnLooks$Person", "index", "I", true)
  | 1 => ("TaxOnLooks$Person", "by", "I", true)
  | _ => ("TaxOnLooks$Person", "shame", "I", true)
def tyX15 : Nat → FieldType := fun k => match k with
  | 0 => .int
  | 1 => .int
  | _ => .int
abbrev wsX150 : List Cond := u_ws RX15 TX15 3
theorem nmX15 : ∀ a, a < 3 → ∀ b, b < 3 → a ≠ b → (TX15 a).2.1 ≠ (TX15 b).2.1 := by decide +kernel
theorem tyX15_ok : ∀ k, k < 3 → parseFieldDescriptor (TX15 k).2.2.1 = some (tyX15 k) := by decide +kernel
abbrev cX15_init : ByteArray := prog_4_method_1_code
def yX15_init : MethodName := ⟨RX15, "<init>", "(III)V"⟩
def dkwX15_init_0 : List UInt8 := [42, 27, 28, 29, 183, 0, 3, 177]
abbrev dktX15_init_0 : List UInt8 := dkwX15_init_0 ++ []
theorem dksX15_init_0 : cX15_init.data.toList.drop 0 = dktX15_init_0 := by decide +kernel
theorem dX15_init_0 : decode cX15_init 0 = .ok (.aload_n 0, 1) := dk_42 (dk_at dksX15_init_0 0 rfl rfl)
theorem dX15_init_1 : decode cX15_init 1 = .ok (.iload_n 1, 1) := dk_27 (dk_at dksX15_init_0 1 rfl rfl)
theorem dX15_init_2 : decode cX15_init 2 = .ok (.iload_n 2, 1) := dk_28 (dk_at dksX15_init_0 2 rfl rfl)
theorem dX15_init_3 : decode cX15_init 3 = .ok (.iload_n 3, 1) := dk_29 (dk_at dksX15_init_0 3 rfl rfl)
theorem dX15_init_4 : decode cX15_init 4 = .ok (.invokespecial 3, 3) := dk_183 0 3 (dk_at dksX15_init_0 4 rfl rfl)
theorem dX15_init_7 : decode cX15_init 7 = .ok (.return_, 1) := dk_177 (dk_at dksX15_init_0 7 rfl rfl)
abbrev cX15_kind : ByteArray := prog_4_method_2_code
def yX15_kind : MethodName := ⟨RX15, "kind", "()I"⟩
theorem dX15_kind_0 : decode cX15_kind 0 = .ok (.iconst 3, 1) := by decide +kernel
theorem dX15_kind_1 : decode cX15_kind 1 = .ok (.ireturn, 1) := by decide +kernel
abbrev cX15_looksAtAll : ByteArray := prog_4_method_3_code
def yX15_looksAtAll : MethodName := ⟨RX15, "looksAtAll", "()Z"⟩
theorem dX15_looksAtAll_0 : decode cX15_looksAtAll 0 = .ok (.iconst 0, 1) := by decide +kernel
theorem dX15_looksAtAll_1 : decode cX15_looksAtAll 1 = .ok (.ireturn, 1) := by decide +kernel
abbrev cX15_walking : ByteArray := prog_4_method_4_code
def yX15_walking : MethodName := ⟨RX15, "walking", "(ILTaxOnLooks$Trace;)I"⟩
def dkwX15_walking_0 : List UInt8 := [44, 16, 30, 182, 0, 9, 42, 27, 44, 183, 0, 15, 6, 104, 172]
abbrev dktX15_walking_0 : List UInt8 := dkwX15_walking_0 ++ []
theorem dksX15_walking_0 : cX15_walking.data.toList.drop 0 = dktX15_walking_0 := by decide +kernel
theorem dX15_walking_0 : decode cX15_walking 0 = .ok (.aload_n 2, 1) := dk_44 (dk_at dksX15_walking_0 0 rfl rfl)
theorem dX15_walking_1 : decode cX15_walking 1 = .ok (.bipush 30, 2) := dk_16 30 (dk_at dksX15_walking_0 1 rfl rfl)
theorem dX15_walking_3 : decode cX15_walking 3 = .ok (.invokevirtual 9, 3) := dk_182 0 9 (dk_at dksX15_walking_0 3 rfl rfl)
theorem dX15_walking_6 : decode cX15_walking 6 = .ok (.aload_n 0, 1) := dk_42 (dk_at dksX15_walking_0 6 rfl rfl)
theorem dX15_walking_7 : decode cX15_walking 7 = .ok (.iload_n 1, 1) := dk_27 (dk_at dksX15_walking_0 7 rfl rfl)
theorem dX15_walking_8 : decode cX15_walking 8 = .ok (.aload_n 2, 1) := dk_44 (dk_at dksX15_walking_0 8 rfl rfl)
theorem dX15_walking_9 : decode cX15_walking 9 = .ok (.invokespecial 15, 3) := dk_183 0 15 (dk_at dksX15_walking_0 9 rfl rfl)
theorem dX15_walking_12 : decode cX15_walking 12 = .ok (.iconst 3, 1) := dk_6 (dk_at dksX15_walking_0 12 rfl rfl)
theorem dX15_walking_13 : decode cX15_walking 13 = .ok (.imul, 1) := dk_104 (dk_at dksX15_walking_0 13 rfl rfl)
theorem dX15_walking_14 : decode cX15_walking 14 = .ok (.ireturn, 1) := dk_172 (dk_at dksX15_walking_0 14 rfl rfl)
theorem q107 : (Jvm.Cond.initialized "TaxOnLooks$Blind") ∈ lw_all := lw_g (lw_at lw_m1 26 rfl) rfl
theorem q606 : (Jvm.Cond.selects "TaxOnLooks$Blind" ({ cls := "TaxOnLooks$Person", name := "shows", desc := "(I)I" } : Jvm.MethodName) ({ cls := "TaxOnLooks$Person", name := "shows", desc := "(I)I" } : Jvm.MethodName)) ∈ lw_all := lw_g (lw_at lw_m3 45 rfl) rfl
theorem q658 : (Jvm.Cond.sameField "TaxOnLooks$Blind" "TaxOnLooks$Person" "index" "I") ∈ lw_all := lw_g (lw_at lw_m3 97 rfl) rfl
theorem q697 : (Jvm.Cond.instantiable "TaxOnLooks$Blind" (3 : Nat)) ∈ lw_all := lw_g (lw_at lw_m3 136 rfl) rfl
theorem q699 : (Jvm.Cond.instanceMethod ({ cls := "TaxOnLooks$Blind", name := "<init>", desc := "(III)V" } : Jvm.MethodName)) ∈ lw_all := lw_g (lw_at lw_m3 138 rfl) rfl
theorem q700 : (Jvm.Cond.code ({ cls := "TaxOnLooks$Blind", name := "<init>", desc := "(III)V" } : Jvm.MethodName) prog_4_method_1_code (4 : Nat) (Option.none : Option Jvm.ClassFile.FieldType)) ∈ lw_all := lw_g (lw_at lw_m3 139 rfl) rfl
theorem q701 : (Jvm.Cond.methodLink "TaxOnLooks$Blind" (3 : Nat) ({ cls := "TaxOnLooks$Person", name := "<init>", desc := "(III)V" } : Jvm.MethodName)) ∈ lw_all := lw_g (lw_at lw_m3 140 rfl) rfl
theorem q702 : (Jvm.Cond.laysFinal "TaxOnLooks$Blind" "TaxOnLooks$Person" "index" "I") ∈ lw_all := lw_g (lw_at lw_m3 141 rfl) rfl
theorem q703 : (Jvm.Cond.laysFinal "TaxOnLooks$Blind" "TaxOnLooks$Person" "by" "I") ∈ lw_all := lw_g (lw_at lw_m3 142 rfl) rfl
theorem q704 : (Jvm.Cond.laysFinal "TaxOnLooks$Blind" "TaxOnLooks$Person" "shame" "I") ∈ lw_all := lw_g (lw_at lw_m3 143 rfl) rfl
theorem q705 : (Jvm.Cond.superclass "TaxOnLooks$Blind" "TaxOnLooks$Person") ∈ lw_all := lw_g (lw_at lw_m3 144 rfl) rfl
theorem q792 : (Jvm.Cond.selects "TaxOnLooks$Blind" ({ cls := "TaxOnLooks$Person", name := "kind", desc := "()I" } : Jvm.MethodName) ({ cls := "TaxOnLooks$Blind", name := "kind", desc := "()I" } : Jvm.MethodName)) ∈ lw_all := lw_g (lw_at lw_m3 231 rfl) rfl
theorem q793 : (Jvm.Cond.instanceMethod ({ cls := "TaxOnLooks$Blind", name := "kind", desc := "()I" } : Jvm.MethodName)) ∈ lw_all := lw_g (lw_at lw_m3 232 rfl) rfl
theorem q794 : (Jvm.Cond.code ({ cls := "TaxOnLooks$Blind", name := "kind", desc := "()I" } : Jvm.MethodName) prog_4_method_2_code (1 : Nat) (Option.some Jvm.ClassFile.FieldType.int)) ∈ lw_all := lw_g (lw_at lw_m3 233 rfl) rfl
theorem q1036 : (Jvm.Cond.selects "TaxOnLooks$Blind" ({ cls := "TaxOnLooks$Person", name := "looksAtAll", desc := "()Z" } : Jvm.MethodName) ({ cls := "TaxOnLooks$Blind", name := "looksAtAll", desc := "()Z" } : Jvm.MethodName)) ∈ lw_all := lw_g (lw_at lw_m4 235 rfl) rfl
theorem q1037 : (Jvm.Cond.instanceMethod ({ cls := "TaxOnLooks$Blind", name := "looksAtAll", desc := "()Z" } : Jvm.MethodName)) ∈ lw_all := lw_g (lw_at lw_m4 236 rfl) rfl
theorem q1038 : (Jvm.Cond.code ({ cls := "TaxOnLooks$Blind", name := "looksAtAll", desc := "()Z" } : Jvm.MethodName) prog_4_method_3_code (1 : Nat) (Option.some Jvm.ClassFile.FieldType.boolean)) ∈ lw_all := lw_g (lw_at lw_m4 237 rfl) rfl
theorem q1055 : (Jvm.Cond.selects "TaxOnLooks$Blind" ({ cls := "TaxOnLooks$Person", name := "looksAtOne", desc := "()Z" } : Jvm.MethodName) ({ cls := "TaxOnLooks$Person", name := "looksAtOne", desc := "()Z" } : Jvm.MethodName)) ∈ lw_all := lw_g (lw_at lw_m5 14 rfl) rfl
theorem q1094 : (Jvm.Cond.selects "TaxOnLooks$Blind" ({ cls := "TaxOnLooks$Person", name := "owes", desc := "(I)I" } : Jvm.MethodName) ({ cls := "TaxOnLooks$Person", name := "owes", desc := "(I)I" } : Jvm.MethodName)) ∈ lw_all := lw_g (lw_at lw_m5 53 rfl) rfl
theorem q1289 : (Jvm.Cond.selects "TaxOnLooks$Blind" ({ cls := "TaxOnLooks$Person", name := "looking", desc := "(ILTaxOnLooks$Trace;)I" } : Jvm.MethodName) ({ cls := "TaxOnLooks$Person", name := "looking", desc := "(ILTaxOnLooks$Trace;)I" } : Jvm.MethodName)) ∈ lw_all := lw_g (lw_at lw_m6 8 rfl) rfl
theorem q1307 : (Jvm.Cond.selects "TaxOnLooks$Blind" ({ cls := "TaxOnLooks$Person", name := "walking", desc := "(ILTaxOnLooks$Trace;)I" } : Jvm.MethodName) ({ cls := "TaxOnLooks$Blind", name := "walking", desc := "(ILTaxOnLooks$Trace;)I" } : Jvm.MethodName)) ∈ lw_all := lw_g (lw_at lw_m6 26 rfl) rfl
theorem q1308 : (Jvm.Cond.instanceMethod ({ cls := "TaxOnLooks$Blind", name := "walking", desc := "(ILTaxOnLooks$Trace;)I" } : Jvm.MethodName)) ∈ lw_all := lw_g (lw_at lw_m6 27 rfl) rfl
theorem q1309 : (Jvm.Cond.code ({ cls := "TaxOnLooks$Blind", name := "walking", desc := "(ILTaxOnLooks$Trace;)I" } : Jvm.MethodName) prog_4_method_4_code (3 : Nat) (Option.some Jvm.ClassFile.FieldType.int)) ∈ lw_all := lw_g (lw_at lw_m6 28 rfl) rfl
theorem q1310 : (Jvm.Cond.methodLink "TaxOnLooks$Blind" (9 : Nat) ({ cls := "TaxOnLooks$Trace", name := "runs", desc := "(I)V" } : Jvm.MethodName)) ∈ lw_all := lw_g (lw_at lw_m6 29 rfl) rfl
theorem q1311 : (Jvm.Cond.methodLink "TaxOnLooks$Blind" (15 : Nat) ({ cls := "TaxOnLooks$Person", name := "walking", desc := "(ILTaxOnLooks$Trace;)I" } : Jvm.MethodName)) ∈ lw_all := lw_g (lw_at lw_m6 30 rfl) rfl
theorem q1328 : (Jvm.Cond.selects "TaxOnLooks$Blind" ({ cls := "TaxOnLooks$Person", name := "paying", desc := "(ILTaxOnLooks$Trace;)I" } : Jvm.MethodName) ({ cls := "TaxOnLooks$Person", name := "paying", desc := "(ILTaxOnLooks$Trace;)I" } : Jvm.MethodName)) ∈ lw_all := lw_g (lw_at lw_m6 47 rfl) rfl
theorem q1334 : (Jvm.Cond.sameMethod "TaxOnLooks$Blind" "TaxOnLooks$Person" "paying" "(ILTaxOnLooks$Trace;)I") ∈ lw_all := lw_g (lw_at lw_m6 53 rfl) rfl
theorem q1873 : (Jvm.Cond.castable "TaxOnLooks$Blind" "TaxOnLooks$Person") ∈ lw_tbl := lw_at lw_m8 112 rfl
theorem in_X15 : ∀ w ∈ wsX150, w ∈ lw_all := lw_in wsX150 [702, 703, 704] (by decide +kernel) (by decide +kernel)

/-! TaxOnLooks$Lover -/
set_option maxRecDepth 100000
def RX16 : String := "TaxOnLooks$Lover"
def TX16 : u_T := fun k => match k with
  | 0 => ("TaxOnLooks$Person", "index", "I", true)
  | 1 => ("TaxOnLooks$Person", "by", "I", true)
  | _ => ("TaxOnLooks$Person", "shame", "I", true)
def tyX16 : Nat → FieldType := fun k => match k with
  | 0 => .int
  | 1 => .int
  | _ => .int
abbrev wsX160 : List Cond := u_ws RX16 TX16 3
theorem nmX16 : ∀ a, a < 3 → ∀ b, b < 3 → a ≠ b → (TX16 a).2.1 ≠ (TX16 b).2.1 := by decide +kernel
theorem tyX16_ok : ∀ k, k < 3 → parseFieldDescriptor (TX16 k).2.2.1 = some (tyX16 k) := by decide +kernel
abbrev cX16_init : ByteArray := prog_10_method_1_code
def yX16_init : MethodName := ⟨RX16, "<init>", "(III)V"⟩
def dkwX16_init_0 : List UInt8 := [42, 27, 28, 29, 183, 0, 3, 177]
abbrev dktX16_init_0 : List UInt8 := dkwX16_init_0 ++ []
theorem dksX16_init_0 : cX16_init.data.toList.drop 0 = dktX16_init_0 := by decide +kernel
theorem dX16_init_0 : decode cX16_init 0 = .ok (.aload_n 0, 1) := dk_42 (dk_at dksX16_init_0 0 rfl rfl)
theorem dX16_init_1 : decode cX16_init 1 = .ok (.iload_n 1, 1) := dk_27 (dk_at dksX16_init_0 1 rfl rfl)
theorem dX16_init_2 : decode cX16_init 2 = .ok (.iload_n 2, 1) := dk_28 (dk_at dksX16_init_0 2 rfl rfl)
theorem dX16_init_3 : decode cX16_init 3 = .ok (.iload_n 3, 1) := dk_29 (dk_at dksX16_init_0 3 rfl rfl)
theorem dX16_init_4 : decode cX16_init 4 = .ok (.invokespecial 3, 3) := dk_183 0 3 (dk_at dksX16_init_0 4 rfl rfl)
theorem dX16_init_7 : decode cX16_init 7 = .ok (.return_, 1) := dk_177 (dk_at dksX16_init_0 7 rfl rfl)
abbrev cX16_kind : ByteArray := prog_10_method_2_code
def yX16_kind : MethodName := ⟨RX16, "kind", "()I"⟩
theorem dX16_kind_0 : decode cX16_kind 0 = .ok (.iconst 4, 1) := by decide +kernel
theorem dX16_kind_1 : decode cX16_kind 1 = .ok (.ireturn, 1) := by decide +kernel
abbrev cX16_looksAtOne : ByteArray := prog_10_method_3_code
def yX16_looksAtOne : MethodName := ⟨RX16, "looksAtOne", "()Z"⟩
theorem dX16_looksAtOne_0 : decode cX16_looksAtOne 0 = .ok (.iconst 1, 1) := by decide +kernel
theorem dX16_looksAtOne_1 : decode cX16_looksAtOne 1 = .ok (.ireturn, 1) := by decide +kernel
abbrev cX16_looking : ByteArray := prog_10_method_5_code
def yX16_looking : MethodName := ⟨RX16, "looking", "(ILTaxOnLooks$Trace;)I"⟩
def dkwX16_looking_0 : List UInt8 := [44, 16, 51, 182, 0, 9, 42, 27, 44, 183, 0, 19, 42, 180, 0, 22, 100, 172]
abbrev dktX16_looking_0 : List UInt8 := dkwX16_looking_0 ++ []
theorem dksX16_looking_0 : cX16_looking.data.toList.drop 0 = dktX16_looking_0 := by decide +kernel
theorem dX16_looking_0 : decode cX16_looking 0 = .ok (.aload_n 2, 1) := dk_44 (dk_at dksX16_looking_0 0 rfl rfl)
theorem dX16_looking_1 : decode cX16_looking 1 = .ok (.bipush 51, 2) := dk_16 51 (dk_at dksX16_looking_0 1 rfl rfl)
theorem dX16_looking_3 : decode cX16_looking 3 = .ok (.invokevirtual 9, 3) := dk_182 0 9 (dk_at dksX16_looking_0 3 rfl rfl)
theorem dX16_looking_6 : decode cX16_looking 6 = .ok (.aload_n 0, 1) := dk_42 (dk_at dksX16_looking_0 6 rfl rfl)
theorem dX16_looking_7 : decode cX16_looking 7 = .ok (.iload_n 1, 1) := dk_27 (dk_at dksX16_looking_0 7 rfl rfl)
theorem dX16_looking_8 : decode cX16_looking 8 = .ok (.aload_n 2, 1) := dk_44 (dk_at dksX16_looking_0 8 rfl rfl)
theorem dX16_looking_9 : decode cX16_looking 9 = .ok (.invokespecial 19, 3) := dk_183 0 19 (dk_at dksX16_looking_0 9 rfl rfl)
theorem dX16_looking_12 : decode cX16_looking 12 = .ok (.aload_n 0, 1) := dk_42 (dk_at dksX16_looking_0 12 rfl rfl)
theorem dX16_looking_13 : decode cX16_looking 13 = .ok (.getfield 22, 3) := dk_180 0 22 (dk_at dksX16_looking_0 13 rfl rfl)
theorem dX16_looking_16 : decode cX16_looking 16 = .ok (.isub, 1) := dk_100 (dk_at dksX16_looking_0 16 rfl rfl)
theorem dX16_looking_17 : decode cX16_looking 17 = .ok (.ireturn, 1) := dk_172 (dk_at dksX16_looking_0 17 rfl rfl)
abbrev cX16_paying : ByteArray := prog_10_method_4_code
def yX16_paying : MethodName := ⟨RX16, "paying", "(ILTaxOnLooks$Trace;)I"⟩
def dkwX16_paying_0 : List UInt8 := [44, 16, 50, 182, 0, 9, 42, 27, 44, 183, 0, 15, 116, 172]
abbrev dktX16_paying_0 : List UInt8 := dkwX16_paying_0 ++ []
theorem dksX16_paying_0 : cX16_paying.data.toList.drop 0 = dktX16_paying_0 := by decide +kernel
theorem dX16_paying_0 : decode cX16_paying 0 = .ok (.aload_n 2, 1) := dk_44 (dk_at dksX16_paying_0 0 rfl rfl)
theorem dX16_paying_1 : decode cX16_paying 1 = .ok (.bipush 50, 2) := dk_16 50 (dk_at dksX16_paying_0 1 rfl rfl)
theorem dX16_paying_3 : decode cX16_paying 3 = .ok (.invokevirtual 9, 3) := dk_182 0 9 (dk_at dksX16_paying_0 3 rfl rfl)
theorem dX16_paying_6 : decode cX16_paying 6 = .ok (.aload_n 0, 1) := dk_42 (dk_at dksX16_paying_0 6 rfl rfl)
theorem dX16_paying_7 : decode cX16_paying 7 = .ok (.iload_n 1, 1) := dk_27 (dk_at dksX16_paying_0 7 rfl rfl)
theorem dX16_paying_8 : decode cX16_paying 8 = .ok (.aload_n 2, 1) := dk_44 (dk_at dksX16_paying_0 8 rfl rfl)
theorem dX16_paying_9 : decode cX16_paying 9 = .ok (.invokespecial 15, 3) := dk_183 0 15 (dk_at dksX16_paying_0 9 rfl rfl)
theorem dX16_paying_12 : decode cX16_paying 12 = .ok (.ineg, 1) := dk_116 (dk_at dksX16_paying_0 12 rfl rfl)
theorem dX16_paying_13 : decode cX16_paying 13 = .ok (.ireturn, 1) := dk_172 (dk_at dksX16_paying_0 13 rfl rfl)
theorem q108 : (Jvm.Cond.initialized "TaxOnLooks$Lover") ∈ lw_all := lw_g (lw_at lw_m1 27 rfl) rfl
theorem q608 : (Jvm.Cond.selects "TaxOnLooks$Lover" ({ cls := "TaxOnLooks$Person", name := "shows", desc := "(I)I" } : Jvm.MethodName) ({ cls := "TaxOnLooks$Person", name := "shows", desc := "(I)I" } : Jvm.MethodName)) ∈ lw_all := lw_g (lw_at lw_m3 47 rfl) rfl
theorem q613 : (Jvm.Cond.sameMethod "TaxOnLooks$Lover" "TaxOnLooks$Person" "shows" "(I)I") ∈ lw_all := lw_g (lw_at lw_m3 52 rfl) rfl
theorem q616 : (Jvm.Cond.superclass "TaxOnLooks$Lover" "TaxOnLooks$Person") ∈ lw_all := lw_g (lw_at lw_m3 55 rfl) rfl
theorem q662 : (Jvm.Cond.fieldLink "TaxOnLooks$Lover" (22 : Nat) "TaxOnLooks$Lover" "index" "I") ∈ lw_all := lw_g (lw_at lw_m3 101 rfl) rfl
theorem q663 : (Jvm.Cond.sameField "TaxOnLooks$Lover" "TaxOnLooks$Person" "index" "I") ∈ lw_all := lw_g (lw_at lw_m3 102 rfl) rfl
theorem q677 : (Jvm.Cond.sameField "TaxOnLooks$Lover" "TaxOnLooks$Person" "shame" "I") ∈ lw_all := lw_g (lw_at lw_m3 116 rfl) rfl
theorem q707 : (Jvm.Cond.instantiable "TaxOnLooks$Lover" (3 : Nat)) ∈ lw_all := lw_g (lw_at lw_m3 146 rfl) rfl
theorem q709 : (Jvm.Cond.instanceMethod ({ cls := "TaxOnLooks$Lover", name := "<init>", desc := "(III)V" } : Jvm.MethodName)) ∈ lw_all := lw_g (lw_at lw_m3 148 rfl) rfl
theorem q710 : (Jvm.Cond.code ({ cls := "TaxOnLooks$Lover", name := "<init>", desc := "(III)V" } : Jvm.MethodName) prog_10_method_1_code (4 : Nat) (Option.none : Option Jvm.ClassFile.FieldType)) ∈ lw_all := lw_g (lw_at lw_m3 149 rfl) rfl
theorem q711 : (Jvm.Cond.methodLink "TaxOnLooks$Lover" (3 : Nat) ({ cls := "TaxOnLooks$Person", name := "<init>", desc := "(III)V" } : Jvm.MethodName)) ∈ lw_all := lw_g (lw_at lw_m3 150 rfl) rfl
theorem q712 : (Jvm.Cond.laysFinal "TaxOnLooks$Lover" "TaxOnLooks$Person" "index" "I") ∈ lw_all := lw_g (lw_at lw_m3 151 rfl) rfl
theorem q713 : (Jvm.Cond.laysFinal "TaxOnLooks$Lover" "TaxOnLooks$Person" "by" "I") ∈ lw_all := lw_g (lw_at lw_m3 152 rfl) rfl
theorem q714 : (Jvm.Cond.laysFinal "TaxOnLooks$Lover" "TaxOnLooks$Person" "shame" "I") ∈ lw_all := lw_g (lw_at lw_m3 153 rfl) rfl
theorem q798 : (Jvm.Cond.selects "TaxOnLooks$Lover" ({ cls := "TaxOnLooks$Person", name := "kind", desc := "()I" } : Jvm.MethodName) ({ cls := "TaxOnLooks$Lover", name := "kind", desc := "()I" } : Jvm.MethodName)) ∈ lw_all := lw_g (lw_at lw_m3 237 rfl) rfl
theorem q799 : (Jvm.Cond.instanceMethod ({ cls := "TaxOnLooks$Lover", name := "kind", desc := "()I" } : Jvm.MethodName)) ∈ lw_all := lw_g (lw_at lw_m3 238 rfl) rfl
theorem q800 : (Jvm.Cond.code ({ cls := "TaxOnLooks$Lover", name := "kind", desc := "()I" } : Jvm.MethodName) prog_10_method_2_code (1 : Nat) (Option.some Jvm.ClassFile.FieldType.int)) ∈ lw_all := lw_g (lw_at lw_m3 239 rfl) rfl
theorem q1040 : (Jvm.Cond.selects "TaxOnLooks$Lover" ({ cls := "TaxOnLooks$Person", name := "looksAtAll", desc := "()Z" } : Jvm.MethodName) ({ cls := "TaxOnLooks$Person", name := "looksAtAll", desc := "()Z" } : Jvm.MethodName)) ∈ lw_all := lw_g (lw_at lw_m4 239 rfl) rfl
theorem q1057 : (Jvm.Cond.selects "TaxOnLooks$Lover" ({ cls := "TaxOnLooks$Person", name := "looksAtOne", desc := "()Z" } : Jvm.MethodName) ({ cls := "TaxOnLooks$Lover", name := "looksAtOne", desc := "()Z" } : Jvm.MethodName)) ∈ lw_all := lw_g (lw_at lw_m5 16 rfl) rfl
theorem q1058 : (Jvm.Cond.instanceMethod ({ cls := "TaxOnLooks$Lover", name := "looksAtOne", desc := "()Z" } : Jvm.MethodName)) ∈ lw_all := lw_g (lw_at lw_m5 17 rfl) rfl
theorem q1059 : (Jvm.Cond.code ({ cls := "TaxOnLooks$Lover", name := "looksAtOne", desc := "()Z" } : Jvm.MethodName) prog_10_method_3_code (1 : Nat) (Option.some Jvm.ClassFile.FieldType.boolean)) ∈ lw_all := lw_g (lw_at lw_m5 18 rfl) rfl
theorem q1098 : (Jvm.Cond.selects "TaxOnLooks$Lover" ({ cls := "TaxOnLooks$Person", name := "owes", desc := "(I)I" } : Jvm.MethodName) ({ cls := "TaxOnLooks$Person", name := "owes", desc := "(I)I" } : Jvm.MethodName)) ∈ lw_all := lw_g (lw_at lw_m5 57 rfl) rfl
theorem q1291 : (Jvm.Cond.selects "TaxOnLooks$Lover" ({ cls := "TaxOnLooks$Person", name := "looking", desc := "(ILTaxOnLooks$Trace;)I" } : Jvm.MethodName) ({ cls := "TaxOnLooks$Lover", name := "looking", desc := "(ILTaxOnLooks$Trace;)I" } : Jvm.MethodName)) ∈ lw_all := lw_g (lw_at lw_m6 10 rfl) rfl
theorem q1292 : (Jvm.Cond.instanceMethod ({ cls := "TaxOnLooks$Lover", name := "looking", desc := "(ILTaxOnLooks$Trace;)I" } : Jvm.MethodName)) ∈ lw_all := lw_g (lw_at lw_m6 11 rfl) rfl
theorem q1293 : (Jvm.Cond.code ({ cls := "TaxOnLooks$Lover", name := "looking", desc := "(ILTaxOnLooks$Trace;)I" } : Jvm.MethodName) prog_10_method_5_code (3 : Nat) (Option.some Jvm.ClassFile.FieldType.int)) ∈ lw_all := lw_g (lw_at lw_m6 12 rfl) rfl
theorem q1294 : (Jvm.Cond.methodLink "TaxOnLooks$Lover" (9 : Nat) ({ cls := "TaxOnLooks$Trace", name := "runs", desc := "(I)V" } : Jvm.MethodName)) ∈ lw_all := lw_g (lw_at lw_m6 13 rfl) rfl
theorem q1295 : (Jvm.Cond.methodLink "TaxOnLooks$Lover" (19 : Nat) ({ cls := "TaxOnLooks$Person", name := "looking", desc := "(ILTaxOnLooks$Trace;)I" } : Jvm.MethodName)) ∈ lw_all := lw_g (lw_at lw_m6 14 rfl) rfl
theorem q1315 : (Jvm.Cond.selects "TaxOnLooks$Lover" ({ cls := "TaxOnLooks$Person", name := "walking", desc := "(ILTaxOnLooks$Trace;)I" } : Jvm.MethodName) ({ cls := "TaxOnLooks$Person", name := "walking", desc := "(ILTaxOnLooks$Trace;)I" } : Jvm.MethodName)) ∈ lw_all := lw_g (lw_at lw_m6 34 rfl) rfl
theorem q1320 : (Jvm.Cond.sameMethod "TaxOnLooks$Lover" "TaxOnLooks$Person" "walking" "(ILTaxOnLooks$Trace;)I") ∈ lw_all := lw_g (lw_at lw_m6 39 rfl) rfl
theorem q1338 : (Jvm.Cond.selects "TaxOnLooks$Lover" ({ cls := "TaxOnLooks$Person", name := "paying", desc := "(ILTaxOnLooks$Trace;)I" } : Jvm.MethodName) ({ cls := "TaxOnLooks$Lover", name := "paying", desc := "(ILTaxOnLooks$Trace;)I" } : Jvm.MethodName)) ∈ lw_all := lw_g (lw_at lw_m6 57 rfl) rfl
theorem q1339 : (Jvm.Cond.instanceMethod ({ cls := "TaxOnLooks$Lover", name := "paying", desc := "(ILTaxOnLooks$Trace;)I" } : Jvm.MethodName)) ∈ lw_all := lw_g (lw_at lw_m6 58 rfl) rfl
theorem q1340 : (Jvm.Cond.code ({ cls := "TaxOnLooks$Lover", name := "paying", desc := "(ILTaxOnLooks$Trace;)I" } : Jvm.MethodName) prog_10_method_4_code (3 : Nat) (Option.some Jvm.ClassFile.FieldType.int)) ∈ lw_all := lw_g (lw_at lw_m6 59 rfl) rfl
theorem q1341 : (Jvm.Cond.methodLink "TaxOnLooks$Lover" (15 : Nat) ({ cls := "TaxOnLooks$Person", name := "paying", desc := "(ILTaxOnLooks$Trace;)I" } : Jvm.MethodName)) ∈ lw_all := lw_g (lw_at lw_m6 60 rfl) rfl
theorem q1865 : (Jvm.Cond.sameMethod "TaxOnLooks$Lover" "TaxOnLooks$Lover" "looking" "(ILTaxOnLooks$Trace;)I") ∈ lw_all := lw_g (lw_at lw_m8 104 rfl) rfl
theorem q1875 : (Jvm.Cond.castable "TaxOnLooks$Lover" "TaxOnLooks$Person") ∈ lw_tbl := lw_at lw_m8 114 rfl
theorem in_X16 : ∀ w ∈ wsX160, w ∈ lw_all := lw_in wsX160 [712, 713, 714] (by decide +kernel) (by decide +kernel)

/-! TaxOnLooks$Child -/
set_option maxRecDepth 100000
def RX17 : String := "TaxOnLooks$Child"
def TX17 : u_T := fun k => match k with
  | 0 => ("TaxOnLooks$Person", "index", "I", true)
  | 1 => ("TaxOnLooks$Person", "by", "I", true)
  | _ => ("TaxOnLooks$Person", "shame", "I", true)
def tyX17 : Nat → FieldType := fun k => match k with
  | 0 => .int
  | 1 => .int
  | _ => .int
abbrev wsX170 : List Cond := u_ws RX17 TX17 3
theorem nmX17 : ∀ a, a < 3 → ∀ b, b < 3 → a ≠ b → (TX17 a).2.1 ≠ (TX17 b).2.1 := by decide +kernel
theorem tyX17_ok : ∀ k, k < 3 → parseFieldDescriptor (TX17 k).2.2.1 = some (tyX17 k) := by decide +kernel
abbrev cX17_init : ByteArray := prog_6_method_1_code
def yX17_init : MethodName := ⟨RX17, "<init>", "(III)V"⟩
def dkwX17_init_0 : List UInt8 := [42, 27, 28, 29, 183, 0, 3, 177]
abbrev dktX17_init_0 : List UInt8 := dkwX17_init_0 ++ []
theorem dksX17_init_0 : cX17_init.data.toList.drop 0 = dktX17_init_0 := by decide +kernel
theorem dX17_init_0 : decode cX17_init 0 = .ok (.aload_n 0, 1) := dk_42 (dk_at dksX17_init_0 0 rfl rfl)
theorem dX17_init_1 : decode cX17_init 1 = .ok (.iload_n 1, 1) := dk_27 (dk_at dksX17_init_0 1 rfl rfl)
theorem dX17_init_2 : decode cX17_init 2 = .ok (.iload_n 2, 1) := dk_28 (dk_at dksX17_init_0 2 rfl rfl)
theorem dX17_init_3 : decode cX17_init 3 = .ok (.iload_n 3, 1) := dk_29 (dk_at dksX17_init_0 3 rfl rfl)
theorem dX17_init_4 : decode cX17_init 4 = .ok (.invokespecial 3, 3) := dk_183 0 3 (dk_at dksX17_init_0 4 rfl rfl)
theorem dX17_init_7 : decode cX17_init 7 = .ok (.return_, 1) := dk_177 (dk_at dksX17_init_0 7 rfl rfl)
abbrev cX17_kind : ByteArray := prog_6_method_2_code
def yX17_kind : MethodName := ⟨RX17, "kind", "()I"⟩
theorem dX17_kind_0 : decode cX17_kind 0 = .ok (.iconst 5, 1) := by decide +kernel
theorem dX17_kind_1 : decode cX17_kind 1 = .ok (.ireturn, 1) := by decide +kernel
abbrev cX17_owes : ByteArray := prog_6_method_3_code
def yX17_owes : MethodName := ⟨RX17, "owes", "(I)I"⟩
theorem dX17_owes_0 : decode cX17_owes 0 = .ok (.iconst 0, 1) := by decide +kernel
theorem dX17_owes_1 : decode cX17_owes 1 = .ok (.ireturn, 1) := by decide +kernel
abbrev cX17_paying : ByteArray := prog_6_method_4_code
def yX17_paying : MethodName := ⟨RX17, "paying", "(ILTaxOnLooks$Trace;)I"⟩
def dkwX17_paying_0 : List UInt8 := [44, 16, 60, 182, 0, 9, 42, 27, 44, 183, 0, 15, 8, 130, 172]
abbrev dktX17_paying_0 : List UInt8 := dkwX17_paying_0 ++ []
theorem dksX17_paying_0 : cX17_paying.data.toList.drop 0 = dktX17_paying_0 := by decide +kernel
theorem dX17_paying_0 : decode cX17_paying 0 = .ok (.aload_n 2, 1) := dk_44 (dk_at dksX17_paying_0 0 rfl rfl)
theorem dX17_paying_1 : decode cX17_paying 1 = .ok (.bipush 60, 2) := dk_16 60 (dk_at dksX17_paying_0 1 rfl rfl)
theorem dX17_paying_3 : decode cX17_paying 3 = .ok (.invokevirtual 9, 3) := dk_182 0 9 (dk_at dksX17_paying_0 3 rfl rfl)
theorem dX17_paying_6 : decode cX17_paying 6 = .ok (.aload_n 0, 1) := dk_42 (dk_at dksX17_paying_0 6 rfl rfl)
theorem dX17_paying_7 : decode cX17_paying 7 = .ok (.iload_n 1, 1) := dk_27 (dk_at dksX17_paying_0 7 rfl rfl)
theorem dX17_paying_8 : decode cX17_paying 8 = .ok (.aload_n 2, 1) := dk_44 (dk_at dksX17_paying_0 8 rfl rfl)
theorem dX17_paying_9 : decode cX17_paying 9 = .ok (.invokespecial 15, 3) := dk_183 0 15 (dk_at dksX17_paying_0 9 rfl rfl)
theorem dX17_paying_12 : decode cX17_paying 12 = .ok (.iconst 5, 1) := dk_8 (dk_at dksX17_paying_0 12 rfl rfl)
theorem dX17_paying_13 : decode cX17_paying 13 = .ok (.ixor, 1) := dk_130 (dk_at dksX17_paying_0 13 rfl rfl)
theorem dX17_paying_14 : decode cX17_paying 14 = .ok (.ireturn, 1) := dk_172 (dk_at dksX17_paying_0 14 rfl rfl)
theorem q109 : (Jvm.Cond.initialized "TaxOnLooks$Child") ∈ lw_all := lw_g (lw_at lw_m1 28 rfl) rfl
theorem q607 : (Jvm.Cond.selects "TaxOnLooks$Child" ({ cls := "TaxOnLooks$Person", name := "shows", desc := "(I)I" } : Jvm.MethodName) ({ cls := "TaxOnLooks$Person", name := "shows", desc := "(I)I" } : Jvm.MethodName)) ∈ lw_all := lw_g (lw_at lw_m3 46 rfl) rfl
theorem q660 : (Jvm.Cond.sameField "TaxOnLooks$Child" "TaxOnLooks$Person" "index" "I") ∈ lw_all := lw_g (lw_at lw_m3 99 rfl) rfl
theorem q716 : (Jvm.Cond.instantiable "TaxOnLooks$Child" (3 : Nat)) ∈ lw_all := lw_g (lw_at lw_m3 155 rfl) rfl
theorem q718 : (Jvm.Cond.instanceMethod ({ cls := "TaxOnLooks$Child", name := "<init>", desc := "(III)V" } : Jvm.MethodName)) ∈ lw_all := lw_g (lw_at lw_m3 157 rfl) rfl
theorem q719 : (Jvm.Cond.code ({ cls := "TaxOnLooks$Child", name := "<init>", desc := "(III)V" } : Jvm.MethodName) prog_6_method_1_code (4 : Nat) (Option.none : Option Jvm.ClassFile.FieldType)) ∈ lw_all := lw_g (lw_at lw_m3 158 rfl) rfl
theorem q720 : (Jvm.Cond.methodLink "TaxOnLooks$Child" (3 : Nat) ({ cls := "TaxOnLooks$Blind", name := "<init>", desc := "(III)V" } : Jvm.MethodName)) ∈ lw_all := lw_g (lw_at lw_m3 159 rfl) rfl
theorem q721 : (Jvm.Cond.laysFinal "TaxOnLooks$Child" "TaxOnLooks$Person" "index" "I") ∈ lw_all := lw_g (lw_at lw_m3 160 rfl) rfl
theorem q722 : (Jvm.Cond.laysFinal "TaxOnLooks$Child" "TaxOnLooks$Person" "by" "I") ∈ lw_all := lw_g (lw_at lw_m3 161 rfl) rfl
theorem q723 : (Jvm.Cond.laysFinal "TaxOnLooks$Child" "TaxOnLooks$Person" "shame" "I") ∈ lw_all := lw_g (lw_at lw_m3 162 rfl) rfl
theorem q724 : (Jvm.Cond.superclass "TaxOnLooks$Child" "TaxOnLooks$Blind") ∈ lw_all := lw_g (lw_at lw_m3 163 rfl) rfl
theorem q795 : (Jvm.Cond.selects "TaxOnLooks$Child" ({ cls := "TaxOnLooks$Person", name := "kind", desc := "()I" } : Jvm.MethodName) ({ cls := "TaxOnLooks$Child", name := "kind", desc := "()I" } : Jvm.MethodName)) ∈ lw_all := lw_g (lw_at lw_m3 234 rfl) rfl
theorem q796 : (Jvm.Cond.instanceMethod ({ cls := "TaxOnLooks$Child", name := "kind", desc := "()I" } : Jvm.MethodName)) ∈ lw_all := lw_g (lw_at lw_m3 235 rfl) rfl
theorem q797 : (Jvm.Cond.code ({ cls := "TaxOnLooks$Child", name := "kind", desc := "()I" } : Jvm.MethodName) prog_6_method_2_code (1 : Nat) (Option.some Jvm.ClassFile.FieldType.int)) ∈ lw_all := lw_g (lw_at lw_m3 236 rfl) rfl
theorem q1039 : (Jvm.Cond.selects "TaxOnLooks$Child" ({ cls := "TaxOnLooks$Person", name := "looksAtAll", desc := "()Z" } : Jvm.MethodName) ({ cls := "TaxOnLooks$Blind", name := "looksAtAll", desc := "()Z" } : Jvm.MethodName)) ∈ lw_all := lw_g (lw_at lw_m4 238 rfl) rfl
theorem q1056 : (Jvm.Cond.selects "TaxOnLooks$Child" ({ cls := "TaxOnLooks$Person", name := "looksAtOne", desc := "()Z" } : Jvm.MethodName) ({ cls := "TaxOnLooks$Person", name := "looksAtOne", desc := "()Z" } : Jvm.MethodName)) ∈ lw_all := lw_g (lw_at lw_m5 15 rfl) rfl
theorem q1095 : (Jvm.Cond.selects "TaxOnLooks$Child" ({ cls := "TaxOnLooks$Person", name := "owes", desc := "(I)I" } : Jvm.MethodName) ({ cls := "TaxOnLooks$Child", name := "owes", desc := "(I)I" } : Jvm.MethodName)) ∈ lw_all := lw_g (lw_at lw_m5 54 rfl) rfl
theorem q1096 : (Jvm.Cond.instanceMethod ({ cls := "TaxOnLooks$Child", name := "owes", desc := "(I)I" } : Jvm.MethodName)) ∈ lw_all := lw_g (lw_at lw_m5 55 rfl) rfl
theorem q1097 : (Jvm.Cond.code ({ cls := "TaxOnLooks$Child", name := "owes", desc := "(I)I" } : Jvm.MethodName) prog_6_method_3_code (2 : Nat) (Option.some Jvm.ClassFile.FieldType.int)) ∈ lw_all := lw_g (lw_at lw_m5 56 rfl) rfl
theorem q1290 : (Jvm.Cond.selects "TaxOnLooks$Child" ({ cls := "TaxOnLooks$Person", name := "looking", desc := "(ILTaxOnLooks$Trace;)I" } : Jvm.MethodName) ({ cls := "TaxOnLooks$Person", name := "looking", desc := "(ILTaxOnLooks$Trace;)I" } : Jvm.MethodName)) ∈ lw_all := lw_g (lw_at lw_m6 9 rfl) rfl
theorem q1314 : (Jvm.Cond.selects "TaxOnLooks$Child" ({ cls := "TaxOnLooks$Person", name := "walking", desc := "(ILTaxOnLooks$Trace;)I" } : Jvm.MethodName) ({ cls := "TaxOnLooks$Blind", name := "walking", desc := "(ILTaxOnLooks$Trace;)I" } : Jvm.MethodName)) ∈ lw_all := lw_g (lw_at lw_m6 33 rfl) rfl
theorem q1329 : (Jvm.Cond.selects "TaxOnLooks$Child" ({ cls := "TaxOnLooks$Person", name := "paying", desc := "(ILTaxOnLooks$Trace;)I" } : Jvm.MethodName) ({ cls := "TaxOnLooks$Child", name := "paying", desc := "(ILTaxOnLooks$Trace;)I" } : Jvm.MethodName)) ∈ lw_all := lw_g (lw_at lw_m6 48 rfl) rfl
theorem q1330 : (Jvm.Cond.instanceMethod ({ cls := "TaxOnLooks$Child", name := "paying", desc := "(ILTaxOnLooks$Trace;)I" } : Jvm.MethodName)) ∈ lw_all := lw_g (lw_at lw_m6 49 rfl) rfl
theorem q1331 : (Jvm.Cond.code ({ cls := "TaxOnLooks$Child", name := "paying", desc := "(ILTaxOnLooks$Trace;)I" } : Jvm.MethodName) prog_6_method_4_code (3 : Nat) (Option.some Jvm.ClassFile.FieldType.int)) ∈ lw_all := lw_g (lw_at lw_m6 50 rfl) rfl
theorem q1332 : (Jvm.Cond.methodLink "TaxOnLooks$Child" (9 : Nat) ({ cls := "TaxOnLooks$Trace", name := "runs", desc := "(I)V" } : Jvm.MethodName)) ∈ lw_all := lw_g (lw_at lw_m6 51 rfl) rfl
theorem q1333 : (Jvm.Cond.methodLink "TaxOnLooks$Child" (15 : Nat) ({ cls := "TaxOnLooks$Blind", name := "paying", desc := "(ILTaxOnLooks$Trace;)I" } : Jvm.MethodName)) ∈ lw_all := lw_g (lw_at lw_m6 52 rfl) rfl
theorem q1874 : (Jvm.Cond.castable "TaxOnLooks$Child" "TaxOnLooks$Person") ∈ lw_tbl := lw_at lw_m8 113 rfl
theorem q1878 : (Jvm.Cond.castable "TaxOnLooks$Child" "TaxOnLooks$Blind") ∈ lw_tbl := lw_at lw_m8 117 rfl
theorem in_X17 : ∀ w ∈ wsX170, w ∈ lw_all := lw_in wsX170 [721, 722, 723] (by decide +kernel) (by decide +kernel)

/-! TaxOnLooks$Shamed -/
set_option maxRecDepth 100000
def RX18 : String := "TaxOnLooks$Shamed"
def TX18 : u_T := fun k => match k with
  | 0 => ("TaxOnLooks$Person", "index", "I", true)
  | 1 => ("TaxOnLooks$Person", "by", "I", true)
  | _ => ("TaxOnLooks$Person", "shame", "I", true)
def tyX18 : Nat → FieldType := fun k => match k with
  | 0 => .int
  | 1 => .int
  | _ => .int
abbrev wsX180 : List Cond := u_ws RX18 TX18 3
theorem nmX18 : ∀ a, a < 3 → ∀ b, b < 3 → a ≠ b → (TX18 a).2.1 ≠ (TX18 b).2.1 := by decide +kernel
theorem tyX18_ok : ∀ k, k < 3 → parseFieldDescriptor (TX18 k).2.2.1 = some (tyX18 k) := by decide +kernel
abbrev cX18_shows : ByteArray := prog_15_method_3_code
def yX18_shows : MethodName := ⟨RX18, "shows", "(I)I"⟩
def dkwX18_shows_0 : List UInt8 := [3, 42, 27, 183, 0, 9, 42, 180, 0, 13, 100, 184, 0, 19, 172]
abbrev dktX18_shows_0 : List UInt8 := dkwX18_shows_0 ++ []
theorem dksX18_shows_0 : cX18_shows.data.toList.drop 0 = dktX18_shows_0 := by decide +kernel
theorem dX18_shows_0 : decode cX18_shows 0 = .ok (.iconst 0, 1) := dk_3 (dk_at dksX18_shows_0 0 rfl rfl)
theorem dX18_shows_1 : decode cX18_shows 1 = .ok (.aload_n 0, 1) := dk_42 (dk_at dksX18_shows_0 1 rfl rfl)
theorem dX18_shows_2 : decode cX18_shows 2 = .ok (.iload_n 1, 1) := dk_27 (dk_at dksX18_shows_0 2 rfl rfl)
theorem dX18_shows_3 : decode cX18_shows 3 = .ok (.invokespecial 9, 3) := dk_183 0 9 (dk_at dksX18_shows_0 3 rfl rfl)
theorem dX18_shows_6 : decode cX18_shows 6 = .ok (.aload_n 0, 1) := dk_42 (dk_at dksX18_shows_0 6 rfl rfl)
theorem dX18_shows_7 : decode cX18_shows 7 = .ok (.getfield 13, 3) := dk_180 0 13 (dk_at dksX18_shows_0 7 rfl rfl)
theorem dX18_shows_10 : decode cX18_shows 10 = .ok (.isub, 1) := dk_100 (dk_at dksX18_shows_0 10 rfl rfl)
theorem dX18_shows_11 : decode cX18_shows 11 = .ok (.invokestatic 19, 3) := dk_184 0 19 (dk_at dksX18_shows_0 11 rfl rfl)
theorem dX18_shows_14 : decode cX18_shows 14 = .ok (.ireturn, 1) := dk_172 (dk_at dksX18_shows_0 14 rfl rfl)
abbrev cX18_init : ByteArray := prog_15_method_1_code
def yX18_init : MethodName := ⟨RX18, "<init>", "(III)V"⟩
def dkwX18_init_0 : List UInt8 := [42, 27, 28, 29, 183, 0, 3, 177]
abbrev dktX18_init_0 : List UInt8 := dkwX18_init_0 ++ []
theorem dksX18_init_0 : cX18_init.data.toList.drop 0 = dktX18_init_0 := by decide +kernel
theorem dX18_init_0 : decode cX18_init 0 = .ok (.aload_n 0, 1) := dk_42 (dk_at dksX18_init_0 0 rfl rfl)
theorem dX18_init_1 : decode cX18_init 1 = .ok (.iload_n 1, 1) := dk_27 (dk_at dksX18_init_0 1 rfl rfl)
theorem dX18_init_2 : decode cX18_init 2 = .ok (.iload_n 2, 1) := dk_28 (dk_at dksX18_init_0 2 rfl rfl)
theorem dX18_init_3 : decode cX18_init 3 = .ok (.iload_n 3, 1) := dk_29 (dk_at dksX18_init_0 3 rfl rfl)
theorem dX18_init_4 : decode cX18_init 4 = .ok (.invokespecial 3, 3) := dk_183 0 3 (dk_at dksX18_init_0 4 rfl rfl)
theorem dX18_init_7 : decode cX18_init 7 = .ok (.return_, 1) := dk_177 (dk_at dksX18_init_0 7 rfl rfl)
abbrev cX18_kind : ByteArray := prog_15_method_2_code
def yX18_kind : MethodName := ⟨RX18, "kind", "()I"⟩
theorem dX18_kind_0 : decode cX18_kind 0 = .ok (.bipush 6, 2) := by decide +kernel
theorem dX18_kind_2 : decode cX18_kind 2 = .ok (.ireturn, 1) := by decide +kernel
abbrev cX18_looking : ByteArray := prog_15_method_4_code
def yX18_looking : MethodName := ⟨RX18, "looking", "(ILTaxOnLooks$Trace;)I"⟩
def dkwX18_looking_0 : List UInt8 := [44, 16, 70, 182, 0, 25, 42, 27, 44, 183, 0, 31, 5, 104, 172]
abbrev dktX18_looking_0 : List UInt8 := dkwX18_looking_0 ++ []
theorem dksX18_looking_0 : cX18_looking.data.toList.drop 0 = dktX18_looking_0 := by decide +kernel
theorem dX18_looking_0 : decode cX18_looking 0 = .ok (.aload_n 2, 1) := dk_44 (dk_at dksX18_looking_0 0 rfl rfl)
theorem dX18_looking_1 : decode cX18_looking 1 = .ok (.bipush 70, 2) := dk_16 70 (dk_at dksX18_looking_0 1 rfl rfl)
theorem dX18_looking_3 : decode cX18_looking 3 = .ok (.invokevirtual 25, 3) := dk_182 0 25 (dk_at dksX18_looking_0 3 rfl rfl)
theorem dX18_looking_6 : decode cX18_looking 6 = .ok (.aload_n 0, 1) := dk_42 (dk_at dksX18_looking_0 6 rfl rfl)
theorem dX18_looking_7 : decode cX18_looking 7 = .ok (.iload_n 1, 1) := dk_27 (dk_at dksX18_looking_0 7 rfl rfl)
theorem dX18_looking_8 : decode cX18_looking 8 = .ok (.aload_n 2, 1) := dk_44 (dk_at dksX18_looking_0 8 rfl rfl)
theorem dX18_looking_9 : decode cX18_looking 9 = .ok (.invokespecial 31, 3) := dk_183 0 31 (dk_at dksX18_looking_0 9 rfl rfl)
theorem dX18_looking_12 : decode cX18_looking 12 = .ok (.iconst 2, 1) := dk_5 (dk_at dksX18_looking_0 12 rfl rfl)
theorem dX18_looking_13 : decode cX18_looking 13 = .ok (.imul, 1) := dk_104 (dk_at dksX18_looking_0 13 rfl rfl)
theorem dX18_looking_14 : decode cX18_looking 14 = .ok (.ireturn, 1) := dk_172 (dk_at dksX18_looking_0 14 rfl rfl)
abbrev cX18_walking : ByteArray := prog_15_method_5_code
def yX18_walking : MethodName := ⟨RX18, "walking", "(ILTaxOnLooks$Trace;)I"⟩
def dkwX18_walking_0 : List UInt8 := [44, 16, 71, 182, 0, 25, 42, 27, 42, 180, 0, 35, 100, 44, 183, 0, 38, 172]
abbrev dktX18_walking_0 : List UInt8 := dkwX18_walking_0 ++ []
theorem dksX18_walking_0 : cX18_walking.data.toList.drop 0 = dktX18_walking_0 := by decide +kernel
theorem dX18_walking_0 : decode cX18_walking 0 = .ok (.aload_n 2, 1) := dk_44 (dk_at dksX18_walking_0 0 rfl rfl)
theorem dX18_walking_1 : decode cX18_walking 1 = .ok (.bipush 71, 2) := dk_16 71 (dk_at dksX18_walking_0 1 rfl rfl)
theorem dX18_walking_3 : decode cX18_walking 3 = .ok (.invokevirtual 25, 3) := dk_182 0 25 (dk_at dksX18_walking_0 3 rfl rfl)
theorem dX18_walking_6 : decode cX18_walking 6 = .ok (.aload_n 0, 1) := dk_42 (dk_at dksX18_walking_0 6 rfl rfl)
theorem dX18_walking_7 : decode cX18_walking 7 = .ok (.iload_n 1, 1) := dk_27 (dk_at dksX18_walking_0 7 rfl rfl)
theorem dX18_walking_8 : decode cX18_walking 8 = .ok (.aload_n 0, 1) := dk_42 (dk_at dksX18_walking_0 8 rfl rfl)
theorem dX18_walking_9 : decode cX18_walking 9 = .ok (.getfield 35, 3) := dk_180 0 35 (dk_at dksX18_walking_0 9 rfl rfl)
theorem dX18_walking_12 : decode cX18_walking 12 = .ok (.isub, 1) := dk_100 (dk_at dksX18_walking_0 12 rfl rfl)
theorem dX18_walking_13 : decode cX18_walking 13 = .ok (.aload_n 2, 1) := dk_44 (dk_at dksX18_walking_0 13 rfl rfl)
theorem dX18_walking_14 : decode cX18_walking 14 = .ok (.invokespecial 38, 3) := dk_183 0 38 (dk_at dksX18_walking_0 14 rfl rfl)
theorem dX18_walking_17 : decode cX18_walking 17 = .ok (.ireturn, 1) := dk_172 (dk_at dksX18_walking_0 17 rfl rfl)
theorem q110 : (Jvm.Cond.initialized "TaxOnLooks$Shamed") ∈ lw_all := lw_g (lw_at lw_m1 29 rfl) rfl
theorem q609 : (Jvm.Cond.selects "TaxOnLooks$Shamed" ({ cls := "TaxOnLooks$Person", name := "shows", desc := "(I)I" } : Jvm.MethodName) ({ cls := "TaxOnLooks$Shamed", name := "shows", desc := "(I)I" } : Jvm.MethodName)) ∈ lw_all := lw_g (lw_at lw_m3 48 rfl) rfl
theorem q610 : (Jvm.Cond.instanceMethod ({ cls := "TaxOnLooks$Shamed", name := "shows", desc := "(I)I" } : Jvm.MethodName)) ∈ lw_all := lw_g (lw_at lw_m3 49 rfl) rfl
theorem q611 : (Jvm.Cond.code ({ cls := "TaxOnLooks$Shamed", name := "shows", desc := "(I)I" } : Jvm.MethodName) prog_15_method_3_code (2 : Nat) (Option.some Jvm.ClassFile.FieldType.int)) ∈ lw_all := lw_g (lw_at lw_m3 50 rfl) rfl
theorem q612 : (Jvm.Cond.methodLink "TaxOnLooks$Shamed" (9 : Nat) ({ cls := "TaxOnLooks$Lover", name := "shows", desc := "(I)I" } : Jvm.MethodName)) ∈ lw_all := lw_g (lw_at lw_m3 51 rfl) rfl
theorem q615 : (Jvm.Cond.superclass "TaxOnLooks$Shamed" "TaxOnLooks$Lover") ∈ lw_all := lw_g (lw_at lw_m3 54 rfl) rfl
theorem q617 : (Jvm.Cond.methodLink "TaxOnLooks$Shamed" (19 : Nat) ({ cls := "java/lang/Math", name := "max", desc := "(II)I" } : Jvm.MethodName)) ∈ lw_all := lw_g (lw_at lw_m3 56 rfl) rfl
theorem q670 : (Jvm.Cond.fieldLink "TaxOnLooks$Shamed" (35 : Nat) "TaxOnLooks$Shamed" "by" "I") ∈ lw_all := lw_g (lw_at lw_m3 109 rfl) rfl
theorem q671 : (Jvm.Cond.sameField "TaxOnLooks$Shamed" "TaxOnLooks$Person" "by" "I") ∈ lw_all := lw_g (lw_at lw_m3 110 rfl) rfl
theorem q674 : (Jvm.Cond.fieldLink "TaxOnLooks$Shamed" (13 : Nat) "TaxOnLooks$Shamed" "shame" "I") ∈ lw_all := lw_g (lw_at lw_m3 113 rfl) rfl
theorem q675 : (Jvm.Cond.sameField "TaxOnLooks$Shamed" "TaxOnLooks$Person" "shame" "I") ∈ lw_all := lw_g (lw_at lw_m3 114 rfl) rfl
theorem q726 : (Jvm.Cond.instantiable "TaxOnLooks$Shamed" (3 : Nat)) ∈ lw_all := lw_g (lw_at lw_m3 165 rfl) rfl
theorem q728 : (Jvm.Cond.instanceMethod ({ cls := "TaxOnLooks$Shamed", name := "<init>", desc := "(III)V" } : Jvm.MethodName)) ∈ lw_all := lw_g (lw_at lw_m3 167 rfl) rfl
theorem q729 : (Jvm.Cond.code ({ cls := "TaxOnLooks$Shamed", name := "<init>", desc := "(III)V" } : Jvm.MethodName) prog_15_method_1_code (4 : Nat) (Option.none : Option Jvm.ClassFile.FieldType)) ∈ lw_all := lw_g (lw_at lw_m3 168 rfl) rfl
theorem q730 : (Jvm.Cond.methodLink "TaxOnLooks$Shamed" (3 : Nat) ({ cls := "TaxOnLooks$Lover", name := "<init>", desc := "(III)V" } : Jvm.MethodName)) ∈ lw_all := lw_g (lw_at lw_m3 169 rfl) rfl
theorem q731 : (Jvm.Cond.laysFinal "TaxOnLooks$Shamed" "TaxOnLooks$Person" "index" "I") ∈ lw_all := lw_g (lw_at lw_m3 170 rfl) rfl
theorem q732 : (Jvm.Cond.laysFinal "TaxOnLooks$Shamed" "TaxOnLooks$Person" "by" "I") ∈ lw_all := lw_g (lw_at lw_m3 171 rfl) rfl
theorem q733 : (Jvm.Cond.laysFinal "TaxOnLooks$Shamed" "TaxOnLooks$Person" "shame" "I") ∈ lw_all := lw_g (lw_at lw_m3 172 rfl) rfl
theorem q801 : (Jvm.Cond.selects "TaxOnLooks$Shamed" ({ cls := "TaxOnLooks$Person", name := "kind", desc := "()I" } : Jvm.MethodName) ({ cls := "TaxOnLooks$Shamed", name := "kind", desc := "()I" } : Jvm.MethodName)) ∈ lw_all := lw_g (lw_at lw_m4 0 rfl) rfl
theorem q802 : (Jvm.Cond.instanceMethod ({ cls := "TaxOnLooks$Shamed", name := "kind", desc := "()I" } : Jvm.MethodName)) ∈ lw_all := lw_g (lw_at lw_m4 1 rfl) rfl
theorem q803 : (Jvm.Cond.code ({ cls := "TaxOnLooks$Shamed", name := "kind", desc := "()I" } : Jvm.MethodName) prog_15_method_2_code (1 : Nat) (Option.some Jvm.ClassFile.FieldType.int)) ∈ lw_all := lw_g (lw_at lw_m4 2 rfl) rfl
theorem q1041 : (Jvm.Cond.selects "TaxOnLooks$Shamed" ({ cls := "TaxOnLooks$Person", name := "looksAtAll", desc := "()Z" } : Jvm.MethodName) ({ cls := "TaxOnLooks$Person", name := "looksAtAll", desc := "()Z" } : Jvm.MethodName)) ∈ lw_all := lw_g (lw_at lw_m5 0 rfl) rfl
theorem q1060 : (Jvm.Cond.selects "TaxOnLooks$Shamed" ({ cls := "TaxOnLooks$Person", name := "looksAtOne", desc := "()Z" } : Jvm.MethodName) ({ cls := "TaxOnLooks$Lover", name := "looksAtOne", desc := "()Z" } : Jvm.MethodName)) ∈ lw_all := lw_g (lw_at lw_m5 19 rfl) rfl
theorem q1099 : (Jvm.Cond.selects "TaxOnLooks$Shamed" ({ cls := "TaxOnLooks$Person", name := "owes", desc := "(I)I" } : Jvm.MethodName) ({ cls := "TaxOnLooks$Person", name := "owes", desc := "(I)I" } : Jvm.MethodName)) ∈ lw_all := lw_g (lw_at lw_m5 58 rfl) rfl
theorem q1296 : (Jvm.Cond.selects "TaxOnLooks$Shamed" ({ cls := "TaxOnLooks$Person", name := "looking", desc := "(ILTaxOnLooks$Trace;)I" } : Jvm.MethodName) ({ cls := "TaxOnLooks$Shamed", name := "looking", desc := "(ILTaxOnLooks$Trace;)I" } : Jvm.MethodName)) ∈ lw_all := lw_g (lw_at lw_m6 15 rfl) rfl
theorem q1297 : (Jvm.Cond.instanceMethod ({ cls := "TaxOnLooks$Shamed", name := "looking", desc := "(ILTaxOnLooks$Trace;)I" } : Jvm.MethodName)) ∈ lw_all := lw_g (lw_at lw_m6 16 rfl) rfl
theorem q1298 : (Jvm.Cond.code ({ cls := "TaxOnLooks$Shamed", name := "looking", desc := "(ILTaxOnLooks$Trace;)I" } : Jvm.MethodName) prog_15_method_4_code (3 : Nat) (Option.some Jvm.ClassFile.FieldType.int)) ∈ lw_all := lw_g (lw_at lw_m6 17 rfl) rfl
theorem q1299 : (Jvm.Cond.methodLink "TaxOnLooks$Shamed" (25 : Nat) ({ cls := "TaxOnLooks$Trace", name := "runs", desc := "(I)V" } : Jvm.MethodName)) ∈ lw_all := lw_g (lw_at lw_m6 18 rfl) rfl
theorem q1300 : (Jvm.Cond.methodLink "TaxOnLooks$Shamed" (31 : Nat) ({ cls := "TaxOnLooks$Lover", name := "looking", desc := "(ILTaxOnLooks$Trace;)I" } : Jvm.MethodName)) ∈ lw_all := lw_g (lw_at lw_m6 19 rfl) rfl
theorem q1316 : (Jvm.Cond.selects "TaxOnLooks$Shamed" ({ cls := "TaxOnLooks$Person", name := "walking", desc := "(ILTaxOnLooks$Trace;)I" } : Jvm.MethodName) ({ cls := "TaxOnLooks$Shamed", name := "walking", desc := "(ILTaxOnLooks$Trace;)I" } : Jvm.MethodName)) ∈ lw_all := lw_g (lw_at lw_m6 35 rfl) rfl
theorem q1317 : (Jvm.Cond.instanceMethod ({ cls := "TaxOnLooks$Shamed", name := "walking", desc := "(ILTaxOnLooks$Trace;)I" } : Jvm.MethodName)) ∈ lw_all := lw_g (lw_at lw_m6 36 rfl) rfl
theorem q1318 : (Jvm.Cond.code ({ cls := "TaxOnLooks$Shamed", name := "walking", desc := "(ILTaxOnLooks$Trace;)I" } : Jvm.MethodName) prog_15_method_5_code (3 : Nat) (Option.some Jvm.ClassFile.FieldType.int)) ∈ lw_all := lw_g (lw_at lw_m6 37 rfl) rfl
theorem q1319 : (Jvm.Cond.methodLink "TaxOnLooks$Shamed" (38 : Nat) ({ cls := "TaxOnLooks$Lover", name := "walking", desc := "(ILTaxOnLooks$Trace;)I" } : Jvm.MethodName)) ∈ lw_all := lw_g (lw_at lw_m6 38 rfl) rfl
theorem q1342 : (Jvm.Cond.selects "TaxOnLooks$Shamed" ({ cls := "TaxOnLooks$Person", name := "paying", desc := "(ILTaxOnLooks$Trace;)I" } : Jvm.MethodName) ({ cls := "TaxOnLooks$Lover", name := "paying", desc := "(ILTaxOnLooks$Trace;)I" } : Jvm.MethodName)) ∈ lw_all := lw_g (lw_at lw_m6 61 rfl) rfl
theorem q1876 : (Jvm.Cond.castable "TaxOnLooks$Shamed" "TaxOnLooks$Person") ∈ lw_tbl := lw_at lw_m8 115 rfl
theorem q1879 : (Jvm.Cond.castable "TaxOnLooks$Shamed" "TaxOnLooks$Lover") ∈ lw_tbl := lw_at lw_m8 118 rfl
theorem in_X18 : ∀ w ∈ wsX180, w ∈ lw_all := lw_in wsX180 [731, 732, 733] (by decide +kernel) (by decide +kernel)

/-! TaxOnLooks$Reader -/
set_option maxRecDepth 100000
def RX19 : String := "TaxOnLooks$Reader"
def TX19 : u_T := fun k => match k with
  | 0 => ("TaxOnLooks$Reader", "text", "LTaxOnLooks$Row;", true)
  | 1 => ("TaxOnLooks$Reader", "w", "LTaxOnLooks$Town;", true)
  | 2 => ("TaxOnLooks$Reader", "at", "I", false)
  | _ => ("TaxOnLooks$Reader", "place", "I", false)
def tyX19 : Nat → FieldType := fun k => match k with
  | 0 => .object "TaxOnLooks$Row"
  | 1 => .object "TaxOnLooks$Town"
  | 2 => .int
  | _ => .int
abbrev wsX190 : List Cond := u_ws RX19 TX19 4
theorem nmX19 : ∀ a, a < 4 → ∀ b, b < 4 → a ≠ b → (TX19 a).2.1 ≠ (TX19 b).2.1 := by decide +kernel
theorem tyX19_ok : ∀ k, k < 4 → parseFieldDescriptor (TX19 k).2.2.1 = some (tyX19 k) := by decide +kernel
abbrev cX19_init : ByteArray := prog_12_method_1_code
def yX19_init : MethodName := ⟨RX19, "<init>", "(LTaxOnLooks$Row;LTaxOnLooks$Town;)V"⟩
def dkwX19_init_0 : List UInt8 := [42, 183, 0, 3, 42, 43, 181, 0, 9, 42, 44, 181, 0, 15, 177]
abbrev dktX19_init_0 : List UInt8 := dkwX19_init_0 ++ []
theorem dksX19_init_0 : cX19_init.data.toList.drop 0 = dktX19_init_0 := by decide +kernel
theorem dX19_init_0 : decode cX19_init 0 = .ok (.aload_n 0, 1) := dk_42 (dk_at dksX19_init_0 0 rfl rfl)
theorem dX19_init_1 : decode cX19_init 1 = .ok (.invokespecial 3, 3) := dk_183 0 3 (dk_at dksX19_init_0 1 rfl rfl)
theorem dX19_init_4 : decode cX19_init 4 = .ok (.aload_n 0, 1) := dk_42 (dk_at dksX19_init_0 4 rfl rfl)
theorem dX19_init_5 : decode cX19_init 5 = .ok (.aload_n 1, 1) := dk_43 (dk_at dksX19_init_0 5 rfl rfl)
theorem dX19_init_6 : decode cX19_init 6 = .ok (.putfield 9, 3) := dk_181 0 9 (dk_at dksX19_init_0 6 rfl rfl)
theorem dX19_init_9 : decode cX19_init 9 = .ok (.aload_n 0, 1) := dk_42 (dk_at dksX19_init_0 9 rfl rfl)
theorem dX19_init_10 : decode cX19_init 10 = .ok (.aload_n 2, 1) := dk_44 (dk_at dksX19_init_0 10 rfl rfl)
theorem dX19_init_11 : decode cX19_init 11 = .ok (.putfield 15, 3) := dk_181 0 15 (dk_at dksX19_init_0 11 rfl rfl)
theorem dX19_init_14 : decode cX19_init 14 = .ok (.return_, 1) := dk_177 (dk_at dksX19_init_0 14 rfl rfl)
abbrev cX19_items : ByteArray := prog_12_method_9_code
def yX19_items : MethodName := ⟨RX19, "items", "()I"⟩
def dkwX19_items_1 : List UInt8 := [132, 1, 1, 167, 255, 236, 27, 172]
abbrev dktX19_items_1 : List UInt8 := dkwX19_items_1 ++ []
def dkwX19_items_0 : List UInt8 := [4, 60, 42, 182, 0, 70, 42, 182, 0, 29, 154, 0, 19, 42, 16, 59, 182, 0, 53, 42, 182, 0, 70]
abbrev dktX19_items_0 : List UInt8 := dkwX19_items_0 ++ dktX19_items_1
theorem dksX19_items_0 : cX19_items.data.toList.drop 0 = dktX19_items_0 := by decide +kernel
theorem dksX19_items_1 : cX19_items.data.toList.drop 23 = dktX19_items_1 := dk_seg dksX19_items_0 23 rfl rfl
theorem dX19_items_0 : decode cX19_items 0 = .ok (.iconst 1, 1) := dk_4 (dk_at dksX19_items_0 0 rfl rfl)
theorem dX19_items_1 : decode cX19_items 1 = .ok (.istore_n 1, 1) := dk_60 (dk_at dksX19_items_0 1 rfl rfl)
theorem dX19_items_2 : decode cX19_items 2 = .ok (.aload_n 0, 1) := dk_42 (dk_at dksX19_items_0 2 rfl rfl)
theorem dX19_items_3 : decode cX19_items 3 = .ok (.invokevirtual 70, 3) := dk_182 0 70 (dk_at dksX19_items_0 3 rfl rfl)
theorem dX19_items_6 : decode cX19_items 6 = .ok (.aload_n 0, 1) := dk_42 (dk_at dksX19_items_0 6 rfl rfl)
theorem dX19_items_7 : decode cX19_items 7 = .ok (.invokevirtual 29, 3) := dk_182 0 29 (dk_at dksX19_items_0 7 rfl rfl)
theorem dX19_items_10 : decode cX19_items 10 = .ok (.ifCond .ne 19, 3) := dk_154 0 19 (dk_at dksX19_items_0 10 rfl rfl)
theorem dX19_items_13 : decode cX19_items 13 = .ok (.aload_n 0, 1) := dk_42 (dk_at dksX19_items_0 13 rfl rfl)
theorem dX19_items_14 : decode cX19_items 14 = .ok (.bipush 59, 2) := dk_16 59 (dk_at dksX19_items_0 14 rfl rfl)
theorem dX19_items_16 : decode cX19_items 16 = .ok (.invokevirtual 53, 3) := dk_182 0 53 (dk_at dksX19_items_0 16 rfl rfl)
theorem dX19_items_19 : decode cX19_items 19 = .ok (.aload_n 0, 1) := dk_42 (dk_at dksX19_items_0 19 rfl rfl)
theorem dX19_items_20 : decode cX19_items 20 = .ok (.invokevirtual 70, 3) := dk_182 0 70 (dk_at dksX19_items_0 20 rfl rfl)
theorem dX19_items_23 : decode cX19_items 23 = .ok (.iinc 1 1, 3) := dk_132 1 1 (dk_at dksX19_items_1 0 rfl rfl)
theorem dX19_items_26 : decode cX19_items 26 = .ok (.goto (-20), 3) := dk_167 255 236 (dk_at dksX19_items_1 3 rfl rfl)
theorem dX19_items_29 : decode cX19_items 29 = .ok (.iload_n 1, 1) := dk_27 (dk_at dksX19_items_1 6 rfl rfl)
theorem dX19_items_30 : decode cX19_items 30 = .ok (.ireturn, 1) := dk_172 (dk_at dksX19_items_1 7 rfl rfl)
abbrev cX19_item : ByteArray := prog_12_method_13_code
def yX19_item : MethodName := ⟨RX19, "item", "()V"⟩
def dkwX19_item_9 : List UInt8 := [181, 0, 135, 177]
abbrev dktX19_item_9 : List UInt8 := dkwX19_item_9 ++ []
def dkwX19_item_8 : List UInt8 := [181, 0, 131, 167, 0, 22, 42, 18, 133, 182, 0, 79, 42, 180, 0, 15, 42, 4, 8, 182, 0, 73]
abbrev dktX19_item_8 : List UInt8 := dkwX19_item_8 ++ dktX19_item_9
def dkwX19_item_7 : List UInt8 := [182, 0, 37, 153, 0, 26, 42, 18, 129, 182, 0, 79, 42, 180, 0, 15, 42, 4, 16, 9, 182, 0, 73]
abbrev dktX19_item_7 : List UInt8 := dkwX19_item_7 ++ dktX19_item_8
def dkwX19_item_6 : List UInt8 := [180, 0, 15, 180, 0, 83, 4, 100, 182, 0, 73, 120, 128, 181, 0, 126, 167, 0, 54, 42, 16, 109]
abbrev dktX19_item_6 : List UInt8 := dkwX19_item_6 ++ dktX19_item_7
def dkwX19_item_5 : List UInt8 := [182, 0, 37, 153, 0, 40, 42, 18, 124, 182, 0, 79, 42, 180, 0, 15, 89, 180, 0, 126, 4, 42, 3, 42]
abbrev dktX19_item_5 : List UInt8 := dkwX19_item_5 ++ dktX19_item_6
def dkwX19_item_4 : List UInt8 := [167, 0, 117, 42, 16, 112, 182, 0, 37, 153, 0, 11, 42, 27, 182, 0, 122, 167, 0, 100, 42, 16, 115]
abbrev dktX19_item_4 : List UInt8 := dkwX19_item_4 ++ dktX19_item_5
def dkwX19_item_3 : List UInt8 := [42, 18, 117, 182, 0, 79, 42, 180, 0, 15, 89, 180, 0, 119, 10, 42, 182, 0, 88, 121, 129, 181, 0, 119]
abbrev dktX19_item_3 : List UInt8 := dkwX19_item_3 ++ dktX19_item_4
def dkwX19_item_2 : List UInt8 := [182, 0, 88, 121, 20, 0, 115, 131, 127, 181, 0, 107, 167, 0, 153, 42, 16, 98, 182, 0, 37, 153, 0, 30]
abbrev dktX19_item_2 : List UInt8 := dkwX19_item_2 ++ dktX19_item_3
def dkwX19_item_1 : List UInt8 := [182, 0, 37, 153, 0, 34, 42, 18, 113, 182, 0, 79, 42, 180, 0, 15, 89, 180, 0, 107, 10, 42]
abbrev dktX19_item_1 : List UInt8 := dkwX19_item_1 ++ dktX19_item_2
def dkwX19_item_0 : List UInt8 := [42, 180, 0, 19, 60, 42, 16, 119, 182, 0, 37, 153, 0, 10, 42, 182, 0, 111, 167, 0, 193, 42, 16, 103]
abbrev dktX19_item_0 : List UInt8 := dkwX19_item_0 ++ dktX19_item_1
theorem dksX19_item_0 : cX19_item.data.toList.drop 0 = dktX19_item_0 := by decide +kernel
theorem dksX19_item_1 : cX19_item.data.toList.drop 24 = dktX19_item_1 := dk_seg dksX19_item_0 24 rfl rfl
theorem dksX19_item_2 : cX19_item.data.toList.drop 46 = dktX19_item_2 := dk_seg dksX19_item_1 22 rfl rfl
theorem dksX19_item_3 : cX19_item.data.toList.drop 70 = dktX19_item_3 := dk_seg dksX19_item_2 24 rfl rfl
theorem dksX19_item_4 : cX19_item.data.toList.drop 94 = dktX19_item_4 := dk_seg dksX19_item_3 24 rfl rfl
theorem dksX19_item_5 : cX19_item.data.toList.drop 117 = dktX19_item_5 := dk_seg dksX19_item_4 23 rfl rfl
theorem dksX19_item_6 : cX19_item.data.toList.drop 141 = dktX19_item_6 := dk_seg dksX19_item_5 24 rfl rfl
theorem dksX19_item_7 : cX19_item.data.toList.drop 163 = dktX19_item_7 := dk_seg dksX19_item_6 22 rfl rfl
theorem dksX19_item_8 : cX19_item.data.toList.drop 186 = dktX19_item_8 := dk_seg dksX19_item_7 23 rfl rfl
theorem dksX19_item_9 : cX19_item.data.toList.drop 208 = dktX19_item_9 := dk_seg dksX19_item_8 22 rfl rfl
theorem dX19_item_0 : decode cX19_item 0 = .ok (.aload_n 0, 1) := dk_42 (dk_at dksX19_item_0 0 rfl rfl)
theorem dX19_item_1 : decode cX19_item 1 = .ok (.getfield 19, 3) := dk_180 0 19 (dk_at dksX19_item_0 1 rfl rfl)
theorem dX19_item_4 : decode cX19_item 4 = .ok (.istore_n 1, 1) := dk_60 (dk_at dksX19_item_0 4 rfl rfl)
theorem dX19_item_5 : decode cX19_item 5 = .ok (.aload_n 0, 1) := dk_42 (dk_at dksX19_item_0 5 rfl rfl)
theorem dX19_item_6 : decode cX19_item 6 = .ok (.bipush 119, 2) := dk_16 119 (dk_at dksX19_item_0 6 rfl rfl)
theorem dX19_item_8 : decode cX19_item 8 = .ok (.invokevirtual 37, 3) := dk_182 0 37 (dk_at dksX19_item_0 8 rfl rfl)
theorem dX19_item_11 : decode cX19_item 11 = .ok (.ifCond .eq 10, 3) := dk_153 0 10 (dk_at dksX19_item_0 11 rfl rfl)
theorem dX19_item_14 : decode cX19_item 14 = .ok (.aload_n 0, 1) := dk_42 (dk_at dksX19_item_0 14 rfl rfl)
theorem dX19_item_15 : decode cX19_item 15 = .ok (.invokevirtual 111, 3) := dk_182 0 111 (dk_at dksX19_item_0 15 rfl rfl)
theorem dX19_item_18 : decode cX19_item 18 = .ok (.goto 193, 3) := dk_167 0 193 (dk_at dksX19_item_0 18 rfl rfl)
theorem dX19_item_21 : decode cX19_item 21 = .ok (.aload_n 0, 1) := dk_42 (dk_at dksX19_item_0 21 rfl rfl)
theorem dX19_item_22 : decode cX19_item 22 = .ok (.bipush 103, 2) := dk_16 103 (dk_at dksX19_item_0 22 rfl rfl)
theorem dX19_item_24 : decode cX19_item 24 = .ok (.invokevirtual 37, 3) := dk_182 0 37 (dk_at dksX19_item_1 0 rfl rfl)
theorem dX19_item_27 : decode cX19_item 27 = .ok (.ifCond .eq 34, 3) := dk_153 0 34 (dk_at dksX19_item_1 3 rfl rfl)
theorem dX19_item_30 : decode cX19_item 30 = .ok (.aload_n 0, 1) := dk_42 (dk_at dksX19_item_1 6 rfl rfl)
theorem dX19_item_31 : decode cX19_item 31 = .ok (.ldc 113, 2) := dk_18 113 (dk_at dksX19_item_1 7 rfl rfl)
theorem dX19_item_33 : decode cX19_item 33 = .ok (.invokevirtual 79, 3) := dk_182 0 79 (dk_at dksX19_item_1 9 rfl rfl)
theorem dX19_item_36 : decode cX19_item 36 = .ok (.aload_n 0, 1) := dk_42 (dk_at dksX19_item_1 12 rfl rfl)
theorem dX19_item_37 : decode cX19_item 37 = .ok (.getfield 15, 3) := dk_180 0 15 (dk_at dksX19_item_1 13 rfl rfl)
theorem dX19_item_40 : decode cX19_item 40 = .ok (.dup, 1) := dk_89 (dk_at dksX19_item_1 16 rfl rfl)
theorem dX19_item_41 : decode cX19_item 41 = .ok (.getfield 107, 3) := dk_180 0 107 (dk_at dksX19_item_1 17 rfl rfl)
theorem dX19_item_44 : decode cX19_item 44 = .ok (.lconst 1, 1) := dk_10 (dk_at dksX19_item_1 20 rfl rfl)
theorem dX19_item_45 : decode cX19_item 45 = .ok (.aload_n 0, 1) := dk_42 (dk_at dksX19_item_1 21 rfl rfl)
theorem dX19_item_46 : decode cX19_item 46 = .ok (.invokevirtual 88, 3) := dk_182 0 88 (dk_at dksX19_item_2 0 rfl rfl)
theorem dX19_item_49 : decode cX19_item 49 = .ok (.lshl, 1) := dk_121 (dk_at dksX19_item_2 3 rfl rfl)
theorem dX19_item_50 : decode cX19_item 50 = .ok (.ldc2_w 115, 3) := dk_20 0 115 (dk_at dksX19_item_2 4 rfl rfl)
theorem dX19_item_53 : decode cX19_item 53 = .ok (.lxor, 1) := dk_131 (dk_at dksX19_item_2 7 rfl rfl)
theorem dX19_item_54 : decode cX19_item 54 = .ok (.land, 1) := dk_127 (dk_at dksX19_item_2 8 rfl rfl)
theorem dX19_item_55 : decode cX19_item 55 = .ok (.putfield 107, 3) := dk_181 0 107 (dk_at dksX19_item_2 9 rfl rfl)
theorem dX19_item_58 : decode cX19_item 58 = .ok (.goto 153, 3) := dk_167 0 153 (dk_at dksX19_item_2 12 rfl rfl)
theorem dX19_item_61 : decode cX19_item 61 = .ok (.aload_n 0, 1) := dk_42 (dk_at dksX19_item_2 15 rfl rfl)
theorem dX19_item_62 : decode cX19_item 62 = .ok (.bipush 98, 2) := dk_16 98 (dk_at dksX19_item_2 16 rfl rfl)
theorem dX19_item_64 : decode cX19_item 64 = .ok (.invokevirtual 37, 3) := dk_182 0 37 (dk_at dksX19_item_2 18 rfl rfl)
theorem dX19_item_67 : decode cX19_item 67 = .ok (.ifCond .eq 30, 3) := dk_153 0 30 (dk_at dksX19_item_2 21 rfl rfl)
theorem dX19_item_70 : decode cX19_item 70 = .ok (.aload_n 0, 1) := dk_42 (dk_at dksX19_item_3 0 rfl rfl)
theorem dX19_item_71 : decode cX19_item 71 = .ok (.ldc 117, 2) := dk_18 117 (dk_at dksX19_item_3 1 rfl rfl)
theorem dX19_item_73 : decode cX19_item 73 = .ok (.invokevirtual 79, 3) := dk_182 0 79 (dk_at dksX19_item_3 3 rfl rfl)
theorem dX19_item_76 : decode cX19_item 76 = .ok (.aload_n 0, 1) := dk_42 (dk_at dksX19_item_3 6 rfl rfl)
theorem dX19_item_77 : decode cX19_item 77 = .ok (.getfield 15, 3) := dk_180 0 15 (dk_at dksX19_item_3 7 rfl rfl)
theorem dX19_item_80 : decode cX19_item 80 = .ok (.dup, 1) := dk_89 (dk_at dksX19_item_3 10 rfl rfl)
theorem dX19_item_81 : decode cX19_item 81 = .ok (.getfield 119, 3) := dk_180 0 119 (dk_at dksX19_item_3 11 rfl rfl)
theorem dX19_item_84 : decode cX19_item 84 = .ok (.lconst 1, 1) := dk_10 (dk_at dksX19_item_3 14 rfl rfl)
theorem dX19_item_85 : decode cX19_item 85 = .ok (.aload_n 0, 1) := dk_42 (dk_at dksX19_item_3 15 rfl rfl)
theorem dX19_item_86 : decode cX19_item 86 = .ok (.invokevirtual 88, 3) := dk_182 0 88 (dk_at dksX19_item_3 16 rfl rfl)
theorem dX19_item_89 : decode cX19_item 89 = .ok (.lshl, 1) := dk_121 (dk_at dksX19_item_3 19 rfl rfl)
theorem dX19_item_90 : decode cX19_item 90 = .ok (.lor, 1) := dk_129 (dk_at dksX19_item_3 20 rfl rfl)
theorem dX19_item_91 : decode cX19_item 91 = .ok (.putfield 119, 3) := dk_181 0 119 (dk_at dksX19_item_3 21 rfl rfl)
theorem dX19_item_94 : decode cX19_item 94 = .ok (.goto 117, 3) := dk_167 0 117 (dk_at dksX19_item_4 0 rfl rfl)
theorem dX19_item_97 : decode cX19_item 97 = .ok (.aload_n 0, 1) := dk_42 (dk_at dksX19_item_4 3 rfl rfl)
theorem dX19_item_98 : decode cX19_item 98 = .ok (.bipush 112, 2) := dk_16 112 (dk_at dksX19_item_4 4 rfl rfl)
theorem dX19_item_100 : decode cX19_item 100 = .ok (.invokevirtual 37, 3) := dk_182 0 37 (dk_at dksX19_item_4 6 rfl rfl)
theorem dX19_item_103 : decode cX19_item 103 = .ok (.ifCond .eq 11, 3) := dk_153 0 11 (dk_at dksX19_item_4 9 rfl rfl)
theorem dX19_item_106 : decode cX19_item 106 = .ok (.aload_n 0, 1) := dk_42 (dk_at dksX19_item_4 12 rfl rfl)
theorem dX19_item_107 : decode cX19_item 107 = .ok (.iload_n 1, 1) := dk_27 (dk_at dksX19_item_4 13 rfl rfl)
theorem dX19_item_108 : decode cX19_item 108 = .ok (.invokevirtual 122, 3) := dk_182 0 122 (dk_at dksX19_item_4 14 rfl rfl)
theorem dX19_item_111 : decode cX19_item 111 = .ok (.goto 100, 3) := dk_167 0 100 (dk_at dksX19_item_4 17 rfl rfl)
theorem dX19_item_114 : decode cX19_item 114 = .ok (.aload_n 0, 1) := dk_42 (dk_at dksX19_item_4 20 rfl rfl)
theorem dX19_item_115 : decode cX19_item 115 = .ok (.bipush 115, 2) := dk_16 115 (dk_at dksX19_item_4 21 rfl rfl)
theorem dX19_item_117 : decode cX19_item 117 = .ok (.invokevirtual 37, 3) := dk_182 0 37 (dk_at dksX19_item_5 0 rfl rfl)
theorem dX19_item_120 : decode cX19_item 120 = .ok (.ifCond .eq 40, 3) := dk_153 0 40 (dk_at dksX19_item_5 3 rfl rfl)
theorem dX19_item_123 : decode cX19_item 123 = .ok (.aload_n 0, 1) := dk_42 (dk_at dksX19_item_5 6 rfl rfl)
theorem dX19_item_124 : decode cX19_item 124 = .ok (.ldc 124, 2) := dk_18 124 (dk_at dksX19_item_5 7 rfl rfl)
theorem dX19_item_126 : decode cX19_item 126 = .ok (.invokevirtual 79, 3) := dk_182 0 79 (dk_at dksX19_item_5 9 rfl rfl)
theorem dX19_item_129 : decode cX19_item 129 = .ok (.aload_n 0, 1) := dk_42 (dk_at dksX19_item_5 12 rfl rfl)
theorem dX19_item_130 : decode cX19_item 130 = .ok (.getfield 15, 3) := dk_180 0 15 (dk_at dksX19_item_5 13 rfl rfl)
theorem dX19_item_133 : decode cX19_item 133 = .ok (.dup, 1) := dk_89 (dk_at dksX19_item_5 16 rfl rfl)
theorem dX19_item_134 : decode cX19_item 134 = .ok (.getfield 126, 3) := dk_180 0 126 (dk_at dksX19_item_5 17 rfl rfl)
theorem dX19_item_137 : decode cX19_item 137 = .ok (.iconst 1, 1) := dk_4 (dk_at dksX19_item_5 20 rfl rfl)
theorem dX19_item_138 : decode cX19_item 138 = .ok (.aload_n 0, 1) := dk_42 (dk_at dksX19_item_5 21 rfl rfl)
theorem dX19_item_139 : decode cX19_item 139 = .ok (.iconst 0, 1) := dk_3 (dk_at dksX19_item_5 22 rfl rfl)
theorem dX19_item_140 : decode cX19_item 140 = .ok (.aload_n 0, 1) := dk_42 (dk_at dksX19_item_5 23 rfl rfl)
theorem dX19_item_141 : decode cX19_item 141 = .ok (.getfield 15, 3) := dk_180 0 15 (dk_at dksX19_item_6 0 rfl rfl)
theorem dX19_item_144 : decode cX19_item 144 = .ok (.getfield 83, 3) := dk_180 0 83 (dk_at dksX19_item_6 3 rfl rfl)
theorem dX19_item_147 : decode cX19_item 147 = .ok (.iconst 1, 1) := dk_4 (dk_at dksX19_item_6 6 rfl rfl)
theorem dX19_item_148 : decode cX19_item 148 = .ok (.isub, 1) := dk_100 (dk_at dksX19_item_6 7 rfl rfl)
theorem dX19_item_149 : decode cX19_item 149 = .ok (.invokevirtual 73, 3) := dk_182 0 73 (dk_at dksX19_item_6 8 rfl rfl)
theorem dX19_item_152 : decode cX19_item 152 = .ok (.ishl, 1) := dk_120 (dk_at dksX19_item_6 11 rfl rfl)
theorem dX19_item_153 : decode cX19_item 153 = .ok (.ior, 1) := dk_128 (dk_at dksX19_item_6 12 rfl rfl)
theorem dX19_item_154 : decode cX19_item 154 = .ok (.putfield 126, 3) := dk_181 0 126 (dk_at dksX19_item_6 13 rfl rfl)
theorem dX19_item_157 : decode cX19_item 157 = .ok (.goto 54, 3) := dk_167 0 54 (dk_at dksX19_item_6 16 rfl rfl)
theorem dX19_item_160 : decode cX19_item 160 = .ok (.aload_n 0, 1) := dk_42 (dk_at dksX19_item_6 19 rfl rfl)
theorem dX19_item_161 : decode cX19_item 161 = .ok (.bipush 109, 2) := dk_16 109 (dk_at dksX19_item_6 20 rfl rfl)
theorem dX19_item_163 : decode cX19_item 163 = .ok (.invokevirtual 37, 3) := dk_182 0 37 (dk_at dksX19_item_7 0 rfl rfl)
theorem dX19_item_166 : decode cX19_item 166 = .ok (.ifCond .eq 26, 3) := dk_153 0 26 (dk_at dksX19_item_7 3 rfl rfl)
theorem dX19_item_169 : decode cX19_item 169 = .ok (.aload_n 0, 1) := dk_42 (dk_at dksX19_item_7 6 rfl rfl)
theorem dX19_item_170 : decode cX19_item 170 = .ok (.ldc 129, 2) := dk_18 129 (dk_at dksX19_item_7 7 rfl rfl)
theorem dX19_item_172 : decode cX19_item 172 = .ok (.invokevirtual 79, 3) := dk_182 0 79 (dk_at dksX19_item_7 9 rfl rfl)
theorem dX19_item_175 : decode cX19_item 175 = .ok (.aload_n 0, 1) := dk_42 (dk_at dksX19_item_7 12 rfl rfl)
theorem dX19_item_176 : decode cX19_item 176 = .ok (.getfield 15, 3) := dk_180 0 15 (dk_at dksX19_item_7 13 rfl rfl)
theorem dX19_item_179 : decode cX19_item 179 = .ok (.aload_n 0, 1) := dk_42 (dk_at dksX19_item_7 16 rfl rfl)
theorem dX19_item_180 : decode cX19_item 180 = .ok (.iconst 1, 1) := dk_4 (dk_at dksX19_item_7 17 rfl rfl)
theorem dX19_item_181 : decode cX19_item 181 = .ok (.bipush 9, 2) := dk_16 9 (dk_at dksX19_item_7 18 rfl rfl)
theorem dX19_item_183 : decode cX19_item 183 = .ok (.invokevirtual 73, 3) := dk_182 0 73 (dk_at dksX19_item_7 20 rfl rfl)
theorem dX19_item_186 : decode cX19_item 186 = .ok (.putfield 131, 3) := dk_181 0 131 (dk_at dksX19_item_8 0 rfl rfl)
theorem dX19_item_189 : decode cX19_item 189 = .ok (.goto 22, 3) := dk_167 0 22 (dk_at dksX19_item_8 3 rfl rfl)
theorem dX19_item_192 : decode cX19_item 192 = .ok (.aload_n 0, 1) := dk_42 (dk_at dksX19_item_8 6 rfl rfl)
theorem dX19_item_193 : decode cX19_item 193 = .ok (.ldc 133, 2) := dk_18 133 (dk_at dksX19_item_8 7 rfl rfl)
theorem dX19_item_195 : decode cX19_item 195 = .ok (.invokevirtual 79, 3) := dk_182 0 79 (dk_at dksX19_item_8 9 rfl rfl)
theorem dX19_item_198 : decode cX19_item 198 = .ok (.aload_n 0, 1) := dk_42 (dk_at dksX19_item_8 12 rfl rfl)
theorem dX19_item_199 : decode cX19_item 199 = .ok (.getfield 15, 3) := dk_180 0 15 (dk_at dksX19_item_8 13 rfl rfl)
theorem dX19_item_202 : decode cX19_item 202 = .ok (.aload_n 0, 1) := dk_42 (dk_at dksX19_item_8 16 rfl rfl)
theorem dX19_item_203 : decode cX19_item 203 = .ok (.iconst 1, 1) := dk_4 (dk_at dksX19_item_8 17 rfl rfl)
theorem dX19_item_204 : decode cX19_item 204 = .ok (.iconst 5, 1) := dk_8 (dk_at dksX19_item_8 18 rfl rfl)
theorem dX19_item_205 : decode cX19_item 205 = .ok (.invokevirtual 73, 3) := dk_182 0 73 (dk_at dksX19_item_8 19 rfl rfl)
theorem dX19_item_208 : decode cX19_item 208 = .ok (.putfield 135, 3) := dk_181 0 135 (dk_at dksX19_item_9 0 rfl rfl)
theorem dX19_item_211 : decode cX19_item 211 = .ok (.return_, 1) := dk_177 (dk_at dksX19_item_9 3 rfl rfl)
abbrev cX19_sees : ByteArray := prog_12_method_3_code
def yX19_sees : MethodName := ⟨RX19, "sees", "(I)Z"⟩
def dkwX19_sees_1 : List UInt8 := [167, 0, 4, 3, 172]
abbrev dktX19_sees_1 : List UInt8 := dkwX19_sees_1 ++ []
def dkwX19_sees_0 : List UInt8 := [42, 182, 0, 29, 154, 0, 22, 42, 180, 0, 9, 42, 180, 0, 19, 182, 0, 33, 27, 160, 0, 7, 4]
abbrev dktX19_sees_0 : List UInt8 := dkwX19_sees_0 ++ dktX19_sees_1
theorem dksX19_sees_0 : cX19_sees.data.toList.drop 0 = dktX19_sees_0 := by decide +kernel
theorem dksX19_sees_1 : cX19_sees.data.toList.drop 23 = dktX19_sees_1 := dk_seg dksX19_sees_0 23 rfl rfl
theorem dX19_sees_0 : decode cX19_sees 0 = .ok (.aload_n 0, 1) := dk_42 (dk_at dksX19_sees_0 0 rfl rfl)
theorem dX19_sees_1 : decode cX19_sees 1 = .ok (.invokevirtual 29, 3) := dk_182 0 29 (dk_at dksX19_sees_0 1 rfl rfl)
theorem dX19_sees_4 : decode cX19_sees 4 = .ok (.ifCond .ne 22, 3) := dk_154 0 22 (dk_at dksX19_sees_0 4 rfl rfl)
theorem dX19_sees_7 : decode cX19_sees 7 = .ok (.aload_n 0, 1) := dk_42 (dk_at dksX19_sees_0 7 rfl rfl)
theorem dX19_sees_8 : decode cX19_sees 8 = .ok (.getfield 9, 3) := dk_180 0 9 (dk_at dksX19_sees_0 8 rfl rfl)
theorem dX19_sees_11 : decode cX19_sees 11 = .ok (.aload_n 0, 1) := dk_42 (dk_at dksX19_sees_0 11 rfl rfl)
theorem dX19_sees_12 : decode cX19_sees 12 = .ok (.getfield 19, 3) := dk_180 0 19 (dk_at dksX19_sees_0 12 rfl rfl)
theorem dX19_sees_15 : decode cX19_sees 15 = .ok (.invokevirtual 33, 3) := dk_182 0 33 (dk_at dksX19_sees_0 15 rfl rfl)
theorem dX19_sees_18 : decode cX19_sees 18 = .ok (.iload_n 1, 1) := dk_27 (dk_at dksX19_sees_0 18 rfl rfl)
theorem dX19_sees_19 : decode cX19_sees 19 = .ok (.if_icmp .ne 7, 3) := dk_160 0 7 (dk_at dksX19_sees_0 19 rfl rfl)
theorem dX19_sees_22 : decode cX19_sees 22 = .ok (.iconst 1, 1) := dk_4 (dk_at dksX19_sees_0 22 rfl rfl)
theorem dX19_sees_23 : decode cX19_sees 23 = .ok (.goto 4, 3) := dk_167 0 4 (dk_at dksX19_sees_1 0 rfl rfl)
theorem dX19_sees_26 : decode cX19_sees 26 = .ok (.iconst 0, 1) := dk_3 (dk_at dksX19_sees_1 3 rfl rfl)
theorem dX19_sees_27 : decode cX19_sees 27 = .ok (.ireturn, 1) := dk_172 (dk_at dksX19_sees_1 4 rfl rfl)
abbrev cX19_ends : ByteArray := prog_12_method_2_code
def yX19_ends : MethodName := ⟨RX19, "ends", "()Z"⟩
def dkwX19_ends_0 : List UInt8 := [42, 180, 0, 19, 42, 180, 0, 9, 182, 0, 23, 160, 0, 7, 4, 167, 0, 4, 3, 172]
abbrev dktX19_ends_0 : List UInt8 := dkwX19_ends_0 ++ []
theorem dksX19_ends_0 : cX19_ends.data.toList.drop 0 = dktX19_ends_0 := by decide +kernel
theorem dX19_ends_0 : decode cX19_ends 0 = .ok (.aload_n 0, 1) := dk_42 (dk_at dksX19_ends_0 0 rfl rfl)
theorem dX19_ends_1 : decode cX19_ends 1 = .ok (.getfield 19, 3) := dk_180 0 19 (dk_at dksX19_ends_0 1 rfl rfl)
theorem dX19_ends_4 : decode cX19_ends 4 = .ok (.aload_n 0, 1) := dk_42 (dk_at dksX19_ends_0 4 rfl rfl)
theorem dX19_ends_5 : decode cX19_ends 5 = .ok (.getfield 9, 3) := dk_180 0 9 (dk_at dksX19_ends_0 5 rfl rfl)
theorem dX19_ends_8 : decode cX19_ends 8 = .ok (.invokevirtual 23, 3) := dk_182 0 23 (dk_at dksX19_ends_0 8 rfl rfl)
theorem dX19_ends_11 : decode cX19_ends 11 = .ok (.if_icmp .ne 7, 3) := dk_160 0 7 (dk_at dksX19_ends_0 11 rfl rfl)
theorem dX19_ends_14 : decode cX19_ends 14 = .ok (.iconst 1, 1) := dk_4 (dk_at dksX19_ends_0 14 rfl rfl)
theorem dX19_ends_15 : decode cX19_ends 15 = .ok (.goto 4, 3) := dk_167 0 4 (dk_at dksX19_ends_0 15 rfl rfl)
theorem dX19_ends_18 : decode cX19_ends 18 = .ok (.iconst 0, 1) := dk_3 (dk_at dksX19_ends_0 18 rfl rfl)
theorem dX19_ends_19 : decode cX19_ends 19 = .ok (.ireturn, 1) := dk_172 (dk_at dksX19_ends_0 19 rfl rfl)
abbrev cX19_wall : ByteArray := prog_12_method_12_code
def yX19_wall : MethodName := ⟨RX19, "wall", "()V"⟩
def dkwX19_wall_2 : List UInt8 := [181, 0, 107, 177]
abbrev dktX19_wall_2 : List UInt8 := dkwX19_wall_2 ++ []
def dkwX19_wall_1 : List UInt8 := [167, 0, 4, 3, 42, 180, 0, 56, 182, 0, 66, 42, 180, 0, 15, 89, 180, 0, 107, 10, 27, 121, 129]
abbrev dktX19_wall_1 : List UInt8 := dkwX19_wall_1 ++ dktX19_wall_2
def dkwX19_wall_0 : List UInt8 := [42, 18, 102, 182, 0, 79, 42, 182, 0, 88, 60, 42, 42, 180, 0, 15, 27, 182, 0, 104, 154, 0, 7, 4]
abbrev dktX19_wall_0 : List UInt8 := dkwX19_wall_0 ++ dktX19_wall_1
theorem dksX19_wall_0 : cX19_wall.data.toList.drop 0 = dktX19_wall_0 := by decide +kernel
theorem dksX19_wall_1 : cX19_wall.data.toList.drop 24 = dktX19_wall_1 := dk_seg dksX19_wall_0 24 rfl rfl
theorem dksX19_wall_2 : cX19_wall.data.toList.drop 47 = dktX19_wall_2 := dk_seg dksX19_wall_1 23 rfl rfl
theorem dX19_wall_0 : decode cX19_wall 0 = .ok (.aload_n 0, 1) := dk_42 (dk_at dksX19_wall_0 0 rfl rfl)
theorem dX19_wall_1 : decode cX19_wall 1 = .ok (.ldc 102, 2) := dk_18 102 (dk_at dksX19_wall_0 1 rfl rfl)
theorem dX19_wall_3 : decode cX19_wall 3 = .ok (.invokevirtual 79, 3) := dk_182 0 79 (dk_at dksX19_wall_0 3 rfl rfl)
theorem dX19_wall_6 : decode cX19_wall 6 = .ok (.aload_n 0, 1) := dk_42 (dk_at dksX19_wall_0 6 rfl rfl)
theorem dX19_wall_7 : decode cX19_wall 7 = .ok (.invokevirtual 88, 3) := dk_182 0 88 (dk_at dksX19_wall_0 7 rfl rfl)
theorem dX19_wall_10 : decode cX19_wall 10 = .ok (.istore_n 1, 1) := dk_60 (dk_at dksX19_wall_0 10 rfl rfl)
theorem dX19_wall_11 : decode cX19_wall 11 = .ok (.aload_n 0, 1) := dk_42 (dk_at dksX19_wall_0 11 rfl rfl)
theorem dX19_wall_12 : decode cX19_wall 12 = .ok (.aload_n 0, 1) := dk_42 (dk_at dksX19_wall_0 12 rfl rfl)
theorem dX19_wall_13 : decode cX19_wall 13 = .ok (.getfield 15, 3) := dk_180 0 15 (dk_at dksX19_wall_0 13 rfl rfl)
theorem dX19_wall_16 : decode cX19_wall 16 = .ok (.iload_n 1, 1) := dk_27 (dk_at dksX19_wall_0 16 rfl rfl)
theorem dX19_wall_17 : decode cX19_wall 17 = .ok (.invokevirtual 104, 3) := dk_182 0 104 (dk_at dksX19_wall_0 17 rfl rfl)
theorem dX19_wall_20 : decode cX19_wall 20 = .ok (.ifCond .ne 7, 3) := dk_154 0 7 (dk_at dksX19_wall_0 20 rfl rfl)
theorem dX19_wall_23 : decode cX19_wall 23 = .ok (.iconst 1, 1) := dk_4 (dk_at dksX19_wall_0 23 rfl rfl)
theorem dX19_wall_24 : decode cX19_wall 24 = .ok (.goto 4, 3) := dk_167 0 4 (dk_at dksX19_wall_1 0 rfl rfl)
theorem dX19_wall_27 : decode cX19_wall 27 = .ok (.iconst 0, 1) := dk_3 (dk_at dksX19_wall_1 3 rfl rfl)
theorem dX19_wall_28 : decode cX19_wall 28 = .ok (.aload_n 0, 1) := dk_42 (dk_at dksX19_wall_1 4 rfl rfl)
theorem dX19_wall_29 : decode cX19_wall 29 = .ok (.getfield 56, 3) := dk_180 0 56 (dk_at dksX19_wall_1 5 rfl rfl)
theorem dX19_wall_32 : decode cX19_wall 32 = .ok (.invokevirtual 66, 3) := dk_182 0 66 (dk_at dksX19_wall_1 8 rfl rfl)
theorem dX19_wall_35 : decode cX19_wall 35 = .ok (.aload_n 0, 1) := dk_42 (dk_at dksX19_wall_1 11 rfl rfl)
theorem dX19_wall_36 : decode cX19_wall 36 = .ok (.getfield 15, 3) := dk_180 0 15 (dk_at dksX19_wall_1 12 rfl rfl)
theorem dX19_wall_39 : decode cX19_wall 39 = .ok (.dup, 1) := dk_89 (dk_at dksX19_wall_1 15 rfl rfl)
theorem dX19_wall_40 : decode cX19_wall 40 = .ok (.getfield 107, 3) := dk_180 0 107 (dk_at dksX19_wall_1 16 rfl rfl)
theorem dX19_wall_43 : decode cX19_wall 43 = .ok (.lconst 1, 1) := dk_10 (dk_at dksX19_wall_1 19 rfl rfl)
theorem dX19_wall_44 : decode cX19_wall 44 = .ok (.iload_n 1, 1) := dk_27 (dk_at dksX19_wall_1 20 rfl rfl)
theorem dX19_wall_45 : decode cX19_wall 45 = .ok (.lshl, 1) := dk_121 (dk_at dksX19_wall_1 21 rfl rfl)
theorem dX19_wall_46 : decode cX19_wall 46 = .ok (.lor, 1) := dk_129 (dk_at dksX19_wall_1 22 rfl rfl)
theorem dX19_wall_47 : decode cX19_wall 47 = .ok (.putfield 107, 3) := dk_181 0 107 (dk_at dksX19_wall_2 0 rfl rfl)
theorem dX19_wall_50 : decode cX19_wall 50 = .ok (.return_, 1) := dk_177 (dk_at dksX19_wall_2 3 rfl rfl)
abbrev cX19_word : ByteArray := prog_12_method_5_code
def yX19_word : MethodName := ⟨RX19, "word", "(Ljava/lang/String;)V"⟩
def dkwX19_word_1 : List UInt8 := [167, 255, 236, 177]
abbrev dktX19_word_1 : List UInt8 := dkwX19_word_1 ++ []
def dkwX19_word_0 : List UInt8 := [3, 61, 28, 43, 182, 0, 46, 162, 0, 18, 42, 43, 28, 182, 0, 49, 182, 0, 53, 132, 2, 1]
abbrev dktX19_word_0 : List UInt8 := dkwX19_word_0 ++ dktX19_word_1
theorem dksX19_word_0 : cX19_word.data.toList.drop 0 = dktX19_word_0 := by decide +kernel
theorem dksX19_word_1 : cX19_word.data.toList.drop 22 = dktX19_word_1 := dk_seg dksX19_word_0 22 rfl rfl
theorem dX19_word_0 : decode cX19_word 0 = .ok (.iconst 0, 1) := dk_3 (dk_at dksX19_word_0 0 rfl rfl)
theorem dX19_word_1 : decode cX19_word 1 = .ok (.istore_n 2, 1) := dk_61 (dk_at dksX19_word_0 1 rfl rfl)
theorem dX19_word_2 : decode cX19_word 2 = .ok (.iload_n 2, 1) := dk_28 (dk_at dksX19_word_0 2 rfl rfl)
theorem dX19_word_3 : decode cX19_word 3 = .ok (.aload_n 1, 1) := dk_43 (dk_at dksX19_word_0 3 rfl rfl)
theorem dX19_word_4 : decode cX19_word 4 = .ok (.invokevirtual 46, 3) := dk_182 0 46 (dk_at dksX19_word_0 4 rfl rfl)
theorem dX19_word_7 : decode cX19_word 7 = .ok (.if_icmp .ge 18, 3) := dk_162 0 18 (dk_at dksX19_word_0 7 rfl rfl)
theorem dX19_word_10 : decode cX19_word 10 = .ok (.aload_n 0, 1) := dk_42 (dk_at dksX19_word_0 10 rfl rfl)
theorem dX19_word_11 : decode cX19_word 11 = .ok (.aload_n 1, 1) := dk_43 (dk_at dksX19_word_0 11 rfl rfl)
theorem dX19_word_12 : decode cX19_word 12 = .ok (.iload_n 2, 1) := dk_28 (dk_at dksX19_word_0 12 rfl rfl)
theorem dX19_word_13 : decode cX19_word 13 = .ok (.invokevirtual 49, 3) := dk_182 0 49 (dk_at dksX19_word_0 13 rfl rfl)
theorem dX19_word_16 : decode cX19_word 16 = .ok (.invokevirtual 53, 3) := dk_182 0 53 (dk_at dksX19_word_0 16 rfl rfl)
theorem dX19_word_19 : decode cX19_word 19 = .ok (.iinc 2 1, 3) := dk_132 2 1 (dk_at dksX19_word_0 19 rfl rfl)
theorem dX19_word_22 : decode cX19_word 22 = .ok (.goto (-20), 3) := dk_167 255 236 (dk_at dksX19_word_1 0 rfl rfl)
theorem dX19_word_25 : decode cX19_word 25 = .ok (.return_, 1) := dk_177 (dk_at dksX19_word_1 3 rfl rfl)
abbrev cX19_must : ByteArray := prog_12_method_4_code
def yX19_must : MethodName := ⟨RX19, "must", "(I)V"⟩
def dkwX19_must_1 : List UInt8 := [180, 0, 19, 4, 96, 181, 0, 19, 177]
abbrev dktX19_must_1 : List UInt8 := dkwX19_must_1 ++ []
def dkwX19_must_0 : List UInt8 := [42, 27, 182, 0, 37, 154, 0, 15, 187, 0, 41, 89, 42, 180, 0, 19, 183, 0, 43, 191, 42, 89]
abbrev dktX19_must_0 : List UInt8 := dkwX19_must_0 ++ dktX19_must_1
theorem dksX19_must_0 : cX19_must.data.toList.drop 0 = dktX19_must_0 := by decide +kernel
theorem dksX19_must_1 : cX19_must.data.toList.drop 22 = dktX19_must_1 := dk_seg dksX19_must_0 22 rfl rfl
theorem dX19_must_0 : decode cX19_must 0 = .ok (.aload_n 0, 1) := dk_42 (dk_at dksX19_must_0 0 rfl rfl)
theorem dX19_must_1 : decode cX19_must 1 = .ok (.iload_n 1, 1) := dk_27 (dk_at dksX19_must_0 1 rfl rfl)
theorem dX19_must_2 : decode cX19_must 2 = .ok (.invokevirtual 37, 3) := dk_182 0 37 (dk_at dksX19_must_0 2 rfl rfl)
theorem dX19_must_5 : decode cX19_must 5 = .ok (.ifCond .ne 15, 3) := dk_154 0 15 (dk_at dksX19_must_0 5 rfl rfl)
theorem dX19_must_8 : decode cX19_must 8 = .ok (.new 41, 3) := dk_187 0 41 (dk_at dksX19_must_0 8 rfl rfl)
theorem dX19_must_11 : decode cX19_must 11 = .ok (.dup, 1) := dk_89 (dk_at dksX19_must_0 11 rfl rfl)
theorem dX19_must_12 : decode cX19_must 12 = .ok (.aload_n 0, 1) := dk_42 (dk_at dksX19_must_0 12 rfl rfl)
theorem dX19_must_13 : decode cX19_must 13 = .ok (.getfield 19, 3) := dk_180 0 19 (dk_at dksX19_must_0 13 rfl rfl)
theorem dX19_must_16 : decode cX19_must 16 = .ok (.invokespecial 43, 3) := dk_183 0 43 (dk_at dksX19_must_0 16 rfl rfl)
theorem dX19_must_19 : decode cX19_must 19 = .ok (.athrow, 1) := dk_191 (dk_at dksX19_must_0 19 rfl rfl)
theorem dX19_must_20 : decode cX19_must 20 = .ok (.aload_n 0, 1) := dk_42 (dk_at dksX19_must_0 20 rfl rfl)
theorem dX19_must_21 : decode cX19_must 21 = .ok (.dup, 1) := dk_89 (dk_at dksX19_must_0 21 rfl rfl)
theorem dX19_must_22 : decode cX19_must 22 = .ok (.getfield 19, 3) := dk_180 0 19 (dk_at dksX19_must_1 0 rfl rfl)
theorem dX19_must_25 : decode cX19_must 25 = .ok (.iconst 1, 1) := dk_4 (dk_at dksX19_must_1 3 rfl rfl)
theorem dX19_must_26 : decode cX19_must 26 = .ok (.iadd, 1) := dk_96 (dk_at dksX19_must_1 4 rfl rfl)
theorem dX19_must_27 : decode cX19_must 27 = .ok (.putfield 19, 3) := dk_181 0 19 (dk_at dksX19_must_1 5 rfl rfl)
theorem dX19_must_30 : decode cX19_must 30 = .ok (.return_, 1) := dk_177 (dk_at dksX19_must_1 8 rfl rfl)
abbrev cX19_square : ByteArray := prog_12_method_10_code
def yX19_square : MethodName := ⟨RX19, "square", "()I"⟩
def dkwX19_square_0 : List UInt8 := [42, 3, 16, 35, 182, 0, 73, 172]
abbrev dktX19_square_0 : List UInt8 := dkwX19_square_0 ++ []
theorem dksX19_square_0 : cX19_square.data.toList.drop 0 = dktX19_square_0 := by decide +kernel
theorem dX19_square_0 : decode cX19_square 0 = .ok (.aload_n 0, 1) := dk_42 (dk_at dksX19_square_0 0 rfl rfl)
theorem dX19_square_1 : decode cX19_square 1 = .ok (.iconst 0, 1) := dk_3 (dk_at dksX19_square_0 1 rfl rfl)
theorem dX19_square_2 : decode cX19_square 2 = .ok (.bipush 35, 2) := dk_16 35 (dk_at dksX19_square_0 2 rfl rfl)
theorem dX19_square_4 : decode cX19_square 4 = .ok (.invokevirtual 73, 3) := dk_182 0 73 (dk_at dksX19_square_0 4 rfl rfl)
theorem dX19_square_7 : decode cX19_square 7 = .ok (.ireturn, 1) := dk_172 (dk_at dksX19_square_0 7 rfl rfl)
abbrev cX19_number : ByteArray := prog_12_method_7_code
def yX19_number : MethodName := ⟨RX19, "number", "(II)I"⟩
def dkwX19_number_4 : List UInt8 := [42, 180, 0, 56, 182, 0, 66, 29, 172]
abbrev dktX19_number_4 : List UInt8 := dkwX19_number_4 ++ []
def dkwX19_number_3 : List UInt8 := [182, 0, 33, 96, 16, 48, 100, 62, 132, 4, 1, 167, 255, 213, 42, 29, 133, 27, 133, 28, 133, 184, 0, 62]
abbrev dktX19_number_3 : List UInt8 := dkwX19_number_3 ++ dktX19_number_4
def dkwX19_number_2 : List UInt8 := [153, 0, 36, 16, 10, 29, 104, 42, 180, 0, 9, 42, 89, 180, 0, 19, 90, 4, 96, 181, 0, 19]
abbrev dktX19_number_2 : List UInt8 := dkwX19_number_2 ++ dktX19_number_3
def dkwX19_number_1 : List UInt8 := [89, 42, 180, 0, 19, 183, 0, 43, 191, 3, 62, 3, 54, 4, 21, 4, 5, 162, 0, 43, 42, 182, 0, 59]
abbrev dktX19_number_1 : List UInt8 := dkwX19_number_1 ++ dktX19_number_2
def dkwX19_number_0 : List UInt8 := [42, 16, 32, 182, 0, 53, 42, 42, 180, 0, 19, 181, 0, 56, 42, 182, 0, 59, 154, 0, 15, 187, 0, 41]
abbrev dktX19_number_0 : List UInt8 := dkwX19_number_0 ++ dktX19_number_1
theorem dksX19_number_0 : cX19_number.data.toList.drop 0 = dktX19_number_0 := by decide +kernel
theorem dksX19_number_1 : cX19_number.data.toList.drop 24 = dktX19_number_1 := dk_seg dksX19_number_0 24 rfl rfl
theorem dksX19_number_2 : cX19_number.data.toList.drop 48 = dktX19_number_2 := dk_seg dksX19_number_1 24 rfl rfl
theorem dksX19_number_3 : cX19_number.data.toList.drop 70 = dktX19_number_3 := dk_seg dksX19_number_2 22 rfl rfl
theorem dksX19_number_4 : cX19_number.data.toList.drop 94 = dktX19_number_4 := dk_seg dksX19_number_3 24 rfl rfl
theorem dX19_number_0 : decode cX19_number 0 = .ok (.aload_n 0, 1) := dk_42 (dk_at dksX19_number_0 0 rfl rfl)
theorem dX19_number_1 : decode cX19_number 1 = .ok (.bipush 32, 2) := dk_16 32 (dk_at dksX19_number_0 1 rfl rfl)
theorem dX19_number_3 : decode cX19_number 3 = .ok (.invokevirtual 53, 3) := dk_182 0 53 (dk_at dksX19_number_0 3 rfl rfl)
theorem dX19_number_6 : decode cX19_number 6 = .ok (.aload_n 0, 1) := dk_42 (dk_at dksX19_number_0 6 rfl rfl)
theorem dX19_number_7 : decode cX19_number 7 = .ok (.aload_n 0, 1) := dk_42 (dk_at dksX19_number_0 7 rfl rfl)
theorem dX19_number_8 : decode cX19_number 8 = .ok (.getfield 19, 3) := dk_180 0 19 (dk_at dksX19_number_0 8 rfl rfl)
theorem dX19_number_11 : decode cX19_number 11 = .ok (.putfield 56, 3) := dk_181 0 56 (dk_at dksX19_number_0 11 rfl rfl)
theorem dX19_number_14 : decode cX19_number 14 = .ok (.aload_n 0, 1) := dk_42 (dk_at dksX19_number_0 14 rfl rfl)
theorem dX19_number_15 : decode cX19_number 15 = .ok (.invokevirtual 59, 3) := dk_182 0 59 (dk_at dksX19_number_0 15 rfl rfl)
theorem dX19_number_18 : decode cX19_number 18 = .ok (.ifCond .ne 15, 3) := dk_154 0 15 (dk_at dksX19_number_0 18 rfl rfl)
theorem dX19_number_21 : decode cX19_number 21 = .ok (.new 41, 3) := dk_187 0 41 (dk_at dksX19_number_0 21 rfl rfl)
theorem dX19_number_24 : decode cX19_number 24 = .ok (.dup, 1) := dk_89 (dk_at dksX19_number_1 0 rfl rfl)
theorem dX19_number_25 : decode cX19_number 25 = .ok (.aload_n 0, 1) := dk_42 (dk_at dksX19_number_1 1 rfl rfl)
theorem dX19_number_26 : decode cX19_number 26 = .ok (.getfield 19, 3) := dk_180 0 19 (dk_at dksX19_number_1 2 rfl rfl)
theorem dX19_number_29 : decode cX19_number 29 = .ok (.invokespecial 43, 3) := dk_183 0 43 (dk_at dksX19_number_1 5 rfl rfl)
theorem dX19_number_32 : decode cX19_number 32 = .ok (.athrow, 1) := dk_191 (dk_at dksX19_number_1 8 rfl rfl)
theorem dX19_number_33 : decode cX19_number 33 = .ok (.iconst 0, 1) := dk_3 (dk_at dksX19_number_1 9 rfl rfl)
theorem dX19_number_34 : decode cX19_number 34 = .ok (.istore_n 3, 1) := dk_62 (dk_at dksX19_number_1 10 rfl rfl)
theorem dX19_number_35 : decode cX19_number 35 = .ok (.iconst 0, 1) := dk_3 (dk_at dksX19_number_1 11 rfl rfl)
theorem dX19_number_36 : decode cX19_number 36 = .ok (.istore 4, 2) := dk_54 4 (dk_at dksX19_number_1 12 rfl rfl)
theorem dX19_number_38 : decode cX19_number 38 = .ok (.iload 4, 2) := dk_21 4 (dk_at dksX19_number_1 14 rfl rfl)
theorem dX19_number_40 : decode cX19_number 40 = .ok (.iconst 2, 1) := dk_5 (dk_at dksX19_number_1 16 rfl rfl)
theorem dX19_number_41 : decode cX19_number 41 = .ok (.if_icmp .ge 43, 3) := dk_162 0 43 (dk_at dksX19_number_1 17 rfl rfl)
theorem dX19_number_44 : decode cX19_number 44 = .ok (.aload_n 0, 1) := dk_42 (dk_at dksX19_number_1 20 rfl rfl)
theorem dX19_number_45 : decode cX19_number 45 = .ok (.invokevirtual 59, 3) := dk_182 0 59 (dk_at dksX19_number_1 21 rfl rfl)
theorem dX19_number_48 : decode cX19_number 48 = .ok (.ifCond .eq 36, 3) := dk_153 0 36 (dk_at dksX19_number_2 0 rfl rfl)
theorem dX19_number_51 : decode cX19_number 51 = .ok (.bipush 10, 2) := dk_16 10 (dk_at dksX19_number_2 3 rfl rfl)
theorem dX19_number_53 : decode cX19_number 53 = .ok (.iload_n 3, 1) := dk_29 (dk_at dksX19_number_2 5 rfl rfl)
theorem dX19_number_54 : decode cX19_number 54 = .ok (.imul, 1) := dk_104 (dk_at dksX19_number_2 6 rfl rfl)
theorem dX19_number_55 : decode cX19_number 55 = .ok (.aload_n 0, 1) := dk_42 (dk_at dksX19_number_2 7 rfl rfl)
theorem dX19_number_56 : decode cX19_number 56 = .ok (.getfield 9, 3) := dk_180 0 9 (dk_at dksX19_number_2 8 rfl rfl)
theorem dX19_number_59 : decode cX19_number 59 = .ok (.aload_n 0, 1) := dk_42 (dk_at dksX19_number_2 11 rfl rfl)
theorem dX19_number_60 : decode cX19_number 60 = .ok (.dup, 1) := dk_89 (dk_at dksX19_number_2 12 rfl rfl)
theorem dX19_number_61 : decode cX19_number 61 = .ok (.getfield 19, 3) := dk_180 0 19 (dk_at dksX19_number_2 13 rfl rfl)
theorem dX19_number_64 : decode cX19_number 64 = .ok (.dup_x1, 1) := dk_90 (dk_at dksX19_number_2 16 rfl rfl)
theorem dX19_number_65 : decode cX19_number 65 = .ok (.iconst 1, 1) := dk_4 (dk_at dksX19_number_2 17 rfl rfl)
theorem dX19_number_66 : decode cX19_number 66 = .ok (.iadd, 1) := dk_96 (dk_at dksX19_number_2 18 rfl rfl)
theorem dX19_number_67 : decode cX19_number 67 = .ok (.putfield 19, 3) := dk_181 0 19 (dk_at dksX19_number_2 19 rfl rfl)
theorem dX19_number_70 : decode cX19_number 70 = .ok (.invokevirtual 33, 3) := dk_182 0 33 (dk_at dksX19_number_3 0 rfl rfl)
theorem dX19_number_73 : decode cX19_number 73 = .ok (.iadd, 1) := dk_96 (dk_at dksX19_number_3 3 rfl rfl)
theorem dX19_number_74 : decode cX19_number 74 = .ok (.bipush 48, 2) := dk_16 48 (dk_at dksX19_number_3 4 rfl rfl)
theorem dX19_number_76 : decode cX19_number 76 = .ok (.isub, 1) := dk_100 (dk_at dksX19_number_3 6 rfl rfl)
theorem dX19_number_77 : decode cX19_number 77 = .ok (.istore_n 3, 1) := dk_62 (dk_at dksX19_number_3 7 rfl rfl)
theorem dX19_number_78 : decode cX19_number 78 = .ok (.iinc 4 1, 3) := dk_132 4 1 (dk_at dksX19_number_3 8 rfl rfl)
theorem dX19_number_81 : decode cX19_number 81 = .ok (.goto (-43), 3) := dk_167 255 213 (dk_at dksX19_number_3 11 rfl rfl)
theorem dX19_number_84 : decode cX19_number 84 = .ok (.aload_n 0, 1) := dk_42 (dk_at dksX19_number_3 14 rfl rfl)
theorem dX19_number_85 : decode cX19_number 85 = .ok (.iload_n 3, 1) := dk_29 (dk_at dksX19_number_3 15 rfl rfl)
theorem dX19_number_86 : decode cX19_number 86 = .ok (.i2l, 1) := dk_133 (dk_at dksX19_number_3 16 rfl rfl)
theorem dX19_number_87 : decode cX19_number 87 = .ok (.iload_n 1, 1) := dk_27 (dk_at dksX19_number_3 17 rfl rfl)
theorem dX19_number_88 : decode cX19_number 88 = .ok (.i2l, 1) := dk_133 (dk_at dksX19_number_3 18 rfl rfl)
theorem dX19_number_89 : decode cX19_number 89 = .ok (.iload_n 2, 1) := dk_28 (dk_at dksX19_number_3 19 rfl rfl)
theorem dX19_number_90 : decode cX19_number 90 = .ok (.i2l, 1) := dk_133 (dk_at dksX19_number_3 20 rfl rfl)
theorem dX19_number_91 : decode cX19_number 91 = .ok (.invokestatic 62, 3) := dk_184 0 62 (dk_at dksX19_number_3 21 rfl rfl)
theorem dX19_number_94 : decode cX19_number 94 = .ok (.aload_n 0, 1) := dk_42 (dk_at dksX19_number_4 0 rfl rfl)
theorem dX19_number_95 : decode cX19_number 95 = .ok (.getfield 56, 3) := dk_180 0 56 (dk_at dksX19_number_4 1 rfl rfl)
theorem dX19_number_98 : decode cX19_number 98 = .ok (.invokevirtual 66, 3) := dk_182 0 66 (dk_at dksX19_number_4 4 rfl rfl)
theorem dX19_number_101 : decode cX19_number 101 = .ok (.iload_n 3, 1) := dk_29 (dk_at dksX19_number_4 7 rfl rfl)
theorem dX19_number_102 : decode cX19_number 102 = .ok (.ireturn, 1) := dk_172 (dk_at dksX19_number_4 8 rfl rfl)
abbrev cX19_digit : ByteArray := prog_12_method_6_code
def yX19_digit : MethodName := ⟨RX19, "digit", "()Z"⟩
def dkwX19_digit_1 : List UInt8 := [180, 0, 9, 42, 180, 0, 19, 182, 0, 33, 16, 57, 163, 0, 7, 4, 167, 0, 4, 3, 172]
abbrev dktX19_digit_1 : List UInt8 := dkwX19_digit_1 ++ []
def dkwX19_digit_0 : List UInt8 := [42, 182, 0, 29, 154, 0, 39, 42, 180, 0, 9, 42, 180, 0, 19, 182, 0, 33, 16, 48, 161, 0, 23, 42]
abbrev dktX19_digit_0 : List UInt8 := dkwX19_digit_0 ++ dktX19_digit_1
theorem dksX19_digit_0 : cX19_digit.data.toList.drop 0 = dktX19_digit_0 := by decide +kernel
theorem dksX19_digit_1 : cX19_digit.data.toList.drop 24 = dktX19_digit_1 := dk_seg dksX19_digit_0 24 rfl rfl
theorem dX19_digit_0 : decode cX19_digit 0 = .ok (.aload_n 0, 1) := dk_42 (dk_at dksX19_digit_0 0 rfl rfl)
theorem dX19_digit_1 : decode cX19_digit 1 = .ok (.invokevirtual 29, 3) := dk_182 0 29 (dk_at dksX19_digit_0 1 rfl rfl)
theorem dX19_digit_4 : decode cX19_digit 4 = .ok (.ifCond .ne 39, 3) := dk_154 0 39 (dk_at dksX19_digit_0 4 rfl rfl)
theorem dX19_digit_7 : decode cX19_digit 7 = .ok (.aload_n 0, 1) := dk_42 (dk_at dksX19_digit_0 7 rfl rfl)
theorem dX19_digit_8 : decode cX19_digit 8 = .ok (.getfield 9, 3) := dk_180 0 9 (dk_at dksX19_digit_0 8 rfl rfl)
theorem dX19_digit_11 : decode cX19_digit 11 = .ok (.aload_n 0, 1) := dk_42 (dk_at dksX19_digit_0 11 rfl rfl)
theorem dX19_digit_12 : decode cX19_digit 12 = .ok (.getfield 19, 3) := dk_180 0 19 (dk_at dksX19_digit_0 12 rfl rfl)
theorem dX19_digit_15 : decode cX19_digit 15 = .ok (.invokevirtual 33, 3) := dk_182 0 33 (dk_at dksX19_digit_0 15 rfl rfl)
theorem dX19_digit_18 : decode cX19_digit 18 = .ok (.bipush 48, 2) := dk_16 48 (dk_at dksX19_digit_0 18 rfl rfl)
theorem dX19_digit_20 : decode cX19_digit 20 = .ok (.if_icmp .lt 23, 3) := dk_161 0 23 (dk_at dksX19_digit_0 20 rfl rfl)
theorem dX19_digit_23 : decode cX19_digit 23 = .ok (.aload_n 0, 1) := dk_42 (dk_at dksX19_digit_0 23 rfl rfl)
theorem dX19_digit_24 : decode cX19_digit 24 = .ok (.getfield 9, 3) := dk_180 0 9 (dk_at dksX19_digit_1 0 rfl rfl)
theorem dX19_digit_27 : decode cX19_digit 27 = .ok (.aload_n 0, 1) := dk_42 (dk_at dksX19_digit_1 3 rfl rfl)
theorem dX19_digit_28 : decode cX19_digit 28 = .ok (.getfield 19, 3) := dk_180 0 19 (dk_at dksX19_digit_1 4 rfl rfl)
theorem dX19_digit_31 : decode cX19_digit 31 = .ok (.invokevirtual 33, 3) := dk_182 0 33 (dk_at dksX19_digit_1 7 rfl rfl)
theorem dX19_digit_34 : decode cX19_digit 34 = .ok (.bipush 57, 2) := dk_16 57 (dk_at dksX19_digit_1 10 rfl rfl)
theorem dX19_digit_36 : decode cX19_digit 36 = .ok (.if_icmp .gt 7, 3) := dk_163 0 7 (dk_at dksX19_digit_1 12 rfl rfl)
theorem dX19_digit_39 : decode cX19_digit 39 = .ok (.iconst 1, 1) := dk_4 (dk_at dksX19_digit_1 15 rfl rfl)
theorem dX19_digit_40 : decode cX19_digit 40 = .ok (.goto 4, 3) := dk_167 0 4 (dk_at dksX19_digit_1 16 rfl rfl)
theorem dX19_digit_43 : decode cX19_digit 43 = .ok (.iconst 0, 1) := dk_3 (dk_at dksX19_digit_1 19 rfl rfl)
theorem dX19_digit_44 : decode cX19_digit 44 = .ok (.ireturn, 1) := dk_172 (dk_at dksX19_digit_1 20 rfl rfl)
abbrev cX19_hasRoom : ByteArray := prog_12_method_8_code
def yX19_hasRoom : MethodName := ⟨RX19, "hasRoom", "(ZI)V"⟩
def dkwX19_hasRoom_0 : List UInt8 := [27, 154, 0, 12, 187, 0, 41, 89, 28, 183, 0, 43, 191, 177]
abbrev dktX19_hasRoom_0 : List UInt8 := dkwX19_hasRoom_0 ++ []
theorem dksX19_hasRoom_0 : cX19_hasRoom.data.toList.drop 0 = dktX19_hasRoom_0 := by decide +kernel
theorem dX19_hasRoom_0 : decode cX19_hasRoom 0 = .ok (.iload_n 1, 1) := dk_27 (dk_at dksX19_hasRoom_0 0 rfl rfl)
theorem dX19_hasRoom_1 : decode cX19_hasRoom 1 = .ok (.ifCond .ne 12, 3) := dk_154 0 12 (dk_at dksX19_hasRoom_0 1 rfl rfl)
theorem dX19_hasRoom_4 : decode cX19_hasRoom 4 = .ok (.new 41, 3) := dk_187 0 41 (dk_at dksX19_hasRoom_0 4 rfl rfl)
theorem dX19_hasRoom_7 : decode cX19_hasRoom 7 = .ok (.dup, 1) := dk_89 (dk_at dksX19_hasRoom_0 7 rfl rfl)
theorem dX19_hasRoom_8 : decode cX19_hasRoom 8 = .ok (.iload_n 2, 1) := dk_28 (dk_at dksX19_hasRoom_0 8 rfl rfl)
theorem dX19_hasRoom_9 : decode cX19_hasRoom 9 = .ok (.invokespecial 43, 3) := dk_183 0 43 (dk_at dksX19_hasRoom_0 9 rfl rfl)
theorem dX19_hasRoom_12 : decode cX19_hasRoom 12 = .ok (.athrow, 1) := dk_191 (dk_at dksX19_hasRoom_0 12 rfl rfl)
theorem dX19_hasRoom_13 : decode cX19_hasRoom 13 = .ok (.return_, 1) := dk_177 (dk_at dksX19_hasRoom_0 13 rfl rfl)
abbrev cX19_person : ByteArray := prog_12_method_11_code
def yX19_person : MethodName := ⟨RX19, "person", "(I)V"⟩
def dkwX19_person_5 : List UInt8 := [182, 0, 98, 177]
abbrev dktX19_person_5 : List UInt8 := dkwX19_person_5 ++ []
def dkwX19_person_4 : List UInt8 := [180, 0, 15, 28, 42, 180, 0, 15, 180, 0, 83, 29, 21, 5, 184, 0, 94, 21, 4, 21, 6, 21, 7]
abbrev dktX19_person_4 : List UInt8 := dkwX19_person_4 ++ dktX19_person_5
def dkwX19_person_3 : List UInt8 := [182, 0, 88, 54, 7, 42, 42, 180, 0, 15, 21, 7, 182, 0, 91, 42, 180, 0, 56, 182, 0, 66, 42]
abbrev dktX19_person_3 : List UInt8 := dkwX19_person_3 ++ dktX19_person_4
def dkwX19_person_2 : List UInt8 := [182, 0, 73, 54, 4, 42, 3, 16, 9, 182, 0, 73, 54, 5, 42, 3, 16, 99, 182, 0, 73, 54, 6, 42]
abbrev dktX19_person_2 : List UInt8 := dkwX19_person_2 ++ dktX19_person_3
def dkwX19_person_1 : List UInt8 := [27, 182, 0, 66, 42, 3, 16, 6, 182, 0, 73, 61, 42, 3, 16, 9, 182, 0, 73, 62, 42, 3, 16, 20]
abbrev dktX19_person_1 : List UInt8 := dkwX19_person_1 ++ dktX19_person_2
def dkwX19_person_0 : List UInt8 := [42, 18, 77, 182, 0, 79, 42, 42, 180, 0, 15, 180, 0, 83, 16, 7, 162, 0, 7, 4, 167, 0, 4, 3]
abbrev dktX19_person_0 : List UInt8 := dkwX19_person_0 ++ dktX19_person_1
theorem dksX19_person_0 : cX19_person.data.toList.drop 0 = dktX19_person_0 := by decide +kernel
theorem dksX19_person_1 : cX19_person.data.toList.drop 24 = dktX19_person_1 := dk_seg dksX19_person_0 24 rfl rfl
theorem dksX19_person_2 : cX19_person.data.toList.drop 48 = dktX19_person_2 := dk_seg dksX19_person_1 24 rfl rfl
theorem dksX19_person_3 : cX19_person.data.toList.drop 72 = dktX19_person_3 := dk_seg dksX19_person_2 24 rfl rfl
theorem dksX19_person_4 : cX19_person.data.toList.drop 95 = dktX19_person_4 := dk_seg dksX19_person_3 23 rfl rfl
theorem dksX19_person_5 : cX19_person.data.toList.drop 118 = dktX19_person_5 := dk_seg dksX19_person_4 23 rfl rfl
theorem dX19_person_0 : decode cX19_person 0 = .ok (.aload_n 0, 1) := dk_42 (dk_at dksX19_person_0 0 rfl rfl)
theorem dX19_person_1 : decode cX19_person 1 = .ok (.ldc 77, 2) := dk_18 77 (dk_at dksX19_person_0 1 rfl rfl)
theorem dX19_person_3 : decode cX19_person 3 = .ok (.invokevirtual 79, 3) := dk_182 0 79 (dk_at dksX19_person_0 3 rfl rfl)
theorem dX19_person_6 : decode cX19_person 6 = .ok (.aload_n 0, 1) := dk_42 (dk_at dksX19_person_0 6 rfl rfl)
theorem dX19_person_7 : decode cX19_person 7 = .ok (.aload_n 0, 1) := dk_42 (dk_at dksX19_person_0 7 rfl rfl)
theorem dX19_person_8 : decode cX19_person 8 = .ok (.getfield 15, 3) := dk_180 0 15 (dk_at dksX19_person_0 8 rfl rfl)
theorem dX19_person_11 : decode cX19_person 11 = .ok (.getfield 83, 3) := dk_180 0 83 (dk_at dksX19_person_0 11 rfl rfl)
theorem dX19_person_14 : decode cX19_person 14 = .ok (.bipush 7, 2) := dk_16 7 (dk_at dksX19_person_0 14 rfl rfl)
theorem dX19_person_16 : decode cX19_person 16 = .ok (.if_icmp .ge 7, 3) := dk_162 0 7 (dk_at dksX19_person_0 16 rfl rfl)
theorem dX19_person_19 : decode cX19_person 19 = .ok (.iconst 1, 1) := dk_4 (dk_at dksX19_person_0 19 rfl rfl)
theorem dX19_person_20 : decode cX19_person 20 = .ok (.goto 4, 3) := dk_167 0 4 (dk_at dksX19_person_0 20 rfl rfl)
theorem dX19_person_23 : decode cX19_person 23 = .ok (.iconst 0, 1) := dk_3 (dk_at dksX19_person_0 23 rfl rfl)
theorem dX19_person_24 : decode cX19_person 24 = .ok (.iload_n 1, 1) := dk_27 (dk_at dksX19_person_1 0 rfl rfl)
theorem dX19_person_25 : decode cX19_person 25 = .ok (.invokevirtual 66, 3) := dk_182 0 66 (dk_at dksX19_person_1 1 rfl rfl)
theorem dX19_person_28 : decode cX19_person 28 = .ok (.aload_n 0, 1) := dk_42 (dk_at dksX19_person_1 4 rfl rfl)
theorem dX19_person_29 : decode cX19_person 29 = .ok (.iconst 0, 1) := dk_3 (dk_at dksX19_person_1 5 rfl rfl)
theorem dX19_person_30 : decode cX19_person 30 = .ok (.bipush 6, 2) := dk_16 6 (dk_at dksX19_person_1 6 rfl rfl)
theorem dX19_person_32 : decode cX19_person 32 = .ok (.invokevirtual 73, 3) := dk_182 0 73 (dk_at dksX19_person_1 8 rfl rfl)
theorem dX19_person_35 : decode cX19_person 35 = .ok (.istore_n 2, 1) := dk_61 (dk_at dksX19_person_1 11 rfl rfl)
theorem dX19_person_36 : decode cX19_person 36 = .ok (.aload_n 0, 1) := dk_42 (dk_at dksX19_person_1 12 rfl rfl)
theorem dX19_person_37 : decode cX19_person 37 = .ok (.iconst 0, 1) := dk_3 (dk_at dksX19_person_1 13 rfl rfl)
theorem dX19_person_38 : decode cX19_person 38 = .ok (.bipush 9, 2) := dk_16 9 (dk_at dksX19_person_1 14 rfl rfl)
theorem dX19_person_40 : decode cX19_person 40 = .ok (.invokevirtual 73, 3) := dk_182 0 73 (dk_at dksX19_person_1 16 rfl rfl)
theorem dX19_person_43 : decode cX19_person 43 = .ok (.istore_n 3, 1) := dk_62 (dk_at dksX19_person_1 19 rfl rfl)
theorem dX19_person_44 : decode cX19_person 44 = .ok (.aload_n 0, 1) := dk_42 (dk_at dksX19_person_1 20 rfl rfl)
theorem dX19_person_45 : decode cX19_person 45 = .ok (.iconst 0, 1) := dk_3 (dk_at dksX19_person_1 21 rfl rfl)
theorem dX19_person_46 : decode cX19_person 46 = .ok (.bipush 20, 2) := dk_16 20 (dk_at dksX19_person_1 22 rfl rfl)
theorem dX19_person_48 : decode cX19_person 48 = .ok (.invokevirtual 73, 3) := dk_182 0 73 (dk_at dksX19_person_2 0 rfl rfl)
theorem dX19_person_51 : decode cX19_person 51 = .ok (.istore 4, 2) := dk_54 4 (dk_at dksX19_person_2 3 rfl rfl)
theorem dX19_person_53 : decode cX19_person 53 = .ok (.aload_n 0, 1) := dk_42 (dk_at dksX19_person_2 5 rfl rfl)
theorem dX19_person_54 : decode cX19_person 54 = .ok (.iconst 0, 1) := dk_3 (dk_at dksX19_person_2 6 rfl rfl)
theorem dX19_person_55 : decode cX19_person 55 = .ok (.bipush 9, 2) := dk_16 9 (dk_at dksX19_person_2 7 rfl rfl)
theorem dX19_person_57 : decode cX19_person 57 = .ok (.invokevirtual 73, 3) := dk_182 0 73 (dk_at dksX19_person_2 9 rfl rfl)
theorem dX19_person_60 : decode cX19_person 60 = .ok (.istore 5, 2) := dk_54 5 (dk_at dksX19_person_2 12 rfl rfl)
theorem dX19_person_62 : decode cX19_person 62 = .ok (.aload_n 0, 1) := dk_42 (dk_at dksX19_person_2 14 rfl rfl)
theorem dX19_person_63 : decode cX19_person 63 = .ok (.iconst 0, 1) := dk_3 (dk_at dksX19_person_2 15 rfl rfl)
theorem dX19_person_64 : decode cX19_person 64 = .ok (.bipush 99, 2) := dk_16 99 (dk_at dksX19_person_2 16 rfl rfl)
theorem dX19_person_66 : decode cX19_person 66 = .ok (.invokevirtual 73, 3) := dk_182 0 73 (dk_at dksX19_person_2 18 rfl rfl)
theorem dX19_person_69 : decode cX19_person 69 = .ok (.istore 6, 2) := dk_54 6 (dk_at dksX19_person_2 21 rfl rfl)
theorem dX19_person_71 : decode cX19_person 71 = .ok (.aload_n 0, 1) := dk_42 (dk_at dksX19_person_2 23 rfl rfl)
theorem dX19_person_72 : decode cX19_person 72 = .ok (.invokevirtual 88, 3) := dk_182 0 88 (dk_at dksX19_person_3 0 rfl rfl)
theorem dX19_person_75 : decode cX19_person 75 = .ok (.istore 7, 2) := dk_54 7 (dk_at dksX19_person_3 3 rfl rfl)
theorem dX19_person_77 : decode cX19_person 77 = .ok (.aload_n 0, 1) := dk_42 (dk_at dksX19_person_3 5 rfl rfl)
theorem dX19_person_78 : decode cX19_person 78 = .ok (.aload_n 0, 1) := dk_42 (dk_at dksX19_person_3 6 rfl rfl)
theorem dX19_person_79 : decode cX19_person 79 = .ok (.getfield 15, 3) := dk_180 0 15 (dk_at dksX19_person_3 7 rfl rfl)
theorem dX19_person_82 : decode cX19_person 82 = .ok (.iload 7, 2) := dk_21 7 (dk_at dksX19_person_3 10 rfl rfl)
theorem dX19_person_84 : decode cX19_person 84 = .ok (.invokevirtual 91, 3) := dk_182 0 91 (dk_at dksX19_person_3 12 rfl rfl)
theorem dX19_person_87 : decode cX19_person 87 = .ok (.aload_n 0, 1) := dk_42 (dk_at dksX19_person_3 15 rfl rfl)
theorem dX19_person_88 : decode cX19_person 88 = .ok (.getfield 56, 3) := dk_180 0 56 (dk_at dksX19_person_3 16 rfl rfl)
theorem dX19_person_91 : decode cX19_person 91 = .ok (.invokevirtual 66, 3) := dk_182 0 66 (dk_at dksX19_person_3 19 rfl rfl)
theorem dX19_person_94 : decode cX19_person 94 = .ok (.aload_n 0, 1) := dk_42 (dk_at dksX19_person_3 22 rfl rfl)
theorem dX19_person_95 : decode cX19_person 95 = .ok (.getfield 15, 3) := dk_180 0 15 (dk_at dksX19_person_4 0 rfl rfl)
theorem dX19_person_98 : decode cX19_person 98 = .ok (.iload_n 2, 1) := dk_28 (dk_at dksX19_person_4 3 rfl rfl)
theorem dX19_person_99 : decode cX19_person 99 = .ok (.aload_n 0, 1) := dk_42 (dk_at dksX19_person_4 4 rfl rfl)
theorem dX19_person_100 : decode cX19_person 100 = .ok (.getfield 15, 3) := dk_180 0 15 (dk_at dksX19_person_4 5 rfl rfl)
theorem dX19_person_103 : decode cX19_person 103 = .ok (.getfield 83, 3) := dk_180 0 83 (dk_at dksX19_person_4 8 rfl rfl)
theorem dX19_person_106 : decode cX19_person 106 = .ok (.iload_n 3, 1) := dk_29 (dk_at dksX19_person_4 11 rfl rfl)
theorem dX19_person_107 : decode cX19_person 107 = .ok (.iload 5, 2) := dk_21 5 (dk_at dksX19_person_4 12 rfl rfl)
theorem dX19_person_109 : decode cX19_person 109 = .ok (.invokestatic 94, 3) := dk_184 0 94 (dk_at dksX19_person_4 14 rfl rfl)
theorem dX19_person_112 : decode cX19_person 112 = .ok (.iload 4, 2) := dk_21 4 (dk_at dksX19_person_4 17 rfl rfl)
theorem dX19_person_114 : decode cX19_person 114 = .ok (.iload 6, 2) := dk_21 6 (dk_at dksX19_person_4 19 rfl rfl)
theorem dX19_person_116 : decode cX19_person 116 = .ok (.iload 7, 2) := dk_21 7 (dk_at dksX19_person_4 21 rfl rfl)
theorem dX19_person_118 : decode cX19_person 118 = .ok (.invokevirtual 98, 3) := dk_182 0 98 (dk_at dksX19_person_5 0 rfl rfl)
theorem dX19_person_121 : decode cX19_person 121 = .ok (.return_, 1) := dk_177 (dk_at dksX19_person_5 3 rfl rfl)
theorem q111 : (Jvm.Cond.initialized "TaxOnLooks$Reader") ∈ lw_all := lw_g (lw_at lw_m1 30 rfl) rfl
theorem q153 : (Jvm.Cond.fieldLink "TaxOnLooks$Reader" (83 : Nat) "TaxOnLooks$Town" "many" "I") ∈ lw_all := lw_g (lw_at lw_m1 72 rfl) rfl
theorem q156 : (Jvm.Cond.fieldLink "TaxOnLooks$Reader" (131 : Nat) "TaxOnLooks$Town" "mite" "I") ∈ lw_all := lw_g (lw_at lw_m1 75 rfl) rfl
theorem q159 : (Jvm.Cond.fieldLink "TaxOnLooks$Reader" (135 : Nat) "TaxOnLooks$Town" "reach" "I") ∈ lw_all := lw_g (lw_at lw_m1 78 rfl) rfl
theorem q170 : (Jvm.Cond.fieldLink "TaxOnLooks$Reader" (107 : Nat) "TaxOnLooks$Town" "walls" "J") ∈ lw_all := lw_g (lw_at lw_m1 89 rfl) rfl
theorem q173 : (Jvm.Cond.fieldLink "TaxOnLooks$Reader" (119 : Nat) "TaxOnLooks$Town" "balconies" "J") ∈ lw_all := lw_g (lw_at lw_m1 92 rfl) rfl
theorem q176 : (Jvm.Cond.fieldLink "TaxOnLooks$Reader" (126 : Nat) "TaxOnLooks$Town" "sacks" "I") ∈ lw_all := lw_g (lw_at lw_m1 95 rfl) rfl
theorem q822 : (Jvm.Cond.instantiable "TaxOnLooks$Reader" (4 : Nat)) ∈ lw_all := lw_g (lw_at lw_m4 21 rfl) rfl
theorem q824 : (Jvm.Cond.instanceMethod ({ cls := "TaxOnLooks$Reader", name := "<init>", desc := "(LTaxOnLooks$Row;LTaxOnLooks$Town;)V" } : Jvm.MethodName)) ∈ lw_all := lw_g (lw_at lw_m4 23 rfl) rfl
theorem q825 : (Jvm.Cond.code ({ cls := "TaxOnLooks$Reader", name := "<init>", desc := "(LTaxOnLooks$Row;LTaxOnLooks$Town;)V" } : Jvm.MethodName) prog_12_method_1_code (3 : Nat) (Option.none : Option Jvm.ClassFile.FieldType)) ∈ lw_all := lw_g (lw_at lw_m4 24 rfl) rfl
theorem q826 : (Jvm.Cond.methodLink "TaxOnLooks$Reader" (3 : Nat) ({ cls := "java/lang/Object", name := "<init>", desc := "()V" } : Jvm.MethodName)) ∈ lw_all := lw_g (lw_at lw_m4 25 rfl) rfl
theorem q827 : (Jvm.Cond.fieldLink "TaxOnLooks$Reader" (9 : Nat) "TaxOnLooks$Reader" "text" "LTaxOnLooks$Row;") ∈ lw_all := lw_g (lw_at lw_m4 26 rfl) rfl
theorem q828 : (Jvm.Cond.fieldLink "TaxOnLooks$Reader" (15 : Nat) "TaxOnLooks$Reader" "w" "LTaxOnLooks$Town;") ∈ lw_all := lw_g (lw_at lw_m4 27 rfl) rfl
theorem q829 : (Jvm.Cond.fieldLink "TaxOnLooks$Reader" (19 : Nat) "TaxOnLooks$Reader" "at" "I") ∈ lw_all := lw_g (lw_at lw_m4 28 rfl) rfl
theorem q830 : (Jvm.Cond.fieldLink "TaxOnLooks$Reader" (56 : Nat) "TaxOnLooks$Reader" "place" "I") ∈ lw_all := lw_g (lw_at lw_m4 29 rfl) rfl
theorem q831 : (Jvm.Cond.laysFinal "TaxOnLooks$Reader" "TaxOnLooks$Reader" "text" "LTaxOnLooks$Row;") ∈ lw_all := lw_g (lw_at lw_m4 30 rfl) rfl
theorem q832 : (Jvm.Cond.soleField "TaxOnLooks$Reader" "text") ∈ lw_all := lw_g (lw_at lw_m4 31 rfl) rfl
theorem q833 : (Jvm.Cond.laysFinal "TaxOnLooks$Reader" "TaxOnLooks$Reader" "w" "LTaxOnLooks$Town;") ∈ lw_all := lw_g (lw_at lw_m4 32 rfl) rfl
theorem q834 : (Jvm.Cond.soleField "TaxOnLooks$Reader" "w") ∈ lw_all := lw_g (lw_at lw_m4 33 rfl) rfl
theorem q835 : (Jvm.Cond.lays "TaxOnLooks$Reader" "TaxOnLooks$Reader" "at" "I") ∈ lw_all := lw_g (lw_at lw_m4 34 rfl) rfl
theorem q836 : (Jvm.Cond.soleField "TaxOnLooks$Reader" "at") ∈ lw_all := lw_g (lw_at lw_m4 35 rfl) rfl
theorem q837 : (Jvm.Cond.lays "TaxOnLooks$Reader" "TaxOnLooks$Reader" "place" "I") ∈ lw_all := lw_g (lw_at lw_m4 36 rfl) rfl
theorem q838 : (Jvm.Cond.soleField "TaxOnLooks$Reader" "place") ∈ lw_all := lw_g (lw_at lw_m4 37 rfl) rfl
theorem q839 : (Jvm.Cond.superclass "TaxOnLooks$Reader" "java/lang/Object") ∈ lw_all := lw_g (lw_at lw_m4 38 rfl) rfl
theorem q841 : (Jvm.Cond.instanceMethod ({ cls := "TaxOnLooks$Reader", name := "items", desc := "()I" } : Jvm.MethodName)) ∈ lw_all := lw_g (lw_at lw_m4 40 rfl) rfl
theorem q842 : (Jvm.Cond.selects "TaxOnLooks$Reader" ({ cls := "TaxOnLooks$Reader", name := "items", desc := "()I" } : Jvm.MethodName) ({ cls := "TaxOnLooks$Reader", name := "items", desc := "()I" } : Jvm.MethodName)) ∈ lw_all := lw_g (lw_at lw_m4 41 rfl) rfl
theorem q843 : (Jvm.Cond.code ({ cls := "TaxOnLooks$Reader", name := "items", desc := "()I" } : Jvm.MethodName) prog_12_method_9_code (2 : Nat) (Option.some Jvm.ClassFile.FieldType.int)) ∈ lw_all := lw_g (lw_at lw_m4 42 rfl) rfl
theorem q844 : (Jvm.Cond.methodLink "TaxOnLooks$Reader" (70 : Nat) ({ cls := "TaxOnLooks$Reader", name := "item", desc := "()V" } : Jvm.MethodName)) ∈ lw_all := lw_g (lw_at lw_m4 43 rfl) rfl
theorem q845 : (Jvm.Cond.privateMethod ({ cls := "TaxOnLooks$Reader", name := "item", desc := "()V" } : Jvm.MethodName)) ∈ lw_tbl := lw_at lw_m4 44 rfl
theorem q846 : (Jvm.Cond.instanceMethod ({ cls := "TaxOnLooks$Reader", name := "item", desc := "()V" } : Jvm.MethodName)) ∈ lw_all := lw_g (lw_at lw_m4 45 rfl) rfl
theorem q847 : (Jvm.Cond.code ({ cls := "TaxOnLooks$Reader", name := "item", desc := "()V" } : Jvm.MethodName) prog_12_method_13_code (2 : Nat) (Option.none : Option Jvm.ClassFile.FieldType)) ∈ lw_all := lw_g (lw_at lw_m4 46 rfl) rfl
theorem q848 : (Jvm.Cond.methodLink "TaxOnLooks$Reader" (37 : Nat) ({ cls := "TaxOnLooks$Reader", name := "sees", desc := "(I)Z" } : Jvm.MethodName)) ∈ lw_all := lw_g (lw_at lw_m4 47 rfl) rfl
theorem q849 : (Jvm.Cond.privateMethod ({ cls := "TaxOnLooks$Reader", name := "sees", desc := "(I)Z" } : Jvm.MethodName)) ∈ lw_tbl := lw_at lw_m4 48 rfl
theorem q850 : (Jvm.Cond.instanceMethod ({ cls := "TaxOnLooks$Reader", name := "sees", desc := "(I)Z" } : Jvm.MethodName)) ∈ lw_all := lw_g (lw_at lw_m4 49 rfl) rfl
theorem q851 : (Jvm.Cond.code ({ cls := "TaxOnLooks$Reader", name := "sees", desc := "(I)Z" } : Jvm.MethodName) prog_12_method_3_code (2 : Nat) (Option.some Jvm.ClassFile.FieldType.boolean)) ∈ lw_all := lw_g (lw_at lw_m4 50 rfl) rfl
theorem q852 : (Jvm.Cond.methodLink "TaxOnLooks$Reader" (29 : Nat) ({ cls := "TaxOnLooks$Reader", name := "ends", desc := "()Z" } : Jvm.MethodName)) ∈ lw_all := lw_g (lw_at lw_m4 51 rfl) rfl
theorem q853 : (Jvm.Cond.privateMethod ({ cls := "TaxOnLooks$Reader", name := "ends", desc := "()Z" } : Jvm.MethodName)) ∈ lw_tbl := lw_at lw_m4 52 rfl
theorem q854 : (Jvm.Cond.instanceMethod ({ cls := "TaxOnLooks$Reader", name := "ends", desc := "()Z" } : Jvm.MethodName)) ∈ lw_all := lw_g (lw_at lw_m4 53 rfl) rfl
theorem q855 : (Jvm.Cond.code ({ cls := "TaxOnLooks$Reader", name := "ends", desc := "()Z" } : Jvm.MethodName) prog_12_method_2_code (1 : Nat) (Option.some Jvm.ClassFile.FieldType.boolean)) ∈ lw_all := lw_g (lw_at lw_m4 54 rfl) rfl
theorem q856 : (Jvm.Cond.methodLink "TaxOnLooks$Reader" (23 : Nat) ({ cls := "TaxOnLooks$Row", name := "length", desc := "()I" } : Jvm.MethodName)) ∈ lw_all := lw_g (lw_at lw_m4 55 rfl) rfl
theorem q871 : (Jvm.Cond.methodLink "TaxOnLooks$Reader" (33 : Nat) ({ cls := "TaxOnLooks$Row", name := "asInt", desc := "(I)I" } : Jvm.MethodName)) ∈ lw_all := lw_g (lw_at lw_m4 70 rfl) rfl
theorem q880 : (Jvm.Cond.methodLink "TaxOnLooks$Reader" (111 : Nat) ({ cls := "TaxOnLooks$Reader", name := "wall", desc := "()V" } : Jvm.MethodName)) ∈ lw_all := lw_g (lw_at lw_m4 79 rfl) rfl
theorem q881 : (Jvm.Cond.privateMethod ({ cls := "TaxOnLooks$Reader", name := "wall", desc := "()V" } : Jvm.MethodName)) ∈ lw_tbl := lw_at lw_m4 80 rfl
theorem q882 : (Jvm.Cond.instanceMethod ({ cls := "TaxOnLooks$Reader", name := "wall", desc := "()V" } : Jvm.MethodName)) ∈ lw_all := lw_g (lw_at lw_m4 81 rfl) rfl
theorem q883 : (Jvm.Cond.code ({ cls := "TaxOnLooks$Reader", name := "wall", desc := "()V" } : Jvm.MethodName) prog_12_method_12_code (2 : Nat) (Option.none : Option Jvm.ClassFile.FieldType)) ∈ lw_all := lw_g (lw_at lw_m4 82 rfl) rfl
theorem q884 : (Jvm.Cond.stringRef "TaxOnLooks$Reader" (102 : Nat) "wall") ∈ lw_tbl := lw_at lw_m4 83 rfl
theorem q885 : (Jvm.Cond.methodLink "TaxOnLooks$Reader" (79 : Nat) ({ cls := "TaxOnLooks$Reader", name := "word", desc := "(Ljava/lang/String;)V" } : Jvm.MethodName)) ∈ lw_all := lw_g (lw_at lw_m4 84 rfl) rfl
theorem q886 : (Jvm.Cond.privateMethod ({ cls := "TaxOnLooks$Reader", name := "word", desc := "(Ljava/lang/String;)V" } : Jvm.MethodName)) ∈ lw_tbl := lw_at lw_m4 85 rfl
theorem q887 : (Jvm.Cond.instanceMethod ({ cls := "TaxOnLooks$Reader", name := "word", desc := "(Ljava/lang/String;)V" } : Jvm.MethodName)) ∈ lw_all := lw_g (lw_at lw_m4 86 rfl) rfl
theorem q888 : (Jvm.Cond.code ({ cls := "TaxOnLooks$Reader", name := "word", desc := "(Ljava/lang/String;)V" } : Jvm.MethodName) prog_12_method_5_code (3 : Nat) (Option.none : Option Jvm.ClassFile.FieldType)) ∈ lw_all := lw_g (lw_at lw_m4 87 rfl) rfl
theorem q889 : (Jvm.Cond.methodLink "TaxOnLooks$Reader" (46 : Nat) ({ cls := "java/lang/String", name := "length", desc := "()I" } : Jvm.MethodName)) ∈ lw_all := lw_g (lw_at lw_m4 88 rfl) rfl
theorem q899 : (Jvm.Cond.methodLink "TaxOnLooks$Reader" (49 : Nat) ({ cls := "java/lang/String", name := "charAt", desc := "(I)C" } : Jvm.MethodName)) ∈ lw_all := lw_g (lw_at lw_m4 98 rfl) rfl
theorem q937 : (Jvm.Cond.methodLink "TaxOnLooks$Reader" (53 : Nat) ({ cls := "TaxOnLooks$Reader", name := "must", desc := "(I)V" } : Jvm.MethodName)) ∈ lw_all := lw_g (lw_at lw_m4 136 rfl) rfl
theorem q938 : (Jvm.Cond.privateMethod ({ cls := "TaxOnLooks$Reader", name := "must", desc := "(I)V" } : Jvm.MethodName)) ∈ lw_tbl := lw_at lw_m4 137 rfl
theorem q939 : (Jvm.Cond.instanceMethod ({ cls := "TaxOnLooks$Reader", name := "must", desc := "(I)V" } : Jvm.MethodName)) ∈ lw_all := lw_g (lw_at lw_m4 138 rfl) rfl
theorem q940 : (Jvm.Cond.code ({ cls := "TaxOnLooks$Reader", name := "must", desc := "(I)V" } : Jvm.MethodName) prog_12_method_4_code (2 : Nat) (Option.none : Option Jvm.ClassFile.FieldType)) ∈ lw_all := lw_g (lw_at lw_m4 139 rfl) rfl
theorem q941 : (Jvm.Cond.classLink "TaxOnLooks$Reader" (41 : Nat) "TaxOnLooks$Faulty") ∈ lw_all := lw_g (lw_at lw_m4 140 rfl) rfl
theorem q950 : (Jvm.Cond.methodLink "TaxOnLooks$Reader" (43 : Nat) ({ cls := "TaxOnLooks$Faulty", name := "<init>", desc := "(I)V" } : Jvm.MethodName)) ∈ lw_all := lw_g (lw_at lw_m4 149 rfl) rfl
theorem q960 : (Jvm.Cond.methodLink "TaxOnLooks$Reader" (88 : Nat) ({ cls := "TaxOnLooks$Reader", name := "square", desc := "()I" } : Jvm.MethodName)) ∈ lw_all := lw_g (lw_at lw_m4 159 rfl) rfl
theorem q961 : (Jvm.Cond.privateMethod ({ cls := "TaxOnLooks$Reader", name := "square", desc := "()I" } : Jvm.MethodName)) ∈ lw_tbl := lw_at lw_m4 160 rfl
theorem q962 : (Jvm.Cond.instanceMethod ({ cls := "TaxOnLooks$Reader", name := "square", desc := "()I" } : Jvm.MethodName)) ∈ lw_all := lw_g (lw_at lw_m4 161 rfl) rfl
theorem q963 : (Jvm.Cond.code ({ cls := "TaxOnLooks$Reader", name := "square", desc := "()I" } : Jvm.MethodName) prog_12_method_10_code (1 : Nat) (Option.some Jvm.ClassFile.FieldType.int)) ∈ lw_all := lw_g (lw_at lw_m4 162 rfl) rfl
theorem q964 : (Jvm.Cond.methodLink "TaxOnLooks$Reader" (73 : Nat) ({ cls := "TaxOnLooks$Reader", name := "number", desc := "(II)I" } : Jvm.MethodName)) ∈ lw_all := lw_g (lw_at lw_m4 163 rfl) rfl
theorem q965 : (Jvm.Cond.privateMethod ({ cls := "TaxOnLooks$Reader", name := "number", desc := "(II)I" } : Jvm.MethodName)) ∈ lw_tbl := lw_at lw_m4 164 rfl
theorem q966 : (Jvm.Cond.instanceMethod ({ cls := "TaxOnLooks$Reader", name := "number", desc := "(II)I" } : Jvm.MethodName)) ∈ lw_all := lw_g (lw_at lw_m4 165 rfl) rfl
theorem q967 : (Jvm.Cond.code ({ cls := "TaxOnLooks$Reader", name := "number", desc := "(II)I" } : Jvm.MethodName) prog_12_method_7_code (5 : Nat) (Option.some Jvm.ClassFile.FieldType.int)) ∈ lw_all := lw_g (lw_at lw_m4 166 rfl) rfl
theorem q968 : (Jvm.Cond.methodLink "TaxOnLooks$Reader" (59 : Nat) ({ cls := "TaxOnLooks$Reader", name := "digit", desc := "()Z" } : Jvm.MethodName)) ∈ lw_all := lw_g (lw_at lw_m4 167 rfl) rfl
theorem q969 : (Jvm.Cond.privateMethod ({ cls := "TaxOnLooks$Reader", name := "digit", desc := "()Z" } : Jvm.MethodName)) ∈ lw_tbl := lw_at lw_m4 168 rfl
theorem q970 : (Jvm.Cond.instanceMethod ({ cls := "TaxOnLooks$Reader", name := "digit", desc := "()Z" } : Jvm.MethodName)) ∈ lw_all := lw_g (lw_at lw_m4 169 rfl) rfl
theorem q971 : (Jvm.Cond.code ({ cls := "TaxOnLooks$Reader", name := "digit", desc := "()Z" } : Jvm.MethodName) prog_12_method_6_code (1 : Nat) (Option.some Jvm.ClassFile.FieldType.boolean)) ∈ lw_all := lw_g (lw_at lw_m4 170 rfl) rfl
theorem q972 : (Jvm.Cond.methodLink "TaxOnLooks$Reader" (62 : Nat) ({ cls := "TaxOnLooks", name := "in", desc := "(JJJ)Z" } : Jvm.MethodName)) ∈ lw_all := lw_g (lw_at lw_m4 171 rfl) rfl
theorem q973 : (Jvm.Cond.methodLink "TaxOnLooks$Reader" (66 : Nat) ({ cls := "TaxOnLooks$Reader", name := "hasRoom", desc := "(ZI)V" } : Jvm.MethodName)) ∈ lw_all := lw_g (lw_at lw_m4 172 rfl) rfl
theorem q974 : (Jvm.Cond.privateMethod ({ cls := "TaxOnLooks$Reader", name := "hasRoom", desc := "(ZI)V" } : Jvm.MethodName)) ∈ lw_tbl := lw_at lw_m4 173 rfl
theorem q975 : (Jvm.Cond.instanceMethod ({ cls := "TaxOnLooks$Reader", name := "hasRoom", desc := "(ZI)V" } : Jvm.MethodName)) ∈ lw_all := lw_g (lw_at lw_m4 174 rfl) rfl
theorem q976 : (Jvm.Cond.code ({ cls := "TaxOnLooks$Reader", name := "hasRoom", desc := "(ZI)V" } : Jvm.MethodName) prog_12_method_8_code (3 : Nat) (Option.none : Option Jvm.ClassFile.FieldType)) ∈ lw_all := lw_g (lw_at lw_m4 175 rfl) rfl
theorem q977 : (Jvm.Cond.methodLink "TaxOnLooks$Reader" (104 : Nat) ({ cls := "TaxOnLooks$Town", name := "standAt", desc := "(I)I" } : Jvm.MethodName)) ∈ lw_all := lw_g (lw_at lw_m4 176 rfl) rfl
theorem q978 : (Jvm.Cond.stringRef "TaxOnLooks$Reader" (113 : Nat) "gap") ∈ lw_tbl := lw_at lw_m4 177 rfl
theorem q979 : (Jvm.Cond.constantLong "TaxOnLooks$Reader" (115 : Nat) (-1 : Int64)) ∈ lw_all := lw_g (lw_at lw_m4 178 rfl) rfl
theorem q980 : (Jvm.Cond.stringRef "TaxOnLooks$Reader" (117 : Nat) "balcony") ∈ lw_tbl := lw_at lw_m4 179 rfl
theorem q981 : (Jvm.Cond.methodLink "TaxOnLooks$Reader" (122 : Nat) ({ cls := "TaxOnLooks$Reader", name := "person", desc := "(I)V" } : Jvm.MethodName)) ∈ lw_all := lw_g (lw_at lw_m4 180 rfl) rfl
theorem q982 : (Jvm.Cond.privateMethod ({ cls := "TaxOnLooks$Reader", name := "person", desc := "(I)V" } : Jvm.MethodName)) ∈ lw_tbl := lw_at lw_m4 181 rfl
theorem q983 : (Jvm.Cond.instanceMethod ({ cls := "TaxOnLooks$Reader", name := "person", desc := "(I)V" } : Jvm.MethodName)) ∈ lw_all := lw_g (lw_at lw_m4 182 rfl) rfl
theorem q984 : (Jvm.Cond.code ({ cls := "TaxOnLooks$Reader", name := "person", desc := "(I)V" } : Jvm.MethodName) prog_12_method_11_code (8 : Nat) (Option.none : Option Jvm.ClassFile.FieldType)) ∈ lw_all := lw_g (lw_at lw_m4 183 rfl) rfl
theorem q985 : (Jvm.Cond.stringRef "TaxOnLooks$Reader" (77 : Nat) "person") ∈ lw_tbl := lw_at lw_m4 184 rfl
theorem q986 : (Jvm.Cond.methodLink "TaxOnLooks$Reader" (91 : Nat) ({ cls := "TaxOnLooks$Town", name := "isFree", desc := "(I)Z" } : Jvm.MethodName)) ∈ lw_all := lw_g (lw_at lw_m4 185 rfl) rfl
theorem q987 : (Jvm.Cond.methodLink "TaxOnLooks$Reader" (94 : Nat) ({ cls := "TaxOnLooks", name := "personOfKind", desc := "(IIII)LTaxOnLooks$Person;" } : Jvm.MethodName)) ∈ lw_all := lw_g (lw_at lw_m4 186 rfl) rfl
theorem q988 : (Jvm.Cond.methodLink "TaxOnLooks$Reader" (98 : Nat) ({ cls := "TaxOnLooks$Town", name := "addPerson", desc := "(LTaxOnLooks$Person;III)V" } : Jvm.MethodName)) ∈ lw_all := lw_g (lw_at lw_m4 187 rfl) rfl
theorem q989 : (Jvm.Cond.stringRef "TaxOnLooks$Reader" (124 : Nat) "sack") ∈ lw_tbl := lw_at lw_m4 188 rfl
theorem q990 : (Jvm.Cond.stringRef "TaxOnLooks$Reader" (129 : Nat) "mite") ∈ lw_tbl := lw_at lw_m4 189 rfl
theorem q991 : (Jvm.Cond.stringRef "TaxOnLooks$Reader" (133 : Nat) "reach") ∈ lw_tbl := lw_at lw_m4 190 rfl
theorem in_X19 : ∀ w ∈ wsX190, w ∈ lw_all := lw_in wsX190 [831, 833, 835, 837] (by decide +kernel) (by decide +kernel)

/-! TaxOnLooks$Town -/
set_option maxRecDepth 100000
def RX2 : String := "TaxOnLooks$Town"
def TX2 : u_T := fun k => match k with
  | 0 => ("TaxOnLooks$Town", "many", "I", false)
  | 1 => ("TaxOnLooks$Town", "mite", "I", false)
  | 2 => ("TaxOnLooks$Town", "reach", "I", false)
  | 3 => ("TaxOnLooks$Town", "rain", "Z", false)
  | 4 => ("TaxOnLooks$Town", "hours", "I", false)
  | 5 => ("TaxOnLooks$Town", "taken", "I", false)
  | 6 => ("TaxOnLooks$Town", "seed", "I", false)
  | 7 => ("TaxOnLooks$Town", "walls", "J", false)
  | 8 => ("TaxOnLooks$Town", "balconies", "J", false)
  | 9 => ("TaxOnLooks$Town", "sacks", "I", false)
  | 10 => ("TaxOnLooks$Town", "absent", "I", false)
  | 11 => ("TaxOnLooks$Town", "people", "[LTaxOnLooks$Person;", true)
  | 12 => ("TaxOnLooks$Town", "looks", "[I", true)
  | 13 => ("TaxOnLooks$Town", "purse", "[I", true)
  | _ => ("TaxOnLooks$Town", "at", "[I", true)
def tyX2 : Nat → FieldType := fun k => match k with
  | 0 => .int
  | 1 => .int
  | 2 => .int
  | 3 => .boolean
  | 4 => .int
  | 5 => .int
  | 6 => .int
  | 7 => .long
  | 8 => .long
  | 9 => .int
  | 10 => .int
  | 11 => .array (.object "TaxOnLooks$Person")
  | 12 => .array .int
  | 13 => .array .int
  | _ => .array .int
abbrev wsX20 : List Cond := u_ws RX2 TX2 15
set_option maxRecDepth 100000 in
theorem nmX2 : ∀ a, a < 15 → ∀ b, b < 15 → a ≠ b → (TX2 a).2.1 ≠ (TX2 b).2.1 := by decide +kernel
set_option maxRecDepth 100000 in
theorem tyX2_ok : ∀ k, k < 15 → parseFieldDescriptor (TX2 k).2.2.1 = some (tyX2 k) := by decide +kernel
abbrev cX2_init : ByteArray := prog_18_method_1_code
def yX2_init : MethodName := ⟨RX2, "<init>", "()V"⟩
def dkwX2_init_2 : List UInt8 := [181, 0, 34, 42, 16, 7, 188, 10, 181, 0, 37, 177]
abbrev dktX2_init_2 : List UInt8 := dkwX2_init_2 ++ []
def dkwX2_init_1 : List UInt8 := [42, 16, 7, 189, 0, 24, 181, 0, 26, 42, 16, 7, 188, 10, 181, 0, 30, 42, 16, 7, 188, 10]
abbrev dktX2_init_1 : List UInt8 := dkwX2_init_1 ++ dktX2_init_2
def dkwX2_init_0 : List UInt8 := [42, 183, 0, 3, 42, 4, 181, 0, 9, 42, 8, 181, 0, 15, 42, 4, 181, 0, 18, 42, 2, 181, 0, 21]
abbrev dktX2_init_0 : List UInt8 := dkwX2_init_0 ++ dktX2_init_1
theorem dksX2_init_0 : cX2_init.data.toList.drop 0 = dktX2_init_0 := by decide +kernel
theorem dksX2_init_1 : cX2_init.data.toList.drop 24 = dktX2_init_1 := dk_seg dksX2_init_0 24 rfl rfl
theorem dksX2_init_2 : cX2_init.data.toList.drop 46 = dktX2_init_2 := dk_seg dksX2_init_1 22 rfl rfl
theorem dX2_init_0 : decode cX2_init 0 = .ok (.aload_n 0, 1) := dk_42 (dk_at dksX2_init_0 0 rfl rfl)
theorem dX2_init_1 : decode cX2_init 1 = .ok (.invokespecial 3, 3) := dk_183 0 3 (dk_at dksX2_init_0 1 rfl rfl)
theorem dX2_init_4 : decode cX2_init 4 = .ok (.aload_n 0, 1) := dk_42 (dk_at dksX2_init_0 4 rfl rfl)
theorem dX2_init_5 : decode cX2_init 5 = .ok (.iconst 1, 1) := dk_4 (dk_at dksX2_init_0 5 rfl rfl)
theorem dX2_init_6 : decode cX2_init 6 = .ok (.putfield 9, 3) := dk_181 0 9 (dk_at dksX2_init_0 6 rfl rfl)
theorem dX2_init_9 : decode cX2_init 9 = .ok (.aload_n 0, 1) := dk_42 (dk_at dksX2_init_0 9 rfl rfl)
theorem dX2_init_10 : decode cX2_init 10 = .ok (.iconst 5, 1) := dk_8 (dk_at dksX2_init_0 10 rfl rfl)
theorem dX2_init_11 : decode cX2_init 11 = .ok (.putfield 15, 3) := dk_181 0 15 (dk_at dksX2_init_0 11 rfl rfl)
theorem dX2_init_14 : decode cX2_init 14 = .ok (.aload_n 0, 1) := dk_42 (dk_at dksX2_init_0 14 rfl rfl)
theorem dX2_init_15 : decode cX2_init 15 = .ok (.iconst 1, 1) := dk_4 (dk_at dksX2_init_0 15 rfl rfl)
theorem dX2_init_16 : decode cX2_init 16 = .ok (.putfield 18, 3) := dk_181 0 18 (dk_at dksX2_init_0 16 rfl rfl)
theorem dX2_init_19 : decode cX2_init 19 = .ok (.aload_n 0, 1) := dk_42 (dk_at dksX2_init_0 19 rfl rfl)
theorem dX2_init_20 : decode cX2_init 20 = .ok (.iconst (-1), 1) := dk_2 (dk_at dksX2_init_0 20 rfl rfl)
theorem dX2_init_21 : decode cX2_init 21 = .ok (.putfield 21, 3) := dk_181 0 21 (dk_at dksX2_init_0 21 rfl rfl)
theorem dX2_init_24 : decode cX2_init 24 = .ok (.aload_n 0, 1) := dk_42 (dk_at dksX2_init_1 0 rfl rfl)
theorem dX2_init_25 : decode cX2_init 25 = .ok (.bipush 7, 2) := dk_16 7 (dk_at dksX2_init_1 1 rfl rfl)
theorem dX2_init_27 : decode cX2_init 27 = .ok (.anewarray 24, 3) := dk_189 0 24 (dk_at dksX2_init_1 3 rfl rfl)
theorem dX2_init_30 : decode cX2_init 30 = .ok (.putfield 26, 3) := dk_181 0 26 (dk_at dksX2_init_1 6 rfl rfl)
theorem dX2_init_33 : decode cX2_init 33 = .ok (.aload_n 0, 1) := dk_42 (dk_at dksX2_init_1 9 rfl rfl)
theorem dX2_init_34 : decode cX2_init 34 = .ok (.bipush 7, 2) := dk_16 7 (dk_at dksX2_init_1 10 rfl rfl)
theorem dX2_init_36 : decode cX2_init 36 = .ok (.newarray .int, 2) := dk_188_10 (dk_at dksX2_init_1 12 rfl rfl)
theorem dX2_init_38 : decode cX2_init 38 = .ok (.putfield 30, 3) := dk_181 0 30 (dk_at dksX2_init_1 14 rfl rfl)
theorem dX2_init_41 : decode cX2_init 41 = .ok (.aload_n 0, 1) := dk_42 (dk_at dksX2_init_1 17 rfl rfl)
theorem dX2_init_42 : decode cX2_init 42 = .ok (.bipush 7, 2) := dk_16 7 (dk_at dksX2_init_1 18 rfl rfl)
theorem dX2_init_44 : decode cX2_init 44 = .ok (.newarray .int, 2) := dk_188_10 (dk_at dksX2_init_1 20 rfl rfl)
theorem dX2_init_46 : decode cX2_init 46 = .ok (.putfield 34, 3) := dk_181 0 34 (dk_at dksX2_init_2 0 rfl rfl)
theorem dX2_init_49 : decode cX2_init 49 = .ok (.aload_n 0, 1) := dk_42 (dk_at dksX2_init_2 3 rfl rfl)
theorem dX2_init_50 : decode cX2_init 50 = .ok (.bipush 7, 2) := dk_16 7 (dk_at dksX2_init_2 4 rfl rfl)
theorem dX2_init_52 : decode cX2_init 52 = .ok (.newarray .int, 2) := dk_188_10 (dk_at dksX2_init_2 6 rfl rfl)
theorem dX2_init_54 : decode cX2_init 54 = .ok (.putfield 37, 3) := dk_181 0 37 (dk_at dksX2_init_2 8 rfl rfl)
theorem dX2_init_57 : decode cX2_init 57 = .ok (.return_, 1) := dk_177 (dk_at dksX2_init_2 11 rfl rfl)
abbrev cX2_isPerson : ByteArray := prog_18_method_4_code
def yX2_isPerson : MethodName := ⟨RX2, "isPerson", "(I)Z"⟩
def dkwX2_isPerson_0 : List UInt8 := [27, 155, 0, 15, 27, 42, 180, 0, 40, 162, 0, 7, 4, 167, 0, 4, 3, 172]
abbrev dktX2_isPerson_0 : List UInt8 := dkwX2_isPerson_0 ++ []
theorem dksX2_isPerson_0 : cX2_isPerson.data.toList.drop 0 = dktX2_isPerson_0 := by decide +kernel
theorem dX2_isPerson_0 : decode cX2_isPerson 0 = .ok (.iload_n 1, 1) := dk_27 (dk_at dksX2_isPerson_0 0 rfl rfl)
theorem dX2_isPerson_1 : decode cX2_isPerson 1 = .ok (.ifCond .lt 15, 3) := dk_155 0 15 (dk_at dksX2_isPerson_0 1 rfl rfl)
theorem dX2_isPerson_4 : decode cX2_isPerson 4 = .ok (.iload_n 1, 1) := dk_27 (dk_at dksX2_isPerson_0 4 rfl rfl)
theorem dX2_isPerson_5 : decode cX2_isPerson 5 = .ok (.aload_n 0, 1) := dk_42 (dk_at dksX2_isPerson_0 5 rfl rfl)
theorem dX2_isPerson_6 : decode cX2_isPerson 6 = .ok (.getfield 40, 3) := dk_180 0 40 (dk_at dksX2_isPerson_0 6 rfl rfl)
theorem dX2_isPerson_9 : decode cX2_isPerson 9 = .ok (.if_icmp .ge 7, 3) := dk_162 0 7 (dk_at dksX2_isPerson_0 9 rfl rfl)
theorem dX2_isPerson_12 : decode cX2_isPerson 12 = .ok (.iconst 1, 1) := dk_4 (dk_at dksX2_isPerson_0 12 rfl rfl)
theorem dX2_isPerson_13 : decode cX2_isPerson 13 = .ok (.goto 4, 3) := dk_167 0 4 (dk_at dksX2_isPerson_0 13 rfl rfl)
theorem dX2_isPerson_16 : decode cX2_isPerson 16 = .ok (.iconst 0, 1) := dk_3 (dk_at dksX2_isPerson_0 16 rfl rfl)
theorem dX2_isPerson_17 : decode cX2_isPerson 17 = .ok (.ireturn, 1) := dk_172 (dk_at dksX2_isPerson_0 17 rfl rfl)
abbrev cX2_show : ByteArray := prog_18_method_11_code
def yX2_show : MethodName := ⟨RX2, "show", "(I)I"⟩
def dkwX2_show_1 : List UInt8 := [153, 0, 7, 3, 167, 0, 17, 42, 180, 0, 43, 153, 0, 9, 28, 5, 108, 167, 0, 4, 28, 172]
abbrev dktX2_show_1 : List UInt8 := dkwX2_show_1 ++ []
def dkwX2_show_0 : List UInt8 := [42, 180, 0, 26, 27, 50, 42, 180, 0, 30, 27, 46, 182, 0, 93, 61, 42, 180, 0, 60, 27, 122, 4, 126]
abbrev dktX2_show_0 : List UInt8 := dkwX2_show_0 ++ dktX2_show_1
theorem dksX2_show_0 : cX2_show.data.toList.drop 0 = dktX2_show_0 := by decide +kernel
theorem dksX2_show_1 : cX2_show.data.toList.drop 24 = dktX2_show_1 := dk_seg dksX2_show_0 24 rfl rfl
theorem dX2_show_0 : decode cX2_show 0 = .ok (.aload_n 0, 1) := dk_42 (dk_at dksX2_show_0 0 rfl rfl)
theorem dX2_show_1 : decode cX2_show 1 = .ok (.getfield 26, 3) := dk_180 0 26 (dk_at dksX2_show_0 1 rfl rfl)
theorem dX2_show_4 : decode cX2_show 4 = .ok (.iload_n 1, 1) := dk_27 (dk_at dksX2_show_0 4 rfl rfl)
theorem dX2_show_5 : decode cX2_show 5 = .ok (.aaload, 1) := dk_50 (dk_at dksX2_show_0 5 rfl rfl)
theorem dX2_show_6 : decode cX2_show 6 = .ok (.aload_n 0, 1) := dk_42 (dk_at dksX2_show_0 6 rfl rfl)
theorem dX2_show_7 : decode cX2_show 7 = .ok (.getfield 30, 3) := dk_180 0 30 (dk_at dksX2_show_0 7 rfl rfl)
theorem dX2_show_10 : decode cX2_show 10 = .ok (.iload_n 1, 1) := dk_27 (dk_at dksX2_show_0 10 rfl rfl)
theorem dX2_show_11 : decode cX2_show 11 = .ok (.iaload, 1) := dk_46 (dk_at dksX2_show_0 11 rfl rfl)
theorem dX2_show_12 : decode cX2_show 12 = .ok (.invokevirtual 93, 3) := dk_182 0 93 (dk_at dksX2_show_0 12 rfl rfl)
theorem dX2_show_15 : decode cX2_show 15 = .ok (.istore_n 2, 1) := dk_61 (dk_at dksX2_show_0 15 rfl rfl)
theorem dX2_show_16 : decode cX2_show 16 = .ok (.aload_n 0, 1) := dk_42 (dk_at dksX2_show_0 16 rfl rfl)
theorem dX2_show_17 : decode cX2_show 17 = .ok (.getfield 60, 3) := dk_180 0 60 (dk_at dksX2_show_0 17 rfl rfl)
theorem dX2_show_20 : decode cX2_show 20 = .ok (.iload_n 1, 1) := dk_27 (dk_at dksX2_show_0 20 rfl rfl)
theorem dX2_show_21 : decode cX2_show 21 = .ok (.ishr, 1) := dk_122 (dk_at dksX2_show_0 21 rfl rfl)
theorem dX2_show_22 : decode cX2_show 22 = .ok (.iconst 1, 1) := dk_4 (dk_at dksX2_show_0 22 rfl rfl)
theorem dX2_show_23 : decode cX2_show 23 = .ok (.iand, 1) := dk_126 (dk_at dksX2_show_0 23 rfl rfl)
theorem dX2_show_24 : decode cX2_show 24 = .ok (.ifCond .eq 7, 3) := dk_153 0 7 (dk_at dksX2_show_1 0 rfl rfl)
theorem dX2_show_27 : decode cX2_show 27 = .ok (.iconst 0, 1) := dk_3 (dk_at dksX2_show_1 3 rfl rfl)
theorem dX2_show_28 : decode cX2_show 28 = .ok (.goto 17, 3) := dk_167 0 17 (dk_at dksX2_show_1 4 rfl rfl)
theorem dX2_show_31 : decode cX2_show 31 = .ok (.aload_n 0, 1) := dk_42 (dk_at dksX2_show_1 7 rfl rfl)
theorem dX2_show_32 : decode cX2_show 32 = .ok (.getfield 43, 3) := dk_180 0 43 (dk_at dksX2_show_1 8 rfl rfl)
theorem dX2_show_35 : decode cX2_show 35 = .ok (.ifCond .eq 9, 3) := dk_153 0 9 (dk_at dksX2_show_1 11 rfl rfl)
theorem dX2_show_38 : decode cX2_show 38 = .ok (.iload_n 2, 1) := dk_28 (dk_at dksX2_show_1 14 rfl rfl)
theorem dX2_show_39 : decode cX2_show 39 = .ok (.iconst 2, 1) := dk_5 (dk_at dksX2_show_1 15 rfl rfl)
theorem dX2_show_40 : decode cX2_show 40 = .ok (.idiv, 1) := dk_108 (dk_at dksX2_show_1 16 rfl rfl)
theorem dX2_show_41 : decode cX2_show 41 = .ok (.goto 4, 3) := dk_167 0 4 (dk_at dksX2_show_1 17 rfl rfl)
theorem dX2_show_44 : decode cX2_show 44 = .ok (.iload_n 2, 1) := dk_28 (dk_at dksX2_show_1 20 rfl rfl)
theorem dX2_show_45 : decode cX2_show 45 = .ok (.ireturn, 1) := dk_172 (dk_at dksX2_show_1 21 rfl rfl)
abbrev cX2_isFree : ByteArray := prog_18_method_6_code
def yX2_isFree : MethodName := ⟨RX2, "isFree", "(I)Z"⟩
def dkwX2_isFree_0 : List UInt8 := [27, 155, 0, 21, 27, 16, 36, 162, 0, 15, 42, 27, 182, 0, 69, 154, 0, 7, 4, 167, 0, 4, 3, 172]
abbrev dktX2_isFree_0 : List UInt8 := dkwX2_isFree_0 ++ []
theorem dksX2_isFree_0 : cX2_isFree.data.toList.drop 0 = dktX2_isFree_0 := by decide +kernel
theorem dX2_isFree_0 : decode cX2_isFree 0 = .ok (.iload_n 1, 1) := dk_27 (dk_at dksX2_isFree_0 0 rfl rfl)
theorem dX2_isFree_1 : decode cX2_isFree 1 = .ok (.ifCond .lt 21, 3) := dk_155 0 21 (dk_at dksX2_isFree_0 1 rfl rfl)
theorem dX2_isFree_4 : decode cX2_isFree 4 = .ok (.iload_n 1, 1) := dk_27 (dk_at dksX2_isFree_0 4 rfl rfl)
theorem dX2_isFree_5 : decode cX2_isFree 5 = .ok (.bipush 36, 2) := dk_16 36 (dk_at dksX2_isFree_0 5 rfl rfl)
theorem dX2_isFree_7 : decode cX2_isFree 7 = .ok (.if_icmp .ge 15, 3) := dk_162 0 15 (dk_at dksX2_isFree_0 7 rfl rfl)
theorem dX2_isFree_10 : decode cX2_isFree 10 = .ok (.aload_n 0, 1) := dk_42 (dk_at dksX2_isFree_0 10 rfl rfl)
theorem dX2_isFree_11 : decode cX2_isFree 11 = .ok (.iload_n 1, 1) := dk_27 (dk_at dksX2_isFree_0 11 rfl rfl)
theorem dX2_isFree_12 : decode cX2_isFree 12 = .ok (.invokevirtual 69, 3) := dk_182 0 69 (dk_at dksX2_isFree_0 12 rfl rfl)
theorem dX2_isFree_15 : decode cX2_isFree 15 = .ok (.ifCond .ne 7, 3) := dk_154 0 7 (dk_at dksX2_isFree_0 15 rfl rfl)
theorem dX2_isFree_18 : decode cX2_isFree 18 = .ok (.iconst 1, 1) := dk_4 (dk_at dksX2_isFree_0 18 rfl rfl)
theorem dX2_isFree_19 : decode cX2_isFree 19 = .ok (.goto 4, 3) := dk_167 0 4 (dk_at dksX2_isFree_0 19 rfl rfl)
theorem dX2_isFree_22 : decode cX2_isFree 22 = .ok (.iconst 0, 1) := dk_3 (dk_at dksX2_isFree_0 22 rfl rfl)
theorem dX2_isFree_23 : decode cX2_isFree 23 = .ok (.ireturn, 1) := dk_172 (dk_at dksX2_isFree_0 23 rfl rfl)
abbrev cX2_isWall : ByteArray := prog_18_method_5_code
def yX2_isWall : MethodName := ⟨RX2, "isWall", "(I)Z"⟩
def dkwX2_isWall_0 : List UInt8 := [42, 180, 0, 53, 27, 123, 10, 127, 9, 148, 153, 0, 7, 4, 167, 0, 4, 3, 172]
abbrev dktX2_isWall_0 : List UInt8 := dkwX2_isWall_0 ++ []
theorem dksX2_isWall_0 : cX2_isWall.data.toList.drop 0 = dktX2_isWall_0 := by decide +kernel
theorem dX2_isWall_0 : decode cX2_isWall 0 = .ok (.aload_n 0, 1) := dk_42 (dk_at dksX2_isWall_0 0 rfl rfl)
theorem dX2_isWall_1 : decode cX2_isWall 1 = .ok (.getfield 53, 3) := dk_180 0 53 (dk_at dksX2_isWall_0 1 rfl rfl)
theorem dX2_isWall_4 : decode cX2_isWall 4 = .ok (.iload_n 1, 1) := dk_27 (dk_at dksX2_isWall_0 4 rfl rfl)
theorem dX2_isWall_5 : decode cX2_isWall 5 = .ok (.lshr, 1) := dk_123 (dk_at dksX2_isWall_0 5 rfl rfl)
theorem dX2_isWall_6 : decode cX2_isWall 6 = .ok (.lconst 1, 1) := dk_10 (dk_at dksX2_isWall_0 6 rfl rfl)
theorem dX2_isWall_7 : decode cX2_isWall 7 = .ok (.land, 1) := dk_127 (dk_at dksX2_isWall_0 7 rfl rfl)
theorem dX2_isWall_8 : decode cX2_isWall 8 = .ok (.lconst 0, 1) := dk_9 (dk_at dksX2_isWall_0 8 rfl rfl)
theorem dX2_isWall_9 : decode cX2_isWall 9 = .ok (.lcmp, 1) := dk_148 (dk_at dksX2_isWall_0 9 rfl rfl)
theorem dX2_isWall_10 : decode cX2_isWall 10 = .ok (.ifCond .eq 7, 3) := dk_153 0 7 (dk_at dksX2_isWall_0 10 rfl rfl)
theorem dX2_isWall_13 : decode cX2_isWall 13 = .ok (.iconst 1, 1) := dk_4 (dk_at dksX2_isWall_0 13 rfl rfl)
theorem dX2_isWall_14 : decode cX2_isWall 14 = .ok (.goto 4, 3) := dk_167 0 4 (dk_at dksX2_isWall_0 14 rfl rfl)
theorem dX2_isWall_17 : decode cX2_isWall 17 = .ok (.iconst 0, 1) := dk_3 (dk_at dksX2_isWall_0 17 rfl rfl)
theorem dX2_isWall_18 : decode cX2_isWall 18 = .ok (.ireturn, 1) := dk_172 (dk_at dksX2_isWall_0 18 rfl rfl)
abbrev cX2_addPerson : ByteArray := prog_18_method_3_code
def yX2_addPerson : MethodName := ⟨RX2, "addPerson", "(LTaxOnLooks$Person;III)V"⟩
def dkwX2_addPerson_2 : List UInt8 := [180, 0, 40, 120, 2, 130, 126, 181, 0, 60, 42, 89, 180, 0, 40, 4, 96, 181, 0, 40, 177]
abbrev dktX2_addPerson_2 : List UInt8 := dkwX2_addPerson_2 ++ []
def dkwX2_addPerson_1 : List UInt8 := [42, 180, 0, 40, 29, 79, 42, 180, 0, 37, 42, 180, 0, 40, 21, 4, 79, 42, 89, 180, 0, 60, 4, 42]
abbrev dktX2_addPerson_1 : List UInt8 := dkwX2_addPerson_1 ++ dktX2_addPerson_2
def dkwX2_addPerson_0 : List UInt8 := [42, 180, 0, 26, 42, 180, 0, 40, 43, 83, 42, 180, 0, 30, 42, 180, 0, 40, 28, 79, 42, 180, 0, 34]
abbrev dktX2_addPerson_0 : List UInt8 := dkwX2_addPerson_0 ++ dktX2_addPerson_1
theorem dksX2_addPerson_0 : cX2_addPerson.data.toList.drop 0 = dktX2_addPerson_0 := by decide +kernel
theorem dksX2_addPerson_1 : cX2_addPerson.data.toList.drop 24 = dktX2_addPerson_1 := dk_seg dksX2_addPerson_0 24 rfl rfl
theorem dksX2_addPerson_2 : cX2_addPerson.data.toList.drop 48 = dktX2_addPerson_2 := dk_seg dksX2_addPerson_1 24 rfl rfl
theorem dX2_addPerson_0 : decode cX2_addPerson 0 = .ok (.aload_n 0, 1) := dk_42 (dk_at dksX2_addPerson_0 0 rfl rfl)
theorem dX2_addPerson_1 : decode cX2_addPerson 1 = .ok (.getfield 26, 3) := dk_180 0 26 (dk_at dksX2_addPerson_0 1 rfl rfl)
theorem dX2_addPerson_4 : decode cX2_addPerson 4 = .ok (.aload_n 0, 1) := dk_42 (dk_at dksX2_addPerson_0 4 rfl rfl)
theorem dX2_addPerson_5 : decode cX2_addPerson 5 = .ok (.getfield 40, 3) := dk_180 0 40 (dk_at dksX2_addPerson_0 5 rfl rfl)
theorem dX2_addPerson_8 : decode cX2_addPerson 8 = .ok (.aload_n 1, 1) := dk_43 (dk_at dksX2_addPerson_0 8 rfl rfl)
theorem dX2_addPerson_9 : decode cX2_addPerson 9 = .ok (.aastore, 1) := dk_83 (dk_at dksX2_addPerson_0 9 rfl rfl)
theorem dX2_addPerson_10 : decode cX2_addPerson 10 = .ok (.aload_n 0, 1) := dk_42 (dk_at dksX2_addPerson_0 10 rfl rfl)
theorem dX2_addPerson_11 : decode cX2_addPerson 11 = .ok (.getfield 30, 3) := dk_180 0 30 (dk_at dksX2_addPerson_0 11 rfl rfl)
theorem dX2_addPerson_14 : decode cX2_addPerson 14 = .ok (.aload_n 0, 1) := dk_42 (dk_at dksX2_addPerson_0 14 rfl rfl)
theorem dX2_addPerson_15 : decode cX2_addPerson 15 = .ok (.getfield 40, 3) := dk_180 0 40 (dk_at dksX2_addPerson_0 15 rfl rfl)
theorem dX2_addPerson_18 : decode cX2_addPerson 18 = .ok (.iload_n 2, 1) := dk_28 (dk_at dksX2_addPerson_0 18 rfl rfl)
theorem dX2_addPerson_19 : decode cX2_addPerson 19 = .ok (.iastore, 1) := dk_79 (dk_at dksX2_addPerson_0 19 rfl rfl)
theorem dX2_addPerson_20 : decode cX2_addPerson 20 = .ok (.aload_n 0, 1) := dk_42 (dk_at dksX2_addPerson_0 20 rfl rfl)
theorem dX2_addPerson_21 : decode cX2_addPerson 21 = .ok (.getfield 34, 3) := dk_180 0 34 (dk_at dksX2_addPerson_0 21 rfl rfl)
theorem dX2_addPerson_24 : decode cX2_addPerson 24 = .ok (.aload_n 0, 1) := dk_42 (dk_at dksX2_addPerson_1 0 rfl rfl)
theorem dX2_addPerson_25 : decode cX2_addPerson 25 = .ok (.getfield 40, 3) := dk_180 0 40 (dk_at dksX2_addPerson_1 1 rfl rfl)
theorem dX2_addPerson_28 : decode cX2_addPerson 28 = .ok (.iload_n 3, 1) := dk_29 (dk_at dksX2_addPerson_1 4 rfl rfl)
theorem dX2_addPerson_29 : decode cX2_addPerson 29 = .ok (.iastore, 1) := dk_79 (dk_at dksX2_addPerson_1 5 rfl rfl)
theorem dX2_addPerson_30 : decode cX2_addPerson 30 = .ok (.aload_n 0, 1) := dk_42 (dk_at dksX2_addPerson_1 6 rfl rfl)
theorem dX2_addPerson_31 : decode cX2_addPerson 31 = .ok (.getfield 37, 3) := dk_180 0 37 (dk_at dksX2_addPerson_1 7 rfl rfl)
theorem dX2_addPerson_34 : decode cX2_addPerson 34 = .ok (.aload_n 0, 1) := dk_42 (dk_at dksX2_addPerson_1 10 rfl rfl)
theorem dX2_addPerson_35 : decode cX2_addPerson 35 = .ok (.getfield 40, 3) := dk_180 0 40 (dk_at dksX2_addPerson_1 11 rfl rfl)
theorem dX2_addPerson_38 : decode cX2_addPerson 38 = .ok (.iload 4, 2) := dk_21 4 (dk_at dksX2_addPerson_1 14 rfl rfl)
theorem dX2_addPerson_40 : decode cX2_addPerson 40 = .ok (.iastore, 1) := dk_79 (dk_at dksX2_addPerson_1 16 rfl rfl)
theorem dX2_addPerson_41 : decode cX2_addPerson 41 = .ok (.aload_n 0, 1) := dk_42 (dk_at dksX2_addPerson_1 17 rfl rfl)
theorem dX2_addPerson_42 : decode cX2_addPerson 42 = .ok (.dup, 1) := dk_89 (dk_at dksX2_addPerson_1 18 rfl rfl)
theorem dX2_addPerson_43 : decode cX2_addPerson 43 = .ok (.getfield 60, 3) := dk_180 0 60 (dk_at dksX2_addPerson_1 19 rfl rfl)
theorem dX2_addPerson_46 : decode cX2_addPerson 46 = .ok (.iconst 1, 1) := dk_4 (dk_at dksX2_addPerson_1 22 rfl rfl)
theorem dX2_addPerson_47 : decode cX2_addPerson 47 = .ok (.aload_n 0, 1) := dk_42 (dk_at dksX2_addPerson_1 23 rfl rfl)
theorem dX2_addPerson_48 : decode cX2_addPerson 48 = .ok (.getfield 40, 3) := dk_180 0 40 (dk_at dksX2_addPerson_2 0 rfl rfl)
theorem dX2_addPerson_51 : decode cX2_addPerson 51 = .ok (.ishl, 1) := dk_120 (dk_at dksX2_addPerson_2 3 rfl rfl)
theorem dX2_addPerson_52 : decode cX2_addPerson 52 = .ok (.iconst (-1), 1) := dk_2 (dk_at dksX2_addPerson_2 4 rfl rfl)
theorem dX2_addPerson_53 : decode cX2_addPerson 53 = .ok (.ixor, 1) := dk_130 (dk_at dksX2_addPerson_2 5 rfl rfl)
theorem dX2_addPerson_54 : decode cX2_addPerson 54 = .ok (.iand, 1) := dk_126 (dk_at dksX2_addPerson_2 6 rfl rfl)
theorem dX2_addPerson_55 : decode cX2_addPerson 55 = .ok (.putfield 60, 3) := dk_181 0 60 (dk_at dksX2_addPerson_2 7 rfl rfl)
theorem dX2_addPerson_58 : decode cX2_addPerson 58 = .ok (.aload_n 0, 1) := dk_42 (dk_at dksX2_addPerson_2 10 rfl rfl)
theorem dX2_addPerson_59 : decode cX2_addPerson 59 = .ok (.dup, 1) := dk_89 (dk_at dksX2_addPerson_2 11 rfl rfl)
theorem dX2_addPerson_60 : decode cX2_addPerson 60 = .ok (.getfield 40, 3) := dk_180 0 40 (dk_at dksX2_addPerson_2 12 rfl rfl)
theorem dX2_addPerson_63 : decode cX2_addPerson 63 = .ok (.iconst 1, 1) := dk_4 (dk_at dksX2_addPerson_2 15 rfl rfl)
theorem dX2_addPerson_64 : decode cX2_addPerson 64 = .ok (.iadd, 1) := dk_96 (dk_at dksX2_addPerson_2 16 rfl rfl)
theorem dX2_addPerson_65 : decode cX2_addPerson 65 = .ok (.putfield 40, 3) := dk_181 0 40 (dk_at dksX2_addPerson_2 17 rfl rfl)
theorem dX2_addPerson_68 : decode cX2_addPerson 68 = .ok (.return_, 1) := dk_177 (dk_at dksX2_addPerson_2 20 rfl rfl)
abbrev cX2_standAt : ByteArray := prog_18_method_7_code
def yX2_standAt : MethodName := ⟨RX2, "standAt", "(I)I"⟩
def dkwX2_standAt_1 : List UInt8 := [29, 120, 167, 0, 4, 3, 128, 61, 132, 3, 1, 167, 255, 225, 28, 172]
abbrev dktX2_standAt_1 : List UInt8 := dkwX2_standAt_1 ++ []
def dkwX2_standAt_0 : List UInt8 := [3, 61, 3, 62, 29, 42, 180, 0, 40, 162, 0, 29, 28, 42, 180, 0, 37, 29, 46, 27, 160, 0, 9, 4]
abbrev dktX2_standAt_0 : List UInt8 := dkwX2_standAt_0 ++ dktX2_standAt_1
theorem dksX2_standAt_0 : cX2_standAt.data.toList.drop 0 = dktX2_standAt_0 := by decide +kernel
theorem dksX2_standAt_1 : cX2_standAt.data.toList.drop 24 = dktX2_standAt_1 := dk_seg dksX2_standAt_0 24 rfl rfl
theorem dX2_standAt_0 : decode cX2_standAt 0 = .ok (.iconst 0, 1) := dk_3 (dk_at dksX2_standAt_0 0 rfl rfl)
theorem dX2_standAt_1 : decode cX2_standAt 1 = .ok (.istore_n 2, 1) := dk_61 (dk_at dksX2_standAt_0 1 rfl rfl)
theorem dX2_standAt_2 : decode cX2_standAt 2 = .ok (.iconst 0, 1) := dk_3 (dk_at dksX2_standAt_0 2 rfl rfl)
theorem dX2_standAt_3 : decode cX2_standAt 3 = .ok (.istore_n 3, 1) := dk_62 (dk_at dksX2_standAt_0 3 rfl rfl)
theorem dX2_standAt_4 : decode cX2_standAt 4 = .ok (.iload_n 3, 1) := dk_29 (dk_at dksX2_standAt_0 4 rfl rfl)
theorem dX2_standAt_5 : decode cX2_standAt 5 = .ok (.aload_n 0, 1) := dk_42 (dk_at dksX2_standAt_0 5 rfl rfl)
theorem dX2_standAt_6 : decode cX2_standAt 6 = .ok (.getfield 40, 3) := dk_180 0 40 (dk_at dksX2_standAt_0 6 rfl rfl)
theorem dX2_standAt_9 : decode cX2_standAt 9 = .ok (.if_icmp .ge 29, 3) := dk_162 0 29 (dk_at dksX2_standAt_0 9 rfl rfl)
theorem dX2_standAt_12 : decode cX2_standAt 12 = .ok (.iload_n 2, 1) := dk_28 (dk_at dksX2_standAt_0 12 rfl rfl)
theorem dX2_standAt_13 : decode cX2_standAt 13 = .ok (.aload_n 0, 1) := dk_42 (dk_at dksX2_standAt_0 13 rfl rfl)
theorem dX2_standAt_14 : decode cX2_standAt 14 = .ok (.getfield 37, 3) := dk_180 0 37 (dk_at dksX2_standAt_0 14 rfl rfl)
theorem dX2_standAt_17 : decode cX2_standAt 17 = .ok (.iload_n 3, 1) := dk_29 (dk_at dksX2_standAt_0 17 rfl rfl)
theorem dX2_standAt_18 : decode cX2_standAt 18 = .ok (.iaload, 1) := dk_46 (dk_at dksX2_standAt_0 18 rfl rfl)
theorem dX2_standAt_19 : decode cX2_standAt 19 = .ok (.iload_n 1, 1) := dk_27 (dk_at dksX2_standAt_0 19 rfl rfl)
theorem dX2_standAt_20 : decode cX2_standAt 20 = .ok (.if_icmp .ne 9, 3) := dk_160 0 9 (dk_at dksX2_standAt_0 20 rfl rfl)
theorem dX2_standAt_23 : decode cX2_standAt 23 = .ok (.iconst 1, 1) := dk_4 (dk_at dksX2_standAt_0 23 rfl rfl)
theorem dX2_standAt_24 : decode cX2_standAt 24 = .ok (.iload_n 3, 1) := dk_29 (dk_at dksX2_standAt_1 0 rfl rfl)
theorem dX2_standAt_25 : decode cX2_standAt 25 = .ok (.ishl, 1) := dk_120 (dk_at dksX2_standAt_1 1 rfl rfl)
theorem dX2_standAt_26 : decode cX2_standAt 26 = .ok (.goto 4, 3) := dk_167 0 4 (dk_at dksX2_standAt_1 2 rfl rfl)
theorem dX2_standAt_29 : decode cX2_standAt 29 = .ok (.iconst 0, 1) := dk_3 (dk_at dksX2_standAt_1 5 rfl rfl)
theorem dX2_standAt_30 : decode cX2_standAt 30 = .ok (.ior, 1) := dk_128 (dk_at dksX2_standAt_1 6 rfl rfl)
theorem dX2_standAt_31 : decode cX2_standAt 31 = .ok (.istore_n 2, 1) := dk_61 (dk_at dksX2_standAt_1 7 rfl rfl)
theorem dX2_standAt_32 : decode cX2_standAt 32 = .ok (.iinc 3 1, 3) := dk_132 3 1 (dk_at dksX2_standAt_1 8 rfl rfl)
theorem dX2_standAt_35 : decode cX2_standAt 35 = .ok (.goto (-31), 3) := dk_167 255 225 (dk_at dksX2_standAt_1 11 rfl rfl)
theorem dX2_standAt_38 : decode cX2_standAt 38 = .ok (.iload_n 2, 1) := dk_28 (dk_at dksX2_standAt_1 14 rfl rfl)
theorem dX2_standAt_39 : decode cX2_standAt 39 = .ok (.ireturn, 1) := dk_172 (dk_at dksX2_standAt_1 15 rfl rfl)
abbrev cX2_take : ByteArray := prog_18_method_2_code
def yX2_take : MethodName := ⟨RX2, "take", "(LTaxOnLooks$Town;)LTaxOnLooks$Town;"⟩
def dkwX2_take_6 : List UInt8 := [180, 0, 37, 3, 42, 180, 0, 40, 184, 0, 63, 42, 176]
abbrev dktX2_take_6 : List UInt8 := dkwX2_take_6 ++ []
def dkwX2_take_5 : List UInt8 := [180, 0, 34, 3, 42, 180, 0, 34, 3, 42, 180, 0, 40, 184, 0, 63, 43, 180, 0, 37, 3, 42]
abbrev dktX2_take_5 : List UInt8 := dkwX2_take_5 ++ dktX2_take_6
def dkwX2_take_4 : List UInt8 := [180, 0, 40, 184, 0, 63, 43, 180, 0, 30, 3, 42, 180, 0, 30, 3, 42, 180, 0, 40, 184, 0, 63, 43]
abbrev dktX2_take_4 : List UInt8 := dkwX2_take_4 ++ dktX2_take_5
def dkwX2_take_3 : List UInt8 := [42, 43, 180, 0, 60, 181, 0, 60, 42, 2, 181, 0, 21, 43, 180, 0, 26, 3, 42, 180, 0, 26, 3, 42]
abbrev dktX2_take_3 : List UInt8 := dkwX2_take_3 ++ dktX2_take_4
def dkwX2_take_2 : List UInt8 := [42, 43, 180, 0, 18, 181, 0, 18, 42, 43, 180, 0, 53, 181, 0, 53, 42, 43, 180, 0, 57, 181, 0, 57]
abbrev dktX2_take_2 : List UInt8 := dkwX2_take_2 ++ dktX2_take_3
def dkwX2_take_1 : List UInt8 := [42, 43, 180, 0, 43, 181, 0, 43, 42, 43, 180, 0, 47, 181, 0, 47, 42, 43, 180, 0, 50, 181, 0, 50]
abbrev dktX2_take_1 : List UInt8 := dkwX2_take_1 ++ dktX2_take_2
def dkwX2_take_0 : List UInt8 := [42, 43, 180, 0, 40, 181, 0, 40, 42, 43, 180, 0, 9, 181, 0, 9, 42, 43, 180, 0, 15, 181, 0, 15]
abbrev dktX2_take_0 : List UInt8 := dkwX2_take_0 ++ dktX2_take_1
theorem dksX2_take_0 : cX2_take.data.toList.drop 0 = dktX2_take_0 := by decide +kernel
theorem dksX2_take_1 : cX2_take.data.toList.drop 24 = dktX2_take_1 := dk_seg dksX2_take_0 24 rfl rfl
theorem dksX2_take_2 : cX2_take.data.toList.drop 48 = dktX2_take_2 := dk_seg dksX2_take_1 24 rfl rfl
theorem dksX2_take_3 : cX2_take.data.toList.drop 72 = dktX2_take_3 := dk_seg dksX2_take_2 24 rfl rfl
theorem dksX2_take_4 : cX2_take.data.toList.drop 96 = dktX2_take_4 := dk_seg dksX2_take_3 24 rfl rfl
theorem dksX2_take_5 : cX2_take.data.toList.drop 120 = dktX2_take_5 := dk_seg dksX2_take_4 24 rfl rfl
theorem dksX2_take_6 : cX2_take.data.toList.drop 142 = dktX2_take_6 := dk_seg dksX2_take_5 22 rfl rfl
theorem dX2_take_0 : decode cX2_take 0 = .ok (.aload_n 0, 1) := dk_42 (dk_at dksX2_take_0 0 rfl rfl)
theorem dX2_take_1 : decode cX2_take 1 = .ok (.aload_n 1, 1) := dk_43 (dk_at dksX2_take_0 1 rfl rfl)
theorem dX2_take_2 : decode cX2_take 2 = .ok (.getfield 40, 3) := dk_180 0 40 (dk_at dksX2_take_0 2 rfl rfl)
theorem dX2_take_5 : decode cX2_take 5 = .ok (.putfield 40, 3) := dk_181 0 40 (dk_at dksX2_take_0 5 rfl rfl)
theorem dX2_take_8 : decode cX2_take 8 = .ok (.aload_n 0, 1) := dk_42 (dk_at dksX2_take_0 8 rfl rfl)
theorem dX2_take_9 : decode cX2_take 9 = .ok (.aload_n 1, 1) := dk_43 (dk_at dksX2_take_0 9 rfl rfl)
theorem dX2_take_10 : decode cX2_take 10 = .ok (.getfield 9, 3) := dk_180 0 9 (dk_at dksX2_take_0 10 rfl rfl)
theorem dX2_take_13 : decode cX2_take 13 = .ok (.putfield 9, 3) := dk_181 0 9 (dk_at dksX2_take_0 13 rfl rfl)
theorem dX2_take_16 : decode cX2_take 16 = .ok (.aload_n 0, 1) := dk_42 (dk_at dksX2_take_0 16 rfl rfl)
theorem dX2_take_17 : decode cX2_take 17 = .ok (.aload_n 1, 1) := dk_43 (dk_at dksX2_take_0 17 rfl rfl)
theorem dX2_take_18 : decode cX2_take 18 = .ok (.getfield 15, 3) := dk_180 0 15 (dk_at dksX2_take_0 18 rfl rfl)
theorem dX2_take_21 : decode cX2_take 21 = .ok (.putfield 15, 3) := dk_181 0 15 (dk_at dksX2_take_0 21 rfl rfl)
theorem dX2_take_24 : decode cX2_take 24 = .ok (.aload_n 0, 1) := dk_42 (dk_at dksX2_take_1 0 rfl rfl)
theorem dX2_take_25 : decode cX2_take 25 = .ok (.aload_n 1, 1) := dk_43 (dk_at dksX2_take_1 1 rfl rfl)
theorem dX2_take_26 : decode cX2_take 26 = .ok (.getfield 43, 3) := dk_180 0 43 (dk_at dksX2_take_1 2 rfl rfl)
theorem dX2_take_29 : decode cX2_take 29 = .ok (.putfield 43, 3) := dk_181 0 43 (dk_at dksX2_take_1 5 rfl rfl)
theorem dX2_take_32 : decode cX2_take 32 = .ok (.aload_n 0, 1) := dk_42 (dk_at dksX2_take_1 8 rfl rfl)
theorem dX2_take_33 : decode cX2_take 33 = .ok (.aload_n 1, 1) := dk_43 (dk_at dksX2_take_1 9 rfl rfl)
theorem dX2_take_34 : decode cX2_take 34 = .ok (.getfield 47, 3) := dk_180 0 47 (dk_at dksX2_take_1 10 rfl rfl)
theorem dX2_take_37 : decode cX2_take 37 = .ok (.putfield 47, 3) := dk_181 0 47 (dk_at dksX2_take_1 13 rfl rfl)
theorem dX2_take_40 : decode cX2_take 40 = .ok (.aload_n 0, 1) := dk_42 (dk_at dksX2_take_1 16 rfl rfl)
theorem dX2_take_41 : decode cX2_take 41 = .ok (.aload_n 1, 1) := dk_43 (dk_at dksX2_take_1 17 rfl rfl)
theorem dX2_take_42 : decode cX2_take 42 = .ok (.getfield 50, 3) := dk_180 0 50 (dk_at dksX2_take_1 18 rfl rfl)
theorem dX2_take_45 : decode cX2_take 45 = .ok (.putfield 50, 3) := dk_181 0 50 (dk_at dksX2_take_1 21 rfl rfl)
theorem dX2_take_48 : decode cX2_take 48 = .ok (.aload_n 0, 1) := dk_42 (dk_at dksX2_take_2 0 rfl rfl)
theorem dX2_take_49 : decode cX2_take 49 = .ok (.aload_n 1, 1) := dk_43 (dk_at dksX2_take_2 1 rfl rfl)
theorem dX2_take_50 : decode cX2_take 50 = .ok (.getfield 18, 3) := dk_180 0 18 (dk_at dksX2_take_2 2 rfl rfl)
theorem dX2_take_53 : decode cX2_take 53 = .ok (.putfield 18, 3) := dk_181 0 18 (dk_at dksX2_take_2 5 rfl rfl)
theorem dX2_take_56 : decode cX2_take 56 = .ok (.aload_n 0, 1) := dk_42 (dk_at dksX2_take_2 8 rfl rfl)
theorem dX2_take_57 : decode cX2_take 57 = .ok (.aload_n 1, 1) := dk_43 (dk_at dksX2_take_2 9 rfl rfl)
theorem dX2_take_58 : decode cX2_take 58 = .ok (.getfield 53, 3) := dk_180 0 53 (dk_at dksX2_take_2 10 rfl rfl)
theorem dX2_take_61 : decode cX2_take 61 = .ok (.putfield 53, 3) := dk_181 0 53 (dk_at dksX2_take_2 13 rfl rfl)
theorem dX2_take_64 : decode cX2_take 64 = .ok (.aload_n 0, 1) := dk_42 (dk_at dksX2_take_2 16 rfl rfl)
theorem dX2_take_65 : decode cX2_take 65 = .ok (.aload_n 1, 1) := dk_43 (dk_at dksX2_take_2 17 rfl rfl)
theorem dX2_take_66 : decode cX2_take 66 = .ok (.getfield 57, 3) := dk_180 0 57 (dk_at dksX2_take_2 18 rfl rfl)
theorem dX2_take_69 : decode cX2_take 69 = .ok (.putfield 57, 3) := dk_181 0 57 (dk_at dksX2_take_2 21 rfl rfl)
theorem dX2_take_72 : decode cX2_take 72 = .ok (.aload_n 0, 1) := dk_42 (dk_at dksX2_take_3 0 rfl rfl)
theorem dX2_take_73 : decode cX2_take 73 = .ok (.aload_n 1, 1) := dk_43 (dk_at dksX2_take_3 1 rfl rfl)
theorem dX2_take_74 : decode cX2_take 74 = .ok (.getfield 60, 3) := dk_180 0 60 (dk_at dksX2_take_3 2 rfl rfl)
theorem dX2_take_77 : decode cX2_take 77 = .ok (.putfield 60, 3) := dk_181 0 60 (dk_at dksX2_take_3 5 rfl rfl)
theorem dX2_take_80 : decode cX2_take 80 = .ok (.aload_n 0, 1) := dk_42 (dk_at dksX2_take_3 8 rfl rfl)
theorem dX2_take_81 : decode cX2_take 81 = .ok (.iconst (-1), 1) := dk_2 (dk_at dksX2_take_3 9 rfl rfl)
theorem dX2_take_82 : decode cX2_take 82 = .ok (.putfield 21, 3) := dk_181 0 21 (dk_at dksX2_take_3 10 rfl rfl)
theorem dX2_take_85 : decode cX2_take 85 = .ok (.aload_n 1, 1) := dk_43 (dk_at dksX2_take_3 13 rfl rfl)
theorem dX2_take_86 : decode cX2_take 86 = .ok (.getfield 26, 3) := dk_180 0 26 (dk_at dksX2_take_3 14 rfl rfl)
theorem dX2_take_89 : decode cX2_take 89 = .ok (.iconst 0, 1) := dk_3 (dk_at dksX2_take_3 17 rfl rfl)
theorem dX2_take_90 : decode cX2_take 90 = .ok (.aload_n 0, 1) := dk_42 (dk_at dksX2_take_3 18 rfl rfl)
theorem dX2_take_91 : decode cX2_take 91 = .ok (.getfield 26, 3) := dk_180 0 26 (dk_at dksX2_take_3 19 rfl rfl)
theorem dX2_take_94 : decode cX2_take 94 = .ok (.iconst 0, 1) := dk_3 (dk_at dksX2_take_3 22 rfl rfl)
theorem dX2_take_95 : decode cX2_take 95 = .ok (.aload_n 0, 1) := dk_42 (dk_at dksX2_take_3 23 rfl rfl)
theorem dX2_take_96 : decode cX2_take 96 = .ok (.getfield 40, 3) := dk_180 0 40 (dk_at dksX2_take_4 0 rfl rfl)
theorem dX2_take_99 : decode cX2_take 99 = .ok (.invokestatic 63, 3) := dk_184 0 63 (dk_at dksX2_take_4 3 rfl rfl)
theorem dX2_take_102 : decode cX2_take 102 = .ok (.aload_n 1, 1) := dk_43 (dk_at dksX2_take_4 6 rfl rfl)
theorem dX2_take_103 : decode cX2_take 103 = .ok (.getfield 30, 3) := dk_180 0 30 (dk_at dksX2_take_4 7 rfl rfl)
theorem dX2_take_106 : decode cX2_take 106 = .ok (.iconst 0, 1) := dk_3 (dk_at dksX2_take_4 10 rfl rfl)
theorem dX2_take_107 : decode cX2_take 107 = .ok (.aload_n 0, 1) := dk_42 (dk_at dksX2_take_4 11 rfl rfl)
theorem dX2_take_108 : decode cX2_take 108 = .ok (.getfield 30, 3) := dk_180 0 30 (dk_at dksX2_take_4 12 rfl rfl)
theorem dX2_take_111 : decode cX2_take 111 = .ok (.iconst 0, 1) := dk_3 (dk_at dksX2_take_4 15 rfl rfl)
theorem dX2_take_112 : decode cX2_take 112 = .ok (.aload_n 0, 1) := dk_42 (dk_at dksX2_take_4 16 rfl rfl)
theorem dX2_take_113 : decode cX2_take 113 = .ok (.getfield 40, 3) := dk_180 0 40 (dk_at dksX2_take_4 17 rfl rfl)
theorem dX2_take_116 : decode cX2_take 116 = .ok (.invokestatic 63, 3) := dk_184 0 63 (dk_at dksX2_take_4 20 rfl rfl)
theorem dX2_take_119 : decode cX2_take 119 = .ok (.aload_n 1, 1) := dk_43 (dk_at dksX2_take_4 23 rfl rfl)
theorem dX2_take_120 : decode cX2_take 120 = .ok (.getfield 34, 3) := dk_180 0 34 (dk_at dksX2_take_5 0 rfl rfl)
theorem dX2_take_123 : decode cX2_take 123 = .ok (.iconst 0, 1) := dk_3 (dk_at dksX2_take_5 3 rfl rfl)
theorem dX2_take_124 : decode cX2_take 124 = .ok (.aload_n 0, 1) := dk_42 (dk_at dksX2_take_5 4 rfl rfl)
theorem dX2_take_125 : decode cX2_take 125 = .ok (.getfield 34, 3) := dk_180 0 34 (dk_at dksX2_take_5 5 rfl rfl)
theorem dX2_take_128 : decode cX2_take 128 = .ok (.iconst 0, 1) := dk_3 (dk_at dksX2_take_5 8 rfl rfl)
theorem dX2_take_129 : decode cX2_take 129 = .ok (.aload_n 0, 1) := dk_42 (dk_at dksX2_take_5 9 rfl rfl)
theorem dX2_take_130 : decode cX2_take 130 = .ok (.getfield 40, 3) := dk_180 0 40 (dk_at dksX2_take_5 10 rfl rfl)
theorem dX2_take_133 : decode cX2_take 133 = .ok (.invokestatic 63, 3) := dk_184 0 63 (dk_at dksX2_take_5 13 rfl rfl)
theorem dX2_take_136 : decode cX2_take 136 = .ok (.aload_n 1, 1) := dk_43 (dk_at dksX2_take_5 16 rfl rfl)
theorem dX2_take_137 : decode cX2_take 137 = .ok (.getfield 37, 3) := dk_180 0 37 (dk_at dksX2_take_5 17 rfl rfl)
theorem dX2_take_140 : decode cX2_take 140 = .ok (.iconst 0, 1) := dk_3 (dk_at dksX2_take_5 20 rfl rfl)
theorem dX2_take_141 : decode cX2_take 141 = .ok (.aload_n 0, 1) := dk_42 (dk_at dksX2_take_5 21 rfl rfl)
theorem dX2_take_142 : decode cX2_take 142 = .ok (.getfield 37, 3) := dk_180 0 37 (dk_at dksX2_take_6 0 rfl rfl)
theorem dX2_take_145 : decode cX2_take 145 = .ok (.iconst 0, 1) := dk_3 (dk_at dksX2_take_6 3 rfl rfl)
theorem dX2_take_146 : decode cX2_take 146 = .ok (.aload_n 0, 1) := dk_42 (dk_at dksX2_take_6 4 rfl rfl)
theorem dX2_take_147 : decode cX2_take 147 = .ok (.getfield 40, 3) := dk_180 0 40 (dk_at dksX2_take_6 5 rfl rfl)
theorem dX2_take_150 : decode cX2_take 150 = .ok (.invokestatic 63, 3) := dk_184 0 63 (dk_at dksX2_take_6 8 rfl rfl)
theorem dX2_take_153 : decode cX2_take 153 = .ok (.aload_n 0, 1) := dk_42 (dk_at dksX2_take_6 11 rfl rfl)
theorem dX2_take_154 : decode cX2_take 154 = .ok (.areturn, 1) := dk_176 (dk_at dksX2_take_6 12 rfl rfl)
abbrev cX2_isInView : ByteArray := prog_18_method_9_code
def yX2_isInView : MethodName := ⟨RX2, "isInView", "(II)Z"⟩
def dkwX2_isInView_4 : List UInt8 := [21, 5, 21, 4, 96, 54, 5, 167, 255, 228, 4, 172]
abbrev dktX2_isInView_4 : List UInt8 := dkwX2_isInView_4 ++ []
def dkwX2_isInView_3 : List UInt8 := [96, 54, 5, 21, 5, 27, 28, 184, 0, 86, 162, 0, 24, 42, 21, 5, 182, 0, 69, 153, 0, 5, 3, 172]
abbrev dktX2_isInView_3 : List UInt8 := dkwX2_isInView_3 ++ dktX2_isInView_4
def dkwX2_isInView_2 : List UInt8 := [164, 0, 5, 3, 172, 29, 153, 0, 7, 4, 167, 0, 5, 16, 6, 54, 4, 27, 28, 184, 0, 83, 21, 4]
abbrev dktX2_isInView_2 : List UInt8 := dkwX2_isInView_2 ++ dktX2_isInView_3
def dkwX2_isInView_1 : List UInt8 := [29, 154, 0, 14, 27, 16, 6, 112, 28, 16, 6, 112, 160, 0, 15, 27, 28, 184, 0, 79, 42, 180, 0, 15]
abbrev dktX2_isInView_1 : List UInt8 := dkwX2_isInView_1 ++ dktX2_isInView_2
def dkwX2_isInView_0 : List UInt8 := [27, 16, 6, 108, 28, 16, 6, 108, 160, 0, 7, 4, 167, 0, 4, 3, 62, 27, 28, 160, 0, 5, 4, 172]
abbrev dktX2_isInView_0 : List UInt8 := dkwX2_isInView_0 ++ dktX2_isInView_1
theorem dksX2_isInView_0 : cX2_isInView.data.toList.drop 0 = dktX2_isInView_0 := by decide +kernel
theorem dksX2_isInView_1 : cX2_isInView.data.toList.drop 24 = dktX2_isInView_1 := dk_seg dksX2_isInView_0 24 rfl rfl
theorem dksX2_isInView_2 : cX2_isInView.data.toList.drop 48 = dktX2_isInView_2 := dk_seg dksX2_isInView_1 24 rfl rfl
theorem dksX2_isInView_3 : cX2_isInView.data.toList.drop 72 = dktX2_isInView_3 := dk_seg dksX2_isInView_2 24 rfl rfl
theorem dksX2_isInView_4 : cX2_isInView.data.toList.drop 96 = dktX2_isInView_4 := dk_seg dksX2_isInView_3 24 rfl rfl
theorem dX2_isInView_0 : decode cX2_isInView 0 = .ok (.iload_n 1, 1) := dk_27 (dk_at dksX2_isInView_0 0 rfl rfl)
theorem dX2_isInView_1 : decode cX2_isInView 1 = .ok (.bipush 6, 2) := dk_16 6 (dk_at dksX2_isInView_0 1 rfl rfl)
theorem dX2_isInView_3 : decode cX2_isInView 3 = .ok (.idiv, 1) := dk_108 (dk_at dksX2_isInView_0 3 rfl rfl)
theorem dX2_isInView_4 : decode cX2_isInView 4 = .ok (.iload_n 2, 1) := dk_28 (dk_at dksX2_isInView_0 4 rfl rfl)
theorem dX2_isInView_5 : decode cX2_isInView 5 = .ok (.bipush 6, 2) := dk_16 6 (dk_at dksX2_isInView_0 5 rfl rfl)
theorem dX2_isInView_7 : decode cX2_isInView 7 = .ok (.idiv, 1) := dk_108 (dk_at dksX2_isInView_0 7 rfl rfl)
theorem dX2_isInView_8 : decode cX2_isInView 8 = .ok (.if_icmp .ne 7, 3) := dk_160 0 7 (dk_at dksX2_isInView_0 8 rfl rfl)
theorem dX2_isInView_11 : decode cX2_isInView 11 = .ok (.iconst 1, 1) := dk_4 (dk_at dksX2_isInView_0 11 rfl rfl)
theorem dX2_isInView_12 : decode cX2_isInView 12 = .ok (.goto 4, 3) := dk_167 0 4 (dk_at dksX2_isInView_0 12 rfl rfl)
theorem dX2_isInView_15 : decode cX2_isInView 15 = .ok (.iconst 0, 1) := dk_3 (dk_at dksX2_isInView_0 15 rfl rfl)
theorem dX2_isInView_16 : decode cX2_isInView 16 = .ok (.istore_n 3, 1) := dk_62 (dk_at dksX2_isInView_0 16 rfl rfl)
theorem dX2_isInView_17 : decode cX2_isInView 17 = .ok (.iload_n 1, 1) := dk_27 (dk_at dksX2_isInView_0 17 rfl rfl)
theorem dX2_isInView_18 : decode cX2_isInView 18 = .ok (.iload_n 2, 1) := dk_28 (dk_at dksX2_isInView_0 18 rfl rfl)
theorem dX2_isInView_19 : decode cX2_isInView 19 = .ok (.if_icmp .ne 5, 3) := dk_160 0 5 (dk_at dksX2_isInView_0 19 rfl rfl)
theorem dX2_isInView_22 : decode cX2_isInView 22 = .ok (.iconst 1, 1) := dk_4 (dk_at dksX2_isInView_0 22 rfl rfl)
theorem dX2_isInView_23 : decode cX2_isInView 23 = .ok (.ireturn, 1) := dk_172 (dk_at dksX2_isInView_0 23 rfl rfl)
theorem dX2_isInView_24 : decode cX2_isInView 24 = .ok (.iload_n 3, 1) := dk_29 (dk_at dksX2_isInView_1 0 rfl rfl)
theorem dX2_isInView_25 : decode cX2_isInView 25 = .ok (.ifCond .ne 14, 3) := dk_154 0 14 (dk_at dksX2_isInView_1 1 rfl rfl)
theorem dX2_isInView_28 : decode cX2_isInView 28 = .ok (.iload_n 1, 1) := dk_27 (dk_at dksX2_isInView_1 4 rfl rfl)
theorem dX2_isInView_29 : decode cX2_isInView 29 = .ok (.bipush 6, 2) := dk_16 6 (dk_at dksX2_isInView_1 5 rfl rfl)
theorem dX2_isInView_31 : decode cX2_isInView 31 = .ok (.irem, 1) := dk_112 (dk_at dksX2_isInView_1 7 rfl rfl)
theorem dX2_isInView_32 : decode cX2_isInView 32 = .ok (.iload_n 2, 1) := dk_28 (dk_at dksX2_isInView_1 8 rfl rfl)
theorem dX2_isInView_33 : decode cX2_isInView 33 = .ok (.bipush 6, 2) := dk_16 6 (dk_at dksX2_isInView_1 9 rfl rfl)
theorem dX2_isInView_35 : decode cX2_isInView 35 = .ok (.irem, 1) := dk_112 (dk_at dksX2_isInView_1 11 rfl rfl)
theorem dX2_isInView_36 : decode cX2_isInView 36 = .ok (.if_icmp .ne 15, 3) := dk_160 0 15 (dk_at dksX2_isInView_1 12 rfl rfl)
theorem dX2_isInView_39 : decode cX2_isInView 39 = .ok (.iload_n 1, 1) := dk_27 (dk_at dksX2_isInView_1 15 rfl rfl)
theorem dX2_isInView_40 : decode cX2_isInView 40 = .ok (.iload_n 2, 1) := dk_28 (dk_at dksX2_isInView_1 16 rfl rfl)
theorem dX2_isInView_41 : decode cX2_isInView 41 = .ok (.invokestatic 79, 3) := dk_184 0 79 (dk_at dksX2_isInView_1 17 rfl rfl)
theorem dX2_isInView_44 : decode cX2_isInView 44 = .ok (.aload_n 0, 1) := dk_42 (dk_at dksX2_isInView_1 20 rfl rfl)
theorem dX2_isInView_45 : decode cX2_isInView 45 = .ok (.getfield 15, 3) := dk_180 0 15 (dk_at dksX2_isInView_1 21 rfl rfl)
theorem dX2_isInView_48 : decode cX2_isInView 48 = .ok (.if_icmp .le 5, 3) := dk_164 0 5 (dk_at dksX2_isInView_2 0 rfl rfl)
theorem dX2_isInView_51 : decode cX2_isInView 51 = .ok (.iconst 0, 1) := dk_3 (dk_at dksX2_isInView_2 3 rfl rfl)
theorem dX2_isInView_52 : decode cX2_isInView 52 = .ok (.ireturn, 1) := dk_172 (dk_at dksX2_isInView_2 4 rfl rfl)
theorem dX2_isInView_53 : decode cX2_isInView 53 = .ok (.iload_n 3, 1) := dk_29 (dk_at dksX2_isInView_2 5 rfl rfl)
theorem dX2_isInView_54 : decode cX2_isInView 54 = .ok (.ifCond .eq 7, 3) := dk_153 0 7 (dk_at dksX2_isInView_2 6 rfl rfl)
theorem dX2_isInView_57 : decode cX2_isInView 57 = .ok (.iconst 1, 1) := dk_4 (dk_at dksX2_isInView_2 9 rfl rfl)
theorem dX2_isInView_58 : decode cX2_isInView 58 = .ok (.goto 5, 3) := dk_167 0 5 (dk_at dksX2_isInView_2 10 rfl rfl)
theorem dX2_isInView_61 : decode cX2_isInView 61 = .ok (.bipush 6, 2) := dk_16 6 (dk_at dksX2_isInView_2 13 rfl rfl)
theorem dX2_isInView_63 : decode cX2_isInView 63 = .ok (.istore 4, 2) := dk_54 4 (dk_at dksX2_isInView_2 15 rfl rfl)
theorem dX2_isInView_65 : decode cX2_isInView 65 = .ok (.iload_n 1, 1) := dk_27 (dk_at dksX2_isInView_2 17 rfl rfl)
theorem dX2_isInView_66 : decode cX2_isInView 66 = .ok (.iload_n 2, 1) := dk_28 (dk_at dksX2_isInView_2 18 rfl rfl)
theorem dX2_isInView_67 : decode cX2_isInView 67 = .ok (.invokestatic 83, 3) := dk_184 0 83 (dk_at dksX2_isInView_2 19 rfl rfl)
theorem dX2_isInView_70 : decode cX2_isInView 70 = .ok (.iload 4, 2) := dk_21 4 (dk_at dksX2_isInView_2 22 rfl rfl)
theorem dX2_isInView_72 : decode cX2_isInView 72 = .ok (.iadd, 1) := dk_96 (dk_at dksX2_isInView_3 0 rfl rfl)
theorem dX2_isInView_73 : decode cX2_isInView 73 = .ok (.istore 5, 2) := dk_54 5 (dk_at dksX2_isInView_3 1 rfl rfl)
theorem dX2_isInView_75 : decode cX2_isInView 75 = .ok (.iload 5, 2) := dk_21 5 (dk_at dksX2_isInView_3 3 rfl rfl)
theorem dX2_isInView_77 : decode cX2_isInView 77 = .ok (.iload_n 1, 1) := dk_27 (dk_at dksX2_isInView_3 5 rfl rfl)
theorem dX2_isInView_78 : decode cX2_isInView 78 = .ok (.iload_n 2, 1) := dk_28 (dk_at dksX2_isInView_3 6 rfl rfl)
theorem dX2_isInView_79 : decode cX2_isInView 79 = .ok (.invokestatic 86, 3) := dk_184 0 86 (dk_at dksX2_isInView_3 7 rfl rfl)
theorem dX2_isInView_82 : decode cX2_isInView 82 = .ok (.if_icmp .ge 24, 3) := dk_162 0 24 (dk_at dksX2_isInView_3 10 rfl rfl)
theorem dX2_isInView_85 : decode cX2_isInView 85 = .ok (.aload_n 0, 1) := dk_42 (dk_at dksX2_isInView_3 13 rfl rfl)
theorem dX2_isInView_86 : decode cX2_isInView 86 = .ok (.iload 5, 2) := dk_21 5 (dk_at dksX2_isInView_3 14 rfl rfl)
theorem dX2_isInView_88 : decode cX2_isInView 88 = .ok (.invokevirtual 69, 3) := dk_182 0 69 (dk_at dksX2_isInView_3 16 rfl rfl)
theorem dX2_isInView_91 : decode cX2_isInView 91 = .ok (.ifCond .eq 5, 3) := dk_153 0 5 (dk_at dksX2_isInView_3 19 rfl rfl)
theorem dX2_isInView_94 : decode cX2_isInView 94 = .ok (.iconst 0, 1) := dk_3 (dk_at dksX2_isInView_3 22 rfl rfl)
theorem dX2_isInView_95 : decode cX2_isInView 95 = .ok (.ireturn, 1) := dk_172 (dk_at dksX2_isInView_3 23 rfl rfl)
theorem dX2_isInView_96 : decode cX2_isInView 96 = .ok (.iload 5, 2) := dk_21 5 (dk_at dksX2_isInView_4 0 rfl rfl)
theorem dX2_isInView_98 : decode cX2_isInView 98 = .ok (.iload 4, 2) := dk_21 4 (dk_at dksX2_isInView_4 2 rfl rfl)
theorem dX2_isInView_100 : decode cX2_isInView 100 = .ok (.iadd, 1) := dk_96 (dk_at dksX2_isInView_4 4 rfl rfl)
theorem dX2_isInView_101 : decode cX2_isInView 101 = .ok (.istore 5, 2) := dk_54 5 (dk_at dksX2_isInView_4 5 rfl rfl)
theorem dX2_isInView_103 : decode cX2_isInView 103 = .ok (.goto (-28), 3) := dk_167 255 228 (dk_at dksX2_isInView_4 7 rfl rfl)
theorem dX2_isInView_106 : decode cX2_isInView 106 = .ok (.iconst 1, 1) := dk_4 (dk_at dksX2_isInView_4 10 rfl rfl)
theorem dX2_isInView_107 : decode cX2_isInView 107 = .ok (.ireturn, 1) := dk_172 (dk_at dksX2_isInView_4 11 rfl rfl)
abbrev cX2_distance : ByteArray := prog_18_method_8_code
def yX2_distance : MethodName := ⟨RX2, "distance", "(II)I"⟩
def dkwX2_distance_1 : List UInt8 := [96, 172]
abbrev dktX2_distance_1 : List UInt8 := dkwX2_distance_1 ++ []
def dkwX2_distance_0 : List UInt8 := [26, 16, 6, 108, 27, 16, 6, 108, 100, 184, 0, 73, 26, 16, 6, 112, 27, 16, 6, 112, 100, 184, 0, 73]
abbrev dktX2_distance_0 : List UInt8 := dkwX2_distance_0 ++ dktX2_distance_1
theorem dksX2_distance_0 : cX2_distance.data.toList.drop 0 = dktX2_distance_0 := by decide +kernel
theorem dksX2_distance_1 : cX2_distance.data.toList.drop 24 = dktX2_distance_1 := dk_seg dksX2_distance_0 24 rfl rfl
theorem dX2_distance_0 : decode cX2_distance 0 = .ok (.iload_n 0, 1) := dk_26 (dk_at dksX2_distance_0 0 rfl rfl)
theorem dX2_distance_1 : decode cX2_distance 1 = .ok (.bipush 6, 2) := dk_16 6 (dk_at dksX2_distance_0 1 rfl rfl)
theorem dX2_distance_3 : decode cX2_distance 3 = .ok (.idiv, 1) := dk_108 (dk_at dksX2_distance_0 3 rfl rfl)
theorem dX2_distance_4 : decode cX2_distance 4 = .ok (.iload_n 1, 1) := dk_27 (dk_at dksX2_distance_0 4 rfl rfl)
theorem dX2_distance_5 : decode cX2_distance 5 = .ok (.bipush 6, 2) := dk_16 6 (dk_at dksX2_distance_0 5 rfl rfl)
theorem dX2_distance_7 : decode cX2_distance 7 = .ok (.idiv, 1) := dk_108 (dk_at dksX2_distance_0 7 rfl rfl)
theorem dX2_distance_8 : decode cX2_distance 8 = .ok (.isub, 1) := dk_100 (dk_at dksX2_distance_0 8 rfl rfl)
theorem dX2_distance_9 : decode cX2_distance 9 = .ok (.invokestatic 73, 3) := dk_184 0 73 (dk_at dksX2_distance_0 9 rfl rfl)
theorem dX2_distance_12 : decode cX2_distance 12 = .ok (.iload_n 0, 1) := dk_26 (dk_at dksX2_distance_0 12 rfl rfl)
theorem dX2_distance_13 : decode cX2_distance 13 = .ok (.bipush 6, 2) := dk_16 6 (dk_at dksX2_distance_0 13 rfl rfl)
theorem dX2_distance_15 : decode cX2_distance 15 = .ok (.irem, 1) := dk_112 (dk_at dksX2_distance_0 15 rfl rfl)
theorem dX2_distance_16 : decode cX2_distance 16 = .ok (.iload_n 1, 1) := dk_27 (dk_at dksX2_distance_0 16 rfl rfl)
theorem dX2_distance_17 : decode cX2_distance 17 = .ok (.bipush 6, 2) := dk_16 6 (dk_at dksX2_distance_0 17 rfl rfl)
theorem dX2_distance_19 : decode cX2_distance 19 = .ok (.irem, 1) := dk_112 (dk_at dksX2_distance_0 19 rfl rfl)
theorem dX2_distance_20 : decode cX2_distance 20 = .ok (.isub, 1) := dk_100 (dk_at dksX2_distance_0 20 rfl rfl)
theorem dX2_distance_21 : decode cX2_distance 21 = .ok (.invokestatic 73, 3) := dk_184 0 73 (dk_at dksX2_distance_0 21 rfl rfl)
theorem dX2_distance_24 : decode cX2_distance 24 = .ok (.iadd, 1) := dk_96 (dk_at dksX2_distance_1 0 rfl rfl)
theorem dX2_distance_25 : decode cX2_distance 25 = .ok (.ireturn, 1) := dk_172 (dk_at dksX2_distance_1 1 rfl rfl)
abbrev cX2_glancers : ByteArray := prog_18_method_15_code
def yX2_glancers : MethodName := ⟨RX2, "glancers", "(I)I"⟩
def dkwX2_glancers_1 : List UInt8 := [153, 0, 9, 4, 29, 120, 167, 0, 4, 3, 128, 61, 132, 3, 1, 167, 255, 223, 28, 172]
abbrev dktX2_glancers_1 : List UInt8 := dkwX2_glancers_1 ++ []
def dkwX2_glancers_0 : List UInt8 := [3, 61, 3, 62, 29, 42, 180, 0, 40, 162, 0, 31, 28, 42, 29, 182, 0, 116, 27, 122, 4, 126]
abbrev dktX2_glancers_0 : List UInt8 := dkwX2_glancers_0 ++ dktX2_glancers_1
theorem dksX2_glancers_0 : cX2_glancers.data.toList.drop 0 = dktX2_glancers_0 := by decide +kernel
theorem dksX2_glancers_1 : cX2_glancers.data.toList.drop 22 = dktX2_glancers_1 := dk_seg dksX2_glancers_0 22 rfl rfl
theorem dX2_glancers_0 : decode cX2_glancers 0 = .ok (.iconst 0, 1) := dk_3 (dk_at dksX2_glancers_0 0 rfl rfl)
theorem dX2_glancers_1 : decode cX2_glancers 1 = .ok (.istore_n 2, 1) := dk_61 (dk_at dksX2_glancers_0 1 rfl rfl)
theorem dX2_glancers_2 : decode cX2_glancers 2 = .ok (.iconst 0, 1) := dk_3 (dk_at dksX2_glancers_0 2 rfl rfl)
theorem dX2_glancers_3 : decode cX2_glancers 3 = .ok (.istore_n 3, 1) := dk_62 (dk_at dksX2_glancers_0 3 rfl rfl)
theorem dX2_glancers_4 : decode cX2_glancers 4 = .ok (.iload_n 3, 1) := dk_29 (dk_at dksX2_glancers_0 4 rfl rfl)
theorem dX2_glancers_5 : decode cX2_glancers 5 = .ok (.aload_n 0, 1) := dk_42 (dk_at dksX2_glancers_0 5 rfl rfl)
theorem dX2_glancers_6 : decode cX2_glancers 6 = .ok (.getfield 40, 3) := dk_180 0 40 (dk_at dksX2_glancers_0 6 rfl rfl)
theorem dX2_glancers_9 : decode cX2_glancers 9 = .ok (.if_icmp .ge 31, 3) := dk_162 0 31 (dk_at dksX2_glancers_0 9 rfl rfl)
theorem dX2_glancers_12 : decode cX2_glancers 12 = .ok (.iload_n 2, 1) := dk_28 (dk_at dksX2_glancers_0 12 rfl rfl)
theorem dX2_glancers_13 : decode cX2_glancers 13 = .ok (.aload_n 0, 1) := dk_42 (dk_at dksX2_glancers_0 13 rfl rfl)
theorem dX2_glancers_14 : decode cX2_glancers 14 = .ok (.iload_n 3, 1) := dk_29 (dk_at dksX2_glancers_0 14 rfl rfl)
theorem dX2_glancers_15 : decode cX2_glancers 15 = .ok (.invokevirtual 116, 3) := dk_182 0 116 (dk_at dksX2_glancers_0 15 rfl rfl)
theorem dX2_glancers_18 : decode cX2_glancers 18 = .ok (.iload_n 1, 1) := dk_27 (dk_at dksX2_glancers_0 18 rfl rfl)
theorem dX2_glancers_19 : decode cX2_glancers 19 = .ok (.ishr, 1) := dk_122 (dk_at dksX2_glancers_0 19 rfl rfl)
theorem dX2_glancers_20 : decode cX2_glancers 20 = .ok (.iconst 1, 1) := dk_4 (dk_at dksX2_glancers_0 20 rfl rfl)
theorem dX2_glancers_21 : decode cX2_glancers 21 = .ok (.iand, 1) := dk_126 (dk_at dksX2_glancers_0 21 rfl rfl)
theorem dX2_glancers_22 : decode cX2_glancers 22 = .ok (.ifCond .eq 9, 3) := dk_153 0 9 (dk_at dksX2_glancers_1 0 rfl rfl)
theorem dX2_glancers_25 : decode cX2_glancers 25 = .ok (.iconst 1, 1) := dk_4 (dk_at dksX2_glancers_1 3 rfl rfl)
theorem dX2_glancers_26 : decode cX2_glancers 26 = .ok (.iload_n 3, 1) := dk_29 (dk_at dksX2_glancers_1 4 rfl rfl)
theorem dX2_glancers_27 : decode cX2_glancers 27 = .ok (.ishl, 1) := dk_120 (dk_at dksX2_glancers_1 5 rfl rfl)
theorem dX2_glancers_28 : decode cX2_glancers 28 = .ok (.goto 4, 3) := dk_167 0 4 (dk_at dksX2_glancers_1 6 rfl rfl)
theorem dX2_glancers_31 : decode cX2_glancers 31 = .ok (.iconst 0, 1) := dk_3 (dk_at dksX2_glancers_1 9 rfl rfl)
theorem dX2_glancers_32 : decode cX2_glancers 32 = .ok (.ior, 1) := dk_128 (dk_at dksX2_glancers_1 10 rfl rfl)
theorem dX2_glancers_33 : decode cX2_glancers 33 = .ok (.istore_n 2, 1) := dk_61 (dk_at dksX2_glancers_1 11 rfl rfl)
theorem dX2_glancers_34 : decode cX2_glancers 34 = .ok (.iinc 3 1, 3) := dk_132 3 1 (dk_at dksX2_glancers_1 12 rfl rfl)
theorem dX2_glancers_37 : decode cX2_glancers 37 = .ok (.goto (-33), 3) := dk_167 255 223 (dk_at dksX2_glancers_1 15 rfl rfl)
theorem dX2_glancers_40 : decode cX2_glancers 40 = .ok (.iload_n 2, 1) := dk_28 (dk_at dksX2_glancers_1 18 rfl rfl)
theorem dX2_glancers_41 : decode cX2_glancers 41 = .ok (.ireturn, 1) := dk_172 (dk_at dksX2_glancers_1 19 rfl rfl)
abbrev cX2_glances : ByteArray := prog_18_method_14_code
def yX2_glances : MethodName := ⟨RX2, "glances", "(I)I"⟩
def dkwX2_glances_3 : List UInt8 := [182, 0, 113, 153, 0, 14, 29, 2, 159, 0, 9, 4, 29, 120, 167, 0, 4, 28, 172]
abbrev dktX2_glances_3 : List UInt8 := dkwX2_glances_3 ++ []
def dkwX2_glances_2 : List UInt8 := [153, 0, 8, 21, 4, 167, 0, 4, 29, 62, 132, 4, 1, 167, 255, 204, 42, 180, 0, 26, 27, 50]
abbrev dktX2_glances_2 : List UInt8 := dkwX2_glances_2 ++ dktX2_glances_3
def dkwX2_glances_1 : List UInt8 := [153, 0, 33, 28, 4, 21, 4, 120, 128, 61, 29, 2, 159, 0, 14, 42, 27, 21, 4, 29, 182, 0, 109]
abbrev dktX2_glances_1 : List UInt8 := dkwX2_glances_1 ++ dktX2_glances_2
def dkwX2_glances_0 : List UInt8 := [3, 61, 2, 62, 3, 54, 4, 21, 4, 42, 180, 0, 40, 162, 0, 49, 42, 27, 21, 4, 182, 0, 106]
abbrev dktX2_glances_0 : List UInt8 := dkwX2_glances_0 ++ dktX2_glances_1
theorem dksX2_glances_0 : cX2_glances.data.toList.drop 0 = dktX2_glances_0 := by decide +kernel
theorem dksX2_glances_1 : cX2_glances.data.toList.drop 23 = dktX2_glances_1 := dk_seg dksX2_glances_0 23 rfl rfl
theorem dksX2_glances_2 : cX2_glances.data.toList.drop 46 = dktX2_glances_2 := dk_seg dksX2_glances_1 23 rfl rfl
theorem dksX2_glances_3 : cX2_glances.data.toList.drop 68 = dktX2_glances_3 := dk_seg dksX2_glances_2 22 rfl rfl
theorem dX2_glances_0 : decode cX2_glances 0 = .ok (.iconst 0, 1) := dk_3 (dk_at dksX2_glances_0 0 rfl rfl)
theorem dX2_glances_1 : decode cX2_glances 1 = .ok (.istore_n 2, 1) := dk_61 (dk_at dksX2_glances_0 1 rfl rfl)
theorem dX2_glances_2 : decode cX2_glances 2 = .ok (.iconst (-1), 1) := dk_2 (dk_at dksX2_glances_0 2 rfl rfl)
theorem dX2_glances_3 : decode cX2_glances 3 = .ok (.istore_n 3, 1) := dk_62 (dk_at dksX2_glances_0 3 rfl rfl)
theorem dX2_glances_4 : decode cX2_glances 4 = .ok (.iconst 0, 1) := dk_3 (dk_at dksX2_glances_0 4 rfl rfl)
theorem dX2_glances_5 : decode cX2_glances 5 = .ok (.istore 4, 2) := dk_54 4 (dk_at dksX2_glances_0 5 rfl rfl)
theorem dX2_glances_7 : decode cX2_glances 7 = .ok (.iload 4, 2) := dk_21 4 (dk_at dksX2_glances_0 7 rfl rfl)
theorem dX2_glances_9 : decode cX2_glances 9 = .ok (.aload_n 0, 1) := dk_42 (dk_at dksX2_glances_0 9 rfl rfl)
theorem dX2_glances_10 : decode cX2_glances 10 = .ok (.getfield 40, 3) := dk_180 0 40 (dk_at dksX2_glances_0 10 rfl rfl)
theorem dX2_glances_13 : decode cX2_glances 13 = .ok (.if_icmp .ge 49, 3) := dk_162 0 49 (dk_at dksX2_glances_0 13 rfl rfl)
theorem dX2_glances_16 : decode cX2_glances 16 = .ok (.aload_n 0, 1) := dk_42 (dk_at dksX2_glances_0 16 rfl rfl)
theorem dX2_glances_17 : decode cX2_glances 17 = .ok (.iload_n 1, 1) := dk_27 (dk_at dksX2_glances_0 17 rfl rfl)
theorem dX2_glances_18 : decode cX2_glances 18 = .ok (.iload 4, 2) := dk_21 4 (dk_at dksX2_glances_0 18 rfl rfl)
theorem dX2_glances_20 : decode cX2_glances 20 = .ok (.invokevirtual 106, 3) := dk_182 0 106 (dk_at dksX2_glances_0 20 rfl rfl)
theorem dX2_glances_23 : decode cX2_glances 23 = .ok (.ifCond .eq 33, 3) := dk_153 0 33 (dk_at dksX2_glances_1 0 rfl rfl)
theorem dX2_glances_26 : decode cX2_glances 26 = .ok (.iload_n 2, 1) := dk_28 (dk_at dksX2_glances_1 3 rfl rfl)
theorem dX2_glances_27 : decode cX2_glances 27 = .ok (.iconst 1, 1) := dk_4 (dk_at dksX2_glances_1 4 rfl rfl)
theorem dX2_glances_28 : decode cX2_glances 28 = .ok (.iload 4, 2) := dk_21 4 (dk_at dksX2_glances_1 5 rfl rfl)
theorem dX2_glances_30 : decode cX2_glances 30 = .ok (.ishl, 1) := dk_120 (dk_at dksX2_glances_1 7 rfl rfl)
theorem dX2_glances_31 : decode cX2_glances 31 = .ok (.ior, 1) := dk_128 (dk_at dksX2_glances_1 8 rfl rfl)
theorem dX2_glances_32 : decode cX2_glances 32 = .ok (.istore_n 2, 1) := dk_61 (dk_at dksX2_glances_1 9 rfl rfl)
theorem dX2_glances_33 : decode cX2_glances 33 = .ok (.iload_n 3, 1) := dk_29 (dk_at dksX2_glances_1 10 rfl rfl)
theorem dX2_glances_34 : decode cX2_glances 34 = .ok (.iconst (-1), 1) := dk_2 (dk_at dksX2_glances_1 11 rfl rfl)
theorem dX2_glances_35 : decode cX2_glances 35 = .ok (.if_icmp .eq 14, 3) := dk_159 0 14 (dk_at dksX2_glances_1 12 rfl rfl)
theorem dX2_glances_38 : decode cX2_glances 38 = .ok (.aload_n 0, 1) := dk_42 (dk_at dksX2_glances_1 15 rfl rfl)
theorem dX2_glances_39 : decode cX2_glances 39 = .ok (.iload_n 1, 1) := dk_27 (dk_at dksX2_glances_1 16 rfl rfl)
theorem dX2_glances_40 : decode cX2_glances 40 = .ok (.iload 4, 2) := dk_21 4 (dk_at dksX2_glances_1 17 rfl rfl)
theorem dX2_glances_42 : decode cX2_glances 42 = .ok (.iload_n 3, 1) := dk_29 (dk_at dksX2_glances_1 19 rfl rfl)
theorem dX2_glances_43 : decode cX2_glances 43 = .ok (.invokevirtual 109, 3) := dk_182 0 109 (dk_at dksX2_glances_1 20 rfl rfl)
theorem dX2_glances_46 : decode cX2_glances 46 = .ok (.ifCond .eq 8, 3) := dk_153 0 8 (dk_at dksX2_glances_2 0 rfl rfl)
theorem dX2_glances_49 : decode cX2_glances 49 = .ok (.iload 4, 2) := dk_21 4 (dk_at dksX2_glances_2 3 rfl rfl)
theorem dX2_glances_51 : decode cX2_glances 51 = .ok (.goto 4, 3) := dk_167 0 4 (dk_at dksX2_glances_2 5 rfl rfl)
theorem dX2_glances_54 : decode cX2_glances 54 = .ok (.iload_n 3, 1) := dk_29 (dk_at dksX2_glances_2 8 rfl rfl)
theorem dX2_glances_55 : decode cX2_glances 55 = .ok (.istore_n 3, 1) := dk_62 (dk_at dksX2_glances_2 9 rfl rfl)
theorem dX2_glances_56 : decode cX2_glances 56 = .ok (.iinc 4 1, 3) := dk_132 4 1 (dk_at dksX2_glances_2 10 rfl rfl)
theorem dX2_glances_59 : decode cX2_glances 59 = .ok (.goto (-52), 3) := dk_167 255 204 (dk_at dksX2_glances_2 13 rfl rfl)
theorem dX2_glances_62 : decode cX2_glances 62 = .ok (.aload_n 0, 1) := dk_42 (dk_at dksX2_glances_2 16 rfl rfl)
theorem dX2_glances_63 : decode cX2_glances 63 = .ok (.getfield 26, 3) := dk_180 0 26 (dk_at dksX2_glances_2 17 rfl rfl)
theorem dX2_glances_66 : decode cX2_glances 66 = .ok (.iload_n 1, 1) := dk_27 (dk_at dksX2_glances_2 20 rfl rfl)
theorem dX2_glances_67 : decode cX2_glances 67 = .ok (.aaload, 1) := dk_50 (dk_at dksX2_glances_2 21 rfl rfl)
theorem dX2_glances_68 : decode cX2_glances 68 = .ok (.invokevirtual 113, 3) := dk_182 0 113 (dk_at dksX2_glances_3 0 rfl rfl)
theorem dX2_glances_71 : decode cX2_glances 71 = .ok (.ifCond .eq 14, 3) := dk_153 0 14 (dk_at dksX2_glances_3 3 rfl rfl)
theorem dX2_glances_74 : decode cX2_glances 74 = .ok (.iload_n 3, 1) := dk_29 (dk_at dksX2_glances_3 6 rfl rfl)
theorem dX2_glances_75 : decode cX2_glances 75 = .ok (.iconst (-1), 1) := dk_2 (dk_at dksX2_glances_3 7 rfl rfl)
theorem dX2_glances_76 : decode cX2_glances 76 = .ok (.if_icmp .eq 9, 3) := dk_159 0 9 (dk_at dksX2_glances_3 8 rfl rfl)
theorem dX2_glances_79 : decode cX2_glances 79 = .ok (.iconst 1, 1) := dk_4 (dk_at dksX2_glances_3 11 rfl rfl)
theorem dX2_glances_80 : decode cX2_glances 80 = .ok (.iload_n 3, 1) := dk_29 (dk_at dksX2_glances_3 12 rfl rfl)
theorem dX2_glances_81 : decode cX2_glances 81 = .ok (.ishl, 1) := dk_120 (dk_at dksX2_glances_3 13 rfl rfl)
theorem dX2_glances_82 : decode cX2_glances 82 = .ok (.goto 4, 3) := dk_167 0 4 (dk_at dksX2_glances_3 14 rfl rfl)
theorem dX2_glances_85 : decode cX2_glances 85 = .ok (.iload_n 2, 1) := dk_28 (dk_at dksX2_glances_3 17 rfl rfl)
theorem dX2_glances_86 : decode cX2_glances 86 = .ok (.ireturn, 1) := dk_172 (dk_at dksX2_glances_3 18 rfl rfl)
abbrev cX2_catches : ByteArray := prog_18_method_12_code
def yX2_catches : MethodName := ⟨RX2, "catches", "(II)Z"⟩
def dkwX2_catches_3 : List UInt8 := [180, 0, 37, 27, 46, 42, 180, 0, 37, 28, 46, 184, 0, 79, 96, 164, 0, 7, 4, 167, 0, 4, 3, 172]
abbrev dktX2_catches_3 : List UInt8 := dkwX2_catches_3 ++ []
def dkwX2_catches_2 : List UInt8 := [28, 46, 182, 0, 89, 153, 0, 40, 42, 28, 182, 0, 100, 42, 180, 0, 26, 27, 50, 180, 0, 103, 42]
abbrev dktX2_catches_2 : List UInt8 := dkwX2_catches_2 ++ dktX2_catches_3
def dkwX2_catches_1 : List UInt8 := [180, 0, 26, 27, 50, 182, 0, 96, 154, 0, 5, 3, 172, 42, 42, 180, 0, 37, 27, 46, 42, 180, 0, 37]
abbrev dktX2_catches_1 : List UInt8 := dkwX2_catches_1 ++ dktX2_catches_2
def dkwX2_catches_0 : List UInt8 := [27, 28, 159, 0, 31, 27, 42, 180, 0, 21, 159, 0, 23, 28, 42, 180, 0, 21, 159, 0, 15, 42]
abbrev dktX2_catches_0 : List UInt8 := dkwX2_catches_0 ++ dktX2_catches_1
theorem dksX2_catches_0 : cX2_catches.data.toList.drop 0 = dktX2_catches_0 := by decide +kernel
theorem dksX2_catches_1 : cX2_catches.data.toList.drop 22 = dktX2_catches_1 := dk_seg dksX2_catches_0 22 rfl rfl
theorem dksX2_catches_2 : cX2_catches.data.toList.drop 46 = dktX2_catches_2 := dk_seg dksX2_catches_1 24 rfl rfl
theorem dksX2_catches_3 : cX2_catches.data.toList.drop 69 = dktX2_catches_3 := dk_seg dksX2_catches_2 23 rfl rfl
theorem dX2_catches_0 : decode cX2_catches 0 = .ok (.iload_n 1, 1) := dk_27 (dk_at dksX2_catches_0 0 rfl rfl)
theorem dX2_catches_1 : decode cX2_catches 1 = .ok (.iload_n 2, 1) := dk_28 (dk_at dksX2_catches_0 1 rfl rfl)
theorem dX2_catches_2 : decode cX2_catches 2 = .ok (.if_icmp .eq 31, 3) := dk_159 0 31 (dk_at dksX2_catches_0 2 rfl rfl)
theorem dX2_catches_5 : decode cX2_catches 5 = .ok (.iload_n 1, 1) := dk_27 (dk_at dksX2_catches_0 5 rfl rfl)
theorem dX2_catches_6 : decode cX2_catches 6 = .ok (.aload_n 0, 1) := dk_42 (dk_at dksX2_catches_0 6 rfl rfl)
theorem dX2_catches_7 : decode cX2_catches 7 = .ok (.getfield 21, 3) := dk_180 0 21 (dk_at dksX2_catches_0 7 rfl rfl)
theorem dX2_catches_10 : decode cX2_catches 10 = .ok (.if_icmp .eq 23, 3) := dk_159 0 23 (dk_at dksX2_catches_0 10 rfl rfl)
theorem dX2_catches_13 : decode cX2_catches 13 = .ok (.iload_n 2, 1) := dk_28 (dk_at dksX2_catches_0 13 rfl rfl)
theorem dX2_catches_14 : decode cX2_catches 14 = .ok (.aload_n 0, 1) := dk_42 (dk_at dksX2_catches_0 14 rfl rfl)
theorem dX2_catches_15 : decode cX2_catches 15 = .ok (.getfield 21, 3) := dk_180 0 21 (dk_at dksX2_catches_0 15 rfl rfl)
theorem dX2_catches_18 : decode cX2_catches 18 = .ok (.if_icmp .eq 15, 3) := dk_159 0 15 (dk_at dksX2_catches_0 18 rfl rfl)
theorem dX2_catches_21 : decode cX2_catches 21 = .ok (.aload_n 0, 1) := dk_42 (dk_at dksX2_catches_0 21 rfl rfl)
theorem dX2_catches_22 : decode cX2_catches 22 = .ok (.getfield 26, 3) := dk_180 0 26 (dk_at dksX2_catches_1 0 rfl rfl)
theorem dX2_catches_25 : decode cX2_catches 25 = .ok (.iload_n 1, 1) := dk_27 (dk_at dksX2_catches_1 3 rfl rfl)
theorem dX2_catches_26 : decode cX2_catches 26 = .ok (.aaload, 1) := dk_50 (dk_at dksX2_catches_1 4 rfl rfl)
theorem dX2_catches_27 : decode cX2_catches 27 = .ok (.invokevirtual 96, 3) := dk_182 0 96 (dk_at dksX2_catches_1 5 rfl rfl)
theorem dX2_catches_30 : decode cX2_catches 30 = .ok (.ifCond .ne 5, 3) := dk_154 0 5 (dk_at dksX2_catches_1 8 rfl rfl)
theorem dX2_catches_33 : decode cX2_catches 33 = .ok (.iconst 0, 1) := dk_3 (dk_at dksX2_catches_1 11 rfl rfl)
theorem dX2_catches_34 : decode cX2_catches 34 = .ok (.ireturn, 1) := dk_172 (dk_at dksX2_catches_1 12 rfl rfl)
theorem dX2_catches_35 : decode cX2_catches 35 = .ok (.aload_n 0, 1) := dk_42 (dk_at dksX2_catches_1 13 rfl rfl)
theorem dX2_catches_36 : decode cX2_catches 36 = .ok (.aload_n 0, 1) := dk_42 (dk_at dksX2_catches_1 14 rfl rfl)
theorem dX2_catches_37 : decode cX2_catches 37 = .ok (.getfield 37, 3) := dk_180 0 37 (dk_at dksX2_catches_1 15 rfl rfl)
theorem dX2_catches_40 : decode cX2_catches 40 = .ok (.iload_n 1, 1) := dk_27 (dk_at dksX2_catches_1 18 rfl rfl)
theorem dX2_catches_41 : decode cX2_catches 41 = .ok (.iaload, 1) := dk_46 (dk_at dksX2_catches_1 19 rfl rfl)
theorem dX2_catches_42 : decode cX2_catches 42 = .ok (.aload_n 0, 1) := dk_42 (dk_at dksX2_catches_1 20 rfl rfl)
theorem dX2_catches_43 : decode cX2_catches 43 = .ok (.getfield 37, 3) := dk_180 0 37 (dk_at dksX2_catches_1 21 rfl rfl)
theorem dX2_catches_46 : decode cX2_catches 46 = .ok (.iload_n 2, 1) := dk_28 (dk_at dksX2_catches_2 0 rfl rfl)
theorem dX2_catches_47 : decode cX2_catches 47 = .ok (.iaload, 1) := dk_46 (dk_at dksX2_catches_2 1 rfl rfl)
theorem dX2_catches_48 : decode cX2_catches 48 = .ok (.invokevirtual 89, 3) := dk_182 0 89 (dk_at dksX2_catches_2 2 rfl rfl)
theorem dX2_catches_51 : decode cX2_catches 51 = .ok (.ifCond .eq 40, 3) := dk_153 0 40 (dk_at dksX2_catches_2 5 rfl rfl)
theorem dX2_catches_54 : decode cX2_catches 54 = .ok (.aload_n 0, 1) := dk_42 (dk_at dksX2_catches_2 8 rfl rfl)
theorem dX2_catches_55 : decode cX2_catches 55 = .ok (.iload_n 2, 1) := dk_28 (dk_at dksX2_catches_2 9 rfl rfl)
theorem dX2_catches_56 : decode cX2_catches 56 = .ok (.invokevirtual 100, 3) := dk_182 0 100 (dk_at dksX2_catches_2 10 rfl rfl)
theorem dX2_catches_59 : decode cX2_catches 59 = .ok (.aload_n 0, 1) := dk_42 (dk_at dksX2_catches_2 13 rfl rfl)
theorem dX2_catches_60 : decode cX2_catches 60 = .ok (.getfield 26, 3) := dk_180 0 26 (dk_at dksX2_catches_2 14 rfl rfl)
theorem dX2_catches_63 : decode cX2_catches 63 = .ok (.iload_n 1, 1) := dk_27 (dk_at dksX2_catches_2 17 rfl rfl)
theorem dX2_catches_64 : decode cX2_catches 64 = .ok (.aaload, 1) := dk_50 (dk_at dksX2_catches_2 18 rfl rfl)
theorem dX2_catches_65 : decode cX2_catches 65 = .ok (.getfield 103, 3) := dk_180 0 103 (dk_at dksX2_catches_2 19 rfl rfl)
theorem dX2_catches_68 : decode cX2_catches 68 = .ok (.aload_n 0, 1) := dk_42 (dk_at dksX2_catches_2 22 rfl rfl)
theorem dX2_catches_69 : decode cX2_catches 69 = .ok (.getfield 37, 3) := dk_180 0 37 (dk_at dksX2_catches_3 0 rfl rfl)
theorem dX2_catches_72 : decode cX2_catches 72 = .ok (.iload_n 1, 1) := dk_27 (dk_at dksX2_catches_3 3 rfl rfl)
theorem dX2_catches_73 : decode cX2_catches 73 = .ok (.iaload, 1) := dk_46 (dk_at dksX2_catches_3 4 rfl rfl)
theorem dX2_catches_74 : decode cX2_catches 74 = .ok (.aload_n 0, 1) := dk_42 (dk_at dksX2_catches_3 5 rfl rfl)
theorem dX2_catches_75 : decode cX2_catches 75 = .ok (.getfield 37, 3) := dk_180 0 37 (dk_at dksX2_catches_3 6 rfl rfl)
theorem dX2_catches_78 : decode cX2_catches 78 = .ok (.iload_n 2, 1) := dk_28 (dk_at dksX2_catches_3 9 rfl rfl)
theorem dX2_catches_79 : decode cX2_catches 79 = .ok (.iaload, 1) := dk_46 (dk_at dksX2_catches_3 10 rfl rfl)
theorem dX2_catches_80 : decode cX2_catches 80 = .ok (.invokestatic 79, 3) := dk_184 0 79 (dk_at dksX2_catches_3 11 rfl rfl)
theorem dX2_catches_83 : decode cX2_catches 83 = .ok (.iadd, 1) := dk_96 (dk_at dksX2_catches_3 14 rfl rfl)
theorem dX2_catches_84 : decode cX2_catches 84 = .ok (.if_icmp .le 7, 3) := dk_164 0 7 (dk_at dksX2_catches_3 15 rfl rfl)
theorem dX2_catches_87 : decode cX2_catches 87 = .ok (.iconst 1, 1) := dk_4 (dk_at dksX2_catches_3 18 rfl rfl)
theorem dX2_catches_88 : decode cX2_catches 88 = .ok (.goto 4, 3) := dk_167 0 4 (dk_at dksX2_catches_3 19 rfl rfl)
theorem dX2_catches_91 : decode cX2_catches 91 = .ok (.iconst 0, 1) := dk_3 (dk_at dksX2_catches_3 22 rfl rfl)
theorem dX2_catches_92 : decode cX2_catches 92 = .ok (.ireturn, 1) := dk_172 (dk_at dksX2_catches_3 23 rfl rfl)
abbrev cX2_isBefore : ByteArray := prog_18_method_13_code
def yX2_isBefore : MethodName := ⟨RX2, "isBefore", "(III)Z"⟩
def dkwX2_isBefore_2 : List UInt8 := [182, 0, 100, 42, 29, 182, 0, 100, 164, 0, 7, 4, 167, 0, 4, 3, 172]
abbrev dktX2_isBefore_2 : List UInt8 := dkwX2_isBefore_2 ++ []
def dkwX2_isBefore_1 : List UInt8 := [180, 0, 37, 28, 46, 184, 0, 79, 100, 54, 4, 21, 4, 157, 0, 21, 21, 4, 154, 0, 20, 42, 28]
abbrev dktX2_isBefore_1 : List UInt8 := dkwX2_isBefore_1 ++ dktX2_isBefore_2
def dkwX2_isBefore_0 : List UInt8 := [42, 180, 0, 37, 27, 46, 42, 180, 0, 37, 29, 46, 184, 0, 79, 42, 180, 0, 37, 27, 46, 42]
abbrev dktX2_isBefore_0 : List UInt8 := dkwX2_isBefore_0 ++ dktX2_isBefore_1
theorem dksX2_isBefore_0 : cX2_isBefore.data.toList.drop 0 = dktX2_isBefore_0 := by decide +kernel
theorem dksX2_isBefore_1 : cX2_isBefore.data.toList.drop 22 = dktX2_isBefore_1 := dk_seg dksX2_isBefore_0 22 rfl rfl
theorem dksX2_isBefore_2 : cX2_isBefore.data.toList.drop 45 = dktX2_isBefore_2 := dk_seg dksX2_isBefore_1 23 rfl rfl
theorem dX2_isBefore_0 : decode cX2_isBefore 0 = .ok (.aload_n 0, 1) := dk_42 (dk_at dksX2_isBefore_0 0 rfl rfl)
theorem dX2_isBefore_1 : decode cX2_isBefore 1 = .ok (.getfield 37, 3) := dk_180 0 37 (dk_at dksX2_isBefore_0 1 rfl rfl)
theorem dX2_isBefore_4 : decode cX2_isBefore 4 = .ok (.iload_n 1, 1) := dk_27 (dk_at dksX2_isBefore_0 4 rfl rfl)
theorem dX2_isBefore_5 : decode cX2_isBefore 5 = .ok (.iaload, 1) := dk_46 (dk_at dksX2_isBefore_0 5 rfl rfl)
theorem dX2_isBefore_6 : decode cX2_isBefore 6 = .ok (.aload_n 0, 1) := dk_42 (dk_at dksX2_isBefore_0 6 rfl rfl)
theorem dX2_isBefore_7 : decode cX2_isBefore 7 = .ok (.getfield 37, 3) := dk_180 0 37 (dk_at dksX2_isBefore_0 7 rfl rfl)
theorem dX2_isBefore_10 : decode cX2_isBefore 10 = .ok (.iload_n 3, 1) := dk_29 (dk_at dksX2_isBefore_0 10 rfl rfl)
theorem dX2_isBefore_11 : decode cX2_isBefore 11 = .ok (.iaload, 1) := dk_46 (dk_at dksX2_isBefore_0 11 rfl rfl)
theorem dX2_isBefore_12 : decode cX2_isBefore 12 = .ok (.invokestatic 79, 3) := dk_184 0 79 (dk_at dksX2_isBefore_0 12 rfl rfl)
theorem dX2_isBefore_15 : decode cX2_isBefore 15 = .ok (.aload_n 0, 1) := dk_42 (dk_at dksX2_isBefore_0 15 rfl rfl)
theorem dX2_isBefore_16 : decode cX2_isBefore 16 = .ok (.getfield 37, 3) := dk_180 0 37 (dk_at dksX2_isBefore_0 16 rfl rfl)
theorem dX2_isBefore_19 : decode cX2_isBefore 19 = .ok (.iload_n 1, 1) := dk_27 (dk_at dksX2_isBefore_0 19 rfl rfl)
theorem dX2_isBefore_20 : decode cX2_isBefore 20 = .ok (.iaload, 1) := dk_46 (dk_at dksX2_isBefore_0 20 rfl rfl)
theorem dX2_isBefore_21 : decode cX2_isBefore 21 = .ok (.aload_n 0, 1) := dk_42 (dk_at dksX2_isBefore_0 21 rfl rfl)
theorem dX2_isBefore_22 : decode cX2_isBefore 22 = .ok (.getfield 37, 3) := dk_180 0 37 (dk_at dksX2_isBefore_1 0 rfl rfl)
theorem dX2_isBefore_25 : decode cX2_isBefore 25 = .ok (.iload_n 2, 1) := dk_28 (dk_at dksX2_isBefore_1 3 rfl rfl)
theorem dX2_isBefore_26 : decode cX2_isBefore 26 = .ok (.iaload, 1) := dk_46 (dk_at dksX2_isBefore_1 4 rfl rfl)
theorem dX2_isBefore_27 : decode cX2_isBefore 27 = .ok (.invokestatic 79, 3) := dk_184 0 79 (dk_at dksX2_isBefore_1 5 rfl rfl)
theorem dX2_isBefore_30 : decode cX2_isBefore 30 = .ok (.isub, 1) := dk_100 (dk_at dksX2_isBefore_1 8 rfl rfl)
theorem dX2_isBefore_31 : decode cX2_isBefore 31 = .ok (.istore 4, 2) := dk_54 4 (dk_at dksX2_isBefore_1 9 rfl rfl)
theorem dX2_isBefore_33 : decode cX2_isBefore 33 = .ok (.iload 4, 2) := dk_21 4 (dk_at dksX2_isBefore_1 11 rfl rfl)
theorem dX2_isBefore_35 : decode cX2_isBefore 35 = .ok (.ifCond .gt 21, 3) := dk_157 0 21 (dk_at dksX2_isBefore_1 13 rfl rfl)
theorem dX2_isBefore_38 : decode cX2_isBefore 38 = .ok (.iload 4, 2) := dk_21 4 (dk_at dksX2_isBefore_1 16 rfl rfl)
theorem dX2_isBefore_40 : decode cX2_isBefore 40 = .ok (.ifCond .ne 20, 3) := dk_154 0 20 (dk_at dksX2_isBefore_1 18 rfl rfl)
theorem dX2_isBefore_43 : decode cX2_isBefore 43 = .ok (.aload_n 0, 1) := dk_42 (dk_at dksX2_isBefore_1 21 rfl rfl)
theorem dX2_isBefore_44 : decode cX2_isBefore 44 = .ok (.iload_n 2, 1) := dk_28 (dk_at dksX2_isBefore_1 22 rfl rfl)
theorem dX2_isBefore_45 : decode cX2_isBefore 45 = .ok (.invokevirtual 100, 3) := dk_182 0 100 (dk_at dksX2_isBefore_2 0 rfl rfl)
theorem dX2_isBefore_48 : decode cX2_isBefore 48 = .ok (.aload_n 0, 1) := dk_42 (dk_at dksX2_isBefore_2 3 rfl rfl)
theorem dX2_isBefore_49 : decode cX2_isBefore 49 = .ok (.iload_n 3, 1) := dk_29 (dk_at dksX2_isBefore_2 4 rfl rfl)
theorem dX2_isBefore_50 : decode cX2_isBefore 50 = .ok (.invokevirtual 100, 3) := dk_182 0 100 (dk_at dksX2_isBefore_2 5 rfl rfl)
theorem dX2_isBefore_53 : decode cX2_isBefore 53 = .ok (.if_icmp .le 7, 3) := dk_164 0 7 (dk_at dksX2_isBefore_2 8 rfl rfl)
theorem dX2_isBefore_56 : decode cX2_isBefore 56 = .ok (.iconst 1, 1) := dk_4 (dk_at dksX2_isBefore_2 11 rfl rfl)
theorem dX2_isBefore_57 : decode cX2_isBefore 57 = .ok (.goto 4, 3) := dk_167 0 4 (dk_at dksX2_isBefore_2 12 rfl rfl)
theorem dX2_isBefore_60 : decode cX2_isBefore 60 = .ok (.iconst 0, 1) := dk_3 (dk_at dksX2_isBefore_2 15 rfl rfl)
theorem dX2_isBefore_61 : decode cX2_isBefore 61 = .ok (.ireturn, 1) := dk_172 (dk_at dksX2_isBefore_2 16 rfl rfl)
abbrev cX2_duty : ByteArray := prog_18_method_18_code
def yX2_duty : MethodName := ⟨RX2, "duty", "(I)I"⟩
def dkwX2_duty_0 : List UInt8 := [42, 180, 0, 26, 27, 50, 42, 180, 0, 9, 42, 27, 182, 0, 130, 104, 182, 0, 133, 172]
abbrev dktX2_duty_0 : List UInt8 := dkwX2_duty_0 ++ []
theorem dksX2_duty_0 : cX2_duty.data.toList.drop 0 = dktX2_duty_0 := by decide +kernel
theorem dX2_duty_0 : decode cX2_duty 0 = .ok (.aload_n 0, 1) := dk_42 (dk_at dksX2_duty_0 0 rfl rfl)
theorem dX2_duty_1 : decode cX2_duty 1 = .ok (.getfield 26, 3) := dk_180 0 26 (dk_at dksX2_duty_0 1 rfl rfl)
theorem dX2_duty_4 : decode cX2_duty 4 = .ok (.iload_n 1, 1) := dk_27 (dk_at dksX2_duty_0 4 rfl rfl)
theorem dX2_duty_5 : decode cX2_duty 5 = .ok (.aaload, 1) := dk_50 (dk_at dksX2_duty_0 5 rfl rfl)
theorem dX2_duty_6 : decode cX2_duty 6 = .ok (.aload_n 0, 1) := dk_42 (dk_at dksX2_duty_0 6 rfl rfl)
theorem dX2_duty_7 : decode cX2_duty 7 = .ok (.getfield 9, 3) := dk_180 0 9 (dk_at dksX2_duty_0 7 rfl rfl)
theorem dX2_duty_10 : decode cX2_duty 10 = .ok (.aload_n 0, 1) := dk_42 (dk_at dksX2_duty_0 10 rfl rfl)
theorem dX2_duty_11 : decode cX2_duty 11 = .ok (.iload_n 1, 1) := dk_27 (dk_at dksX2_duty_0 11 rfl rfl)
theorem dX2_duty_12 : decode cX2_duty 12 = .ok (.invokevirtual 130, 3) := dk_182 0 130 (dk_at dksX2_duty_0 12 rfl rfl)
theorem dX2_duty_15 : decode cX2_duty 15 = .ok (.imul, 1) := dk_104 (dk_at dksX2_duty_0 15 rfl rfl)
theorem dX2_duty_16 : decode cX2_duty 16 = .ok (.invokevirtual 133, 3) := dk_182 0 133 (dk_at dksX2_duty_0 16 rfl rfl)
theorem dX2_duty_19 : decode cX2_duty 19 = .ok (.ireturn, 1) := dk_172 (dk_at dksX2_duty_0 19 rfl rfl)
abbrev cX2_entered : ByteArray := prog_18_method_16_code
def yX2_entered : MethodName := ⟨RX2, "entered", "(I)I"⟩
def dkwX2_entered_1 : List UInt8 := [3, 172]
abbrev dktX2_entered_1 : List UInt8 := dkwX2_entered_1 ++ []
def dkwX2_entered_0 : List UInt8 := [42, 42, 180, 0, 37, 27, 46, 182, 0, 119, 153, 0, 14, 42, 27, 182, 0, 122, 184, 0, 125, 167, 0, 4]
abbrev dktX2_entered_0 : List UInt8 := dkwX2_entered_0 ++ dktX2_entered_1
theorem dksX2_entered_0 : cX2_entered.data.toList.drop 0 = dktX2_entered_0 := by decide +kernel
theorem dksX2_entered_1 : cX2_entered.data.toList.drop 24 = dktX2_entered_1 := dk_seg dksX2_entered_0 24 rfl rfl
theorem dX2_entered_0 : decode cX2_entered 0 = .ok (.aload_n 0, 1) := dk_42 (dk_at dksX2_entered_0 0 rfl rfl)
theorem dX2_entered_1 : decode cX2_entered 1 = .ok (.aload_n 0, 1) := dk_42 (dk_at dksX2_entered_0 1 rfl rfl)
theorem dX2_entered_2 : decode cX2_entered 2 = .ok (.getfield 37, 3) := dk_180 0 37 (dk_at dksX2_entered_0 2 rfl rfl)
theorem dX2_entered_5 : decode cX2_entered 5 = .ok (.iload_n 1, 1) := dk_27 (dk_at dksX2_entered_0 5 rfl rfl)
theorem dX2_entered_6 : decode cX2_entered 6 = .ok (.iaload, 1) := dk_46 (dk_at dksX2_entered_0 6 rfl rfl)
theorem dX2_entered_7 : decode cX2_entered 7 = .ok (.invokevirtual 119, 3) := dk_182 0 119 (dk_at dksX2_entered_0 7 rfl rfl)
theorem dX2_entered_10 : decode cX2_entered 10 = .ok (.ifCond .eq 14, 3) := dk_153 0 14 (dk_at dksX2_entered_0 10 rfl rfl)
theorem dX2_entered_13 : decode cX2_entered 13 = .ok (.aload_n 0, 1) := dk_42 (dk_at dksX2_entered_0 13 rfl rfl)
theorem dX2_entered_14 : decode cX2_entered 14 = .ok (.iload_n 1, 1) := dk_27 (dk_at dksX2_entered_0 14 rfl rfl)
theorem dX2_entered_15 : decode cX2_entered 15 = .ok (.invokevirtual 122, 3) := dk_182 0 122 (dk_at dksX2_entered_0 15 rfl rfl)
theorem dX2_entered_18 : decode cX2_entered 18 = .ok (.invokestatic 125, 3) := dk_184 0 125 (dk_at dksX2_entered_0 18 rfl rfl)
theorem dX2_entered_21 : decode cX2_entered 21 = .ok (.goto 4, 3) := dk_167 0 4 (dk_at dksX2_entered_0 21 rfl rfl)
theorem dX2_entered_24 : decode cX2_entered 24 = .ok (.iconst 0, 1) := dk_3 (dk_at dksX2_entered_1 0 rfl rfl)
theorem dX2_entered_25 : decode cX2_entered 25 = .ok (.ireturn, 1) := dk_172 (dk_at dksX2_entered_1 1 rfl rfl)
abbrev cX2_isLit : ByteArray := prog_18_method_10_code
def yX2_isLit : MethodName := ⟨RX2, "isLit", "(I)Z"⟩
def dkwX2_isLit_1 : List UInt8 := [182, 0, 89, 153, 0, 5, 4, 172, 132, 2, 1, 167, 255, 223, 3, 172]
abbrev dktX2_isLit_1 : List UInt8 := dkwX2_isLit_1 ++ []
def dkwX2_isLit_0 : List UInt8 := [3, 61, 28, 16, 36, 162, 0, 33, 42, 180, 0, 57, 28, 123, 10, 127, 9, 148, 153, 0, 14, 42, 28, 27]
abbrev dktX2_isLit_0 : List UInt8 := dkwX2_isLit_0 ++ dktX2_isLit_1
theorem dksX2_isLit_0 : cX2_isLit.data.toList.drop 0 = dktX2_isLit_0 := by decide +kernel
theorem dksX2_isLit_1 : cX2_isLit.data.toList.drop 24 = dktX2_isLit_1 := dk_seg dksX2_isLit_0 24 rfl rfl
theorem dX2_isLit_0 : decode cX2_isLit 0 = .ok (.iconst 0, 1) := dk_3 (dk_at dksX2_isLit_0 0 rfl rfl)
theorem dX2_isLit_1 : decode cX2_isLit 1 = .ok (.istore_n 2, 1) := dk_61 (dk_at dksX2_isLit_0 1 rfl rfl)
theorem dX2_isLit_2 : decode cX2_isLit 2 = .ok (.iload_n 2, 1) := dk_28 (dk_at dksX2_isLit_0 2 rfl rfl)
theorem dX2_isLit_3 : decode cX2_isLit 3 = .ok (.bipush 36, 2) := dk_16 36 (dk_at dksX2_isLit_0 3 rfl rfl)
theorem dX2_isLit_5 : decode cX2_isLit 5 = .ok (.if_icmp .ge 33, 3) := dk_162 0 33 (dk_at dksX2_isLit_0 5 rfl rfl)
theorem dX2_isLit_8 : decode cX2_isLit 8 = .ok (.aload_n 0, 1) := dk_42 (dk_at dksX2_isLit_0 8 rfl rfl)
theorem dX2_isLit_9 : decode cX2_isLit 9 = .ok (.getfield 57, 3) := dk_180 0 57 (dk_at dksX2_isLit_0 9 rfl rfl)
theorem dX2_isLit_12 : decode cX2_isLit 12 = .ok (.iload_n 2, 1) := dk_28 (dk_at dksX2_isLit_0 12 rfl rfl)
theorem dX2_isLit_13 : decode cX2_isLit 13 = .ok (.lshr, 1) := dk_123 (dk_at dksX2_isLit_0 13 rfl rfl)
theorem dX2_isLit_14 : decode cX2_isLit 14 = .ok (.lconst 1, 1) := dk_10 (dk_at dksX2_isLit_0 14 rfl rfl)
theorem dX2_isLit_15 : decode cX2_isLit 15 = .ok (.land, 1) := dk_127 (dk_at dksX2_isLit_0 15 rfl rfl)
theorem dX2_isLit_16 : decode cX2_isLit 16 = .ok (.lconst 0, 1) := dk_9 (dk_at dksX2_isLit_0 16 rfl rfl)
theorem dX2_isLit_17 : decode cX2_isLit 17 = .ok (.lcmp, 1) := dk_148 (dk_at dksX2_isLit_0 17 rfl rfl)
theorem dX2_isLit_18 : decode cX2_isLit 18 = .ok (.ifCond .eq 14, 3) := dk_153 0 14 (dk_at dksX2_isLit_0 18 rfl rfl)
theorem dX2_isLit_21 : decode cX2_isLit 21 = .ok (.aload_n 0, 1) := dk_42 (dk_at dksX2_isLit_0 21 rfl rfl)
theorem dX2_isLit_22 : decode cX2_isLit 22 = .ok (.iload_n 2, 1) := dk_28 (dk_at dksX2_isLit_0 22 rfl rfl)
theorem dX2_isLit_23 : decode cX2_isLit 23 = .ok (.iload_n 1, 1) := dk_27 (dk_at dksX2_isLit_0 23 rfl rfl)
theorem dX2_isLit_24 : decode cX2_isLit 24 = .ok (.invokevirtual 89, 3) := dk_182 0 89 (dk_at dksX2_isLit_1 0 rfl rfl)
theorem dX2_isLit_27 : decode cX2_isLit 27 = .ok (.ifCond .eq 5, 3) := dk_153 0 5 (dk_at dksX2_isLit_1 3 rfl rfl)
theorem dX2_isLit_30 : decode cX2_isLit 30 = .ok (.iconst 1, 1) := dk_4 (dk_at dksX2_isLit_1 6 rfl rfl)
theorem dX2_isLit_31 : decode cX2_isLit 31 = .ok (.ireturn, 1) := dk_172 (dk_at dksX2_isLit_1 7 rfl rfl)
theorem dX2_isLit_32 : decode cX2_isLit 32 = .ok (.iinc 2 1, 3) := dk_132 2 1 (dk_at dksX2_isLit_1 8 rfl rfl)
theorem dX2_isLit_35 : decode cX2_isLit 35 = .ok (.goto (-33), 3) := dk_167 255 223 (dk_at dksX2_isLit_1 11 rfl rfl)
theorem dX2_isLit_38 : decode cX2_isLit 38 = .ok (.iconst 0, 1) := dk_3 (dk_at dksX2_isLit_1 14 rfl rfl)
theorem dX2_isLit_39 : decode cX2_isLit 39 = .ok (.ireturn, 1) := dk_172 (dk_at dksX2_isLit_1 15 rfl rfl)
abbrev cX2_fine : ByteArray := prog_18_method_19_code
def yX2_fine : MethodName := ⟨RX2, "fine", "(I)I"⟩
def dkwX2_fine_2 : List UInt8 := [167, 0, 4, 3, 96, 62, 132, 4, 1, 167, 255, 210, 29, 172]
abbrev dktX2_fine_2 : List UInt8 := dkwX2_fine_2 ++ []
def dkwX2_fine_1 : List UInt8 := [122, 4, 126, 153, 0, 24, 42, 42, 180, 0, 37, 21, 4, 46, 182, 0, 119, 153, 0, 10, 42, 180, 0, 9]
abbrev dktX2_fine_1 : List UInt8 := dkwX2_fine_1 ++ dktX2_fine_2
def dkwX2_fine_0 : List UInt8 := [42, 27, 182, 0, 116, 61, 3, 62, 3, 54, 4, 21, 4, 42, 180, 0, 40, 162, 0, 43, 29, 28, 21, 4]
abbrev dktX2_fine_0 : List UInt8 := dkwX2_fine_0 ++ dktX2_fine_1
theorem dksX2_fine_0 : cX2_fine.data.toList.drop 0 = dktX2_fine_0 := by decide +kernel
theorem dksX2_fine_1 : cX2_fine.data.toList.drop 24 = dktX2_fine_1 := dk_seg dksX2_fine_0 24 rfl rfl
theorem dksX2_fine_2 : cX2_fine.data.toList.drop 48 = dktX2_fine_2 := dk_seg dksX2_fine_1 24 rfl rfl
theorem dX2_fine_0 : decode cX2_fine 0 = .ok (.aload_n 0, 1) := dk_42 (dk_at dksX2_fine_0 0 rfl rfl)
theorem dX2_fine_1 : decode cX2_fine 1 = .ok (.iload_n 1, 1) := dk_27 (dk_at dksX2_fine_0 1 rfl rfl)
theorem dX2_fine_2 : decode cX2_fine 2 = .ok (.invokevirtual 116, 3) := dk_182 0 116 (dk_at dksX2_fine_0 2 rfl rfl)
theorem dX2_fine_5 : decode cX2_fine 5 = .ok (.istore_n 2, 1) := dk_61 (dk_at dksX2_fine_0 5 rfl rfl)
theorem dX2_fine_6 : decode cX2_fine 6 = .ok (.iconst 0, 1) := dk_3 (dk_at dksX2_fine_0 6 rfl rfl)
theorem dX2_fine_7 : decode cX2_fine 7 = .ok (.istore_n 3, 1) := dk_62 (dk_at dksX2_fine_0 7 rfl rfl)
theorem dX2_fine_8 : decode cX2_fine 8 = .ok (.iconst 0, 1) := dk_3 (dk_at dksX2_fine_0 8 rfl rfl)
theorem dX2_fine_9 : decode cX2_fine 9 = .ok (.istore 4, 2) := dk_54 4 (dk_at dksX2_fine_0 9 rfl rfl)
theorem dX2_fine_11 : decode cX2_fine 11 = .ok (.iload 4, 2) := dk_21 4 (dk_at dksX2_fine_0 11 rfl rfl)
theorem dX2_fine_13 : decode cX2_fine 13 = .ok (.aload_n 0, 1) := dk_42 (dk_at dksX2_fine_0 13 rfl rfl)
theorem dX2_fine_14 : decode cX2_fine 14 = .ok (.getfield 40, 3) := dk_180 0 40 (dk_at dksX2_fine_0 14 rfl rfl)
theorem dX2_fine_17 : decode cX2_fine 17 = .ok (.if_icmp .ge 43, 3) := dk_162 0 43 (dk_at dksX2_fine_0 17 rfl rfl)
theorem dX2_fine_20 : decode cX2_fine 20 = .ok (.iload_n 3, 1) := dk_29 (dk_at dksX2_fine_0 20 rfl rfl)
theorem dX2_fine_21 : decode cX2_fine 21 = .ok (.iload_n 2, 1) := dk_28 (dk_at dksX2_fine_0 21 rfl rfl)
theorem dX2_fine_22 : decode cX2_fine 22 = .ok (.iload 4, 2) := dk_21 4 (dk_at dksX2_fine_0 22 rfl rfl)
theorem dX2_fine_24 : decode cX2_fine 24 = .ok (.ishr, 1) := dk_122 (dk_at dksX2_fine_1 0 rfl rfl)
theorem dX2_fine_25 : decode cX2_fine 25 = .ok (.iconst 1, 1) := dk_4 (dk_at dksX2_fine_1 1 rfl rfl)
theorem dX2_fine_26 : decode cX2_fine 26 = .ok (.iand, 1) := dk_126 (dk_at dksX2_fine_1 2 rfl rfl)
theorem dX2_fine_27 : decode cX2_fine 27 = .ok (.ifCond .eq 24, 3) := dk_153 0 24 (dk_at dksX2_fine_1 3 rfl rfl)
theorem dX2_fine_30 : decode cX2_fine 30 = .ok (.aload_n 0, 1) := dk_42 (dk_at dksX2_fine_1 6 rfl rfl)
theorem dX2_fine_31 : decode cX2_fine 31 = .ok (.aload_n 0, 1) := dk_42 (dk_at dksX2_fine_1 7 rfl rfl)
theorem dX2_fine_32 : decode cX2_fine 32 = .ok (.getfield 37, 3) := dk_180 0 37 (dk_at dksX2_fine_1 8 rfl rfl)
theorem dX2_fine_35 : decode cX2_fine 35 = .ok (.iload 4, 2) := dk_21 4 (dk_at dksX2_fine_1 11 rfl rfl)
theorem dX2_fine_37 : decode cX2_fine 37 = .ok (.iaload, 1) := dk_46 (dk_at dksX2_fine_1 13 rfl rfl)
theorem dX2_fine_38 : decode cX2_fine 38 = .ok (.invokevirtual 119, 3) := dk_182 0 119 (dk_at dksX2_fine_1 14 rfl rfl)
theorem dX2_fine_41 : decode cX2_fine 41 = .ok (.ifCond .eq 10, 3) := dk_153 0 10 (dk_at dksX2_fine_1 17 rfl rfl)
theorem dX2_fine_44 : decode cX2_fine 44 = .ok (.aload_n 0, 1) := dk_42 (dk_at dksX2_fine_1 20 rfl rfl)
theorem dX2_fine_45 : decode cX2_fine 45 = .ok (.getfield 9, 3) := dk_180 0 9 (dk_at dksX2_fine_1 21 rfl rfl)
theorem dX2_fine_48 : decode cX2_fine 48 = .ok (.goto 4, 3) := dk_167 0 4 (dk_at dksX2_fine_2 0 rfl rfl)
theorem dX2_fine_51 : decode cX2_fine 51 = .ok (.iconst 0, 1) := dk_3 (dk_at dksX2_fine_2 3 rfl rfl)
theorem dX2_fine_52 : decode cX2_fine 52 = .ok (.iadd, 1) := dk_96 (dk_at dksX2_fine_2 4 rfl rfl)
theorem dX2_fine_53 : decode cX2_fine 53 = .ok (.istore_n 3, 1) := dk_62 (dk_at dksX2_fine_2 5 rfl rfl)
theorem dX2_fine_54 : decode cX2_fine 54 = .ok (.iinc 4 1, 3) := dk_132 4 1 (dk_at dksX2_fine_2 6 rfl rfl)
theorem dX2_fine_57 : decode cX2_fine 57 = .ok (.goto (-46), 3) := dk_167 255 210 (dk_at dksX2_fine_2 9 rfl rfl)
theorem dX2_fine_60 : decode cX2_fine 60 = .ok (.iload_n 3, 1) := dk_29 (dk_at dksX2_fine_2 12 rfl rfl)
theorem dX2_fine_61 : decode cX2_fine 61 = .ok (.ireturn, 1) := dk_172 (dk_at dksX2_fine_2 13 rfl rfl)
abbrev cX2_duties : ByteArray := prog_18_method_20_code
def yX2_duties : MethodName := ⟨RX2, "duties", "()I"⟩
def dkwX2_duties_1 : List UInt8 := [167, 255, 237, 27, 172]
abbrev dktX2_duties_1 : List UInt8 := dkwX2_duties_1 ++ []
def dkwX2_duties_0 : List UInt8 := [3, 60, 3, 61, 28, 42, 180, 0, 40, 162, 0, 17, 27, 42, 28, 182, 0, 136, 96, 60, 132, 2, 1]
abbrev dktX2_duties_0 : List UInt8 := dkwX2_duties_0 ++ dktX2_duties_1
theorem dksX2_duties_0 : cX2_duties.data.toList.drop 0 = dktX2_duties_0 := by decide +kernel
theorem dksX2_duties_1 : cX2_duties.data.toList.drop 23 = dktX2_duties_1 := dk_seg dksX2_duties_0 23 rfl rfl
theorem dX2_duties_0 : decode cX2_duties 0 = .ok (.iconst 0, 1) := dk_3 (dk_at dksX2_duties_0 0 rfl rfl)
theorem dX2_duties_1 : decode cX2_duties 1 = .ok (.istore_n 1, 1) := dk_60 (dk_at dksX2_duties_0 1 rfl rfl)
theorem dX2_duties_2 : decode cX2_duties 2 = .ok (.iconst 0, 1) := dk_3 (dk_at dksX2_duties_0 2 rfl rfl)
theorem dX2_duties_3 : decode cX2_duties 3 = .ok (.istore_n 2, 1) := dk_61 (dk_at dksX2_duties_0 3 rfl rfl)
theorem dX2_duties_4 : decode cX2_duties 4 = .ok (.iload_n 2, 1) := dk_28 (dk_at dksX2_duties_0 4 rfl rfl)
theorem dX2_duties_5 : decode cX2_duties 5 = .ok (.aload_n 0, 1) := dk_42 (dk_at dksX2_duties_0 5 rfl rfl)
theorem dX2_duties_6 : decode cX2_duties 6 = .ok (.getfield 40, 3) := dk_180 0 40 (dk_at dksX2_duties_0 6 rfl rfl)
theorem dX2_duties_9 : decode cX2_duties 9 = .ok (.if_icmp .ge 17, 3) := dk_162 0 17 (dk_at dksX2_duties_0 9 rfl rfl)
theorem dX2_duties_12 : decode cX2_duties 12 = .ok (.iload_n 1, 1) := dk_27 (dk_at dksX2_duties_0 12 rfl rfl)
theorem dX2_duties_13 : decode cX2_duties 13 = .ok (.aload_n 0, 1) := dk_42 (dk_at dksX2_duties_0 13 rfl rfl)
theorem dX2_duties_14 : decode cX2_duties 14 = .ok (.iload_n 2, 1) := dk_28 (dk_at dksX2_duties_0 14 rfl rfl)
theorem dX2_duties_15 : decode cX2_duties 15 = .ok (.invokevirtual 136, 3) := dk_182 0 136 (dk_at dksX2_duties_0 15 rfl rfl)
theorem dX2_duties_18 : decode cX2_duties 18 = .ok (.iadd, 1) := dk_96 (dk_at dksX2_duties_0 18 rfl rfl)
theorem dX2_duties_19 : decode cX2_duties 19 = .ok (.istore_n 1, 1) := dk_60 (dk_at dksX2_duties_0 19 rfl rfl)
theorem dX2_duties_20 : decode cX2_duties 20 = .ok (.iinc 2 1, 3) := dk_132 2 1 (dk_at dksX2_duties_0 20 rfl rfl)
theorem dX2_duties_23 : decode cX2_duties 23 = .ok (.goto (-19), 3) := dk_167 255 237 (dk_at dksX2_duties_1 0 rfl rfl)
theorem dX2_duties_26 : decode cX2_duties 26 = .ok (.iload_n 1, 1) := dk_27 (dk_at dksX2_duties_1 3 rfl rfl)
theorem dX2_duties_27 : decode cX2_duties 27 = .ok (.ireturn, 1) := dk_172 (dk_at dksX2_duties_1 4 rfl rfl)
abbrev cX2_beside : ByteArray := prog_18_method_21_code
def yX2_beside : MethodName := ⟨RX2, "beside", "(II)I"⟩
def dkwX2_beside_4 : List UInt8 := [21, 5, 153, 0, 13, 16, 6, 29, 104, 21, 4, 96, 167, 0, 4, 2, 172]
abbrev dktX2_beside_4 : List UInt8 := dkwX2_beside_4 ++ []
def dkwX2_beside_3 : List UInt8 := [153, 0, 21, 42, 16, 6, 29, 104, 21, 4, 96, 182, 0, 145, 153, 0, 7, 4, 167, 0, 4, 3, 54, 5]
abbrev dktX2_beside_3 : List UInt8 := dkwX2_beside_3 ++ dktX2_beside_4
def dkwX2_beside_2 : List UInt8 := [54, 4, 29, 133, 9, 20, 0, 139, 184, 0, 141, 153, 0, 34, 21, 4, 133, 9, 20, 0, 139, 184, 0, 141]
abbrev dktX2_beside_2 : List UInt8 := dkwX2_beside_2 ++ dktX2_beside_3
def dkwX2_beside_1 : List UInt8 := [27, 16, 6, 112, 28, 4, 160, 0, 7, 4, 167, 0, 13, 28, 6, 160, 0, 7, 2, 167, 0, 4, 3, 96]
abbrev dktX2_beside_1 : List UInt8 := dkwX2_beside_1 ++ dktX2_beside_2
def dkwX2_beside_0 : List UInt8 := [27, 16, 6, 108, 28, 154, 0, 7, 2, 167, 0, 13, 28, 5, 160, 0, 7, 4, 167, 0, 4, 3, 96, 62]
abbrev dktX2_beside_0 : List UInt8 := dkwX2_beside_0 ++ dktX2_beside_1
theorem dksX2_beside_0 : cX2_beside.data.toList.drop 0 = dktX2_beside_0 := by decide +kernel
theorem dksX2_beside_1 : cX2_beside.data.toList.drop 24 = dktX2_beside_1 := dk_seg dksX2_beside_0 24 rfl rfl
theorem dksX2_beside_2 : cX2_beside.data.toList.drop 48 = dktX2_beside_2 := dk_seg dksX2_beside_1 24 rfl rfl
theorem dksX2_beside_3 : cX2_beside.data.toList.drop 72 = dktX2_beside_3 := dk_seg dksX2_beside_2 24 rfl rfl
theorem dksX2_beside_4 : cX2_beside.data.toList.drop 96 = dktX2_beside_4 := dk_seg dksX2_beside_3 24 rfl rfl
theorem dX2_beside_0 : decode cX2_beside 0 = .ok (.iload_n 1, 1) := dk_27 (dk_at dksX2_beside_0 0 rfl rfl)
theorem dX2_beside_1 : decode cX2_beside 1 = .ok (.bipush 6, 2) := dk_16 6 (dk_at dksX2_beside_0 1 rfl rfl)
theorem dX2_beside_3 : decode cX2_beside 3 = .ok (.idiv, 1) := dk_108 (dk_at dksX2_beside_0 3 rfl rfl)
theorem dX2_beside_4 : decode cX2_beside 4 = .ok (.iload_n 2, 1) := dk_28 (dk_at dksX2_beside_0 4 rfl rfl)
theorem dX2_beside_5 : decode cX2_beside 5 = .ok (.ifCond .ne 7, 3) := dk_154 0 7 (dk_at dksX2_beside_0 5 rfl rfl)
theorem dX2_beside_8 : decode cX2_beside 8 = .ok (.iconst (-1), 1) := dk_2 (dk_at dksX2_beside_0 8 rfl rfl)
theorem dX2_beside_9 : decode cX2_beside 9 = .ok (.goto 13, 3) := dk_167 0 13 (dk_at dksX2_beside_0 9 rfl rfl)
theorem dX2_beside_12 : decode cX2_beside 12 = .ok (.iload_n 2, 1) := dk_28 (dk_at dksX2_beside_0 12 rfl rfl)
theorem dX2_beside_13 : decode cX2_beside 13 = .ok (.iconst 2, 1) := dk_5 (dk_at dksX2_beside_0 13 rfl rfl)
theorem dX2_beside_14 : decode cX2_beside 14 = .ok (.if_icmp .ne 7, 3) := dk_160 0 7 (dk_at dksX2_beside_0 14 rfl rfl)
theorem dX2_beside_17 : decode cX2_beside 17 = .ok (.iconst 1, 1) := dk_4 (dk_at dksX2_beside_0 17 rfl rfl)
theorem dX2_beside_18 : decode cX2_beside 18 = .ok (.goto 4, 3) := dk_167 0 4 (dk_at dksX2_beside_0 18 rfl rfl)
theorem dX2_beside_21 : decode cX2_beside 21 = .ok (.iconst 0, 1) := dk_3 (dk_at dksX2_beside_0 21 rfl rfl)
theorem dX2_beside_22 : decode cX2_beside 22 = .ok (.iadd, 1) := dk_96 (dk_at dksX2_beside_0 22 rfl rfl)
theorem dX2_beside_23 : decode cX2_beside 23 = .ok (.istore_n 3, 1) := dk_62 (dk_at dksX2_beside_0 23 rfl rfl)
theorem dX2_beside_24 : decode cX2_beside 24 = .ok (.iload_n 1, 1) := dk_27 (dk_at dksX2_beside_1 0 rfl rfl)
theorem dX2_beside_25 : decode cX2_beside 25 = .ok (.bipush 6, 2) := dk_16 6 (dk_at dksX2_beside_1 1 rfl rfl)
theorem dX2_beside_27 : decode cX2_beside 27 = .ok (.irem, 1) := dk_112 (dk_at dksX2_beside_1 3 rfl rfl)
theorem dX2_beside_28 : decode cX2_beside 28 = .ok (.iload_n 2, 1) := dk_28 (dk_at dksX2_beside_1 4 rfl rfl)
theorem dX2_beside_29 : decode cX2_beside 29 = .ok (.iconst 1, 1) := dk_4 (dk_at dksX2_beside_1 5 rfl rfl)
theorem dX2_beside_30 : decode cX2_beside 30 = .ok (.if_icmp .ne 7, 3) := dk_160 0 7 (dk_at dksX2_beside_1 6 rfl rfl)
theorem dX2_beside_33 : decode cX2_beside 33 = .ok (.iconst 1, 1) := dk_4 (dk_at dksX2_beside_1 9 rfl rfl)
theorem dX2_beside_34 : decode cX2_beside 34 = .ok (.goto 13, 3) := dk_167 0 13 (dk_at dksX2_beside_1 10 rfl rfl)
theorem dX2_beside_37 : decode cX2_beside 37 = .ok (.iload_n 2, 1) := dk_28 (dk_at dksX2_beside_1 13 rfl rfl)
theorem dX2_beside_38 : decode cX2_beside 38 = .ok (.iconst 3, 1) := dk_6 (dk_at dksX2_beside_1 14 rfl rfl)
theorem dX2_beside_39 : decode cX2_beside 39 = .ok (.if_icmp .ne 7, 3) := dk_160 0 7 (dk_at dksX2_beside_1 15 rfl rfl)
theorem dX2_beside_42 : decode cX2_beside 42 = .ok (.iconst (-1), 1) := dk_2 (dk_at dksX2_beside_1 18 rfl rfl)
theorem dX2_beside_43 : decode cX2_beside 43 = .ok (.goto 4, 3) := dk_167 0 4 (dk_at dksX2_beside_1 19 rfl rfl)
theorem dX2_beside_46 : decode cX2_beside 46 = .ok (.iconst 0, 1) := dk_3 (dk_at dksX2_beside_1 22 rfl rfl)
theorem dX2_beside_47 : decode cX2_beside 47 = .ok (.iadd, 1) := dk_96 (dk_at dksX2_beside_1 23 rfl rfl)
theorem dX2_beside_48 : decode cX2_beside 48 = .ok (.istore 4, 2) := dk_54 4 (dk_at dksX2_beside_2 0 rfl rfl)
theorem dX2_beside_50 : decode cX2_beside 50 = .ok (.iload_n 3, 1) := dk_29 (dk_at dksX2_beside_2 2 rfl rfl)
theorem dX2_beside_51 : decode cX2_beside 51 = .ok (.i2l, 1) := dk_133 (dk_at dksX2_beside_2 3 rfl rfl)
theorem dX2_beside_52 : decode cX2_beside 52 = .ok (.lconst 0, 1) := dk_9 (dk_at dksX2_beside_2 4 rfl rfl)
theorem dX2_beside_53 : decode cX2_beside 53 = .ok (.ldc2_w 139, 3) := dk_20 0 139 (dk_at dksX2_beside_2 5 rfl rfl)
theorem dX2_beside_56 : decode cX2_beside 56 = .ok (.invokestatic 141, 3) := dk_184 0 141 (dk_at dksX2_beside_2 8 rfl rfl)
theorem dX2_beside_59 : decode cX2_beside 59 = .ok (.ifCond .eq 34, 3) := dk_153 0 34 (dk_at dksX2_beside_2 11 rfl rfl)
theorem dX2_beside_62 : decode cX2_beside 62 = .ok (.iload 4, 2) := dk_21 4 (dk_at dksX2_beside_2 14 rfl rfl)
theorem dX2_beside_64 : decode cX2_beside 64 = .ok (.i2l, 1) := dk_133 (dk_at dksX2_beside_2 16 rfl rfl)
theorem dX2_beside_65 : decode cX2_beside 65 = .ok (.lconst 0, 1) := dk_9 (dk_at dksX2_beside_2 17 rfl rfl)
theorem dX2_beside_66 : decode cX2_beside 66 = .ok (.ldc2_w 139, 3) := dk_20 0 139 (dk_at dksX2_beside_2 18 rfl rfl)
theorem dX2_beside_69 : decode cX2_beside 69 = .ok (.invokestatic 141, 3) := dk_184 0 141 (dk_at dksX2_beside_2 21 rfl rfl)
theorem dX2_beside_72 : decode cX2_beside 72 = .ok (.ifCond .eq 21, 3) := dk_153 0 21 (dk_at dksX2_beside_3 0 rfl rfl)
theorem dX2_beside_75 : decode cX2_beside 75 = .ok (.aload_n 0, 1) := dk_42 (dk_at dksX2_beside_3 3 rfl rfl)
theorem dX2_beside_76 : decode cX2_beside 76 = .ok (.bipush 6, 2) := dk_16 6 (dk_at dksX2_beside_3 4 rfl rfl)
theorem dX2_beside_78 : decode cX2_beside 78 = .ok (.iload_n 3, 1) := dk_29 (dk_at dksX2_beside_3 6 rfl rfl)
theorem dX2_beside_79 : decode cX2_beside 79 = .ok (.imul, 1) := dk_104 (dk_at dksX2_beside_3 7 rfl rfl)
theorem dX2_beside_80 : decode cX2_beside 80 = .ok (.iload 4, 2) := dk_21 4 (dk_at dksX2_beside_3 8 rfl rfl)
theorem dX2_beside_82 : decode cX2_beside 82 = .ok (.iadd, 1) := dk_96 (dk_at dksX2_beside_3 10 rfl rfl)
theorem dX2_beside_83 : decode cX2_beside 83 = .ok (.invokevirtual 145, 3) := dk_182 0 145 (dk_at dksX2_beside_3 11 rfl rfl)
theorem dX2_beside_86 : decode cX2_beside 86 = .ok (.ifCond .eq 7, 3) := dk_153 0 7 (dk_at dksX2_beside_3 14 rfl rfl)
theorem dX2_beside_89 : decode cX2_beside 89 = .ok (.iconst 1, 1) := dk_4 (dk_at dksX2_beside_3 17 rfl rfl)
theorem dX2_beside_90 : decode cX2_beside 90 = .ok (.goto 4, 3) := dk_167 0 4 (dk_at dksX2_beside_3 18 rfl rfl)
theorem dX2_beside_93 : decode cX2_beside 93 = .ok (.iconst 0, 1) := dk_3 (dk_at dksX2_beside_3 21 rfl rfl)
theorem dX2_beside_94 : decode cX2_beside 94 = .ok (.istore 5, 2) := dk_54 5 (dk_at dksX2_beside_3 22 rfl rfl)
theorem dX2_beside_96 : decode cX2_beside 96 = .ok (.iload 5, 2) := dk_21 5 (dk_at dksX2_beside_4 0 rfl rfl)
theorem dX2_beside_98 : decode cX2_beside 98 = .ok (.ifCond .eq 13, 3) := dk_153 0 13 (dk_at dksX2_beside_4 2 rfl rfl)
theorem dX2_beside_101 : decode cX2_beside 101 = .ok (.bipush 6, 2) := dk_16 6 (dk_at dksX2_beside_4 5 rfl rfl)
theorem dX2_beside_103 : decode cX2_beside 103 = .ok (.iload_n 3, 1) := dk_29 (dk_at dksX2_beside_4 7 rfl rfl)
theorem dX2_beside_104 : decode cX2_beside 104 = .ok (.imul, 1) := dk_104 (dk_at dksX2_beside_4 8 rfl rfl)
theorem dX2_beside_105 : decode cX2_beside 105 = .ok (.iload 4, 2) := dk_21 4 (dk_at dksX2_beside_4 9 rfl rfl)
theorem dX2_beside_107 : decode cX2_beside 107 = .ok (.iadd, 1) := dk_96 (dk_at dksX2_beside_4 11 rfl rfl)
theorem dX2_beside_108 : decode cX2_beside 108 = .ok (.goto 4, 3) := dk_167 0 4 (dk_at dksX2_beside_4 12 rfl rfl)
theorem dX2_beside_111 : decode cX2_beside 111 = .ok (.iconst (-1), 1) := dk_2 (dk_at dksX2_beside_4 15 rfl rfl)
theorem dX2_beside_112 : decode cX2_beside 112 = .ok (.ireturn, 1) := dk_172 (dk_at dksX2_beside_4 16 rfl rfl)
abbrev cX2_enteredTogether : ByteArray := prog_18_method_17_code
def yX2_enteredTogether : MethodName := ⟨RX2, "enteredTogether", "()I"⟩
def dkwX2_enteredTogether_1 : List UInt8 := [167, 255, 237, 27, 172]
abbrev dktX2_enteredTogether_1 : List UInt8 := dkwX2_enteredTogether_1 ++ []
def dkwX2_enteredTogether_0 : List UInt8 := [3, 60, 3, 61, 28, 42, 180, 0, 40, 162, 0, 17, 27, 42, 28, 182, 0, 130, 96, 60, 132, 2, 1]
abbrev dktX2_enteredTogether_0 : List UInt8 := dkwX2_enteredTogether_0 ++ dktX2_enteredTogether_1
theorem dksX2_enteredTogether_0 : cX2_enteredTogether.data.toList.drop 0 = dktX2_enteredTogether_0 := by decide +kernel
theorem dksX2_enteredTogether_1 : cX2_enteredTogether.data.toList.drop 23 = dktX2_enteredTogether_1 := dk_seg dksX2_enteredTogether_0 23 rfl rfl
theorem dX2_enteredTogether_0 : decode cX2_enteredTogether 0 = .ok (.iconst 0, 1) := dk_3 (dk_at dksX2_enteredTogether_0 0 rfl rfl)
theorem dX2_enteredTogether_1 : decode cX2_enteredTogether 1 = .ok (.istore_n 1, 1) := dk_60 (dk_at dksX2_enteredTogether_0 1 rfl rfl)
theorem dX2_enteredTogether_2 : decode cX2_enteredTogether 2 = .ok (.iconst 0, 1) := dk_3 (dk_at dksX2_enteredTogether_0 2 rfl rfl)
theorem dX2_enteredTogether_3 : decode cX2_enteredTogether 3 = .ok (.istore_n 2, 1) := dk_61 (dk_at dksX2_enteredTogether_0 3 rfl rfl)
theorem dX2_enteredTogether_4 : decode cX2_enteredTogether 4 = .ok (.iload_n 2, 1) := dk_28 (dk_at dksX2_enteredTogether_0 4 rfl rfl)
theorem dX2_enteredTogether_5 : decode cX2_enteredTogether 5 = .ok (.aload_n 0, 1) := dk_42 (dk_at dksX2_enteredTogether_0 5 rfl rfl)
theorem dX2_enteredTogether_6 : decode cX2_enteredTogether 6 = .ok (.getfield 40, 3) := dk_180 0 40 (dk_at dksX2_enteredTogether_0 6 rfl rfl)
theorem dX2_enteredTogether_9 : decode cX2_enteredTogether 9 = .ok (.if_icmp .ge 17, 3) := dk_162 0 17 (dk_at dksX2_enteredTogether_0 9 rfl rfl)
theorem dX2_enteredTogether_12 : decode cX2_enteredTogether 12 = .ok (.iload_n 1, 1) := dk_27 (dk_at dksX2_enteredTogether_0 12 rfl rfl)
theorem dX2_enteredTogether_13 : decode cX2_enteredTogether 13 = .ok (.aload_n 0, 1) := dk_42 (dk_at dksX2_enteredTogether_0 13 rfl rfl)
theorem dX2_enteredTogether_14 : decode cX2_enteredTogether 14 = .ok (.iload_n 2, 1) := dk_28 (dk_at dksX2_enteredTogether_0 14 rfl rfl)
theorem dX2_enteredTogether_15 : decode cX2_enteredTogether 15 = .ok (.invokevirtual 130, 3) := dk_182 0 130 (dk_at dksX2_enteredTogether_0 15 rfl rfl)
theorem dX2_enteredTogether_18 : decode cX2_enteredTogether 18 = .ok (.iadd, 1) := dk_96 (dk_at dksX2_enteredTogether_0 18 rfl rfl)
theorem dX2_enteredTogether_19 : decode cX2_enteredTogether 19 = .ok (.istore_n 1, 1) := dk_60 (dk_at dksX2_enteredTogether_0 19 rfl rfl)
theorem dX2_enteredTogether_20 : decode cX2_enteredTogether 20 = .ok (.iinc 2 1, 3) := dk_132 2 1 (dk_at dksX2_enteredTogether_0 20 rfl rfl)
theorem dX2_enteredTogether_23 : decode cX2_enteredTogether 23 = .ok (.goto (-19), 3) := dk_167 255 237 (dk_at dksX2_enteredTogether_1 0 rfl rfl)
theorem dX2_enteredTogether_26 : decode cX2_enteredTogether 26 = .ok (.iload_n 1, 1) := dk_27 (dk_at dksX2_enteredTogether_1 3 rfl rfl)
theorem dX2_enteredTogether_27 : decode cX2_enteredTogether 27 = .ok (.ireturn, 1) := dk_172 (dk_at dksX2_enteredTogether_1 4 rfl rfl)
abbrev cX2_pays : ByteArray := prog_18_method_22_code
def yX2_pays : MethodName := ⟨RX2, "pays", "(I)I"⟩
def dkwX2_pays_1 : List UInt8 := [79, 28, 172]
abbrev dktX2_pays_1 : List UInt8 := dkwX2_pays_1 ++ []
def dkwX2_pays_0 : List UInt8 := [42, 180, 0, 34, 27, 46, 42, 27, 182, 0, 136, 184, 0, 83, 61, 42, 180, 0, 34, 27, 92, 46, 28, 100]
abbrev dktX2_pays_0 : List UInt8 := dkwX2_pays_0 ++ dktX2_pays_1
theorem dksX2_pays_0 : cX2_pays.data.toList.drop 0 = dktX2_pays_0 := by decide +kernel
theorem dksX2_pays_1 : cX2_pays.data.toList.drop 24 = dktX2_pays_1 := dk_seg dksX2_pays_0 24 rfl rfl
theorem dX2_pays_0 : decode cX2_pays 0 = .ok (.aload_n 0, 1) := dk_42 (dk_at dksX2_pays_0 0 rfl rfl)
theorem dX2_pays_1 : decode cX2_pays 1 = .ok (.getfield 34, 3) := dk_180 0 34 (dk_at dksX2_pays_0 1 rfl rfl)
theorem dX2_pays_4 : decode cX2_pays 4 = .ok (.iload_n 1, 1) := dk_27 (dk_at dksX2_pays_0 4 rfl rfl)
theorem dX2_pays_5 : decode cX2_pays 5 = .ok (.iaload, 1) := dk_46 (dk_at dksX2_pays_0 5 rfl rfl)
theorem dX2_pays_6 : decode cX2_pays 6 = .ok (.aload_n 0, 1) := dk_42 (dk_at dksX2_pays_0 6 rfl rfl)
theorem dX2_pays_7 : decode cX2_pays 7 = .ok (.iload_n 1, 1) := dk_27 (dk_at dksX2_pays_0 7 rfl rfl)
theorem dX2_pays_8 : decode cX2_pays 8 = .ok (.invokevirtual 136, 3) := dk_182 0 136 (dk_at dksX2_pays_0 8 rfl rfl)
theorem dX2_pays_11 : decode cX2_pays 11 = .ok (.invokestatic 83, 3) := dk_184 0 83 (dk_at dksX2_pays_0 11 rfl rfl)
theorem dX2_pays_14 : decode cX2_pays 14 = .ok (.istore_n 2, 1) := dk_61 (dk_at dksX2_pays_0 14 rfl rfl)
theorem dX2_pays_15 : decode cX2_pays 15 = .ok (.aload_n 0, 1) := dk_42 (dk_at dksX2_pays_0 15 rfl rfl)
theorem dX2_pays_16 : decode cX2_pays 16 = .ok (.getfield 34, 3) := dk_180 0 34 (dk_at dksX2_pays_0 16 rfl rfl)
theorem dX2_pays_19 : decode cX2_pays 19 = .ok (.iload_n 1, 1) := dk_27 (dk_at dksX2_pays_0 19 rfl rfl)
theorem dX2_pays_20 : decode cX2_pays 20 = .ok (.dup2, 1) := dk_92 (dk_at dksX2_pays_0 20 rfl rfl)
theorem dX2_pays_21 : decode cX2_pays 21 = .ok (.iaload, 1) := dk_46 (dk_at dksX2_pays_0 21 rfl rfl)
theorem dX2_pays_22 : decode cX2_pays 22 = .ok (.iload_n 2, 1) := dk_28 (dk_at dksX2_pays_0 22 rfl rfl)
theorem dX2_pays_23 : decode cX2_pays 23 = .ok (.isub, 1) := dk_100 (dk_at dksX2_pays_0 23 rfl rfl)
theorem dX2_pays_24 : decode cX2_pays 24 = .ok (.iastore, 1) := dk_79 (dk_at dksX2_pays_1 0 rfl rfl)
theorem dX2_pays_25 : decode cX2_pays 25 = .ok (.iload_n 2, 1) := dk_28 (dk_at dksX2_pays_1 1 rfl rfl)
theorem dX2_pays_26 : decode cX2_pays 26 = .ok (.ireturn, 1) := dk_172 (dk_at dksX2_pays_1 2 rfl rfl)
abbrev cX2_draw : ByteArray := prog_18_method_24_code
def yX2_draw : MethodName := ⟨RX2, "draw", "(I)I"⟩
def dkwX2_draw_1 : List UInt8 := [172]
abbrev dktX2_draw_1 : List UInt8 := dkwX2_draw_1 ++ []
def dkwX2_draw_0 : List UInt8 := [42, 42, 180, 0, 18, 18, 148, 104, 17, 48, 57, 96, 181, 0, 18, 42, 180, 0, 18, 16, 16, 124, 27, 112]
abbrev dktX2_draw_0 : List UInt8 := dkwX2_draw_0 ++ dktX2_draw_1
theorem dksX2_draw_0 : cX2_draw.data.toList.drop 0 = dktX2_draw_0 := by decide +kernel
theorem dksX2_draw_1 : cX2_draw.data.toList.drop 24 = dktX2_draw_1 := dk_seg dksX2_draw_0 24 rfl rfl
theorem dX2_draw_0 : decode cX2_draw 0 = .ok (.aload_n 0, 1) := dk_42 (dk_at dksX2_draw_0 0 rfl rfl)
theorem dX2_draw_1 : decode cX2_draw 1 = .ok (.aload_n 0, 1) := dk_42 (dk_at dksX2_draw_0 1 rfl rfl)
theorem dX2_draw_2 : decode cX2_draw 2 = .ok (.getfield 18, 3) := dk_180 0 18 (dk_at dksX2_draw_0 2 rfl rfl)
theorem dX2_draw_5 : decode cX2_draw 5 = .ok (.ldc 148, 2) := dk_18 148 (dk_at dksX2_draw_0 5 rfl rfl)
theorem dX2_draw_7 : decode cX2_draw 7 = .ok (.imul, 1) := dk_104 (dk_at dksX2_draw_0 7 rfl rfl)
theorem dX2_draw_8 : decode cX2_draw 8 = .ok (.sipush 12345, 3) := dk_17 48 57 (dk_at dksX2_draw_0 8 rfl rfl)
theorem dX2_draw_11 : decode cX2_draw 11 = .ok (.iadd, 1) := dk_96 (dk_at dksX2_draw_0 11 rfl rfl)
theorem dX2_draw_12 : decode cX2_draw 12 = .ok (.putfield 18, 3) := dk_181 0 18 (dk_at dksX2_draw_0 12 rfl rfl)
theorem dX2_draw_15 : decode cX2_draw 15 = .ok (.aload_n 0, 1) := dk_42 (dk_at dksX2_draw_0 15 rfl rfl)
theorem dX2_draw_16 : decode cX2_draw 16 = .ok (.getfield 18, 3) := dk_180 0 18 (dk_at dksX2_draw_0 16 rfl rfl)
theorem dX2_draw_19 : decode cX2_draw 19 = .ok (.bipush 16, 2) := dk_16 16 (dk_at dksX2_draw_0 19 rfl rfl)
theorem dX2_draw_21 : decode cX2_draw 21 = .ok (.iushr, 1) := dk_124 (dk_at dksX2_draw_0 21 rfl rfl)
theorem dX2_draw_22 : decode cX2_draw 22 = .ok (.iload_n 1, 1) := dk_27 (dk_at dksX2_draw_0 22 rfl rfl)
theorem dX2_draw_23 : decode cX2_draw 23 = .ok (.irem, 1) := dk_112 (dk_at dksX2_draw_0 23 rfl rfl)
theorem dX2_draw_24 : decode cX2_draw 24 = .ok (.ireturn, 1) := dk_172 (dk_at dksX2_draw_1 0 rfl rfl)
abbrev cX2_pursesTogether : ByteArray := prog_18_method_23_code
def yX2_pursesTogether : MethodName := ⟨RX2, "pursesTogether", "()I"⟩
def dkwX2_pursesTogether_1 : List UInt8 := [167, 255, 236, 27, 172]
abbrev dktX2_pursesTogether_1 : List UInt8 := dkwX2_pursesTogether_1 ++ []
def dkwX2_pursesTogether_0 : List UInt8 := [3, 60, 3, 61, 28, 42, 180, 0, 40, 162, 0, 18, 27, 42, 180, 0, 34, 28, 46, 96, 60, 132, 2, 1]
abbrev dktX2_pursesTogether_0 : List UInt8 := dkwX2_pursesTogether_0 ++ dktX2_pursesTogether_1
theorem dksX2_pursesTogether_0 : cX2_pursesTogether.data.toList.drop 0 = dktX2_pursesTogether_0 := by decide +kernel
theorem dksX2_pursesTogether_1 : cX2_pursesTogether.data.toList.drop 24 = dktX2_pursesTogether_1 := dk_seg dksX2_pursesTogether_0 24 rfl rfl
theorem dX2_pursesTogether_0 : decode cX2_pursesTogether 0 = .ok (.iconst 0, 1) := dk_3 (dk_at dksX2_pursesTogether_0 0 rfl rfl)
theorem dX2_pursesTogether_1 : decode cX2_pursesTogether 1 = .ok (.istore_n 1, 1) := dk_60 (dk_at dksX2_pursesTogether_0 1 rfl rfl)
theorem dX2_pursesTogether_2 : decode cX2_pursesTogether 2 = .ok (.iconst 0, 1) := dk_3 (dk_at dksX2_pursesTogether_0 2 rfl rfl)
theorem dX2_pursesTogether_3 : decode cX2_pursesTogether 3 = .ok (.istore_n 2, 1) := dk_61 (dk_at dksX2_pursesTogether_0 3 rfl rfl)
theorem dX2_pursesTogether_4 : decode cX2_pursesTogether 4 = .ok (.iload_n 2, 1) := dk_28 (dk_at dksX2_pursesTogether_0 4 rfl rfl)
theorem dX2_pursesTogether_5 : decode cX2_pursesTogether 5 = .ok (.aload_n 0, 1) := dk_42 (dk_at dksX2_pursesTogether_0 5 rfl rfl)
theorem dX2_pursesTogether_6 : decode cX2_pursesTogether 6 = .ok (.getfield 40, 3) := dk_180 0 40 (dk_at dksX2_pursesTogether_0 6 rfl rfl)
theorem dX2_pursesTogether_9 : decode cX2_pursesTogether 9 = .ok (.if_icmp .ge 18, 3) := dk_162 0 18 (dk_at dksX2_pursesTogether_0 9 rfl rfl)
theorem dX2_pursesTogether_12 : decode cX2_pursesTogether 12 = .ok (.iload_n 1, 1) := dk_27 (dk_at dksX2_pursesTogether_0 12 rfl rfl)
theorem dX2_pursesTogether_13 : decode cX2_pursesTogether 13 = .ok (.aload_n 0, 1) := dk_42 (dk_at dksX2_pursesTogether_0 13 rfl rfl)
theorem dX2_pursesTogether_14 : decode cX2_pursesTogether 14 = .ok (.getfield 34, 3) := dk_180 0 34 (dk_at dksX2_pursesTogether_0 14 rfl rfl)
theorem dX2_pursesTogether_17 : decode cX2_pursesTogether 17 = .ok (.iload_n 2, 1) := dk_28 (dk_at dksX2_pursesTogether_0 17 rfl rfl)
theorem dX2_pursesTogether_18 : decode cX2_pursesTogether 18 = .ok (.iaload, 1) := dk_46 (dk_at dksX2_pursesTogether_0 18 rfl rfl)
theorem dX2_pursesTogether_19 : decode cX2_pursesTogether 19 = .ok (.iadd, 1) := dk_96 (dk_at dksX2_pursesTogether_0 19 rfl rfl)
theorem dX2_pursesTogether_20 : decode cX2_pursesTogether 20 = .ok (.istore_n 1, 1) := dk_60 (dk_at dksX2_pursesTogether_0 20 rfl rfl)
theorem dX2_pursesTogether_21 : decode cX2_pursesTogether 21 = .ok (.iinc 2 1, 3) := dk_132 2 1 (dk_at dksX2_pursesTogether_0 21 rfl rfl)
theorem dX2_pursesTogether_24 : decode cX2_pursesTogether 24 = .ok (.goto (-20), 3) := dk_167 255 236 (dk_at dksX2_pursesTogether_1 0 rfl rfl)
theorem dX2_pursesTogether_27 : decode cX2_pursesTogether 27 = .ok (.iload_n 1, 1) := dk_27 (dk_at dksX2_pursesTogether_1 3 rfl rfl)
theorem dX2_pursesTogether_28 : decode cX2_pursesTogether 28 = .ok (.ireturn, 1) := dk_172 (dk_at dksX2_pursesTogether_1 4 rfl rfl)
theorem q84 : (Jvm.Cond.initialized "TaxOnLooks$Town") ∈ lw_all := lw_g (lw_at lw_m1 3 rfl) rfl
theorem q145 : (Jvm.Cond.instantiable "TaxOnLooks$Town" (15 : Nat)) ∈ lw_all := lw_g (lw_at lw_m1 64 rfl) rfl
theorem q147 : (Jvm.Cond.instanceMethod ({ cls := "TaxOnLooks$Town", name := "<init>", desc := "()V" } : Jvm.MethodName)) ∈ lw_all := lw_g (lw_at lw_m1 66 rfl) rfl
theorem q148 : (Jvm.Cond.code ({ cls := "TaxOnLooks$Town", name := "<init>", desc := "()V" } : Jvm.MethodName) prog_18_method_1_code (1 : Nat) (Option.none : Option Jvm.ClassFile.FieldType)) ∈ lw_all := lw_g (lw_at lw_m1 67 rfl) rfl
theorem q149 : (Jvm.Cond.methodLink "TaxOnLooks$Town" (3 : Nat) ({ cls := "java/lang/Object", name := "<init>", desc := "()V" } : Jvm.MethodName)) ∈ lw_all := lw_g (lw_at lw_m1 68 rfl) rfl
theorem q150 : (Jvm.Cond.classLink "TaxOnLooks$Town" (24 : Nat) "TaxOnLooks$Person") ∈ lw_all := lw_g (lw_at lw_m1 69 rfl) rfl
theorem q152 : (Jvm.Cond.fieldLink "TaxOnLooks$Town" (40 : Nat) "TaxOnLooks$Town" "many" "I") ∈ lw_all := lw_g (lw_at lw_m1 71 rfl) rfl
theorem q155 : (Jvm.Cond.fieldLink "TaxOnLooks$Town" (9 : Nat) "TaxOnLooks$Town" "mite" "I") ∈ lw_all := lw_g (lw_at lw_m1 74 rfl) rfl
theorem q158 : (Jvm.Cond.fieldLink "TaxOnLooks$Town" (15 : Nat) "TaxOnLooks$Town" "reach" "I") ∈ lw_all := lw_g (lw_at lw_m1 77 rfl) rfl
theorem q161 : (Jvm.Cond.fieldLink "TaxOnLooks$Town" (43 : Nat) "TaxOnLooks$Town" "rain" "Z") ∈ lw_all := lw_g (lw_at lw_m1 80 rfl) rfl
theorem q163 : (Jvm.Cond.fieldLink "TaxOnLooks$Town" (47 : Nat) "TaxOnLooks$Town" "hours" "I") ∈ lw_all := lw_g (lw_at lw_m1 82 rfl) rfl
theorem q165 : (Jvm.Cond.fieldLink "TaxOnLooks$Town" (50 : Nat) "TaxOnLooks$Town" "taken" "I") ∈ lw_all := lw_g (lw_at lw_m1 84 rfl) rfl
theorem q167 : (Jvm.Cond.fieldLink "TaxOnLooks$Town" (18 : Nat) "TaxOnLooks$Town" "seed" "I") ∈ lw_all := lw_g (lw_at lw_m1 86 rfl) rfl
theorem q169 : (Jvm.Cond.fieldLink "TaxOnLooks$Town" (53 : Nat) "TaxOnLooks$Town" "walls" "J") ∈ lw_all := lw_g (lw_at lw_m1 88 rfl) rfl
theorem q172 : (Jvm.Cond.fieldLink "TaxOnLooks$Town" (57 : Nat) "TaxOnLooks$Town" "balconies" "J") ∈ lw_all := lw_g (lw_at lw_m1 91 rfl) rfl
theorem q175 : (Jvm.Cond.fieldLink "TaxOnLooks$Town" (60 : Nat) "TaxOnLooks$Town" "sacks" "I") ∈ lw_all := lw_g (lw_at lw_m1 94 rfl) rfl
theorem q178 : (Jvm.Cond.fieldLink "TaxOnLooks$Town" (21 : Nat) "TaxOnLooks$Town" "absent" "I") ∈ lw_all := lw_g (lw_at lw_m1 97 rfl) rfl
theorem q180 : (Jvm.Cond.fieldLink "TaxOnLooks$Town" (26 : Nat) "TaxOnLooks$Town" "people" "[LTaxOnLooks$Person;") ∈ lw_all := lw_g (lw_at lw_m1 99 rfl) rfl
theorem q182 : (Jvm.Cond.fieldLink "TaxOnLooks$Town" (30 : Nat) "TaxOnLooks$Town" "looks" "[I") ∈ lw_all := lw_g (lw_at lw_m1 101 rfl) rfl
theorem q184 : (Jvm.Cond.fieldLink "TaxOnLooks$Town" (34 : Nat) "TaxOnLooks$Town" "purse" "[I") ∈ lw_all := lw_g (lw_at lw_m1 103 rfl) rfl
theorem q187 : (Jvm.Cond.fieldLink "TaxOnLooks$Town" (37 : Nat) "TaxOnLooks$Town" "at" "[I") ∈ lw_all := lw_g (lw_at lw_m1 106 rfl) rfl
theorem q191 : (Jvm.Cond.lays "TaxOnLooks$Town" "TaxOnLooks$Town" "many" "I") ∈ lw_all := lw_g (lw_at lw_m1 110 rfl) rfl
theorem q192 : (Jvm.Cond.soleField "TaxOnLooks$Town" "many") ∈ lw_all := lw_g (lw_at lw_m1 111 rfl) rfl
theorem q193 : (Jvm.Cond.lays "TaxOnLooks$Town" "TaxOnLooks$Town" "mite" "I") ∈ lw_all := lw_g (lw_at lw_m1 112 rfl) rfl
theorem q194 : (Jvm.Cond.soleField "TaxOnLooks$Town" "mite") ∈ lw_all := lw_g (lw_at lw_m1 113 rfl) rfl
theorem q195 : (Jvm.Cond.lays "TaxOnLooks$Town" "TaxOnLooks$Town" "reach" "I") ∈ lw_all := lw_g (lw_at lw_m1 114 rfl) rfl
theorem q196 : (Jvm.Cond.soleField "TaxOnLooks$Town" "reach") ∈ lw_all := lw_g (lw_at lw_m1 115 rfl) rfl
theorem q197 : (Jvm.Cond.lays "TaxOnLooks$Town" "TaxOnLooks$Town" "rain" "Z") ∈ lw_all := lw_g (lw_at lw_m1 116 rfl) rfl
theorem q198 : (Jvm.Cond.soleField "TaxOnLooks$Town" "rain") ∈ lw_all := lw_g (lw_at lw_m1 117 rfl) rfl
theorem q199 : (Jvm.Cond.lays "TaxOnLooks$Town" "TaxOnLooks$Town" "hours" "I") ∈ lw_all := lw_g (lw_at lw_m1 118 rfl) rfl
theorem q200 : (Jvm.Cond.soleField "TaxOnLooks$Town" "hours") ∈ lw_all := lw_g (lw_at lw_m1 119 rfl) rfl
theorem q201 : (Jvm.Cond.lays "TaxOnLooks$Town" "TaxOnLooks$Town" "taken" "I") ∈ lw_all := lw_g (lw_at lw_m1 120 rfl) rfl
theorem q202 : (Jvm.Cond.soleField "TaxOnLooks$Town" "taken") ∈ lw_all := lw_g (lw_at lw_m1 121 rfl) rfl
theorem q203 : (Jvm.Cond.lays "TaxOnLooks$Town" "TaxOnLooks$Town" "seed" "I") ∈ lw_all := lw_g (lw_at lw_m1 122 rfl) rfl
theorem q204 : (Jvm.Cond.soleField "TaxOnLooks$Town" "seed") ∈ lw_all := lw_g (lw_at lw_m1 123 rfl) rfl
theorem q205 : (Jvm.Cond.lays "TaxOnLooks$Town" "TaxOnLooks$Town" "walls" "J") ∈ lw_all := lw_g (lw_at lw_m1 124 rfl) rfl
theorem q206 : (Jvm.Cond.soleField "TaxOnLooks$Town" "walls") ∈ lw_all := lw_g (lw_at lw_m1 125 rfl) rfl
theorem q207 : (Jvm.Cond.lays "TaxOnLooks$Town" "TaxOnLooks$Town" "balconies" "J") ∈ lw_all := lw_g (lw_at lw_m1 126 rfl) rfl
theorem q208 : (Jvm.Cond.soleField "TaxOnLooks$Town" "balconies") ∈ lw_all := lw_g (lw_at lw_m1 127 rfl) rfl
theorem q209 : (Jvm.Cond.lays "TaxOnLooks$Town" "TaxOnLooks$Town" "sacks" "I") ∈ lw_all := lw_g (lw_at lw_m1 128 rfl) rfl
theorem q210 : (Jvm.Cond.soleField "TaxOnLooks$Town" "sacks") ∈ lw_all := lw_g (lw_at lw_m1 129 rfl) rfl
theorem q211 : (Jvm.Cond.lays "TaxOnLooks$Town" "TaxOnLooks$Town" "absent" "I") ∈ lw_all := lw_g (lw_at lw_m1 130 rfl) rfl
theorem q212 : (Jvm.Cond.soleField "TaxOnLooks$Town" "absent") ∈ lw_all := lw_g (lw_at lw_m1 131 rfl) rfl
theorem q213 : (Jvm.Cond.laysFinal "TaxOnLooks$Town" "TaxOnLooks$Town" "people" "[LTaxOnLooks$Person;") ∈ lw_all := lw_g (lw_at lw_m1 132 rfl) rfl
theorem q214 : (Jvm.Cond.soleField "TaxOnLooks$Town" "people") ∈ lw_all := lw_g (lw_at lw_m1 133 rfl) rfl
theorem q215 : (Jvm.Cond.laysFinal "TaxOnLooks$Town" "TaxOnLooks$Town" "looks" "[I") ∈ lw_all := lw_g (lw_at lw_m1 134 rfl) rfl
theorem q216 : (Jvm.Cond.soleField "TaxOnLooks$Town" "looks") ∈ lw_all := lw_g (lw_at lw_m1 135 rfl) rfl
theorem q217 : (Jvm.Cond.laysFinal "TaxOnLooks$Town" "TaxOnLooks$Town" "purse" "[I") ∈ lw_all := lw_g (lw_at lw_m1 136 rfl) rfl
theorem q218 : (Jvm.Cond.soleField "TaxOnLooks$Town" "purse") ∈ lw_all := lw_g (lw_at lw_m1 137 rfl) rfl
theorem q219 : (Jvm.Cond.laysFinal "TaxOnLooks$Town" "TaxOnLooks$Town" "at" "[I") ∈ lw_all := lw_g (lw_at lw_m1 138 rfl) rfl
theorem q220 : (Jvm.Cond.soleField "TaxOnLooks$Town" "at") ∈ lw_all := lw_g (lw_at lw_m1 139 rfl) rfl
theorem q221 : (Jvm.Cond.superclass "TaxOnLooks$Town" "java/lang/Object") ∈ lw_all := lw_g (lw_at lw_m1 140 rfl) rfl
theorem q568 : (Jvm.Cond.instanceMethod ({ cls := "TaxOnLooks$Town", name := "isPerson", desc := "(I)Z" } : Jvm.MethodName)) ∈ lw_all := lw_g (lw_at lw_m3 7 rfl) rfl
theorem q569 : (Jvm.Cond.selects "TaxOnLooks$Town" ({ cls := "TaxOnLooks$Town", name := "isPerson", desc := "(I)Z" } : Jvm.MethodName) ({ cls := "TaxOnLooks$Town", name := "isPerson", desc := "(I)Z" } : Jvm.MethodName)) ∈ lw_all := lw_g (lw_at lw_m3 8 rfl) rfl
theorem q570 : (Jvm.Cond.code ({ cls := "TaxOnLooks$Town", name := "isPerson", desc := "(I)Z" } : Jvm.MethodName) prog_18_method_4_code (2 : Nat) (Option.some Jvm.ClassFile.FieldType.boolean)) ∈ lw_all := lw_g (lw_at lw_m3 9 rfl) rfl
theorem q588 : (Jvm.Cond.instanceMethod ({ cls := "TaxOnLooks$Town", name := "show", desc := "(I)I" } : Jvm.MethodName)) ∈ lw_all := lw_g (lw_at lw_m3 27 rfl) rfl
theorem q589 : (Jvm.Cond.selects "TaxOnLooks$Town" ({ cls := "TaxOnLooks$Town", name := "show", desc := "(I)I" } : Jvm.MethodName) ({ cls := "TaxOnLooks$Town", name := "show", desc := "(I)I" } : Jvm.MethodName)) ∈ lw_all := lw_g (lw_at lw_m3 28 rfl) rfl
theorem q590 : (Jvm.Cond.code ({ cls := "TaxOnLooks$Town", name := "show", desc := "(I)I" } : Jvm.MethodName) prog_18_method_11_code (3 : Nat) (Option.some Jvm.ClassFile.FieldType.int)) ∈ lw_all := lw_g (lw_at lw_m3 29 rfl) rfl
theorem q591 : (Jvm.Cond.methodLink "TaxOnLooks$Town" (93 : Nat) ({ cls := "TaxOnLooks$Person", name := "shows", desc := "(I)I" } : Jvm.MethodName)) ∈ lw_all := lw_g (lw_at lw_m3 30 rfl) rfl
theorem q633 : (Jvm.Cond.instanceMethod ({ cls := "TaxOnLooks$Town", name := "isFree", desc := "(I)Z" } : Jvm.MethodName)) ∈ lw_all := lw_g (lw_at lw_m3 72 rfl) rfl
theorem q634 : (Jvm.Cond.selects "TaxOnLooks$Town" ({ cls := "TaxOnLooks$Town", name := "isFree", desc := "(I)Z" } : Jvm.MethodName) ({ cls := "TaxOnLooks$Town", name := "isFree", desc := "(I)Z" } : Jvm.MethodName)) ∈ lw_all := lw_g (lw_at lw_m3 73 rfl) rfl
theorem q635 : (Jvm.Cond.code ({ cls := "TaxOnLooks$Town", name := "isFree", desc := "(I)Z" } : Jvm.MethodName) prog_18_method_6_code (2 : Nat) (Option.some Jvm.ClassFile.FieldType.boolean)) ∈ lw_all := lw_g (lw_at lw_m3 74 rfl) rfl
theorem q636 : (Jvm.Cond.methodLink "TaxOnLooks$Town" (69 : Nat) ({ cls := "TaxOnLooks$Town", name := "isWall", desc := "(I)Z" } : Jvm.MethodName)) ∈ lw_all := lw_g (lw_at lw_m3 75 rfl) rfl
theorem q637 : (Jvm.Cond.instanceMethod ({ cls := "TaxOnLooks$Town", name := "isWall", desc := "(I)Z" } : Jvm.MethodName)) ∈ lw_all := lw_g (lw_at lw_m3 76 rfl) rfl
theorem q638 : (Jvm.Cond.selects "TaxOnLooks$Town" ({ cls := "TaxOnLooks$Town", name := "isWall", desc := "(I)Z" } : Jvm.MethodName) ({ cls := "TaxOnLooks$Town", name := "isWall", desc := "(I)Z" } : Jvm.MethodName)) ∈ lw_all := lw_g (lw_at lw_m3 77 rfl) rfl
theorem q639 : (Jvm.Cond.code ({ cls := "TaxOnLooks$Town", name := "isWall", desc := "(I)Z" } : Jvm.MethodName) prog_18_method_5_code (2 : Nat) (Option.some Jvm.ClassFile.FieldType.boolean)) ∈ lw_all := lw_g (lw_at lw_m3 78 rfl) rfl
theorem q679 : (Jvm.Cond.fieldLink "TaxOnLooks$Town" (103 : Nat) "TaxOnLooks$Person" "shame" "I") ∈ lw_all := lw_g (lw_at lw_m3 118 rfl) rfl
theorem q741 : (Jvm.Cond.instanceMethod ({ cls := "TaxOnLooks$Town", name := "addPerson", desc := "(LTaxOnLooks$Person;III)V" } : Jvm.MethodName)) ∈ lw_all := lw_g (lw_at lw_m3 180 rfl) rfl
theorem q742 : (Jvm.Cond.selects "TaxOnLooks$Town" ({ cls := "TaxOnLooks$Town", name := "addPerson", desc := "(LTaxOnLooks$Person;III)V" } : Jvm.MethodName) ({ cls := "TaxOnLooks$Town", name := "addPerson", desc := "(LTaxOnLooks$Person;III)V" } : Jvm.MethodName)) ∈ lw_all := lw_g (lw_at lw_m3 181 rfl) rfl
theorem q743 : (Jvm.Cond.code ({ cls := "TaxOnLooks$Town", name := "addPerson", desc := "(LTaxOnLooks$Person;III)V" } : Jvm.MethodName) prog_18_method_3_code (5 : Nat) (Option.none : Option Jvm.ClassFile.FieldType)) ∈ lw_all := lw_g (lw_at lw_m3 182 rfl) rfl
theorem q750 : (Jvm.Cond.instanceMethod ({ cls := "TaxOnLooks$Town", name := "standAt", desc := "(I)I" } : Jvm.MethodName)) ∈ lw_all := lw_g (lw_at lw_m3 189 rfl) rfl
theorem q751 : (Jvm.Cond.selects "TaxOnLooks$Town" ({ cls := "TaxOnLooks$Town", name := "standAt", desc := "(I)I" } : Jvm.MethodName) ({ cls := "TaxOnLooks$Town", name := "standAt", desc := "(I)I" } : Jvm.MethodName)) ∈ lw_all := lw_g (lw_at lw_m3 190 rfl) rfl
theorem q752 : (Jvm.Cond.code ({ cls := "TaxOnLooks$Town", name := "standAt", desc := "(I)I" } : Jvm.MethodName) prog_18_method_7_code (4 : Nat) (Option.some Jvm.ClassFile.FieldType.int)) ∈ lw_all := lw_g (lw_at lw_m3 191 rfl) rfl
theorem q817 : (Jvm.Cond.instanceMethod ({ cls := "TaxOnLooks$Town", name := "take", desc := "(LTaxOnLooks$Town;)LTaxOnLooks$Town;" } : Jvm.MethodName)) ∈ lw_all := lw_g (lw_at lw_m4 16 rfl) rfl
theorem q818 : (Jvm.Cond.selects "TaxOnLooks$Town" ({ cls := "TaxOnLooks$Town", name := "take", desc := "(LTaxOnLooks$Town;)LTaxOnLooks$Town;" } : Jvm.MethodName) ({ cls := "TaxOnLooks$Town", name := "take", desc := "(LTaxOnLooks$Town;)LTaxOnLooks$Town;" } : Jvm.MethodName)) ∈ lw_all := lw_g (lw_at lw_m4 17 rfl) rfl
theorem q819 : (Jvm.Cond.code ({ cls := "TaxOnLooks$Town", name := "take", desc := "(LTaxOnLooks$Town;)LTaxOnLooks$Town;" } : Jvm.MethodName) prog_18_method_2_code (2 : Nat) (Option.some (Jvm.ClassFile.FieldType.object "TaxOnLooks$Town"))) ∈ lw_all := lw_g (lw_at lw_m4 18 rfl) rfl
theorem q820 : (Jvm.Cond.methodLink "TaxOnLooks$Town" (63 : Nat) ({ cls := "java/lang/System", name := "arraycopy", desc := "(Ljava/lang/Object;ILjava/lang/Object;II)V" } : Jvm.MethodName)) ∈ lw_all := lw_g (lw_at lw_m4 19 rfl) rfl
theorem q1001 : (Jvm.Cond.instanceMethod ({ cls := "TaxOnLooks$Town", name := "isInView", desc := "(II)Z" } : Jvm.MethodName)) ∈ lw_all := lw_g (lw_at lw_m4 200 rfl) rfl
theorem q1002 : (Jvm.Cond.selects "TaxOnLooks$Town" ({ cls := "TaxOnLooks$Town", name := "isInView", desc := "(II)Z" } : Jvm.MethodName) ({ cls := "TaxOnLooks$Town", name := "isInView", desc := "(II)Z" } : Jvm.MethodName)) ∈ lw_all := lw_g (lw_at lw_m4 201 rfl) rfl
theorem q1003 : (Jvm.Cond.code ({ cls := "TaxOnLooks$Town", name := "isInView", desc := "(II)Z" } : Jvm.MethodName) prog_18_method_9_code (6 : Nat) (Option.some Jvm.ClassFile.FieldType.boolean)) ∈ lw_all := lw_g (lw_at lw_m4 202 rfl) rfl
theorem q1004 : (Jvm.Cond.methodLink "TaxOnLooks$Town" (79 : Nat) ({ cls := "TaxOnLooks$Town", name := "distance", desc := "(II)I" } : Jvm.MethodName)) ∈ lw_all := lw_g (lw_at lw_m4 203 rfl) rfl
theorem q1005 : (Jvm.Cond.static ({ cls := "TaxOnLooks$Town", name := "distance", desc := "(II)I" } : Jvm.MethodName)) ∈ lw_all := lw_g (lw_at lw_m4 204 rfl) rfl
theorem q1006 : (Jvm.Cond.code ({ cls := "TaxOnLooks$Town", name := "distance", desc := "(II)I" } : Jvm.MethodName) prog_18_method_8_code (2 : Nat) (Option.some Jvm.ClassFile.FieldType.int)) ∈ lw_all := lw_g (lw_at lw_m4 205 rfl) rfl
theorem q1007 : (Jvm.Cond.methodLink "TaxOnLooks$Town" (73 : Nat) ({ cls := "java/lang/Math", name := "abs", desc := "(I)I" } : Jvm.MethodName)) ∈ lw_all := lw_g (lw_at lw_m4 206 rfl) rfl
theorem q1010 : (Jvm.Cond.methodLink "TaxOnLooks$Town" (83 : Nat) ({ cls := "java/lang/Math", name := "min", desc := "(II)I" } : Jvm.MethodName)) ∈ lw_all := lw_g (lw_at lw_m4 209 rfl) rfl
theorem q1013 : (Jvm.Cond.methodLink "TaxOnLooks$Town" (86 : Nat) ({ cls := "java/lang/Math", name := "max", desc := "(II)I" } : Jvm.MethodName)) ∈ lw_all := lw_g (lw_at lw_m4 212 rfl) rfl
theorem q1019 : (Jvm.Cond.instanceMethod ({ cls := "TaxOnLooks$Town", name := "glancers", desc := "(I)I" } : Jvm.MethodName)) ∈ lw_all := lw_g (lw_at lw_m4 218 rfl) rfl
theorem q1020 : (Jvm.Cond.selects "TaxOnLooks$Town" ({ cls := "TaxOnLooks$Town", name := "glancers", desc := "(I)I" } : Jvm.MethodName) ({ cls := "TaxOnLooks$Town", name := "glancers", desc := "(I)I" } : Jvm.MethodName)) ∈ lw_all := lw_g (lw_at lw_m4 219 rfl) rfl
theorem q1021 : (Jvm.Cond.code ({ cls := "TaxOnLooks$Town", name := "glancers", desc := "(I)I" } : Jvm.MethodName) prog_18_method_15_code (4 : Nat) (Option.some Jvm.ClassFile.FieldType.int)) ∈ lw_all := lw_g (lw_at lw_m4 220 rfl) rfl
theorem q1022 : (Jvm.Cond.methodLink "TaxOnLooks$Town" (116 : Nat) ({ cls := "TaxOnLooks$Town", name := "glances", desc := "(I)I" } : Jvm.MethodName)) ∈ lw_all := lw_g (lw_at lw_m4 221 rfl) rfl
theorem q1023 : (Jvm.Cond.instanceMethod ({ cls := "TaxOnLooks$Town", name := "glances", desc := "(I)I" } : Jvm.MethodName)) ∈ lw_all := lw_g (lw_at lw_m4 222 rfl) rfl
theorem q1024 : (Jvm.Cond.selects "TaxOnLooks$Town" ({ cls := "TaxOnLooks$Town", name := "glances", desc := "(I)I" } : Jvm.MethodName) ({ cls := "TaxOnLooks$Town", name := "glances", desc := "(I)I" } : Jvm.MethodName)) ∈ lw_all := lw_g (lw_at lw_m4 223 rfl) rfl
theorem q1025 : (Jvm.Cond.code ({ cls := "TaxOnLooks$Town", name := "glances", desc := "(I)I" } : Jvm.MethodName) prog_18_method_14_code (5 : Nat) (Option.some Jvm.ClassFile.FieldType.int)) ∈ lw_all := lw_g (lw_at lw_m4 224 rfl) rfl
theorem q1026 : (Jvm.Cond.methodLink "TaxOnLooks$Town" (106 : Nat) ({ cls := "TaxOnLooks$Town", name := "catches", desc := "(II)Z" } : Jvm.MethodName)) ∈ lw_all := lw_g (lw_at lw_m4 225 rfl) rfl
theorem q1027 : (Jvm.Cond.privateMethod ({ cls := "TaxOnLooks$Town", name := "catches", desc := "(II)Z" } : Jvm.MethodName)) ∈ lw_tbl := lw_at lw_m4 226 rfl
theorem q1028 : (Jvm.Cond.instanceMethod ({ cls := "TaxOnLooks$Town", name := "catches", desc := "(II)Z" } : Jvm.MethodName)) ∈ lw_all := lw_g (lw_at lw_m4 227 rfl) rfl
theorem q1029 : (Jvm.Cond.code ({ cls := "TaxOnLooks$Town", name := "catches", desc := "(II)Z" } : Jvm.MethodName) prog_18_method_12_code (3 : Nat) (Option.some Jvm.ClassFile.FieldType.boolean)) ∈ lw_all := lw_g (lw_at lw_m4 228 rfl) rfl
theorem q1030 : (Jvm.Cond.methodLink "TaxOnLooks$Town" (96 : Nat) ({ cls := "TaxOnLooks$Person", name := "looksAtAll", desc := "()Z" } : Jvm.MethodName)) ∈ lw_all := lw_g (lw_at lw_m4 229 rfl) rfl
theorem q1043 : (Jvm.Cond.methodLink "TaxOnLooks$Town" (89 : Nat) ({ cls := "TaxOnLooks$Town", name := "isInView", desc := "(II)Z" } : Jvm.MethodName)) ∈ lw_all := lw_g (lw_at lw_m5 2 rfl) rfl
theorem q1044 : (Jvm.Cond.methodLink "TaxOnLooks$Town" (100 : Nat) ({ cls := "TaxOnLooks$Town", name := "show", desc := "(I)I" } : Jvm.MethodName)) ∈ lw_all := lw_g (lw_at lw_m5 3 rfl) rfl
theorem q1045 : (Jvm.Cond.methodLink "TaxOnLooks$Town" (109 : Nat) ({ cls := "TaxOnLooks$Town", name := "isBefore", desc := "(III)Z" } : Jvm.MethodName)) ∈ lw_all := lw_g (lw_at lw_m5 4 rfl) rfl
theorem q1046 : (Jvm.Cond.privateMethod ({ cls := "TaxOnLooks$Town", name := "isBefore", desc := "(III)Z" } : Jvm.MethodName)) ∈ lw_tbl := lw_at lw_m5 5 rfl
theorem q1047 : (Jvm.Cond.instanceMethod ({ cls := "TaxOnLooks$Town", name := "isBefore", desc := "(III)Z" } : Jvm.MethodName)) ∈ lw_all := lw_g (lw_at lw_m5 6 rfl) rfl
theorem q1048 : (Jvm.Cond.code ({ cls := "TaxOnLooks$Town", name := "isBefore", desc := "(III)Z" } : Jvm.MethodName) prog_18_method_13_code (5 : Nat) (Option.some Jvm.ClassFile.FieldType.boolean)) ∈ lw_all := lw_g (lw_at lw_m5 7 rfl) rfl
theorem q1049 : (Jvm.Cond.methodLink "TaxOnLooks$Town" (113 : Nat) ({ cls := "TaxOnLooks$Person", name := "looksAtOne", desc := "()Z" } : Jvm.MethodName)) ∈ lw_all := lw_g (lw_at lw_m5 8 rfl) rfl
theorem q1068 : (Jvm.Cond.instanceMethod ({ cls := "TaxOnLooks$Town", name := "duty", desc := "(I)I" } : Jvm.MethodName)) ∈ lw_all := lw_g (lw_at lw_m5 27 rfl) rfl
theorem q1069 : (Jvm.Cond.selects "TaxOnLooks$Town" ({ cls := "TaxOnLooks$Town", name := "duty", desc := "(I)I" } : Jvm.MethodName) ({ cls := "TaxOnLooks$Town", name := "duty", desc := "(I)I" } : Jvm.MethodName)) ∈ lw_all := lw_g (lw_at lw_m5 28 rfl) rfl
theorem q1070 : (Jvm.Cond.code ({ cls := "TaxOnLooks$Town", name := "duty", desc := "(I)I" } : Jvm.MethodName) prog_18_method_18_code (2 : Nat) (Option.some Jvm.ClassFile.FieldType.int)) ∈ lw_all := lw_g (lw_at lw_m5 29 rfl) rfl
theorem q1071 : (Jvm.Cond.methodLink "TaxOnLooks$Town" (130 : Nat) ({ cls := "TaxOnLooks$Town", name := "entered", desc := "(I)I" } : Jvm.MethodName)) ∈ lw_all := lw_g (lw_at lw_m5 30 rfl) rfl
theorem q1072 : (Jvm.Cond.instanceMethod ({ cls := "TaxOnLooks$Town", name := "entered", desc := "(I)I" } : Jvm.MethodName)) ∈ lw_all := lw_g (lw_at lw_m5 31 rfl) rfl
theorem q1073 : (Jvm.Cond.selects "TaxOnLooks$Town" ({ cls := "TaxOnLooks$Town", name := "entered", desc := "(I)I" } : Jvm.MethodName) ({ cls := "TaxOnLooks$Town", name := "entered", desc := "(I)I" } : Jvm.MethodName)) ∈ lw_all := lw_g (lw_at lw_m5 32 rfl) rfl
theorem q1074 : (Jvm.Cond.code ({ cls := "TaxOnLooks$Town", name := "entered", desc := "(I)I" } : Jvm.MethodName) prog_18_method_16_code (2 : Nat) (Option.some Jvm.ClassFile.FieldType.int)) ∈ lw_all := lw_g (lw_at lw_m5 33 rfl) rfl
theorem q1075 : (Jvm.Cond.methodLink "TaxOnLooks$Town" (119 : Nat) ({ cls := "TaxOnLooks$Town", name := "isLit", desc := "(I)Z" } : Jvm.MethodName)) ∈ lw_all := lw_g (lw_at lw_m5 34 rfl) rfl
theorem q1076 : (Jvm.Cond.instanceMethod ({ cls := "TaxOnLooks$Town", name := "isLit", desc := "(I)Z" } : Jvm.MethodName)) ∈ lw_all := lw_g (lw_at lw_m5 35 rfl) rfl
theorem q1077 : (Jvm.Cond.selects "TaxOnLooks$Town" ({ cls := "TaxOnLooks$Town", name := "isLit", desc := "(I)Z" } : Jvm.MethodName) ({ cls := "TaxOnLooks$Town", name := "isLit", desc := "(I)Z" } : Jvm.MethodName)) ∈ lw_all := lw_g (lw_at lw_m5 36 rfl) rfl
theorem q1078 : (Jvm.Cond.code ({ cls := "TaxOnLooks$Town", name := "isLit", desc := "(I)Z" } : Jvm.MethodName) prog_18_method_10_code (3 : Nat) (Option.some Jvm.ClassFile.FieldType.boolean)) ∈ lw_all := lw_g (lw_at lw_m5 37 rfl) rfl
theorem q1079 : (Jvm.Cond.methodLink "TaxOnLooks$Town" (122 : Nat) ({ cls := "TaxOnLooks$Town", name := "glancers", desc := "(I)I" } : Jvm.MethodName)) ∈ lw_all := lw_g (lw_at lw_m5 38 rfl) rfl
theorem q1080 : (Jvm.Cond.methodLink "TaxOnLooks$Town" (125 : Nat) ({ cls := "java/lang/Integer", name := "bitCount", desc := "(I)I" } : Jvm.MethodName)) ∈ lw_all := lw_g (lw_at lw_m5 39 rfl) rfl
theorem q1086 : (Jvm.Cond.methodLink "TaxOnLooks$Town" (133 : Nat) ({ cls := "TaxOnLooks$Person", name := "owes", desc := "(I)I" } : Jvm.MethodName)) ∈ lw_all := lw_g (lw_at lw_m5 45 rfl) rfl
theorem q1102 : (Jvm.Cond.instanceMethod ({ cls := "TaxOnLooks$Town", name := "fine", desc := "(I)I" } : Jvm.MethodName)) ∈ lw_all := lw_g (lw_at lw_m5 61 rfl) rfl
theorem q1103 : (Jvm.Cond.selects "TaxOnLooks$Town" ({ cls := "TaxOnLooks$Town", name := "fine", desc := "(I)I" } : Jvm.MethodName) ({ cls := "TaxOnLooks$Town", name := "fine", desc := "(I)I" } : Jvm.MethodName)) ∈ lw_all := lw_g (lw_at lw_m5 62 rfl) rfl
theorem q1104 : (Jvm.Cond.code ({ cls := "TaxOnLooks$Town", name := "fine", desc := "(I)I" } : Jvm.MethodName) prog_18_method_19_code (5 : Nat) (Option.some Jvm.ClassFile.FieldType.int)) ∈ lw_all := lw_g (lw_at lw_m5 63 rfl) rfl
theorem q1110 : (Jvm.Cond.instanceMethod ({ cls := "TaxOnLooks$Town", name := "duties", desc := "()I" } : Jvm.MethodName)) ∈ lw_all := lw_g (lw_at lw_m5 69 rfl) rfl
theorem q1111 : (Jvm.Cond.selects "TaxOnLooks$Town" ({ cls := "TaxOnLooks$Town", name := "duties", desc := "()I" } : Jvm.MethodName) ({ cls := "TaxOnLooks$Town", name := "duties", desc := "()I" } : Jvm.MethodName)) ∈ lw_all := lw_g (lw_at lw_m5 70 rfl) rfl
theorem q1112 : (Jvm.Cond.code ({ cls := "TaxOnLooks$Town", name := "duties", desc := "()I" } : Jvm.MethodName) prog_18_method_20_code (3 : Nat) (Option.some Jvm.ClassFile.FieldType.int)) ∈ lw_all := lw_g (lw_at lw_m5 71 rfl) rfl
theorem q1113 : (Jvm.Cond.methodLink "TaxOnLooks$Town" (136 : Nat) ({ cls := "TaxOnLooks$Town", name := "duty", desc := "(I)I" } : Jvm.MethodName)) ∈ lw_all := lw_g (lw_at lw_m5 72 rfl) rfl
theorem q1131 : (Jvm.Cond.instanceMethod ({ cls := "TaxOnLooks$Town", name := "beside", desc := "(II)I" } : Jvm.MethodName)) ∈ lw_all := lw_g (lw_at lw_m5 90 rfl) rfl
theorem q1132 : (Jvm.Cond.selects "TaxOnLooks$Town" ({ cls := "TaxOnLooks$Town", name := "beside", desc := "(II)I" } : Jvm.MethodName) ({ cls := "TaxOnLooks$Town", name := "beside", desc := "(II)I" } : Jvm.MethodName)) ∈ lw_all := lw_g (lw_at lw_m5 91 rfl) rfl
theorem q1133 : (Jvm.Cond.code ({ cls := "TaxOnLooks$Town", name := "beside", desc := "(II)I" } : Jvm.MethodName) prog_18_method_21_code (6 : Nat) (Option.some Jvm.ClassFile.FieldType.int)) ∈ lw_all := lw_g (lw_at lw_m5 92 rfl) rfl
theorem q1134 : (Jvm.Cond.constantLong "TaxOnLooks$Town" (139 : Nat) (5 : Int64)) ∈ lw_all := lw_g (lw_at lw_m5 93 rfl) rfl
theorem q1135 : (Jvm.Cond.methodLink "TaxOnLooks$Town" (141 : Nat) ({ cls := "TaxOnLooks", name := "in", desc := "(JJJ)Z" } : Jvm.MethodName)) ∈ lw_all := lw_g (lw_at lw_m5 94 rfl) rfl
theorem q1136 : (Jvm.Cond.methodLink "TaxOnLooks$Town" (145 : Nat) ({ cls := "TaxOnLooks$Town", name := "isFree", desc := "(I)Z" } : Jvm.MethodName)) ∈ lw_all := lw_g (lw_at lw_m5 95 rfl) rfl
theorem q1187 : (Jvm.Cond.instanceMethod ({ cls := "TaxOnLooks$Town", name := "enteredTogether", desc := "()I" } : Jvm.MethodName)) ∈ lw_all := lw_g (lw_at lw_m5 146 rfl) rfl
theorem q1188 : (Jvm.Cond.selects "TaxOnLooks$Town" ({ cls := "TaxOnLooks$Town", name := "enteredTogether", desc := "()I" } : Jvm.MethodName) ({ cls := "TaxOnLooks$Town", name := "enteredTogether", desc := "()I" } : Jvm.MethodName)) ∈ lw_all := lw_g (lw_at lw_m5 147 rfl) rfl
theorem q1189 : (Jvm.Cond.code ({ cls := "TaxOnLooks$Town", name := "enteredTogether", desc := "()I" } : Jvm.MethodName) prog_18_method_17_code (3 : Nat) (Option.some Jvm.ClassFile.FieldType.int)) ∈ lw_all := lw_g (lw_at lw_m5 148 rfl) rfl
theorem q1233 : (Jvm.Cond.instanceMethod ({ cls := "TaxOnLooks$Town", name := "pays", desc := "(I)I" } : Jvm.MethodName)) ∈ lw_all := lw_g (lw_at lw_m5 192 rfl) rfl
theorem q1234 : (Jvm.Cond.selects "TaxOnLooks$Town" ({ cls := "TaxOnLooks$Town", name := "pays", desc := "(I)I" } : Jvm.MethodName) ({ cls := "TaxOnLooks$Town", name := "pays", desc := "(I)I" } : Jvm.MethodName)) ∈ lw_all := lw_g (lw_at lw_m5 193 rfl) rfl
theorem q1235 : (Jvm.Cond.code ({ cls := "TaxOnLooks$Town", name := "pays", desc := "(I)I" } : Jvm.MethodName) prog_18_method_22_code (3 : Nat) (Option.some Jvm.ClassFile.FieldType.int)) ∈ lw_all := lw_g (lw_at lw_m5 194 rfl) rfl
theorem q1258 : (Jvm.Cond.instanceMethod ({ cls := "TaxOnLooks$Town", name := "draw", desc := "(I)I" } : Jvm.MethodName)) ∈ lw_all := lw_g (lw_at lw_m5 217 rfl) rfl
theorem q1259 : (Jvm.Cond.selects "TaxOnLooks$Town" ({ cls := "TaxOnLooks$Town", name := "draw", desc := "(I)I" } : Jvm.MethodName) ({ cls := "TaxOnLooks$Town", name := "draw", desc := "(I)I" } : Jvm.MethodName)) ∈ lw_all := lw_g (lw_at lw_m5 218 rfl) rfl
theorem q1260 : (Jvm.Cond.code ({ cls := "TaxOnLooks$Town", name := "draw", desc := "(I)I" } : Jvm.MethodName) prog_18_method_24_code (2 : Nat) (Option.some Jvm.ClassFile.FieldType.int)) ∈ lw_all := lw_g (lw_at lw_m5 219 rfl) rfl
theorem q1261 : (Jvm.Cond.constant "TaxOnLooks$Town" (148 : Nat) (1103515245 : Int32)) ∈ lw_all := lw_g (lw_at lw_m5 220 rfl) rfl
theorem q1371 : (Jvm.Cond.instanceMethod ({ cls := "TaxOnLooks$Town", name := "pursesTogether", desc := "()I" } : Jvm.MethodName)) ∈ lw_all := lw_g (lw_at lw_m6 90 rfl) rfl
theorem q1372 : (Jvm.Cond.selects "TaxOnLooks$Town" ({ cls := "TaxOnLooks$Town", name := "pursesTogether", desc := "()I" } : Jvm.MethodName) ({ cls := "TaxOnLooks$Town", name := "pursesTogether", desc := "()I" } : Jvm.MethodName)) ∈ lw_all := lw_g (lw_at lw_m6 91 rfl) rfl
theorem q1373 : (Jvm.Cond.code ({ cls := "TaxOnLooks$Town", name := "pursesTogether", desc := "()I" } : Jvm.MethodName) prog_18_method_23_code (3 : Nat) (Option.some Jvm.ClassFile.FieldType.int)) ∈ lw_all := lw_g (lw_at lw_m6 92 rfl) rfl
theorem in_X2 : ∀ w ∈ wsX20, w ∈ lw_all := lw_in wsX20 [191, 193, 195, 197, 199, 201, 203, 205, 207, 209, 211, 213, 215, 217, 219] (by decide +kernel) (by decide +kernel)

/-! TaxOnLooks$Faulty -/
set_option maxRecDepth 100000
def RX20 : String := "TaxOnLooks$Faulty"
def TX20 : u_T := fun k => match k with
  | 0 => ("java/lang/Throwable", "cause", "Ljava/lang/Throwable;", false)
  | 1 => ("java/lang/Throwable", "stackTrace", "[Ljava/lang/StackTraceElement;", false)
  | 2 => ("java/lang/Throwable", "suppressedExceptions", "Ljava/util/List;", false)
  | 3 => ("java/lang/Throwable", "detailMessage", "Ljava/lang/String;", false)
  | 4 => ("java/lang/Throwable", "backtrace", "Ljava/lang/Object;", false)
  | 5 => ("java/lang/Throwable", "depth", "I", false)
  | _ => ("TaxOnLooks$Faulty", "place", "I", true)
def tyX20 : Nat → FieldType := fun k => match k with
  | 0 => .object "java/lang/Throwable"
  | 1 => .array (.object "java/lang/StackTraceElement")
  | 2 => .object "java/util/List"
  | 3 => .object "java/lang/String"
  | 4 => .object "java/lang/Object"
  | 5 => .int
  | _ => .int
abbrev wsX200 : List Cond := u_ws RX20 TX20 7
theorem nmX20 : ∀ a, a < 7 → ∀ b, b < 7 → a ≠ b → (TX20 a).2.1 ≠ (TX20 b).2.1 := by decide +kernel
theorem tyX20_ok : ∀ k, k < 7 → parseFieldDescriptor (TX20 k).2.2.1 = some (tyX20 k) := by decide +kernel
abbrev cX20_init : ByteArray := prog_7_method_1_code
def yX20_init : MethodName := ⟨RX20, "<init>", "(I)V"⟩
def dkwX20_init_0 : List UInt8 := [42, 1, 1, 3, 3, 183, 0, 1, 42, 27, 181, 0, 7, 177]
abbrev dktX20_init_0 : List UInt8 := dkwX20_init_0 ++ []
theorem dksX20_init_0 : cX20_init.data.toList.drop 0 = dktX20_init_0 := by decide +kernel
theorem dX20_init_0 : decode cX20_init 0 = .ok (.aload_n 0, 1) := dk_42 (dk_at dksX20_init_0 0 rfl rfl)
theorem dX20_init_1 : decode cX20_init 1 = .ok (.aconst_null, 1) := dk_1 (dk_at dksX20_init_0 1 rfl rfl)
theorem dX20_init_2 : decode cX20_init 2 = .ok (.aconst_null, 1) := dk_1 (dk_at dksX20_init_0 2 rfl rfl)
theorem dX20_init_3 : decode cX20_init 3 = .ok (.iconst 0, 1) := dk_3 (dk_at dksX20_init_0 3 rfl rfl)
theorem dX20_init_4 : decode cX20_init 4 = .ok (.iconst 0, 1) := dk_3 (dk_at dksX20_init_0 4 rfl rfl)
theorem dX20_init_5 : decode cX20_init 5 = .ok (.invokespecial 1, 3) := dk_183 0 1 (dk_at dksX20_init_0 5 rfl rfl)
theorem dX20_init_8 : decode cX20_init 8 = .ok (.aload_n 0, 1) := dk_42 (dk_at dksX20_init_0 8 rfl rfl)
theorem dX20_init_9 : decode cX20_init 9 = .ok (.iload_n 1, 1) := dk_27 (dk_at dksX20_init_0 9 rfl rfl)
theorem dX20_init_10 : decode cX20_init 10 = .ok (.putfield 7, 3) := dk_181 0 7 (dk_at dksX20_init_0 10 rfl rfl)
theorem dX20_init_13 : decode cX20_init 13 = .ok (.return_, 1) := dk_177 (dk_at dksX20_init_0 13 rfl rfl)
theorem q115 : (Jvm.Cond.initialized "TaxOnLooks$Faulty") ∈ lw_all := lw_g (lw_at lw_m1 34 rfl) rfl
theorem q306 : (Jvm.Cond.selects "TaxOnLooks$Faulty" ({ cls := "java/lang/Throwable", name := "fillInStackTrace", desc := "()Ljava/lang/Throwable;" } : Jvm.MethodName) ({ cls := "java/lang/Throwable", name := "fillInStackTrace", desc := "()Ljava/lang/Throwable;" } : Jvm.MethodName)) ∈ lw_all := lw_g (lw_at lw_m1 225 rfl) rfl
theorem q942 : (Jvm.Cond.instantiable "TaxOnLooks$Faulty" (7 : Nat)) ∈ lw_all := lw_g (lw_at lw_m4 141 rfl) rfl
theorem q943 : (Jvm.Cond.castable "TaxOnLooks$Faulty" "TaxOnLooks$Faulty") ∈ lw_tbl := lw_at lw_m4 142 rfl
theorem q944 : (Jvm.Cond.selects "TaxOnLooks$Faulty" ({ cls := "java/lang/Throwable", name := "fillInStackTrace", desc := "(I)Ljava/lang/Throwable;" } : Jvm.MethodName) ({ cls := "java/lang/Throwable", name := "fillInStackTrace", desc := "(I)Ljava/lang/Throwable;" } : Jvm.MethodName)) ∈ lw_all := lw_g (lw_at lw_m4 143 rfl) rfl
theorem q945 : (Jvm.Cond.lays "TaxOnLooks$Faulty" "java/lang/Throwable" "cause" "Ljava/lang/Throwable;") ∈ lw_all := lw_g (lw_at lw_m4 144 rfl) rfl
theorem q946 : (Jvm.Cond.lays "TaxOnLooks$Faulty" "java/lang/Throwable" "stackTrace" "[Ljava/lang/StackTraceElement;") ∈ lw_all := lw_g (lw_at lw_m4 145 rfl) rfl
theorem q947 : (Jvm.Cond.lays "TaxOnLooks$Faulty" "java/lang/Throwable" "suppressedExceptions" "Ljava/util/List;") ∈ lw_all := lw_g (lw_at lw_m4 146 rfl) rfl
theorem q948 : (Jvm.Cond.lays "TaxOnLooks$Faulty" "java/lang/Throwable" "detailMessage" "Ljava/lang/String;") ∈ lw_all := lw_g (lw_at lw_m4 147 rfl) rfl
theorem q949 : (Jvm.Cond.lays "TaxOnLooks$Faulty" "java/lang/Throwable" "backtrace" "Ljava/lang/Object;") ∈ lw_all := lw_g (lw_at lw_m4 148 rfl) rfl
theorem q951 : (Jvm.Cond.instanceMethod ({ cls := "TaxOnLooks$Faulty", name := "<init>", desc := "(I)V" } : Jvm.MethodName)) ∈ lw_all := lw_g (lw_at lw_m4 150 rfl) rfl
theorem q952 : (Jvm.Cond.code ({ cls := "TaxOnLooks$Faulty", name := "<init>", desc := "(I)V" } : Jvm.MethodName) prog_7_method_1_code (2 : Nat) (Option.none : Option Jvm.ClassFile.FieldType)) ∈ lw_all := lw_g (lw_at lw_m4 151 rfl) rfl
theorem q953 : (Jvm.Cond.methodLink "TaxOnLooks$Faulty" (1 : Nat) ({ cls := "java/lang/Exception", name := "<init>", desc := "(Ljava/lang/String;Ljava/lang/Throwable;ZZ)V" } : Jvm.MethodName)) ∈ lw_all := lw_g (lw_at lw_m4 152 rfl) rfl
theorem q954 : (Jvm.Cond.fieldLink "TaxOnLooks$Faulty" (7 : Nat) "TaxOnLooks$Faulty" "place" "I") ∈ lw_all := lw_g (lw_at lw_m4 153 rfl) rfl
theorem q956 : (Jvm.Cond.laysFinal "TaxOnLooks$Faulty" "TaxOnLooks$Faulty" "place" "I") ∈ lw_all := lw_g (lw_at lw_m4 155 rfl) rfl
theorem q957 : (Jvm.Cond.soleField "TaxOnLooks$Faulty" "place") ∈ lw_all := lw_g (lw_at lw_m4 156 rfl) rfl
theorem q958 : (Jvm.Cond.lays "TaxOnLooks$Faulty" "java/lang/Throwable" "depth" "I") ∈ lw_all := lw_g (lw_at lw_m4 157 rfl) rfl
theorem q959 : (Jvm.Cond.superclass "TaxOnLooks$Faulty" "java/lang/Exception") ∈ lw_all := lw_g (lw_at lw_m4 158 rfl) rfl
theorem in_X20 : ∀ w ∈ wsX200, w ∈ lw_all := lw_in wsX200 [945, 946, 947, 948, 949, 958, 956] (by decide +kernel) (by decide +kernel)

/-! TaxOnLooks$Walks -/
set_option maxRecDepth 100000
def RX3 : String := "TaxOnLooks$Walks"
def TX3 : u_T := fun k => match k with
  | 0 => ("TaxOnLooks$Walks", "owes", "[I", true)
  | _ => ("TaxOnLooks$Walks", "left", "[I", true)
def tyX3 : Nat → FieldType := fun k => match k with
  | 0 => .array .int
  | _ => .array .int
abbrev wsX30 : List Cond := u_ws RX3 TX3 2
theorem nmX3 : ∀ a, a < 2 → ∀ b, b < 2 → a ≠ b → (TX3 a).2.1 ≠ (TX3 b).2.1 := by decide +kernel
theorem tyX3_ok : ∀ k, k < 2 → parseFieldDescriptor (TX3 k).2.2.1 = some (tyX3 k) := by decide +kernel
abbrev cX3_init : ByteArray := prog_20_method_1_code
def yX3_init : MethodName := ⟨RX3, "<init>", "()V"⟩
def dkwX3_init_0 : List UInt8 := [42, 183, 0, 3, 42, 16, 36, 188, 10, 181, 0, 9, 42, 16, 36, 188, 10, 181, 0, 15, 177]
abbrev dktX3_init_0 : List UInt8 := dkwX3_init_0 ++ []
theorem dksX3_init_0 : cX3_init.data.toList.drop 0 = dktX3_init_0 := by decide +kernel
theorem dX3_init_0 : decode cX3_init 0 = .ok (.aload_n 0, 1) := dk_42 (dk_at dksX3_init_0 0 rfl rfl)
theorem dX3_init_1 : decode cX3_init 1 = .ok (.invokespecial 3, 3) := dk_183 0 3 (dk_at dksX3_init_0 1 rfl rfl)
theorem dX3_init_4 : decode cX3_init 4 = .ok (.aload_n 0, 1) := dk_42 (dk_at dksX3_init_0 4 rfl rfl)
theorem dX3_init_5 : decode cX3_init 5 = .ok (.bipush 36, 2) := dk_16 36 (dk_at dksX3_init_0 5 rfl rfl)
theorem dX3_init_7 : decode cX3_init 7 = .ok (.newarray .int, 2) := dk_188_10 (dk_at dksX3_init_0 7 rfl rfl)
theorem dX3_init_9 : decode cX3_init 9 = .ok (.putfield 9, 3) := dk_181 0 9 (dk_at dksX3_init_0 9 rfl rfl)
theorem dX3_init_12 : decode cX3_init 12 = .ok (.aload_n 0, 1) := dk_42 (dk_at dksX3_init_0 12 rfl rfl)
theorem dX3_init_13 : decode cX3_init 13 = .ok (.bipush 36, 2) := dk_16 36 (dk_at dksX3_init_0 13 rfl rfl)
theorem dX3_init_15 : decode cX3_init 15 = .ok (.newarray .int, 2) := dk_188_10 (dk_at dksX3_init_0 15 rfl rfl)
theorem dX3_init_17 : decode cX3_init 17 = .ok (.putfield 15, 3) := dk_181 0 15 (dk_at dksX3_init_0 17 rfl rfl)
theorem dX3_init_20 : decode cX3_init 20 = .ok (.return_, 1) := dk_177 (dk_at dksX3_init_0 20 rfl rfl)
abbrev cX3_find : ByteArray := prog_20_method_2_code
def yX3_find : MethodName := ⟨RX3, "find", "(LTaxOnLooks$Town;II)V"⟩
def dkwX3_find_5 : List UInt8 := [167, 255, 234, 167, 255, 220, 177]
abbrev dktX3_find_5 : List UInt8 := dkwX3_find_5 ++ []
def dkwX3_find_4 : List UInt8 := [54, 6, 21, 6, 16, 36, 162, 0, 21, 21, 5, 42, 43, 21, 6, 182, 0, 32, 128, 54, 5, 132, 6, 1]
abbrev dktX3_find_4 : List UInt8 := dkwX3_find_4 ++ dktX3_find_5
def dkwX3_find_3 : List UInt8 := [167, 255, 198, 43, 180, 0, 18, 28, 21, 4, 79, 4, 54, 5, 21, 5, 153, 0, 37, 3, 54, 5, 3]
abbrev dktX3_find_3 : List UInt8 := dkwX3_find_3 ++ dktX3_find_4
def dkwX3_find_2 : List UInt8 := [180, 0, 18, 28, 21, 5, 79, 42, 180, 0, 9, 21, 5, 43, 28, 182, 0, 28, 79, 132, 5, 1]
abbrev dktX3_find_2 : List UInt8 := dkwX3_find_2 ++ dktX3_find_3
def dkwX3_find_1 : List UInt8 := [21, 5, 29, 160, 0, 7, 3, 167, 0, 5, 18, 23, 79, 43, 21, 5, 182, 0, 24, 153, 0, 23, 43]
abbrev dktX3_find_1 : List UInt8 := dkwX3_find_1 ++ dktX3_find_2
def dkwX3_find_0 : List UInt8 := [43, 180, 0, 18, 28, 46, 54, 4, 3, 54, 5, 21, 5, 16, 36, 162, 0, 57, 42, 180, 0, 15, 21, 5]
abbrev dktX3_find_0 : List UInt8 := dkwX3_find_0 ++ dktX3_find_1
theorem dksX3_find_0 : cX3_find.data.toList.drop 0 = dktX3_find_0 := by decide +kernel
theorem dksX3_find_1 : cX3_find.data.toList.drop 24 = dktX3_find_1 := dk_seg dksX3_find_0 24 rfl rfl
theorem dksX3_find_2 : cX3_find.data.toList.drop 47 = dktX3_find_2 := dk_seg dksX3_find_1 23 rfl rfl
theorem dksX3_find_3 : cX3_find.data.toList.drop 69 = dktX3_find_3 := dk_seg dksX3_find_2 22 rfl rfl
theorem dksX3_find_4 : cX3_find.data.toList.drop 92 = dktX3_find_4 := dk_seg dksX3_find_3 23 rfl rfl
theorem dksX3_find_5 : cX3_find.data.toList.drop 116 = dktX3_find_5 := dk_seg dksX3_find_4 24 rfl rfl
theorem dX3_find_0 : decode cX3_find 0 = .ok (.aload_n 1, 1) := dk_43 (dk_at dksX3_find_0 0 rfl rfl)
theorem dX3_find_1 : decode cX3_find 1 = .ok (.getfield 18, 3) := dk_180 0 18 (dk_at dksX3_find_0 1 rfl rfl)
theorem dX3_find_4 : decode cX3_find 4 = .ok (.iload_n 2, 1) := dk_28 (dk_at dksX3_find_0 4 rfl rfl)
theorem dX3_find_5 : decode cX3_find 5 = .ok (.iaload, 1) := dk_46 (dk_at dksX3_find_0 5 rfl rfl)
theorem dX3_find_6 : decode cX3_find 6 = .ok (.istore 4, 2) := dk_54 4 (dk_at dksX3_find_0 6 rfl rfl)
theorem dX3_find_8 : decode cX3_find 8 = .ok (.iconst 0, 1) := dk_3 (dk_at dksX3_find_0 8 rfl rfl)
theorem dX3_find_9 : decode cX3_find 9 = .ok (.istore 5, 2) := dk_54 5 (dk_at dksX3_find_0 9 rfl rfl)
theorem dX3_find_11 : decode cX3_find 11 = .ok (.iload 5, 2) := dk_21 5 (dk_at dksX3_find_0 11 rfl rfl)
theorem dX3_find_13 : decode cX3_find 13 = .ok (.bipush 36, 2) := dk_16 36 (dk_at dksX3_find_0 13 rfl rfl)
theorem dX3_find_15 : decode cX3_find 15 = .ok (.if_icmp .ge 57, 3) := dk_162 0 57 (dk_at dksX3_find_0 15 rfl rfl)
theorem dX3_find_18 : decode cX3_find 18 = .ok (.aload_n 0, 1) := dk_42 (dk_at dksX3_find_0 18 rfl rfl)
theorem dX3_find_19 : decode cX3_find 19 = .ok (.getfield 15, 3) := dk_180 0 15 (dk_at dksX3_find_0 19 rfl rfl)
theorem dX3_find_22 : decode cX3_find 22 = .ok (.iload 5, 2) := dk_21 5 (dk_at dksX3_find_0 22 rfl rfl)
theorem dX3_find_24 : decode cX3_find 24 = .ok (.iload 5, 2) := dk_21 5 (dk_at dksX3_find_1 0 rfl rfl)
theorem dX3_find_26 : decode cX3_find 26 = .ok (.iload_n 3, 1) := dk_29 (dk_at dksX3_find_1 2 rfl rfl)
theorem dX3_find_27 : decode cX3_find 27 = .ok (.if_icmp .ne 7, 3) := dk_160 0 7 (dk_at dksX3_find_1 3 rfl rfl)
theorem dX3_find_30 : decode cX3_find 30 = .ok (.iconst 0, 1) := dk_3 (dk_at dksX3_find_1 6 rfl rfl)
theorem dX3_find_31 : decode cX3_find 31 = .ok (.goto 5, 3) := dk_167 0 5 (dk_at dksX3_find_1 7 rfl rfl)
theorem dX3_find_34 : decode cX3_find 34 = .ok (.ldc 23, 2) := dk_18 23 (dk_at dksX3_find_1 10 rfl rfl)
theorem dX3_find_36 : decode cX3_find 36 = .ok (.iastore, 1) := dk_79 (dk_at dksX3_find_1 12 rfl rfl)
theorem dX3_find_37 : decode cX3_find 37 = .ok (.aload_n 1, 1) := dk_43 (dk_at dksX3_find_1 13 rfl rfl)
theorem dX3_find_38 : decode cX3_find 38 = .ok (.iload 5, 2) := dk_21 5 (dk_at dksX3_find_1 14 rfl rfl)
theorem dX3_find_40 : decode cX3_find 40 = .ok (.invokevirtual 24, 3) := dk_182 0 24 (dk_at dksX3_find_1 16 rfl rfl)
theorem dX3_find_43 : decode cX3_find 43 = .ok (.ifCond .eq 23, 3) := dk_153 0 23 (dk_at dksX3_find_1 19 rfl rfl)
theorem dX3_find_46 : decode cX3_find 46 = .ok (.aload_n 1, 1) := dk_43 (dk_at dksX3_find_1 22 rfl rfl)
theorem dX3_find_47 : decode cX3_find 47 = .ok (.getfield 18, 3) := dk_180 0 18 (dk_at dksX3_find_2 0 rfl rfl)
theorem dX3_find_50 : decode cX3_find 50 = .ok (.iload_n 2, 1) := dk_28 (dk_at dksX3_find_2 3 rfl rfl)
theorem dX3_find_51 : decode cX3_find 51 = .ok (.iload 5, 2) := dk_21 5 (dk_at dksX3_find_2 4 rfl rfl)
theorem dX3_find_53 : decode cX3_find 53 = .ok (.iastore, 1) := dk_79 (dk_at dksX3_find_2 6 rfl rfl)
theorem dX3_find_54 : decode cX3_find 54 = .ok (.aload_n 0, 1) := dk_42 (dk_at dksX3_find_2 7 rfl rfl)
theorem dX3_find_55 : decode cX3_find 55 = .ok (.getfield 9, 3) := dk_180 0 9 (dk_at dksX3_find_2 8 rfl rfl)
theorem dX3_find_58 : decode cX3_find 58 = .ok (.iload 5, 2) := dk_21 5 (dk_at dksX3_find_2 11 rfl rfl)
theorem dX3_find_60 : decode cX3_find 60 = .ok (.aload_n 1, 1) := dk_43 (dk_at dksX3_find_2 13 rfl rfl)
theorem dX3_find_61 : decode cX3_find 61 = .ok (.iload_n 2, 1) := dk_28 (dk_at dksX3_find_2 14 rfl rfl)
theorem dX3_find_62 : decode cX3_find 62 = .ok (.invokevirtual 28, 3) := dk_182 0 28 (dk_at dksX3_find_2 15 rfl rfl)
theorem dX3_find_65 : decode cX3_find 65 = .ok (.iastore, 1) := dk_79 (dk_at dksX3_find_2 18 rfl rfl)
theorem dX3_find_66 : decode cX3_find 66 = .ok (.iinc 5 1, 3) := dk_132 5 1 (dk_at dksX3_find_2 19 rfl rfl)
theorem dX3_find_69 : decode cX3_find 69 = .ok (.goto (-58), 3) := dk_167 255 198 (dk_at dksX3_find_3 0 rfl rfl)
theorem dX3_find_72 : decode cX3_find 72 = .ok (.aload_n 1, 1) := dk_43 (dk_at dksX3_find_3 3 rfl rfl)
theorem dX3_find_73 : decode cX3_find 73 = .ok (.getfield 18, 3) := dk_180 0 18 (dk_at dksX3_find_3 4 rfl rfl)
theorem dX3_find_76 : decode cX3_find 76 = .ok (.iload_n 2, 1) := dk_28 (dk_at dksX3_find_3 7 rfl rfl)
theorem dX3_find_77 : decode cX3_find 77 = .ok (.iload 4, 2) := dk_21 4 (dk_at dksX3_find_3 8 rfl rfl)
theorem dX3_find_79 : decode cX3_find 79 = .ok (.iastore, 1) := dk_79 (dk_at dksX3_find_3 10 rfl rfl)
theorem dX3_find_80 : decode cX3_find 80 = .ok (.iconst 1, 1) := dk_4 (dk_at dksX3_find_3 11 rfl rfl)
theorem dX3_find_81 : decode cX3_find 81 = .ok (.istore 5, 2) := dk_54 5 (dk_at dksX3_find_3 12 rfl rfl)
theorem dX3_find_83 : decode cX3_find 83 = .ok (.iload 5, 2) := dk_21 5 (dk_at dksX3_find_3 14 rfl rfl)
theorem dX3_find_85 : decode cX3_find 85 = .ok (.ifCond .eq 37, 3) := dk_153 0 37 (dk_at dksX3_find_3 16 rfl rfl)
theorem dX3_find_88 : decode cX3_find 88 = .ok (.iconst 0, 1) := dk_3 (dk_at dksX3_find_3 19 rfl rfl)
theorem dX3_find_89 : decode cX3_find 89 = .ok (.istore 5, 2) := dk_54 5 (dk_at dksX3_find_3 20 rfl rfl)
theorem dX3_find_91 : decode cX3_find 91 = .ok (.iconst 0, 1) := dk_3 (dk_at dksX3_find_3 22 rfl rfl)
theorem dX3_find_92 : decode cX3_find 92 = .ok (.istore 6, 2) := dk_54 6 (dk_at dksX3_find_4 0 rfl rfl)
theorem dX3_find_94 : decode cX3_find 94 = .ok (.iload 6, 2) := dk_21 6 (dk_at dksX3_find_4 2 rfl rfl)
theorem dX3_find_96 : decode cX3_find 96 = .ok (.bipush 36, 2) := dk_16 36 (dk_at dksX3_find_4 4 rfl rfl)
theorem dX3_find_98 : decode cX3_find 98 = .ok (.if_icmp .ge 21, 3) := dk_162 0 21 (dk_at dksX3_find_4 6 rfl rfl)
theorem dX3_find_101 : decode cX3_find 101 = .ok (.iload 5, 2) := dk_21 5 (dk_at dksX3_find_4 9 rfl rfl)
theorem dX3_find_103 : decode cX3_find 103 = .ok (.aload_n 0, 1) := dk_42 (dk_at dksX3_find_4 11 rfl rfl)
theorem dX3_find_104 : decode cX3_find 104 = .ok (.aload_n 1, 1) := dk_43 (dk_at dksX3_find_4 12 rfl rfl)
theorem dX3_find_105 : decode cX3_find 105 = .ok (.iload 6, 2) := dk_21 6 (dk_at dksX3_find_4 13 rfl rfl)
theorem dX3_find_107 : decode cX3_find 107 = .ok (.invokevirtual 32, 3) := dk_182 0 32 (dk_at dksX3_find_4 15 rfl rfl)
theorem dX3_find_110 : decode cX3_find 110 = .ok (.ior, 1) := dk_128 (dk_at dksX3_find_4 18 rfl rfl)
theorem dX3_find_111 : decode cX3_find 111 = .ok (.istore 5, 2) := dk_54 5 (dk_at dksX3_find_4 19 rfl rfl)
theorem dX3_find_113 : decode cX3_find 113 = .ok (.iinc 6 1, 3) := dk_132 6 1 (dk_at dksX3_find_4 21 rfl rfl)
theorem dX3_find_116 : decode cX3_find 116 = .ok (.goto (-22), 3) := dk_167 255 234 (dk_at dksX3_find_5 0 rfl rfl)
theorem dX3_find_119 : decode cX3_find 119 = .ok (.goto (-36), 3) := dk_167 255 220 (dk_at dksX3_find_5 3 rfl rfl)
theorem dX3_find_122 : decode cX3_find 122 = .ok (.return_, 1) := dk_177 (dk_at dksX3_find_5 6 rfl rfl)
abbrev cX3_shortens : ByteArray := prog_20_method_4_code
def yX3_shortens : MethodName := ⟨RX3, "shortens", "(LTaxOnLooks$Town;I)Z"⟩
def dkwX3_shortens_3 : List UInt8 := [172]
abbrev dktX3_shortens_3 : List UInt8 := dkwX3_shortens_3 ++ []
def dkwX3_shortens_2 : List UInt8 := [162, 0, 17, 42, 180, 0, 15, 28, 42, 21, 5, 182, 0, 40, 79, 4, 62, 132, 4, 1, 167, 255, 195, 29]
abbrev dktX3_shortens_2 : List UInt8 := dkwX3_shortens_2 ++ dktX3_shortens_3
def dkwX3_shortens_1 : List UInt8 := [182, 0, 36, 54, 5, 21, 5, 2, 159, 0, 32, 42, 21, 5, 182, 0, 40, 42, 180, 0, 15, 28, 46]
abbrev dktX3_shortens_1 : List UInt8 := dkwX3_shortens_1 ++ dktX3_shortens_2
def dkwX3_shortens_0 : List UInt8 := [3, 62, 3, 54, 4, 21, 4, 7, 162, 0, 61, 43, 28, 182, 0, 24, 153, 0, 53, 43, 28, 21, 4]
abbrev dktX3_shortens_0 : List UInt8 := dkwX3_shortens_0 ++ dktX3_shortens_1
theorem dksX3_shortens_0 : cX3_shortens.data.toList.drop 0 = dktX3_shortens_0 := by decide +kernel
theorem dksX3_shortens_1 : cX3_shortens.data.toList.drop 23 = dktX3_shortens_1 := dk_seg dksX3_shortens_0 23 rfl rfl
theorem dksX3_shortens_2 : cX3_shortens.data.toList.drop 46 = dktX3_shortens_2 := dk_seg dksX3_shortens_1 23 rfl rfl
theorem dksX3_shortens_3 : cX3_shortens.data.toList.drop 70 = dktX3_shortens_3 := dk_seg dksX3_shortens_2 24 rfl rfl
theorem dX3_shortens_0 : decode cX3_shortens 0 = .ok (.iconst 0, 1) := dk_3 (dk_at dksX3_shortens_0 0 rfl rfl)
theorem dX3_shortens_1 : decode cX3_shortens 1 = .ok (.istore_n 3, 1) := dk_62 (dk_at dksX3_shortens_0 1 rfl rfl)
theorem dX3_shortens_2 : decode cX3_shortens 2 = .ok (.iconst 0, 1) := dk_3 (dk_at dksX3_shortens_0 2 rfl rfl)
theorem dX3_shortens_3 : decode cX3_shortens 3 = .ok (.istore 4, 2) := dk_54 4 (dk_at dksX3_shortens_0 3 rfl rfl)
theorem dX3_shortens_5 : decode cX3_shortens 5 = .ok (.iload 4, 2) := dk_21 4 (dk_at dksX3_shortens_0 5 rfl rfl)
theorem dX3_shortens_7 : decode cX3_shortens 7 = .ok (.iconst 4, 1) := dk_7 (dk_at dksX3_shortens_0 7 rfl rfl)
theorem dX3_shortens_8 : decode cX3_shortens 8 = .ok (.if_icmp .ge 61, 3) := dk_162 0 61 (dk_at dksX3_shortens_0 8 rfl rfl)
theorem dX3_shortens_11 : decode cX3_shortens 11 = .ok (.aload_n 1, 1) := dk_43 (dk_at dksX3_shortens_0 11 rfl rfl)
theorem dX3_shortens_12 : decode cX3_shortens 12 = .ok (.iload_n 2, 1) := dk_28 (dk_at dksX3_shortens_0 12 rfl rfl)
theorem dX3_shortens_13 : decode cX3_shortens 13 = .ok (.invokevirtual 24, 3) := dk_182 0 24 (dk_at dksX3_shortens_0 13 rfl rfl)
theorem dX3_shortens_16 : decode cX3_shortens 16 = .ok (.ifCond .eq 53, 3) := dk_153 0 53 (dk_at dksX3_shortens_0 16 rfl rfl)
theorem dX3_shortens_19 : decode cX3_shortens 19 = .ok (.aload_n 1, 1) := dk_43 (dk_at dksX3_shortens_0 19 rfl rfl)
theorem dX3_shortens_20 : decode cX3_shortens 20 = .ok (.iload_n 2, 1) := dk_28 (dk_at dksX3_shortens_0 20 rfl rfl)
theorem dX3_shortens_21 : decode cX3_shortens 21 = .ok (.iload 4, 2) := dk_21 4 (dk_at dksX3_shortens_0 21 rfl rfl)
theorem dX3_shortens_23 : decode cX3_shortens 23 = .ok (.invokevirtual 36, 3) := dk_182 0 36 (dk_at dksX3_shortens_1 0 rfl rfl)
theorem dX3_shortens_26 : decode cX3_shortens 26 = .ok (.istore 5, 2) := dk_54 5 (dk_at dksX3_shortens_1 3 rfl rfl)
theorem dX3_shortens_28 : decode cX3_shortens 28 = .ok (.iload 5, 2) := dk_21 5 (dk_at dksX3_shortens_1 5 rfl rfl)
theorem dX3_shortens_30 : decode cX3_shortens 30 = .ok (.iconst (-1), 1) := dk_2 (dk_at dksX3_shortens_1 7 rfl rfl)
theorem dX3_shortens_31 : decode cX3_shortens 31 = .ok (.if_icmp .eq 32, 3) := dk_159 0 32 (dk_at dksX3_shortens_1 8 rfl rfl)
theorem dX3_shortens_34 : decode cX3_shortens 34 = .ok (.aload_n 0, 1) := dk_42 (dk_at dksX3_shortens_1 11 rfl rfl)
theorem dX3_shortens_35 : decode cX3_shortens 35 = .ok (.iload 5, 2) := dk_21 5 (dk_at dksX3_shortens_1 12 rfl rfl)
theorem dX3_shortens_37 : decode cX3_shortens 37 = .ok (.invokevirtual 40, 3) := dk_182 0 40 (dk_at dksX3_shortens_1 14 rfl rfl)
theorem dX3_shortens_40 : decode cX3_shortens 40 = .ok (.aload_n 0, 1) := dk_42 (dk_at dksX3_shortens_1 17 rfl rfl)
theorem dX3_shortens_41 : decode cX3_shortens 41 = .ok (.getfield 15, 3) := dk_180 0 15 (dk_at dksX3_shortens_1 18 rfl rfl)
theorem dX3_shortens_44 : decode cX3_shortens 44 = .ok (.iload_n 2, 1) := dk_28 (dk_at dksX3_shortens_1 21 rfl rfl)
theorem dX3_shortens_45 : decode cX3_shortens 45 = .ok (.iaload, 1) := dk_46 (dk_at dksX3_shortens_1 22 rfl rfl)
theorem dX3_shortens_46 : decode cX3_shortens 46 = .ok (.if_icmp .ge 17, 3) := dk_162 0 17 (dk_at dksX3_shortens_2 0 rfl rfl)
theorem dX3_shortens_49 : decode cX3_shortens 49 = .ok (.aload_n 0, 1) := dk_42 (dk_at dksX3_shortens_2 3 rfl rfl)
theorem dX3_shortens_50 : decode cX3_shortens 50 = .ok (.getfield 15, 3) := dk_180 0 15 (dk_at dksX3_shortens_2 4 rfl rfl)
theorem dX3_shortens_53 : decode cX3_shortens 53 = .ok (.iload_n 2, 1) := dk_28 (dk_at dksX3_shortens_2 7 rfl rfl)
theorem dX3_shortens_54 : decode cX3_shortens 54 = .ok (.aload_n 0, 1) := dk_42 (dk_at dksX3_shortens_2 8 rfl rfl)
theorem dX3_shortens_55 : decode cX3_shortens 55 = .ok (.iload 5, 2) := dk_21 5 (dk_at dksX3_shortens_2 9 rfl rfl)
theorem dX3_shortens_57 : decode cX3_shortens 57 = .ok (.invokevirtual 40, 3) := dk_182 0 40 (dk_at dksX3_shortens_2 11 rfl rfl)
theorem dX3_shortens_60 : decode cX3_shortens 60 = .ok (.iastore, 1) := dk_79 (dk_at dksX3_shortens_2 14 rfl rfl)
theorem dX3_shortens_61 : decode cX3_shortens 61 = .ok (.iconst 1, 1) := dk_4 (dk_at dksX3_shortens_2 15 rfl rfl)
theorem dX3_shortens_62 : decode cX3_shortens 62 = .ok (.istore_n 3, 1) := dk_62 (dk_at dksX3_shortens_2 16 rfl rfl)
theorem dX3_shortens_63 : decode cX3_shortens 63 = .ok (.iinc 4 1, 3) := dk_132 4 1 (dk_at dksX3_shortens_2 17 rfl rfl)
theorem dX3_shortens_66 : decode cX3_shortens 66 = .ok (.goto (-61), 3) := dk_167 255 195 (dk_at dksX3_shortens_2 20 rfl rfl)
theorem dX3_shortens_69 : decode cX3_shortens 69 = .ok (.iload_n 3, 1) := dk_29 (dk_at dksX3_shortens_2 23 rfl rfl)
theorem dX3_shortens_70 : decode cX3_shortens 70 = .ok (.ireturn, 1) := dk_172 (dk_at dksX3_shortens_3 0 rfl rfl)
abbrev cX3_by : ByteArray := prog_20_method_3_code
def yX3_by : MethodName := ⟨RX3, "by", "(I)I"⟩
def dkwX3_by_1 : List UInt8 := [42, 180, 0, 9, 27, 46, 104, 96, 4, 96, 172]
abbrev dktX3_by_1 : List UInt8 := dkwX3_by_1 ++ []
def dkwX3_by_0 : List UInt8 := [42, 180, 0, 15, 27, 46, 18, 23, 161, 0, 8, 18, 23, 167, 0, 21, 42, 180, 0, 15, 27, 46, 16, 100]
abbrev dktX3_by_0 : List UInt8 := dkwX3_by_0 ++ dktX3_by_1
theorem dksX3_by_0 : cX3_by.data.toList.drop 0 = dktX3_by_0 := by decide +kernel
theorem dksX3_by_1 : cX3_by.data.toList.drop 24 = dktX3_by_1 := dk_seg dksX3_by_0 24 rfl rfl
theorem dX3_by_0 : decode cX3_by 0 = .ok (.aload_n 0, 1) := dk_42 (dk_at dksX3_by_0 0 rfl rfl)
theorem dX3_by_1 : decode cX3_by 1 = .ok (.getfield 15, 3) := dk_180 0 15 (dk_at dksX3_by_0 1 rfl rfl)
theorem dX3_by_4 : decode cX3_by 4 = .ok (.iload_n 1, 1) := dk_27 (dk_at dksX3_by_0 4 rfl rfl)
theorem dX3_by_5 : decode cX3_by 5 = .ok (.iaload, 1) := dk_46 (dk_at dksX3_by_0 5 rfl rfl)
theorem dX3_by_6 : decode cX3_by 6 = .ok (.ldc 23, 2) := dk_18 23 (dk_at dksX3_by_0 6 rfl rfl)
theorem dX3_by_8 : decode cX3_by 8 = .ok (.if_icmp .lt 8, 3) := dk_161 0 8 (dk_at dksX3_by_0 8 rfl rfl)
theorem dX3_by_11 : decode cX3_by 11 = .ok (.ldc 23, 2) := dk_18 23 (dk_at dksX3_by_0 11 rfl rfl)
theorem dX3_by_13 : decode cX3_by 13 = .ok (.goto 21, 3) := dk_167 0 21 (dk_at dksX3_by_0 13 rfl rfl)
theorem dX3_by_16 : decode cX3_by 16 = .ok (.aload_n 0, 1) := dk_42 (dk_at dksX3_by_0 16 rfl rfl)
theorem dX3_by_17 : decode cX3_by 17 = .ok (.getfield 15, 3) := dk_180 0 15 (dk_at dksX3_by_0 17 rfl rfl)
theorem dX3_by_20 : decode cX3_by 20 = .ok (.iload_n 1, 1) := dk_27 (dk_at dksX3_by_0 20 rfl rfl)
theorem dX3_by_21 : decode cX3_by 21 = .ok (.iaload, 1) := dk_46 (dk_at dksX3_by_0 21 rfl rfl)
theorem dX3_by_22 : decode cX3_by 22 = .ok (.bipush 100, 2) := dk_16 100 (dk_at dksX3_by_0 22 rfl rfl)
theorem dX3_by_24 : decode cX3_by 24 = .ok (.aload_n 0, 1) := dk_42 (dk_at dksX3_by_1 0 rfl rfl)
theorem dX3_by_25 : decode cX3_by 25 = .ok (.getfield 9, 3) := dk_180 0 9 (dk_at dksX3_by_1 1 rfl rfl)
theorem dX3_by_28 : decode cX3_by 28 = .ok (.iload_n 1, 1) := dk_27 (dk_at dksX3_by_1 4 rfl rfl)
theorem dX3_by_29 : decode cX3_by 29 = .ok (.iaload, 1) := dk_46 (dk_at dksX3_by_1 5 rfl rfl)
theorem dX3_by_30 : decode cX3_by 30 = .ok (.imul, 1) := dk_104 (dk_at dksX3_by_1 6 rfl rfl)
theorem dX3_by_31 : decode cX3_by 31 = .ok (.iadd, 1) := dk_96 (dk_at dksX3_by_1 7 rfl rfl)
theorem dX3_by_32 : decode cX3_by 32 = .ok (.iconst 1, 1) := dk_4 (dk_at dksX3_by_1 8 rfl rfl)
theorem dX3_by_33 : decode cX3_by 33 = .ok (.iadd, 1) := dk_96 (dk_at dksX3_by_1 9 rfl rfl)
theorem dX3_by_34 : decode cX3_by 34 = .ok (.ireturn, 1) := dk_172 (dk_at dksX3_by_1 10 rfl rfl)
abbrev cX3_comes : ByteArray := prog_20_method_5_code
def yX3_comes : MethodName := ⟨RX3, "comes", "(I)Z"⟩
def dkwX3_comes_0 : List UInt8 := [42, 180, 0, 15, 27, 46, 18, 23, 162, 0, 7, 4, 167, 0, 4, 3, 172]
abbrev dktX3_comes_0 : List UInt8 := dkwX3_comes_0 ++ []
theorem dksX3_comes_0 : cX3_comes.data.toList.drop 0 = dktX3_comes_0 := by decide +kernel
theorem dX3_comes_0 : decode cX3_comes 0 = .ok (.aload_n 0, 1) := dk_42 (dk_at dksX3_comes_0 0 rfl rfl)
theorem dX3_comes_1 : decode cX3_comes 1 = .ok (.getfield 15, 3) := dk_180 0 15 (dk_at dksX3_comes_0 1 rfl rfl)
theorem dX3_comes_4 : decode cX3_comes 4 = .ok (.iload_n 1, 1) := dk_27 (dk_at dksX3_comes_0 4 rfl rfl)
theorem dX3_comes_5 : decode cX3_comes 5 = .ok (.iaload, 1) := dk_46 (dk_at dksX3_comes_0 5 rfl rfl)
theorem dX3_comes_6 : decode cX3_comes 6 = .ok (.ldc 23, 2) := dk_18 23 (dk_at dksX3_comes_0 6 rfl rfl)
theorem dX3_comes_8 : decode cX3_comes 8 = .ok (.if_icmp .ge 7, 3) := dk_162 0 7 (dk_at dksX3_comes_0 8 rfl rfl)
theorem dX3_comes_11 : decode cX3_comes 11 = .ok (.iconst 1, 1) := dk_4 (dk_at dksX3_comes_0 11 rfl rfl)
theorem dX3_comes_12 : decode cX3_comes 12 = .ok (.goto 4, 3) := dk_167 0 4 (dk_at dksX3_comes_0 12 rfl rfl)
theorem dX3_comes_15 : decode cX3_comes 15 = .ok (.iconst 0, 1) := dk_3 (dk_at dksX3_comes_0 15 rfl rfl)
theorem dX3_comes_16 : decode cX3_comes 16 = .ok (.ireturn, 1) := dk_172 (dk_at dksX3_comes_0 16 rfl rfl)
abbrev cX3_cost : ByteArray := prog_20_method_6_code
def yX3_cost : MethodName := ⟨RX3, "cost", "(I)I"⟩
def dkwX3_cost_0 : List UInt8 := [42, 180, 0, 15, 27, 46, 16, 100, 108, 172]
abbrev dktX3_cost_0 : List UInt8 := dkwX3_cost_0 ++ []
theorem dksX3_cost_0 : cX3_cost.data.toList.drop 0 = dktX3_cost_0 := by decide +kernel
theorem dX3_cost_0 : decode cX3_cost 0 = .ok (.aload_n 0, 1) := dk_42 (dk_at dksX3_cost_0 0 rfl rfl)
theorem dX3_cost_1 : decode cX3_cost 1 = .ok (.getfield 15, 3) := dk_180 0 15 (dk_at dksX3_cost_0 1 rfl rfl)
theorem dX3_cost_4 : decode cX3_cost 4 = .ok (.iload_n 1, 1) := dk_27 (dk_at dksX3_cost_0 4 rfl rfl)
theorem dX3_cost_5 : decode cX3_cost 5 = .ok (.iaload, 1) := dk_46 (dk_at dksX3_cost_0 5 rfl rfl)
theorem dX3_cost_6 : decode cX3_cost 6 = .ok (.bipush 100, 2) := dk_16 100 (dk_at dksX3_cost_0 6 rfl rfl)
theorem dX3_cost_8 : decode cX3_cost 8 = .ok (.idiv, 1) := dk_108 (dk_at dksX3_cost_0 8 rfl rfl)
theorem dX3_cost_9 : decode cX3_cost 9 = .ok (.ireturn, 1) := dk_172 (dk_at dksX3_cost_0 9 rfl rfl)
abbrev cX3_steps : ByteArray := prog_20_method_7_code
def yX3_steps : MethodName := ⟨RX3, "steps", "(I)I"⟩
def dkwX3_steps_0 : List UInt8 := [42, 180, 0, 15, 27, 46, 16, 100, 112, 172]
abbrev dktX3_steps_0 : List UInt8 := dkwX3_steps_0 ++ []
theorem dksX3_steps_0 : cX3_steps.data.toList.drop 0 = dktX3_steps_0 := by decide +kernel
theorem dX3_steps_0 : decode cX3_steps 0 = .ok (.aload_n 0, 1) := dk_42 (dk_at dksX3_steps_0 0 rfl rfl)
theorem dX3_steps_1 : decode cX3_steps 1 = .ok (.getfield 15, 3) := dk_180 0 15 (dk_at dksX3_steps_0 1 rfl rfl)
theorem dX3_steps_4 : decode cX3_steps 4 = .ok (.iload_n 1, 1) := dk_27 (dk_at dksX3_steps_0 4 rfl rfl)
theorem dX3_steps_5 : decode cX3_steps 5 = .ok (.iaload, 1) := dk_46 (dk_at dksX3_steps_0 5 rfl rfl)
theorem dX3_steps_6 : decode cX3_steps 6 = .ok (.bipush 100, 2) := dk_16 100 (dk_at dksX3_steps_0 6 rfl rfl)
theorem dX3_steps_8 : decode cX3_steps 8 = .ok (.irem, 1) := dk_112 (dk_at dksX3_steps_0 8 rfl rfl)
theorem dX3_steps_9 : decode cX3_steps 9 = .ok (.ireturn, 1) := dk_172 (dk_at dksX3_steps_0 9 rfl rfl)
abbrev cX3_first : ByteArray := prog_20_method_8_code
def yX3_first : MethodName := ⟨RX3, "first", "(LTaxOnLooks$Town;I)I"⟩
def dkwX3_first_3 : List UInt8 := [162, 0, 8, 21, 5, 167, 0, 4, 29, 62, 132, 4, 1, 167, 255, 178, 29, 172]
abbrev dktX3_first_3 : List UInt8 := dkwX3_first_3 ++ []
def dkwX3_first_2 : List UInt8 := [160, 0, 7, 4, 167, 0, 4, 3, 54, 6, 21, 6, 153, 0, 19, 29, 28, 159, 0, 9, 21, 5, 29]
abbrev dktX3_first_2 : List UInt8 := dkwX3_first_2 ++ dktX3_first_3
def dkwX3_first_1 : List UInt8 := [28, 46, 158, 0, 28, 21, 5, 2, 159, 0, 22, 42, 21, 5, 182, 0, 40, 42, 180, 0, 15, 28, 46]
abbrev dktX3_first_1 : List UInt8 := dkwX3_first_1 ++ dktX3_first_2
def dkwX3_first_0 : List UInt8 := [28, 62, 3, 54, 4, 21, 4, 7, 162, 0, 78, 43, 28, 21, 4, 182, 0, 36, 54, 5, 42, 180, 0, 15]
abbrev dktX3_first_0 : List UInt8 := dkwX3_first_0 ++ dktX3_first_1
theorem dksX3_first_0 : cX3_first.data.toList.drop 0 = dktX3_first_0 := by decide +kernel
theorem dksX3_first_1 : cX3_first.data.toList.drop 24 = dktX3_first_1 := dk_seg dksX3_first_0 24 rfl rfl
theorem dksX3_first_2 : cX3_first.data.toList.drop 47 = dktX3_first_2 := dk_seg dksX3_first_1 23 rfl rfl
theorem dksX3_first_3 : cX3_first.data.toList.drop 70 = dktX3_first_3 := dk_seg dksX3_first_2 23 rfl rfl
theorem dX3_first_0 : decode cX3_first 0 = .ok (.iload_n 2, 1) := dk_28 (dk_at dksX3_first_0 0 rfl rfl)
theorem dX3_first_1 : decode cX3_first 1 = .ok (.istore_n 3, 1) := dk_62 (dk_at dksX3_first_0 1 rfl rfl)
theorem dX3_first_2 : decode cX3_first 2 = .ok (.iconst 0, 1) := dk_3 (dk_at dksX3_first_0 2 rfl rfl)
theorem dX3_first_3 : decode cX3_first 3 = .ok (.istore 4, 2) := dk_54 4 (dk_at dksX3_first_0 3 rfl rfl)
theorem dX3_first_5 : decode cX3_first 5 = .ok (.iload 4, 2) := dk_21 4 (dk_at dksX3_first_0 5 rfl rfl)
theorem dX3_first_7 : decode cX3_first 7 = .ok (.iconst 4, 1) := dk_7 (dk_at dksX3_first_0 7 rfl rfl)
theorem dX3_first_8 : decode cX3_first 8 = .ok (.if_icmp .ge 78, 3) := dk_162 0 78 (dk_at dksX3_first_0 8 rfl rfl)
theorem dX3_first_11 : decode cX3_first 11 = .ok (.aload_n 1, 1) := dk_43 (dk_at dksX3_first_0 11 rfl rfl)
theorem dX3_first_12 : decode cX3_first 12 = .ok (.iload_n 2, 1) := dk_28 (dk_at dksX3_first_0 12 rfl rfl)
theorem dX3_first_13 : decode cX3_first 13 = .ok (.iload 4, 2) := dk_21 4 (dk_at dksX3_first_0 13 rfl rfl)
theorem dX3_first_15 : decode cX3_first 15 = .ok (.invokevirtual 36, 3) := dk_182 0 36 (dk_at dksX3_first_0 15 rfl rfl)
theorem dX3_first_18 : decode cX3_first 18 = .ok (.istore 5, 2) := dk_54 5 (dk_at dksX3_first_0 18 rfl rfl)
theorem dX3_first_20 : decode cX3_first 20 = .ok (.aload_n 0, 1) := dk_42 (dk_at dksX3_first_0 20 rfl rfl)
theorem dX3_first_21 : decode cX3_first 21 = .ok (.getfield 15, 3) := dk_180 0 15 (dk_at dksX3_first_0 21 rfl rfl)
theorem dX3_first_24 : decode cX3_first 24 = .ok (.iload_n 2, 1) := dk_28 (dk_at dksX3_first_1 0 rfl rfl)
theorem dX3_first_25 : decode cX3_first 25 = .ok (.iaload, 1) := dk_46 (dk_at dksX3_first_1 1 rfl rfl)
theorem dX3_first_26 : decode cX3_first 26 = .ok (.ifCond .le 28, 3) := dk_158 0 28 (dk_at dksX3_first_1 2 rfl rfl)
theorem dX3_first_29 : decode cX3_first 29 = .ok (.iload 5, 2) := dk_21 5 (dk_at dksX3_first_1 5 rfl rfl)
theorem dX3_first_31 : decode cX3_first 31 = .ok (.iconst (-1), 1) := dk_2 (dk_at dksX3_first_1 7 rfl rfl)
theorem dX3_first_32 : decode cX3_first 32 = .ok (.if_icmp .eq 22, 3) := dk_159 0 22 (dk_at dksX3_first_1 8 rfl rfl)
theorem dX3_first_35 : decode cX3_first 35 = .ok (.aload_n 0, 1) := dk_42 (dk_at dksX3_first_1 11 rfl rfl)
theorem dX3_first_36 : decode cX3_first 36 = .ok (.iload 5, 2) := dk_21 5 (dk_at dksX3_first_1 12 rfl rfl)
theorem dX3_first_38 : decode cX3_first 38 = .ok (.invokevirtual 40, 3) := dk_182 0 40 (dk_at dksX3_first_1 14 rfl rfl)
theorem dX3_first_41 : decode cX3_first 41 = .ok (.aload_n 0, 1) := dk_42 (dk_at dksX3_first_1 17 rfl rfl)
theorem dX3_first_42 : decode cX3_first 42 = .ok (.getfield 15, 3) := dk_180 0 15 (dk_at dksX3_first_1 18 rfl rfl)
theorem dX3_first_45 : decode cX3_first 45 = .ok (.iload_n 2, 1) := dk_28 (dk_at dksX3_first_1 21 rfl rfl)
theorem dX3_first_46 : decode cX3_first 46 = .ok (.iaload, 1) := dk_46 (dk_at dksX3_first_1 22 rfl rfl)
theorem dX3_first_47 : decode cX3_first 47 = .ok (.if_icmp .ne 7, 3) := dk_160 0 7 (dk_at dksX3_first_2 0 rfl rfl)
theorem dX3_first_50 : decode cX3_first 50 = .ok (.iconst 1, 1) := dk_4 (dk_at dksX3_first_2 3 rfl rfl)
theorem dX3_first_51 : decode cX3_first 51 = .ok (.goto 4, 3) := dk_167 0 4 (dk_at dksX3_first_2 4 rfl rfl)
theorem dX3_first_54 : decode cX3_first 54 = .ok (.iconst 0, 1) := dk_3 (dk_at dksX3_first_2 7 rfl rfl)
theorem dX3_first_55 : decode cX3_first 55 = .ok (.istore 6, 2) := dk_54 6 (dk_at dksX3_first_2 8 rfl rfl)
theorem dX3_first_57 : decode cX3_first 57 = .ok (.iload 6, 2) := dk_21 6 (dk_at dksX3_first_2 10 rfl rfl)
theorem dX3_first_59 : decode cX3_first 59 = .ok (.ifCond .eq 19, 3) := dk_153 0 19 (dk_at dksX3_first_2 12 rfl rfl)
theorem dX3_first_62 : decode cX3_first 62 = .ok (.iload_n 3, 1) := dk_29 (dk_at dksX3_first_2 15 rfl rfl)
theorem dX3_first_63 : decode cX3_first 63 = .ok (.iload_n 2, 1) := dk_28 (dk_at dksX3_first_2 16 rfl rfl)
theorem dX3_first_64 : decode cX3_first 64 = .ok (.if_icmp .eq 9, 3) := dk_159 0 9 (dk_at dksX3_first_2 17 rfl rfl)
theorem dX3_first_67 : decode cX3_first 67 = .ok (.iload 5, 2) := dk_21 5 (dk_at dksX3_first_2 20 rfl rfl)
theorem dX3_first_69 : decode cX3_first 69 = .ok (.iload_n 3, 1) := dk_29 (dk_at dksX3_first_2 22 rfl rfl)
theorem dX3_first_70 : decode cX3_first 70 = .ok (.if_icmp .ge 8, 3) := dk_162 0 8 (dk_at dksX3_first_3 0 rfl rfl)
theorem dX3_first_73 : decode cX3_first 73 = .ok (.iload 5, 2) := dk_21 5 (dk_at dksX3_first_3 3 rfl rfl)
theorem dX3_first_75 : decode cX3_first 75 = .ok (.goto 4, 3) := dk_167 0 4 (dk_at dksX3_first_3 5 rfl rfl)
theorem dX3_first_78 : decode cX3_first 78 = .ok (.iload_n 3, 1) := dk_29 (dk_at dksX3_first_3 8 rfl rfl)
theorem dX3_first_79 : decode cX3_first 79 = .ok (.istore_n 3, 1) := dk_62 (dk_at dksX3_first_3 9 rfl rfl)
theorem dX3_first_80 : decode cX3_first 80 = .ok (.iinc 4 1, 3) := dk_132 4 1 (dk_at dksX3_first_3 10 rfl rfl)
theorem dX3_first_83 : decode cX3_first 83 = .ok (.goto (-78), 3) := dk_167 255 178 (dk_at dksX3_first_3 13 rfl rfl)
theorem dX3_first_86 : decode cX3_first 86 = .ok (.iload_n 3, 1) := dk_29 (dk_at dksX3_first_3 16 rfl rfl)
theorem dX3_first_87 : decode cX3_first 87 = .ok (.ireturn, 1) := dk_172 (dk_at dksX3_first_3 17 rfl rfl)
abbrev cX3_owes : ByteArray := prog_20_method_9_code
def yX3_owes : MethodName := ⟨RX3, "owes", "(I)I"⟩
def dkwX3_owes_0 : List UInt8 := [42, 180, 0, 9, 27, 46, 172]
abbrev dktX3_owes_0 : List UInt8 := dkwX3_owes_0 ++ []
theorem dksX3_owes_0 : cX3_owes.data.toList.drop 0 = dktX3_owes_0 := by decide +kernel
theorem dX3_owes_0 : decode cX3_owes 0 = .ok (.aload_n 0, 1) := dk_42 (dk_at dksX3_owes_0 0 rfl rfl)
theorem dX3_owes_1 : decode cX3_owes 1 = .ok (.getfield 9, 3) := dk_180 0 9 (dk_at dksX3_owes_0 1 rfl rfl)
theorem dX3_owes_4 : decode cX3_owes 4 = .ok (.iload_n 1, 1) := dk_27 (dk_at dksX3_owes_0 4 rfl rfl)
theorem dX3_owes_5 : decode cX3_owes 5 = .ok (.iaload, 1) := dk_46 (dk_at dksX3_owes_0 5 rfl rfl)
theorem dX3_owes_6 : decode cX3_owes 6 = .ok (.ireturn, 1) := dk_172 (dk_at dksX3_owes_0 6 rfl rfl)
theorem q85 : (Jvm.Cond.initialized "TaxOnLooks$Walks") ∈ lw_all := lw_g (lw_at lw_m1 4 rfl) rfl
theorem q188 : (Jvm.Cond.fieldLink "TaxOnLooks$Walks" (18 : Nat) "TaxOnLooks$Town" "at" "[I") ∈ lw_all := lw_g (lw_at lw_m1 107 rfl) rfl
theorem q223 : (Jvm.Cond.instantiable "TaxOnLooks$Walks" (2 : Nat)) ∈ lw_all := lw_g (lw_at lw_m1 142 rfl) rfl
theorem q225 : (Jvm.Cond.instanceMethod ({ cls := "TaxOnLooks$Walks", name := "<init>", desc := "()V" } : Jvm.MethodName)) ∈ lw_all := lw_g (lw_at lw_m1 144 rfl) rfl
theorem q226 : (Jvm.Cond.code ({ cls := "TaxOnLooks$Walks", name := "<init>", desc := "()V" } : Jvm.MethodName) prog_20_method_1_code (1 : Nat) (Option.none : Option Jvm.ClassFile.FieldType)) ∈ lw_all := lw_g (lw_at lw_m1 145 rfl) rfl
theorem q227 : (Jvm.Cond.methodLink "TaxOnLooks$Walks" (3 : Nat) ({ cls := "java/lang/Object", name := "<init>", desc := "()V" } : Jvm.MethodName)) ∈ lw_all := lw_g (lw_at lw_m1 146 rfl) rfl
theorem q228 : (Jvm.Cond.fieldLink "TaxOnLooks$Walks" (9 : Nat) "TaxOnLooks$Walks" "owes" "[I") ∈ lw_all := lw_g (lw_at lw_m1 147 rfl) rfl
theorem q229 : (Jvm.Cond.fieldLink "TaxOnLooks$Walks" (15 : Nat) "TaxOnLooks$Walks" "left" "[I") ∈ lw_all := lw_g (lw_at lw_m1 148 rfl) rfl
theorem q230 : (Jvm.Cond.laysFinal "TaxOnLooks$Walks" "TaxOnLooks$Walks" "owes" "[I") ∈ lw_all := lw_g (lw_at lw_m1 149 rfl) rfl
theorem q231 : (Jvm.Cond.soleField "TaxOnLooks$Walks" "owes") ∈ lw_all := lw_g (lw_at lw_m1 150 rfl) rfl
theorem q232 : (Jvm.Cond.laysFinal "TaxOnLooks$Walks" "TaxOnLooks$Walks" "left" "[I") ∈ lw_all := lw_g (lw_at lw_m1 151 rfl) rfl
theorem q233 : (Jvm.Cond.soleField "TaxOnLooks$Walks" "left") ∈ lw_all := lw_g (lw_at lw_m1 152 rfl) rfl
theorem q234 : (Jvm.Cond.superclass "TaxOnLooks$Walks" "java/lang/Object") ∈ lw_all := lw_g (lw_at lw_m1 153 rfl) rfl
theorem q1120 : (Jvm.Cond.instanceMethod ({ cls := "TaxOnLooks$Walks", name := "find", desc := "(LTaxOnLooks$Town;II)V" } : Jvm.MethodName)) ∈ lw_all := lw_g (lw_at lw_m5 79 rfl) rfl
theorem q1121 : (Jvm.Cond.selects "TaxOnLooks$Walks" ({ cls := "TaxOnLooks$Walks", name := "find", desc := "(LTaxOnLooks$Town;II)V" } : Jvm.MethodName) ({ cls := "TaxOnLooks$Walks", name := "find", desc := "(LTaxOnLooks$Town;II)V" } : Jvm.MethodName)) ∈ lw_all := lw_g (lw_at lw_m5 80 rfl) rfl
theorem q1122 : (Jvm.Cond.code ({ cls := "TaxOnLooks$Walks", name := "find", desc := "(LTaxOnLooks$Town;II)V" } : Jvm.MethodName) prog_20_method_2_code (7 : Nat) (Option.none : Option Jvm.ClassFile.FieldType)) ∈ lw_all := lw_g (lw_at lw_m5 81 rfl) rfl
theorem q1123 : (Jvm.Cond.constant "TaxOnLooks$Walks" (23 : Nat) (1000000 : Int32)) ∈ lw_all := lw_g (lw_at lw_m5 82 rfl) rfl
theorem q1124 : (Jvm.Cond.methodLink "TaxOnLooks$Walks" (24 : Nat) ({ cls := "TaxOnLooks$Town", name := "isFree", desc := "(I)Z" } : Jvm.MethodName)) ∈ lw_all := lw_g (lw_at lw_m5 83 rfl) rfl
theorem q1125 : (Jvm.Cond.methodLink "TaxOnLooks$Walks" (28 : Nat) ({ cls := "TaxOnLooks$Town", name := "duty", desc := "(I)I" } : Jvm.MethodName)) ∈ lw_all := lw_g (lw_at lw_m5 84 rfl) rfl
theorem q1126 : (Jvm.Cond.methodLink "TaxOnLooks$Walks" (32 : Nat) ({ cls := "TaxOnLooks$Walks", name := "shortens", desc := "(LTaxOnLooks$Town;I)Z" } : Jvm.MethodName)) ∈ lw_all := lw_g (lw_at lw_m5 85 rfl) rfl
theorem q1127 : (Jvm.Cond.privateMethod ({ cls := "TaxOnLooks$Walks", name := "shortens", desc := "(LTaxOnLooks$Town;I)Z" } : Jvm.MethodName)) ∈ lw_tbl := lw_at lw_m5 86 rfl
theorem q1128 : (Jvm.Cond.instanceMethod ({ cls := "TaxOnLooks$Walks", name := "shortens", desc := "(LTaxOnLooks$Town;I)Z" } : Jvm.MethodName)) ∈ lw_all := lw_g (lw_at lw_m5 87 rfl) rfl
theorem q1129 : (Jvm.Cond.code ({ cls := "TaxOnLooks$Walks", name := "shortens", desc := "(LTaxOnLooks$Town;I)Z" } : Jvm.MethodName) prog_20_method_4_code (6 : Nat) (Option.some Jvm.ClassFile.FieldType.boolean)) ∈ lw_all := lw_g (lw_at lw_m5 88 rfl) rfl
theorem q1130 : (Jvm.Cond.methodLink "TaxOnLooks$Walks" (36 : Nat) ({ cls := "TaxOnLooks$Town", name := "beside", desc := "(II)I" } : Jvm.MethodName)) ∈ lw_all := lw_g (lw_at lw_m5 89 rfl) rfl
theorem q1137 : (Jvm.Cond.methodLink "TaxOnLooks$Walks" (40 : Nat) ({ cls := "TaxOnLooks$Walks", name := "by", desc := "(I)I" } : Jvm.MethodName)) ∈ lw_all := lw_g (lw_at lw_m5 96 rfl) rfl
theorem q1138 : (Jvm.Cond.privateMethod ({ cls := "TaxOnLooks$Walks", name := "by", desc := "(I)I" } : Jvm.MethodName)) ∈ lw_tbl := lw_at lw_m5 97 rfl
theorem q1139 : (Jvm.Cond.instanceMethod ({ cls := "TaxOnLooks$Walks", name := "by", desc := "(I)I" } : Jvm.MethodName)) ∈ lw_all := lw_g (lw_at lw_m5 98 rfl) rfl
theorem q1140 : (Jvm.Cond.code ({ cls := "TaxOnLooks$Walks", name := "by", desc := "(I)I" } : Jvm.MethodName) prog_20_method_3_code (2 : Nat) (Option.some Jvm.ClassFile.FieldType.int)) ∈ lw_all := lw_g (lw_at lw_m5 99 rfl) rfl
theorem q1142 : (Jvm.Cond.instanceMethod ({ cls := "TaxOnLooks$Walks", name := "comes", desc := "(I)Z" } : Jvm.MethodName)) ∈ lw_all := lw_g (lw_at lw_m5 101 rfl) rfl
theorem q1143 : (Jvm.Cond.selects "TaxOnLooks$Walks" ({ cls := "TaxOnLooks$Walks", name := "comes", desc := "(I)Z" } : Jvm.MethodName) ({ cls := "TaxOnLooks$Walks", name := "comes", desc := "(I)Z" } : Jvm.MethodName)) ∈ lw_all := lw_g (lw_at lw_m5 102 rfl) rfl
theorem q1144 : (Jvm.Cond.code ({ cls := "TaxOnLooks$Walks", name := "comes", desc := "(I)Z" } : Jvm.MethodName) prog_20_method_5_code (2 : Nat) (Option.some Jvm.ClassFile.FieldType.boolean)) ∈ lw_all := lw_g (lw_at lw_m5 103 rfl) rfl
theorem q1146 : (Jvm.Cond.instanceMethod ({ cls := "TaxOnLooks$Walks", name := "cost", desc := "(I)I" } : Jvm.MethodName)) ∈ lw_all := lw_g (lw_at lw_m5 105 rfl) rfl
theorem q1147 : (Jvm.Cond.selects "TaxOnLooks$Walks" ({ cls := "TaxOnLooks$Walks", name := "cost", desc := "(I)I" } : Jvm.MethodName) ({ cls := "TaxOnLooks$Walks", name := "cost", desc := "(I)I" } : Jvm.MethodName)) ∈ lw_all := lw_g (lw_at lw_m5 106 rfl) rfl
theorem q1148 : (Jvm.Cond.code ({ cls := "TaxOnLooks$Walks", name := "cost", desc := "(I)I" } : Jvm.MethodName) prog_20_method_6_code (2 : Nat) (Option.some Jvm.ClassFile.FieldType.int)) ∈ lw_all := lw_g (lw_at lw_m5 107 rfl) rfl
theorem q1150 : (Jvm.Cond.instanceMethod ({ cls := "TaxOnLooks$Walks", name := "steps", desc := "(I)I" } : Jvm.MethodName)) ∈ lw_all := lw_g (lw_at lw_m5 109 rfl) rfl
theorem q1151 : (Jvm.Cond.selects "TaxOnLooks$Walks" ({ cls := "TaxOnLooks$Walks", name := "steps", desc := "(I)I" } : Jvm.MethodName) ({ cls := "TaxOnLooks$Walks", name := "steps", desc := "(I)I" } : Jvm.MethodName)) ∈ lw_all := lw_g (lw_at lw_m5 110 rfl) rfl
theorem q1152 : (Jvm.Cond.code ({ cls := "TaxOnLooks$Walks", name := "steps", desc := "(I)I" } : Jvm.MethodName) prog_20_method_7_code (2 : Nat) (Option.some Jvm.ClassFile.FieldType.int)) ∈ lw_all := lw_g (lw_at lw_m5 111 rfl) rfl
theorem q1154 : (Jvm.Cond.instanceMethod ({ cls := "TaxOnLooks$Walks", name := "first", desc := "(LTaxOnLooks$Town;I)I" } : Jvm.MethodName)) ∈ lw_all := lw_g (lw_at lw_m5 113 rfl) rfl
theorem q1155 : (Jvm.Cond.selects "TaxOnLooks$Walks" ({ cls := "TaxOnLooks$Walks", name := "first", desc := "(LTaxOnLooks$Town;I)I" } : Jvm.MethodName) ({ cls := "TaxOnLooks$Walks", name := "first", desc := "(LTaxOnLooks$Town;I)I" } : Jvm.MethodName)) ∈ lw_all := lw_g (lw_at lw_m5 114 rfl) rfl
theorem q1156 : (Jvm.Cond.code ({ cls := "TaxOnLooks$Walks", name := "first", desc := "(LTaxOnLooks$Town;I)I" } : Jvm.MethodName) prog_20_method_8_code (7 : Nat) (Option.some Jvm.ClassFile.FieldType.int)) ∈ lw_all := lw_g (lw_at lw_m5 115 rfl) rfl
theorem q1162 : (Jvm.Cond.instanceMethod ({ cls := "TaxOnLooks$Walks", name := "owes", desc := "(I)I" } : Jvm.MethodName)) ∈ lw_all := lw_g (lw_at lw_m5 121 rfl) rfl
theorem q1163 : (Jvm.Cond.selects "TaxOnLooks$Walks" ({ cls := "TaxOnLooks$Walks", name := "owes", desc := "(I)I" } : Jvm.MethodName) ({ cls := "TaxOnLooks$Walks", name := "owes", desc := "(I)I" } : Jvm.MethodName)) ∈ lw_all := lw_g (lw_at lw_m5 122 rfl) rfl
theorem q1164 : (Jvm.Cond.code ({ cls := "TaxOnLooks$Walks", name := "owes", desc := "(I)I" } : Jvm.MethodName) prog_20_method_9_code (2 : Nat) (Option.some Jvm.ClassFile.FieldType.int)) ∈ lw_all := lw_g (lw_at lw_m5 123 rfl) rfl
theorem in_X3 : ∀ w ∈ wsX30, w ∈ lw_all := lw_in wsX30 [230, 232] (by decide +kernel) (by decide +kernel)

/-! TaxOnLooks$Shelf -/
set_option maxRecDepth 100000
def RX4 : String := "TaxOnLooks$Shelf"
def TX4 : u_T := fun k => match k with
  | _ => ("TaxOnLooks$Shelf", "held", "Ljava/lang/Object;", false)
def tyX4 : Nat → FieldType := fun k => match k with
  | _ => .object "java/lang/Object"
abbrev wsX40 : List Cond := u_ws RX4 TX4 1
theorem nmX4 : ∀ a, a < 1 → ∀ b, b < 1 → a ≠ b → (TX4 a).2.1 ≠ (TX4 b).2.1 := by decide +kernel
theorem tyX4_ok : ∀ k, k < 1 → parseFieldDescriptor (TX4 k).2.2.1 = some (tyX4 k) := by decide +kernel
abbrev cX4_init : ByteArray := prog_16_method_1_code
def yX4_init : MethodName := ⟨RX4, "<init>", "()V"⟩
theorem dX4_init_0 : decode cX4_init 0 = .ok (.aload_n 0, 1) := by decide +kernel
theorem dX4_init_1 : decode cX4_init 1 = .ok (.invokespecial 3, 3) := by decide +kernel
theorem dX4_init_4 : decode cX4_init 4 = .ok (.return_, 1) := by decide +kernel
abbrev cX4_row : ByteArray := prog_16_method_2_code
def yX4_row : MethodName := ⟨RX4, "row", "()LTaxOnLooks$Row;"⟩
def dkwX4_row_1 : List UInt8 := [76, 187, 0, 23, 89, 16, 254, 183, 0, 25, 191]
abbrev dktX4_row_1 : List UInt8 := dkwX4_row_1 ++ []
def dkwX4_row_0 : List UInt8 := [42, 180, 0, 9, 192, 0, 15, 76, 43, 198, 0, 7, 4, 167, 0, 4, 3, 16, 253, 184, 0, 17, 43, 176]
abbrev dktX4_row_0 : List UInt8 := dkwX4_row_0 ++ dktX4_row_1
theorem dksX4_row_0 : cX4_row.data.toList.drop 0 = dktX4_row_0 := by decide +kernel
theorem dksX4_row_1 : cX4_row.data.toList.drop 24 = dktX4_row_1 := dk_seg dksX4_row_0 24 rfl rfl
theorem dX4_row_0 : decode cX4_row 0 = .ok (.aload_n 0, 1) := dk_42 (dk_at dksX4_row_0 0 rfl rfl)
theorem dX4_row_1 : decode cX4_row 1 = .ok (.getfield 9, 3) := dk_180 0 9 (dk_at dksX4_row_0 1 rfl rfl)
theorem dX4_row_4 : decode cX4_row 4 = .ok (.checkcast 15, 3) := dk_192 0 15 (dk_at dksX4_row_0 4 rfl rfl)
theorem dX4_row_7 : decode cX4_row 7 = .ok (.astore_n 1, 1) := dk_76 (dk_at dksX4_row_0 7 rfl rfl)
theorem dX4_row_8 : decode cX4_row 8 = .ok (.aload_n 1, 1) := dk_43 (dk_at dksX4_row_0 8 rfl rfl)
theorem dX4_row_9 : decode cX4_row 9 = .ok (.ifnull 7, 3) := dk_198 0 7 (dk_at dksX4_row_0 9 rfl rfl)
theorem dX4_row_12 : decode cX4_row 12 = .ok (.iconst 1, 1) := dk_4 (dk_at dksX4_row_0 12 rfl rfl)
theorem dX4_row_13 : decode cX4_row 13 = .ok (.goto 4, 3) := dk_167 0 4 (dk_at dksX4_row_0 13 rfl rfl)
theorem dX4_row_16 : decode cX4_row 16 = .ok (.iconst 0, 1) := dk_3 (dk_at dksX4_row_0 16 rfl rfl)
theorem dX4_row_17 : decode cX4_row 17 = .ok (.bipush (-3), 2) := dk_16 253 (dk_at dksX4_row_0 17 rfl rfl)
theorem dX4_row_19 : decode cX4_row 19 = .ok (.invokestatic 17, 3) := dk_184 0 17 (dk_at dksX4_row_0 19 rfl rfl)
theorem dX4_row_22 : decode cX4_row 22 = .ok (.aload_n 1, 1) := dk_43 (dk_at dksX4_row_0 22 rfl rfl)
theorem dX4_row_23 : decode cX4_row 23 = .ok (.areturn, 1) := dk_176 (dk_at dksX4_row_0 23 rfl rfl)
theorem dX4_row_24 : decode cX4_row 24 = .ok (.astore_n 1, 1) := dk_76 (dk_at dksX4_row_1 0 rfl rfl)
theorem dX4_row_25 : decode cX4_row 25 = .ok (.new 23, 3) := dk_187 0 23 (dk_at dksX4_row_1 1 rfl rfl)
theorem dX4_row_28 : decode cX4_row 28 = .ok (.dup, 1) := dk_89 (dk_at dksX4_row_1 4 rfl rfl)
theorem dX4_row_29 : decode cX4_row 29 = .ok (.bipush (-2), 2) := dk_16 254 (dk_at dksX4_row_1 5 rfl rfl)
theorem dX4_row_31 : decode cX4_row 31 = .ok (.invokespecial 25, 3) := dk_183 0 25 (dk_at dksX4_row_1 7 rfl rfl)
theorem dX4_row_34 : decode cX4_row 34 = .ok (.athrow, 1) := dk_191 (dk_at dksX4_row_1 10 rfl rfl)
abbrev cX4_holdsPerson : ByteArray := prog_16_method_3_code
def yX4_holdsPerson : MethodName := ⟨RX4, "holdsPerson", "()Z"⟩
def dkwX4_holdsPerson_0 : List UInt8 := [42, 180, 0, 9, 193, 0, 28, 172]
abbrev dktX4_holdsPerson_0 : List UInt8 := dkwX4_holdsPerson_0 ++ []
theorem dksX4_holdsPerson_0 : cX4_holdsPerson.data.toList.drop 0 = dktX4_holdsPerson_0 := by decide +kernel
theorem dX4_holdsPerson_0 : decode cX4_holdsPerson 0 = .ok (.aload_n 0, 1) := dk_42 (dk_at dksX4_holdsPerson_0 0 rfl rfl)
theorem dX4_holdsPerson_1 : decode cX4_holdsPerson 1 = .ok (.getfield 9, 3) := dk_180 0 9 (dk_at dksX4_holdsPerson_0 1 rfl rfl)
theorem dX4_holdsPerson_4 : decode cX4_holdsPerson 4 = .ok (.instanceof 28, 3) := dk_193 0 28 (dk_at dksX4_holdsPerson_0 4 rfl rfl)
theorem dX4_holdsPerson_7 : decode cX4_holdsPerson 7 = .ok (.ireturn, 1) := dk_172 (dk_at dksX4_holdsPerson_0 7 rfl rfl)
abbrev cX4_says : ByteArray := prog_16_method_4_code
def yX4_says : MethodName := ⟨RX4, "says", "(ILTaxOnLooks$Town;)I"⟩
def dkwX4_says_11 : List UInt8 := [16, 253, 184, 0, 17, 29, 172, 78, 187, 0, 23, 89, 16, 254, 183, 0, 25, 191]
abbrev dktX4_says_11 : List UInt8 := dkwX4_says_11 ++ []
def dkwX4_says_10 : List UInt8 := [180, 0, 9, 192, 0, 28, 180, 0, 66, 46, 62, 42, 180, 0, 9, 198, 0, 7, 4, 167, 0, 4, 3]
abbrev dktX4_says_10 : List UInt8 := dkwX4_says_10 ++ dktX4_says_11
def dkwX4_says_9 : List UInt8 := [180, 0, 62, 62, 167, 0, 30, 42, 180, 0, 9, 199, 0, 7, 2, 167, 0, 18, 44, 180, 0, 63, 42]
abbrev dktX4_says_9 : List UInt8 := dkwX4_says_9 ++ dktX4_says_10
def dkwX4_says_8 : List UInt8 := [46, 62, 167, 0, 55, 42, 180, 0, 9, 199, 0, 7, 2, 167, 0, 13, 42, 180, 0, 9, 192, 0, 60]
abbrev dktX4_says_8 : List UInt8 := dkwX4_says_8 ++ dktX4_says_9
def dkwX4_says_7 : List UInt8 := [180, 0, 9, 199, 0, 7, 2, 167, 0, 18, 44, 180, 0, 45, 42, 180, 0, 9, 192, 0, 57, 180, 0, 59]
abbrev dktX4_says_7 : List UInt8 := dkwX4_says_7 ++ dktX4_says_8
def dkwX4_says_6 : List UInt8 := [199, 0, 7, 2, 167, 0, 13, 42, 180, 0, 9, 192, 0, 52, 180, 0, 54, 62, 167, 0, 85, 42]
abbrev dktX4_says_6 : List UInt8 := dkwX4_says_6 ++ dktX4_says_7
def dkwX4_says_5 : List UInt8 := [44, 180, 0, 45, 42, 180, 0, 9, 192, 0, 49, 180, 0, 51, 46, 62, 167, 0, 110, 42, 180, 0, 9]
abbrev dktX4_says_5 : List UInt8 := dkwX4_says_5 ++ dktX4_says_6
def dkwX4_says_4 : List UInt8 := [192, 0, 42, 180, 0, 44, 182, 0, 36, 62, 167, 0, 140, 42, 180, 0, 9, 199, 0, 7, 2, 167, 0, 18]
abbrev dktX4_says_4 : List UInt8 := dkwX4_says_4 ++ dktX4_says_5
def dkwX4_says_3 : List UInt8 := [182, 0, 36, 62, 167, 0, 169, 42, 180, 0, 9, 199, 0, 7, 2, 167, 0, 17, 44, 42, 180, 0, 9]
abbrev dktX4_says_3 : List UInt8 := dkwX4_says_3 ++ dktX4_says_4
def dkwX4_says_2 : List UInt8 := [42, 180, 0, 9, 199, 0, 7, 2, 167, 0, 17, 44, 42, 180, 0, 9, 192, 0, 30, 180, 0, 32]
abbrev dktX4_says_2 : List UInt8 := dkwX4_says_2 ++ dktX4_says_3
def dkwX4_says_1 : List UInt8 := [170, 0, 0, 0, 0, 0, 207, 0, 0, 0, 1, 0, 0, 0, 6, 0, 0, 0, 39, 0, 0, 0, 68, 0, 0, 0, 97, 0, 0, 0, 127, 0, 0, 0, 152, 0, 0, 0, 182]
abbrev dktX4_says_1 : List UInt8 := dkwX4_says_1 ++ dktX4_says_2
def dkwX4_says_0 : List UInt8 := [27]
abbrev dktX4_says_0 : List UInt8 := dkwX4_says_0 ++ dktX4_says_1
theorem dksX4_says_0 : cX4_says.data.toList.drop 0 = dktX4_says_0 := by decide +kernel
theorem dksX4_says_1 : cX4_says.data.toList.drop 1 = dktX4_says_1 := dk_seg dksX4_says_0 1 rfl rfl
theorem dksX4_says_2 : cX4_says.data.toList.drop 40 = dktX4_says_2 := dk_seg dksX4_says_1 39 rfl rfl
theorem dksX4_says_3 : cX4_says.data.toList.drop 62 = dktX4_says_3 := dk_seg dksX4_says_2 22 rfl rfl
theorem dksX4_says_4 : cX4_says.data.toList.drop 85 = dktX4_says_4 := dk_seg dksX4_says_3 23 rfl rfl
theorem dksX4_says_5 : cX4_says.data.toList.drop 109 = dktX4_says_5 := dk_seg dksX4_says_4 24 rfl rfl
theorem dksX4_says_6 : cX4_says.data.toList.drop 132 = dktX4_says_6 := dk_seg dksX4_says_5 23 rfl rfl
theorem dksX4_says_7 : cX4_says.data.toList.drop 154 = dktX4_says_7 := dk_seg dksX4_says_6 22 rfl rfl
theorem dksX4_says_8 : cX4_says.data.toList.drop 178 = dktX4_says_8 := dk_seg dksX4_says_7 24 rfl rfl
theorem dksX4_says_9 : cX4_says.data.toList.drop 201 = dktX4_says_9 := dk_seg dksX4_says_8 23 rfl rfl
theorem dksX4_says_10 : cX4_says.data.toList.drop 224 = dktX4_says_10 := dk_seg dksX4_says_9 23 rfl rfl
theorem dksX4_says_11 : cX4_says.data.toList.drop 247 = dktX4_says_11 := dk_seg dksX4_says_10 23 rfl rfl
theorem dX4_says_0 : decode cX4_says 0 = .ok (.iload_n 1, 1) := dk_27 (dk_at dksX4_says_0 0 rfl rfl)
theorem dX4_says_1 : decode cX4_says 1 = .ok (.tableswitch 207 1 6 #[39, 68, 97, 127, 152, 182], 39) := by decide +kernel
theorem dX4_says_40 : decode cX4_says 40 = .ok (.aload_n 0, 1) := dk_42 (dk_at dksX4_says_2 0 rfl rfl)
theorem dX4_says_41 : decode cX4_says 41 = .ok (.getfield 9, 3) := dk_180 0 9 (dk_at dksX4_says_2 1 rfl rfl)
theorem dX4_says_44 : decode cX4_says 44 = .ok (.ifnonnull 7, 3) := dk_199 0 7 (dk_at dksX4_says_2 4 rfl rfl)
theorem dX4_says_47 : decode cX4_says 47 = .ok (.iconst (-1), 1) := dk_2 (dk_at dksX4_says_2 7 rfl rfl)
theorem dX4_says_48 : decode cX4_says 48 = .ok (.goto 17, 3) := dk_167 0 17 (dk_at dksX4_says_2 8 rfl rfl)
theorem dX4_says_51 : decode cX4_says 51 = .ok (.aload_n 2, 1) := dk_44 (dk_at dksX4_says_2 11 rfl rfl)
theorem dX4_says_52 : decode cX4_says 52 = .ok (.aload_n 0, 1) := dk_42 (dk_at dksX4_says_2 12 rfl rfl)
theorem dX4_says_53 : decode cX4_says 53 = .ok (.getfield 9, 3) := dk_180 0 9 (dk_at dksX4_says_2 13 rfl rfl)
theorem dX4_says_56 : decode cX4_says 56 = .ok (.checkcast 30, 3) := dk_192 0 30 (dk_at dksX4_says_2 16 rfl rfl)
theorem dX4_says_59 : decode cX4_says 59 = .ok (.getfield 32, 3) := dk_180 0 32 (dk_at dksX4_says_2 19 rfl rfl)
theorem dX4_says_62 : decode cX4_says 62 = .ok (.invokevirtual 36, 3) := dk_182 0 36 (dk_at dksX4_says_3 0 rfl rfl)
theorem dX4_says_65 : decode cX4_says 65 = .ok (.istore_n 3, 1) := dk_62 (dk_at dksX4_says_3 3 rfl rfl)
theorem dX4_says_66 : decode cX4_says 66 = .ok (.goto 169, 3) := dk_167 0 169 (dk_at dksX4_says_3 4 rfl rfl)
theorem dX4_says_69 : decode cX4_says 69 = .ok (.aload_n 0, 1) := dk_42 (dk_at dksX4_says_3 7 rfl rfl)
theorem dX4_says_70 : decode cX4_says 70 = .ok (.getfield 9, 3) := dk_180 0 9 (dk_at dksX4_says_3 8 rfl rfl)
theorem dX4_says_73 : decode cX4_says 73 = .ok (.ifnonnull 7, 3) := dk_199 0 7 (dk_at dksX4_says_3 11 rfl rfl)
theorem dX4_says_76 : decode cX4_says 76 = .ok (.iconst (-1), 1) := dk_2 (dk_at dksX4_says_3 14 rfl rfl)
theorem dX4_says_77 : decode cX4_says 77 = .ok (.goto 17, 3) := dk_167 0 17 (dk_at dksX4_says_3 15 rfl rfl)
theorem dX4_says_80 : decode cX4_says 80 = .ok (.aload_n 2, 1) := dk_44 (dk_at dksX4_says_3 18 rfl rfl)
theorem dX4_says_81 : decode cX4_says 81 = .ok (.aload_n 0, 1) := dk_42 (dk_at dksX4_says_3 19 rfl rfl)
theorem dX4_says_82 : decode cX4_says 82 = .ok (.getfield 9, 3) := dk_180 0 9 (dk_at dksX4_says_3 20 rfl rfl)
theorem dX4_says_85 : decode cX4_says 85 = .ok (.checkcast 42, 3) := dk_192 0 42 (dk_at dksX4_says_4 0 rfl rfl)
theorem dX4_says_88 : decode cX4_says 88 = .ok (.getfield 44, 3) := dk_180 0 44 (dk_at dksX4_says_4 3 rfl rfl)
theorem dX4_says_91 : decode cX4_says 91 = .ok (.invokevirtual 36, 3) := dk_182 0 36 (dk_at dksX4_says_4 6 rfl rfl)
theorem dX4_says_94 : decode cX4_says 94 = .ok (.istore_n 3, 1) := dk_62 (dk_at dksX4_says_4 9 rfl rfl)
theorem dX4_says_95 : decode cX4_says 95 = .ok (.goto 140, 3) := dk_167 0 140 (dk_at dksX4_says_4 10 rfl rfl)
theorem dX4_says_98 : decode cX4_says 98 = .ok (.aload_n 0, 1) := dk_42 (dk_at dksX4_says_4 13 rfl rfl)
theorem dX4_says_99 : decode cX4_says 99 = .ok (.getfield 9, 3) := dk_180 0 9 (dk_at dksX4_says_4 14 rfl rfl)
theorem dX4_says_102 : decode cX4_says 102 = .ok (.ifnonnull 7, 3) := dk_199 0 7 (dk_at dksX4_says_4 17 rfl rfl)
theorem dX4_says_105 : decode cX4_says 105 = .ok (.iconst (-1), 1) := dk_2 (dk_at dksX4_says_4 20 rfl rfl)
theorem dX4_says_106 : decode cX4_says 106 = .ok (.goto 18, 3) := dk_167 0 18 (dk_at dksX4_says_4 21 rfl rfl)
theorem dX4_says_109 : decode cX4_says 109 = .ok (.aload_n 2, 1) := dk_44 (dk_at dksX4_says_5 0 rfl rfl)
theorem dX4_says_110 : decode cX4_says 110 = .ok (.getfield 45, 3) := dk_180 0 45 (dk_at dksX4_says_5 1 rfl rfl)
theorem dX4_says_113 : decode cX4_says 113 = .ok (.aload_n 0, 1) := dk_42 (dk_at dksX4_says_5 4 rfl rfl)
theorem dX4_says_114 : decode cX4_says 114 = .ok (.getfield 9, 3) := dk_180 0 9 (dk_at dksX4_says_5 5 rfl rfl)
theorem dX4_says_117 : decode cX4_says 117 = .ok (.checkcast 49, 3) := dk_192 0 49 (dk_at dksX4_says_5 8 rfl rfl)
theorem dX4_says_120 : decode cX4_says 120 = .ok (.getfield 51, 3) := dk_180 0 51 (dk_at dksX4_says_5 11 rfl rfl)
theorem dX4_says_123 : decode cX4_says 123 = .ok (.iaload, 1) := dk_46 (dk_at dksX4_says_5 14 rfl rfl)
theorem dX4_says_124 : decode cX4_says 124 = .ok (.istore_n 3, 1) := dk_62 (dk_at dksX4_says_5 15 rfl rfl)
theorem dX4_says_125 : decode cX4_says 125 = .ok (.goto 110, 3) := dk_167 0 110 (dk_at dksX4_says_5 16 rfl rfl)
theorem dX4_says_128 : decode cX4_says 128 = .ok (.aload_n 0, 1) := dk_42 (dk_at dksX4_says_5 19 rfl rfl)
theorem dX4_says_129 : decode cX4_says 129 = .ok (.getfield 9, 3) := dk_180 0 9 (dk_at dksX4_says_5 20 rfl rfl)
theorem dX4_says_132 : decode cX4_says 132 = .ok (.ifnonnull 7, 3) := dk_199 0 7 (dk_at dksX4_says_6 0 rfl rfl)
theorem dX4_says_135 : decode cX4_says 135 = .ok (.iconst (-1), 1) := dk_2 (dk_at dksX4_says_6 3 rfl rfl)
theorem dX4_says_136 : decode cX4_says 136 = .ok (.goto 13, 3) := dk_167 0 13 (dk_at dksX4_says_6 4 rfl rfl)
theorem dX4_says_139 : decode cX4_says 139 = .ok (.aload_n 0, 1) := dk_42 (dk_at dksX4_says_6 7 rfl rfl)
theorem dX4_says_140 : decode cX4_says 140 = .ok (.getfield 9, 3) := dk_180 0 9 (dk_at dksX4_says_6 8 rfl rfl)
theorem dX4_says_143 : decode cX4_says 143 = .ok (.checkcast 52, 3) := dk_192 0 52 (dk_at dksX4_says_6 11 rfl rfl)
theorem dX4_says_146 : decode cX4_says 146 = .ok (.getfield 54, 3) := dk_180 0 54 (dk_at dksX4_says_6 14 rfl rfl)
theorem dX4_says_149 : decode cX4_says 149 = .ok (.istore_n 3, 1) := dk_62 (dk_at dksX4_says_6 17 rfl rfl)
theorem dX4_says_150 : decode cX4_says 150 = .ok (.goto 85, 3) := dk_167 0 85 (dk_at dksX4_says_6 18 rfl rfl)
theorem dX4_says_153 : decode cX4_says 153 = .ok (.aload_n 0, 1) := dk_42 (dk_at dksX4_says_6 21 rfl rfl)
theorem dX4_says_154 : decode cX4_says 154 = .ok (.getfield 9, 3) := dk_180 0 9 (dk_at dksX4_says_7 0 rfl rfl)
theorem dX4_says_157 : decode cX4_says 157 = .ok (.ifnonnull 7, 3) := dk_199 0 7 (dk_at dksX4_says_7 3 rfl rfl)
theorem dX4_says_160 : decode cX4_says 160 = .ok (.iconst (-1), 1) := dk_2 (dk_at dksX4_says_7 6 rfl rfl)
theorem dX4_says_161 : decode cX4_says 161 = .ok (.goto 18, 3) := dk_167 0 18 (dk_at dksX4_says_7 7 rfl rfl)
theorem dX4_says_164 : decode cX4_says 164 = .ok (.aload_n 2, 1) := dk_44 (dk_at dksX4_says_7 10 rfl rfl)
theorem dX4_says_165 : decode cX4_says 165 = .ok (.getfield 45, 3) := dk_180 0 45 (dk_at dksX4_says_7 11 rfl rfl)
theorem dX4_says_168 : decode cX4_says 168 = .ok (.aload_n 0, 1) := dk_42 (dk_at dksX4_says_7 14 rfl rfl)
theorem dX4_says_169 : decode cX4_says 169 = .ok (.getfield 9, 3) := dk_180 0 9 (dk_at dksX4_says_7 15 rfl rfl)
theorem dX4_says_172 : decode cX4_says 172 = .ok (.checkcast 57, 3) := dk_192 0 57 (dk_at dksX4_says_7 18 rfl rfl)
theorem dX4_says_175 : decode cX4_says 175 = .ok (.getfield 59, 3) := dk_180 0 59 (dk_at dksX4_says_7 21 rfl rfl)
theorem dX4_says_178 : decode cX4_says 178 = .ok (.iaload, 1) := dk_46 (dk_at dksX4_says_8 0 rfl rfl)
theorem dX4_says_179 : decode cX4_says 179 = .ok (.istore_n 3, 1) := dk_62 (dk_at dksX4_says_8 1 rfl rfl)
theorem dX4_says_180 : decode cX4_says 180 = .ok (.goto 55, 3) := dk_167 0 55 (dk_at dksX4_says_8 2 rfl rfl)
theorem dX4_says_183 : decode cX4_says 183 = .ok (.aload_n 0, 1) := dk_42 (dk_at dksX4_says_8 5 rfl rfl)
theorem dX4_says_184 : decode cX4_says 184 = .ok (.getfield 9, 3) := dk_180 0 9 (dk_at dksX4_says_8 6 rfl rfl)
theorem dX4_says_187 : decode cX4_says 187 = .ok (.ifnonnull 7, 3) := dk_199 0 7 (dk_at dksX4_says_8 9 rfl rfl)
theorem dX4_says_190 : decode cX4_says 190 = .ok (.iconst (-1), 1) := dk_2 (dk_at dksX4_says_8 12 rfl rfl)
theorem dX4_says_191 : decode cX4_says 191 = .ok (.goto 13, 3) := dk_167 0 13 (dk_at dksX4_says_8 13 rfl rfl)
theorem dX4_says_194 : decode cX4_says 194 = .ok (.aload_n 0, 1) := dk_42 (dk_at dksX4_says_8 16 rfl rfl)
theorem dX4_says_195 : decode cX4_says 195 = .ok (.getfield 9, 3) := dk_180 0 9 (dk_at dksX4_says_8 17 rfl rfl)
theorem dX4_says_198 : decode cX4_says 198 = .ok (.checkcast 60, 3) := dk_192 0 60 (dk_at dksX4_says_8 20 rfl rfl)
theorem dX4_says_201 : decode cX4_says 201 = .ok (.getfield 62, 3) := dk_180 0 62 (dk_at dksX4_says_9 0 rfl rfl)
theorem dX4_says_204 : decode cX4_says 204 = .ok (.istore_n 3, 1) := dk_62 (dk_at dksX4_says_9 3 rfl rfl)
theorem dX4_says_205 : decode cX4_says 205 = .ok (.goto 30, 3) := dk_167 0 30 (dk_at dksX4_says_9 4 rfl rfl)
theorem dX4_says_208 : decode cX4_says 208 = .ok (.aload_n 0, 1) := dk_42 (dk_at dksX4_says_9 7 rfl rfl)
theorem dX4_says_209 : decode cX4_says 209 = .ok (.getfield 9, 3) := dk_180 0 9 (dk_at dksX4_says_9 8 rfl rfl)
theorem dX4_says_212 : decode cX4_says 212 = .ok (.ifnonnull 7, 3) := dk_199 0 7 (dk_at dksX4_says_9 11 rfl rfl)
theorem dX4_says_215 : decode cX4_says 215 = .ok (.iconst (-1), 1) := dk_2 (dk_at dksX4_says_9 14 rfl rfl)
theorem dX4_says_216 : decode cX4_says 216 = .ok (.goto 18, 3) := dk_167 0 18 (dk_at dksX4_says_9 15 rfl rfl)
theorem dX4_says_219 : decode cX4_says 219 = .ok (.aload_n 2, 1) := dk_44 (dk_at dksX4_says_9 18 rfl rfl)
theorem dX4_says_220 : decode cX4_says 220 = .ok (.getfield 63, 3) := dk_180 0 63 (dk_at dksX4_says_9 19 rfl rfl)
theorem dX4_says_223 : decode cX4_says 223 = .ok (.aload_n 0, 1) := dk_42 (dk_at dksX4_says_9 22 rfl rfl)
theorem dX4_says_224 : decode cX4_says 224 = .ok (.getfield 9, 3) := dk_180 0 9 (dk_at dksX4_says_10 0 rfl rfl)
theorem dX4_says_227 : decode cX4_says 227 = .ok (.checkcast 28, 3) := dk_192 0 28 (dk_at dksX4_says_10 3 rfl rfl)
theorem dX4_says_230 : decode cX4_says 230 = .ok (.getfield 66, 3) := dk_180 0 66 (dk_at dksX4_says_10 6 rfl rfl)
theorem dX4_says_233 : decode cX4_says 233 = .ok (.iaload, 1) := dk_46 (dk_at dksX4_says_10 9 rfl rfl)
theorem dX4_says_234 : decode cX4_says 234 = .ok (.istore_n 3, 1) := dk_62 (dk_at dksX4_says_10 10 rfl rfl)
theorem dX4_says_235 : decode cX4_says 235 = .ok (.aload_n 0, 1) := dk_42 (dk_at dksX4_says_10 11 rfl rfl)
theorem dX4_says_236 : decode cX4_says 236 = .ok (.getfield 9, 3) := dk_180 0 9 (dk_at dksX4_says_10 12 rfl rfl)
theorem dX4_says_239 : decode cX4_says 239 = .ok (.ifnull 7, 3) := dk_198 0 7 (dk_at dksX4_says_10 15 rfl rfl)
theorem dX4_says_242 : decode cX4_says 242 = .ok (.iconst 1, 1) := dk_4 (dk_at dksX4_says_10 18 rfl rfl)
theorem dX4_says_243 : decode cX4_says 243 = .ok (.goto 4, 3) := dk_167 0 4 (dk_at dksX4_says_10 19 rfl rfl)
theorem dX4_says_246 : decode cX4_says 246 = .ok (.iconst 0, 1) := dk_3 (dk_at dksX4_says_10 22 rfl rfl)
theorem dX4_says_247 : decode cX4_says 247 = .ok (.bipush (-3), 2) := dk_16 253 (dk_at dksX4_says_11 0 rfl rfl)
theorem dX4_says_249 : decode cX4_says 249 = .ok (.invokestatic 17, 3) := dk_184 0 17 (dk_at dksX4_says_11 2 rfl rfl)
theorem dX4_says_252 : decode cX4_says 252 = .ok (.iload_n 3, 1) := dk_29 (dk_at dksX4_says_11 5 rfl rfl)
theorem dX4_says_253 : decode cX4_says 253 = .ok (.ireturn, 1) := dk_172 (dk_at dksX4_says_11 6 rfl rfl)
theorem dX4_says_254 : decode cX4_says 254 = .ok (.astore_n 3, 1) := dk_78 (dk_at dksX4_says_11 7 rfl rfl)
theorem dX4_says_255 : decode cX4_says 255 = .ok (.new 23, 3) := dk_187 0 23 (dk_at dksX4_says_11 8 rfl rfl)
theorem dX4_says_258 : decode cX4_says 258 = .ok (.dup, 1) := dk_89 (dk_at dksX4_says_11 11 rfl rfl)
theorem dX4_says_259 : decode cX4_says 259 = .ok (.bipush (-2), 2) := dk_16 254 (dk_at dksX4_says_11 12 rfl rfl)
theorem dX4_says_261 : decode cX4_says 261 = .ok (.invokespecial 25, 3) := dk_183 0 25 (dk_at dksX4_says_11 14 rfl rfl)
theorem dX4_says_264 : decode cX4_says 264 = .ok (.athrow, 1) := dk_191 (dk_at dksX4_says_11 17 rfl rfl)
theorem q86 : (Jvm.Cond.initialized "TaxOnLooks$Shelf") ∈ lw_all := lw_g (lw_at lw_m1 5 rfl) rfl
theorem q185 : (Jvm.Cond.fieldLink "TaxOnLooks$Shelf" (45 : Nat) "TaxOnLooks$Town" "purse" "[I") ∈ lw_all := lw_g (lw_at lw_m1 104 rfl) rfl
theorem q189 : (Jvm.Cond.fieldLink "TaxOnLooks$Shelf" (63 : Nat) "TaxOnLooks$Town" "at" "[I") ∈ lw_all := lw_g (lw_at lw_m1 108 rfl) rfl
theorem q235 : (Jvm.Cond.instantiable "TaxOnLooks$Shelf" (1 : Nat)) ∈ lw_all := lw_g (lw_at lw_m1 154 rfl) rfl
theorem q237 : (Jvm.Cond.instanceMethod ({ cls := "TaxOnLooks$Shelf", name := "<init>", desc := "()V" } : Jvm.MethodName)) ∈ lw_all := lw_g (lw_at lw_m1 156 rfl) rfl
theorem q238 : (Jvm.Cond.code ({ cls := "TaxOnLooks$Shelf", name := "<init>", desc := "()V" } : Jvm.MethodName) prog_16_method_1_code (1 : Nat) (Option.none : Option Jvm.ClassFile.FieldType)) ∈ lw_all := lw_g (lw_at lw_m1 157 rfl) rfl
theorem q239 : (Jvm.Cond.methodLink "TaxOnLooks$Shelf" (3 : Nat) ({ cls := "java/lang/Object", name := "<init>", desc := "()V" } : Jvm.MethodName)) ∈ lw_all := lw_g (lw_at lw_m1 158 rfl) rfl
theorem q240 : (Jvm.Cond.fieldLink "TaxOnLooks$Shelf" (9 : Nat) "TaxOnLooks$Shelf" "held" "Ljava/lang/Object;") ∈ lw_all := lw_g (lw_at lw_m1 159 rfl) rfl
theorem q242 : (Jvm.Cond.lays "TaxOnLooks$Shelf" "TaxOnLooks$Shelf" "held" "Ljava/lang/Object;") ∈ lw_all := lw_g (lw_at lw_m1 161 rfl) rfl
theorem q243 : (Jvm.Cond.soleField "TaxOnLooks$Shelf" "held") ∈ lw_all := lw_g (lw_at lw_m1 162 rfl) rfl
theorem q244 : (Jvm.Cond.superclass "TaxOnLooks$Shelf" "java/lang/Object") ∈ lw_all := lw_g (lw_at lw_m1 163 rfl) rfl
theorem q461 : (Jvm.Cond.instanceMethod ({ cls := "TaxOnLooks$Shelf", name := "row", desc := "()LTaxOnLooks$Row;" } : Jvm.MethodName)) ∈ lw_all := lw_g (lw_at lw_m2 140 rfl) rfl
theorem q462 : (Jvm.Cond.selects "TaxOnLooks$Shelf" ({ cls := "TaxOnLooks$Shelf", name := "row", desc := "()LTaxOnLooks$Row;" } : Jvm.MethodName) ({ cls := "TaxOnLooks$Shelf", name := "row", desc := "()LTaxOnLooks$Row;" } : Jvm.MethodName)) ∈ lw_all := lw_g (lw_at lw_m2 141 rfl) rfl
theorem q463 : (Jvm.Cond.codeWith ({ cls := "TaxOnLooks$Shelf", name := "row", desc := "()LTaxOnLooks$Row;" } : Jvm.MethodName) prog_16_method_2_code (2 : Nat) (Option.some (Jvm.ClassFile.FieldType.object "TaxOnLooks$Row")) [((0 : Nat), (23 : Nat), (24 : Nat), (21 : Nat))]) ∈ lw_all := lw_g (lw_at lw_m2 142 rfl) rfl
theorem q464 : (Jvm.Cond.classLink "TaxOnLooks$Shelf" (21 : Nat) "java/lang/ClassCastException") ∈ lw_all := lw_g (lw_at lw_m2 143 rfl) rfl
theorem q478 : (Jvm.Cond.classLink "TaxOnLooks$Shelf" (15 : Nat) "TaxOnLooks$Row") ∈ lw_all := lw_g (lw_at lw_m2 157 rfl) rfl
theorem q479 : (Jvm.Cond.methodLink "TaxOnLooks$Shelf" (17 : Nat) ({ cls := "TaxOnLooks", name := "need", desc := "(ZI)V" } : Jvm.MethodName)) ∈ lw_all := lw_g (lw_at lw_m2 158 rfl) rfl
theorem q480 : (Jvm.Cond.classLink "TaxOnLooks$Shelf" (23 : Nat) "TaxOnLooks$Refused") ∈ lw_all := lw_g (lw_at lw_m2 159 rfl) rfl
theorem q481 : (Jvm.Cond.methodLink "TaxOnLooks$Shelf" (25 : Nat) ({ cls := "TaxOnLooks$Refused", name := "<init>", desc := "(I)V" } : Jvm.MethodName)) ∈ lw_all := lw_g (lw_at lw_m2 160 rfl) rfl
theorem q503 : (Jvm.Cond.instanceMethod ({ cls := "TaxOnLooks$Shelf", name := "holdsPerson", desc := "()Z" } : Jvm.MethodName)) ∈ lw_all := lw_g (lw_at lw_m2 182 rfl) rfl
theorem q504 : (Jvm.Cond.selects "TaxOnLooks$Shelf" ({ cls := "TaxOnLooks$Shelf", name := "holdsPerson", desc := "()Z" } : Jvm.MethodName) ({ cls := "TaxOnLooks$Shelf", name := "holdsPerson", desc := "()Z" } : Jvm.MethodName)) ∈ lw_all := lw_g (lw_at lw_m2 183 rfl) rfl
theorem q505 : (Jvm.Cond.code ({ cls := "TaxOnLooks$Shelf", name := "holdsPerson", desc := "()Z" } : Jvm.MethodName) prog_16_method_3_code (1 : Nat) (Option.some Jvm.ClassFile.FieldType.boolean)) ∈ lw_all := lw_g (lw_at lw_m2 184 rfl) rfl
theorem q506 : (Jvm.Cond.classLink "TaxOnLooks$Shelf" (28 : Nat) "TaxOnLooks$Person") ∈ lw_all := lw_g (lw_at lw_m2 185 rfl) rfl
theorem q583 : (Jvm.Cond.instanceMethod ({ cls := "TaxOnLooks$Shelf", name := "says", desc := "(ILTaxOnLooks$Town;)I" } : Jvm.MethodName)) ∈ lw_all := lw_g (lw_at lw_m3 22 rfl) rfl
theorem q584 : (Jvm.Cond.selects "TaxOnLooks$Shelf" ({ cls := "TaxOnLooks$Shelf", name := "says", desc := "(ILTaxOnLooks$Town;)I" } : Jvm.MethodName) ({ cls := "TaxOnLooks$Shelf", name := "says", desc := "(ILTaxOnLooks$Town;)I" } : Jvm.MethodName)) ∈ lw_all := lw_g (lw_at lw_m3 23 rfl) rfl
theorem q585 : (Jvm.Cond.codeWith ({ cls := "TaxOnLooks$Shelf", name := "says", desc := "(ILTaxOnLooks$Town;)I" } : Jvm.MethodName) prog_16_method_4_code (4 : Nat) (Option.some Jvm.ClassFile.FieldType.int) [((0 : Nat), (253 : Nat), (254 : Nat), (21 : Nat))]) ∈ lw_all := lw_g (lw_at lw_m3 24 rfl) rfl
theorem q586 : (Jvm.Cond.classLink "TaxOnLooks$Shelf" (30 : Nat) "TaxOnLooks$Beauty") ∈ lw_all := lw_g (lw_at lw_m3 25 rfl) rfl
theorem q587 : (Jvm.Cond.methodLink "TaxOnLooks$Shelf" (36 : Nat) ({ cls := "TaxOnLooks$Town", name := "show", desc := "(I)I" } : Jvm.MethodName)) ∈ lw_all := lw_g (lw_at lw_m3 26 rfl) rfl
theorem q620 : (Jvm.Cond.classLink "TaxOnLooks$Shelf" (42 : Nat) "TaxOnLooks$Actress") ∈ lw_all := lw_g (lw_at lw_m3 59 rfl) rfl
theorem q621 : (Jvm.Cond.classLink "TaxOnLooks$Shelf" (49 : Nat) "TaxOnLooks$Blind") ∈ lw_all := lw_g (lw_at lw_m3 60 rfl) rfl
theorem q622 : (Jvm.Cond.classLink "TaxOnLooks$Shelf" (52 : Nat) "TaxOnLooks$Lover") ∈ lw_all := lw_g (lw_at lw_m3 61 rfl) rfl
theorem q623 : (Jvm.Cond.classLink "TaxOnLooks$Shelf" (57 : Nat) "TaxOnLooks$Child") ∈ lw_all := lw_g (lw_at lw_m3 62 rfl) rfl
theorem q624 : (Jvm.Cond.classLink "TaxOnLooks$Shelf" (60 : Nat) "TaxOnLooks$Shamed") ∈ lw_all := lw_g (lw_at lw_m3 63 rfl) rfl
theorem q653 : (Jvm.Cond.fieldLink "TaxOnLooks$Shelf" (32 : Nat) "TaxOnLooks$Beauty" "index" "I") ∈ lw_all := lw_g (lw_at lw_m3 92 rfl) rfl
theorem q655 : (Jvm.Cond.fieldLink "TaxOnLooks$Shelf" (44 : Nat) "TaxOnLooks$Actress" "index" "I") ∈ lw_all := lw_g (lw_at lw_m3 94 rfl) rfl
theorem q657 : (Jvm.Cond.fieldLink "TaxOnLooks$Shelf" (51 : Nat) "TaxOnLooks$Blind" "index" "I") ∈ lw_all := lw_g (lw_at lw_m3 96 rfl) rfl
theorem q659 : (Jvm.Cond.fieldLink "TaxOnLooks$Shelf" (59 : Nat) "TaxOnLooks$Child" "index" "I") ∈ lw_all := lw_g (lw_at lw_m3 98 rfl) rfl
theorem q661 : (Jvm.Cond.fieldLink "TaxOnLooks$Shelf" (66 : Nat) "TaxOnLooks$Person" "index" "I") ∈ lw_all := lw_g (lw_at lw_m3 100 rfl) rfl
theorem q676 : (Jvm.Cond.fieldLink "TaxOnLooks$Shelf" (54 : Nat) "TaxOnLooks$Lover" "shame" "I") ∈ lw_all := lw_g (lw_at lw_m3 115 rfl) rfl
theorem q678 : (Jvm.Cond.fieldLink "TaxOnLooks$Shelf" (62 : Nat) "TaxOnLooks$Shamed" "shame" "I") ∈ lw_all := lw_g (lw_at lw_m3 117 rfl) rfl
theorem in_X4 : ∀ w ∈ wsX40, w ∈ lw_all := lw_in wsX40 [242] (by decide +kernel) (by decide +kernel)

/-! TaxOnLooks$Refused -/
set_option maxRecDepth 100000
def RX6 : String := "TaxOnLooks$Refused"
def TX6 : u_T := fun k => match k with
  | 0 => ("java/lang/Throwable", "cause", "Ljava/lang/Throwable;", false)
  | 1 => ("java/lang/Throwable", "stackTrace", "[Ljava/lang/StackTraceElement;", false)
  | 2 => ("java/lang/Throwable", "suppressedExceptions", "Ljava/util/List;", false)
  | 3 => ("java/lang/Throwable", "detailMessage", "Ljava/lang/String;", false)
  | 4 => ("java/lang/Throwable", "backtrace", "Ljava/lang/Object;", false)
  | 5 => ("java/lang/Throwable", "depth", "I", false)
  | _ => ("TaxOnLooks$Refused", "why", "I", true)
def tyX6 : Nat → FieldType := fun k => match k with
  | 0 => .object "java/lang/Throwable"
  | 1 => .array (.object "java/lang/StackTraceElement")
  | 2 => .object "java/util/List"
  | 3 => .object "java/lang/String"
  | 4 => .object "java/lang/Object"
  | 5 => .int
  | _ => .int
abbrev wsX60 : List Cond := u_ws RX6 TX6 7
theorem nmX6 : ∀ a, a < 7 → ∀ b, b < 7 → a ≠ b → (TX6 a).2.1 ≠ (TX6 b).2.1 := by decide +kernel
theorem tyX6_ok : ∀ k, k < 7 → parseFieldDescriptor (TX6 k).2.2.1 = some (tyX6 k) := by decide +kernel
abbrev cX6_init : ByteArray := prog_13_method_1_code
def yX6_init : MethodName := ⟨RX6, "<init>", "(I)V"⟩
def dkwX6_init_0 : List UInt8 := [42, 1, 1, 3, 3, 183, 0, 1, 42, 27, 181, 0, 7, 177]
abbrev dktX6_init_0 : List UInt8 := dkwX6_init_0 ++ []
theorem dksX6_init_0 : cX6_init.data.toList.drop 0 = dktX6_init_0 := by decide +kernel
theorem dX6_init_0 : decode cX6_init 0 = .ok (.aload_n 0, 1) := dk_42 (dk_at dksX6_init_0 0 rfl rfl)
theorem dX6_init_1 : decode cX6_init 1 = .ok (.aconst_null, 1) := dk_1 (dk_at dksX6_init_0 1 rfl rfl)
theorem dX6_init_2 : decode cX6_init 2 = .ok (.aconst_null, 1) := dk_1 (dk_at dksX6_init_0 2 rfl rfl)
theorem dX6_init_3 : decode cX6_init 3 = .ok (.iconst 0, 1) := dk_3 (dk_at dksX6_init_0 3 rfl rfl)
theorem dX6_init_4 : decode cX6_init 4 = .ok (.iconst 0, 1) := dk_3 (dk_at dksX6_init_0 4 rfl rfl)
theorem dX6_init_5 : decode cX6_init 5 = .ok (.invokespecial 1, 3) := dk_183 0 1 (dk_at dksX6_init_0 5 rfl rfl)
theorem dX6_init_8 : decode cX6_init 8 = .ok (.aload_n 0, 1) := dk_42 (dk_at dksX6_init_0 8 rfl rfl)
theorem dX6_init_9 : decode cX6_init 9 = .ok (.iload_n 1, 1) := dk_27 (dk_at dksX6_init_0 9 rfl rfl)
theorem dX6_init_10 : decode cX6_init 10 = .ok (.putfield 7, 3) := dk_181 0 7 (dk_at dksX6_init_0 10 rfl rfl)
theorem dX6_init_13 : decode cX6_init 13 = .ok (.return_, 1) := dk_177 (dk_at dksX6_init_0 13 rfl rfl)
theorem q94 : (Jvm.Cond.initialized "TaxOnLooks$Refused") ∈ lw_all := lw_g (lw_at lw_m1 13 rfl) rfl
theorem q307 : (Jvm.Cond.selects "TaxOnLooks$Refused" ({ cls := "java/lang/Throwable", name := "fillInStackTrace", desc := "()Ljava/lang/Throwable;" } : Jvm.MethodName) ({ cls := "java/lang/Throwable", name := "fillInStackTrace", desc := "()Ljava/lang/Throwable;" } : Jvm.MethodName)) ∈ lw_all := lw_g (lw_at lw_m1 226 rfl) rfl
theorem q360 : (Jvm.Cond.instantiable "TaxOnLooks$Refused" (7 : Nat)) ∈ lw_all := lw_g (lw_at lw_m2 39 rfl) rfl
theorem q361 : (Jvm.Cond.castable "TaxOnLooks$Refused" "TaxOnLooks$Refused") ∈ lw_tbl := lw_at lw_m2 40 rfl
theorem q362 : (Jvm.Cond.selects "TaxOnLooks$Refused" ({ cls := "java/lang/Throwable", name := "fillInStackTrace", desc := "(I)Ljava/lang/Throwable;" } : Jvm.MethodName) ({ cls := "java/lang/Throwable", name := "fillInStackTrace", desc := "(I)Ljava/lang/Throwable;" } : Jvm.MethodName)) ∈ lw_all := lw_g (lw_at lw_m2 41 rfl) rfl
theorem q363 : (Jvm.Cond.lays "TaxOnLooks$Refused" "java/lang/Throwable" "cause" "Ljava/lang/Throwable;") ∈ lw_all := lw_g (lw_at lw_m2 42 rfl) rfl
theorem q364 : (Jvm.Cond.lays "TaxOnLooks$Refused" "java/lang/Throwable" "stackTrace" "[Ljava/lang/StackTraceElement;") ∈ lw_all := lw_g (lw_at lw_m2 43 rfl) rfl
theorem q365 : (Jvm.Cond.lays "TaxOnLooks$Refused" "java/lang/Throwable" "suppressedExceptions" "Ljava/util/List;") ∈ lw_all := lw_g (lw_at lw_m2 44 rfl) rfl
theorem q366 : (Jvm.Cond.lays "TaxOnLooks$Refused" "java/lang/Throwable" "detailMessage" "Ljava/lang/String;") ∈ lw_all := lw_g (lw_at lw_m2 45 rfl) rfl
theorem q367 : (Jvm.Cond.lays "TaxOnLooks$Refused" "java/lang/Throwable" "backtrace" "Ljava/lang/Object;") ∈ lw_all := lw_g (lw_at lw_m2 46 rfl) rfl
theorem q369 : (Jvm.Cond.instanceMethod ({ cls := "TaxOnLooks$Refused", name := "<init>", desc := "(I)V" } : Jvm.MethodName)) ∈ lw_all := lw_g (lw_at lw_m2 48 rfl) rfl
theorem q370 : (Jvm.Cond.code ({ cls := "TaxOnLooks$Refused", name := "<init>", desc := "(I)V" } : Jvm.MethodName) prog_13_method_1_code (2 : Nat) (Option.none : Option Jvm.ClassFile.FieldType)) ∈ lw_all := lw_g (lw_at lw_m2 49 rfl) rfl
theorem q371 : (Jvm.Cond.methodLink "TaxOnLooks$Refused" (1 : Nat) ({ cls := "java/lang/Exception", name := "<init>", desc := "(Ljava/lang/String;Ljava/lang/Throwable;ZZ)V" } : Jvm.MethodName)) ∈ lw_all := lw_g (lw_at lw_m2 50 rfl) rfl
theorem q377 : (Jvm.Cond.fieldLink "TaxOnLooks$Refused" (7 : Nat) "TaxOnLooks$Refused" "why" "I") ∈ lw_all := lw_g (lw_at lw_m2 56 rfl) rfl
theorem q379 : (Jvm.Cond.laysFinal "TaxOnLooks$Refused" "TaxOnLooks$Refused" "why" "I") ∈ lw_all := lw_g (lw_at lw_m2 58 rfl) rfl
theorem q380 : (Jvm.Cond.soleField "TaxOnLooks$Refused" "why") ∈ lw_all := lw_g (lw_at lw_m2 59 rfl) rfl
theorem q381 : (Jvm.Cond.lays "TaxOnLooks$Refused" "java/lang/Throwable" "depth" "I") ∈ lw_all := lw_g (lw_at lw_m2 60 rfl) rfl
theorem q382 : (Jvm.Cond.superclass "TaxOnLooks$Refused" "java/lang/Exception") ∈ lw_all := lw_g (lw_at lw_m2 61 rfl) rfl
theorem in_X6 : ∀ w ∈ wsX60, w ∈ lw_all := lw_in wsX60 [363, 364, 365, 366, 367, 381, 379] (by decide +kernel) (by decide +kernel)

/-! TaxOnLooks$Row -/
set_option maxRecDepth 100000
def RX7 : String := "TaxOnLooks$Row"
abbrev cX7_init : ByteArray := prog_14_method_1_code
def yX7_init : MethodName := ⟨RX7, "<init>", "()V"⟩
theorem dX7_init_0 : decode cX7_init 0 = .ok (.aload_n 0, 1) := by decide +kernel
theorem dX7_init_1 : decode cX7_init 1 = .ok (.invokespecial 1, 3) := by decide +kernel
theorem dX7_init_4 : decode cX7_init 4 = .ok (.return_, 1) := by decide +kernel
abbrev cX7_asInt : ByteArray := prog_14_method_9_code
def yX7_asInt : MethodName := ⟨RX7, "asInt", "(I)I"⟩
def dkwX7_asInt_0 : List UInt8 := [42, 27, 182, 0, 7, 136, 172]
abbrev dktX7_asInt_0 : List UInt8 := dkwX7_asInt_0 ++ []
theorem dksX7_asInt_0 : cX7_asInt.data.toList.drop 0 = dktX7_asInt_0 := by decide +kernel
theorem dX7_asInt_0 : decode cX7_asInt 0 = .ok (.aload_n 0, 1) := dk_42 (dk_at dksX7_asInt_0 0 rfl rfl)
theorem dX7_asInt_1 : decode cX7_asInt 1 = .ok (.iload_n 1, 1) := dk_27 (dk_at dksX7_asInt_0 1 rfl rfl)
theorem dX7_asInt_2 : decode cX7_asInt 2 = .ok (.invokevirtual 7, 3) := dk_182 0 7 (dk_at dksX7_asInt_0 2 rfl rfl)
theorem dX7_asInt_5 : decode cX7_asInt 5 = .ok (.l2i, 1) := dk_136 (dk_at dksX7_asInt_0 5 rfl rfl)
theorem dX7_asInt_6 : decode cX7_asInt 6 = .ok (.ireturn, 1) := dk_172 (dk_at dksX7_asInt_0 6 rfl rfl)
theorem q96 : (Jvm.Cond.initialized "TaxOnLooks$Row") ∈ lw_all := lw_g (lw_at lw_m1 15 rfl) rfl
theorem q413 : (Jvm.Cond.instanceMethod ({ cls := "TaxOnLooks$Row", name := "<init>", desc := "()V" } : Jvm.MethodName)) ∈ lw_all := lw_g (lw_at lw_m2 92 rfl) rfl
theorem q414 : (Jvm.Cond.code ({ cls := "TaxOnLooks$Row", name := "<init>", desc := "()V" } : Jvm.MethodName) prog_14_method_1_code (1 : Nat) (Option.none : Option Jvm.ClassFile.FieldType)) ∈ lw_all := lw_g (lw_at lw_m2 93 rfl) rfl
theorem q415 : (Jvm.Cond.methodLink "TaxOnLooks$Row" (1 : Nat) ({ cls := "java/lang/Object", name := "<init>", desc := "()V" } : Jvm.MethodName)) ∈ lw_all := lw_g (lw_at lw_m2 94 rfl) rfl
theorem q483 : (Jvm.Cond.declares ({ cls := "TaxOnLooks$Row", name := "put", desc := "(IJ)V" } : Jvm.MethodName)) ∈ lw_tbl := lw_at lw_m2 162 rfl
theorem q484 : (Jvm.Cond.sameMethod "TaxOnLooks$Row" "TaxOnLooks$Row" "put" "(IJ)V") ∈ lw_all := lw_g (lw_at lw_m2 163 rfl) rfl
theorem q508 : (Jvm.Cond.declares ({ cls := "TaxOnLooks$Row", name := "sort", desc := "()I" } : Jvm.MethodName)) ∈ lw_tbl := lw_at lw_m2 187 rfl
theorem q509 : (Jvm.Cond.sameMethod "TaxOnLooks$Row" "TaxOnLooks$Row" "sort" "()I") ∈ lw_all := lw_g (lw_at lw_m2 188 rfl) rfl
theorem q523 : (Jvm.Cond.declares ({ cls := "TaxOnLooks$Row", name := "held", desc := "()Ljava/lang/Object;" } : Jvm.MethodName)) ∈ lw_tbl := lw_at lw_m2 202 rfl
theorem q524 : (Jvm.Cond.sameMethod "TaxOnLooks$Row" "TaxOnLooks$Row" "held" "()Ljava/lang/Object;") ∈ lw_all := lw_g (lw_at lw_m2 203 rfl) rfl
theorem q545 : (Jvm.Cond.declares ({ cls := "TaxOnLooks$Row", name := "get", desc := "(I)J" } : Jvm.MethodName)) ∈ lw_tbl := lw_at lw_m2 224 rfl
theorem q546 : (Jvm.Cond.sameMethod "TaxOnLooks$Row" "TaxOnLooks$Row" "get" "(I)J") ∈ lw_all := lw_g (lw_at lw_m2 225 rfl) rfl
theorem q857 : (Jvm.Cond.declares ({ cls := "TaxOnLooks$Row", name := "length", desc := "()I" } : Jvm.MethodName)) ∈ lw_tbl := lw_at lw_m4 56 rfl
theorem q858 : (Jvm.Cond.sameMethod "TaxOnLooks$Row" "TaxOnLooks$Row" "length" "()I") ∈ lw_all := lw_g (lw_at lw_m4 57 rfl) rfl
theorem q872 : (Jvm.Cond.instanceMethod ({ cls := "TaxOnLooks$Row", name := "asInt", desc := "(I)I" } : Jvm.MethodName)) ∈ lw_all := lw_g (lw_at lw_m4 71 rfl) rfl
theorem q873 : (Jvm.Cond.sameMethod "TaxOnLooks$Row" "TaxOnLooks$Row" "asInt" "(I)I") ∈ lw_all := lw_g (lw_at lw_m4 72 rfl) rfl
theorem q878 : (Jvm.Cond.code ({ cls := "TaxOnLooks$Row", name := "asInt", desc := "(I)I" } : Jvm.MethodName) prog_14_method_9_code (2 : Nat) (Option.some Jvm.ClassFile.FieldType.int)) ∈ lw_all := lw_g (lw_at lw_m4 77 rfl) rfl
theorem q879 : (Jvm.Cond.methodLink "TaxOnLooks$Row" (7 : Nat) ({ cls := "TaxOnLooks$Row", name := "get", desc := "(I)J" } : Jvm.MethodName)) ∈ lw_all := lw_g (lw_at lw_m4 78 rfl) rfl

/-! TaxOnLooks$Bytes -/
set_option maxRecDepth 100000
def RX8 : String := "TaxOnLooks$Bytes"
def TX8 : u_T := fun k => match k with
  | _ => ("TaxOnLooks$Bytes", "e", "[B", true)
def tyX8 : Nat → FieldType := fun k => match k with
  | _ => .array .byte
abbrev wsX80 : List Cond := u_ws RX8 TX8 1
theorem nmX8 : ∀ a, a < 1 → ∀ b, b < 1 → a ≠ b → (TX8 a).2.1 ≠ (TX8 b).2.1 := by decide +kernel
theorem tyX8_ok : ∀ k, k < 1 → parseFieldDescriptor (TX8 k).2.2.1 = some (tyX8 k) := by decide +kernel
abbrev cX8_init : ByteArray := prog_5_method_1_code
def yX8_init : MethodName := ⟨RX8, "<init>", "(I)V"⟩
def dkwX8_init_0 : List UInt8 := [42, 183, 0, 1, 42, 27, 188, 8, 181, 0, 7, 177]
abbrev dktX8_init_0 : List UInt8 := dkwX8_init_0 ++ []
theorem dksX8_init_0 : cX8_init.data.toList.drop 0 = dktX8_init_0 := by decide +kernel
theorem dX8_init_0 : decode cX8_init 0 = .ok (.aload_n 0, 1) := dk_42 (dk_at dksX8_init_0 0 rfl rfl)
theorem dX8_init_1 : decode cX8_init 1 = .ok (.invokespecial 1, 3) := dk_183 0 1 (dk_at dksX8_init_0 1 rfl rfl)
theorem dX8_init_4 : decode cX8_init 4 = .ok (.aload_n 0, 1) := dk_42 (dk_at dksX8_init_0 4 rfl rfl)
theorem dX8_init_5 : decode cX8_init 5 = .ok (.iload_n 1, 1) := dk_27 (dk_at dksX8_init_0 5 rfl rfl)
theorem dX8_init_6 : decode cX8_init 6 = .ok (.newarray .byte, 2) := dk_188_8 (dk_at dksX8_init_0 6 rfl rfl)
theorem dX8_init_8 : decode cX8_init 8 = .ok (.putfield 7, 3) := dk_181 0 7 (dk_at dksX8_init_0 8 rfl rfl)
theorem dX8_init_11 : decode cX8_init 11 = .ok (.return_, 1) := dk_177 (dk_at dksX8_init_0 11 rfl rfl)
abbrev cX8_put : ByteArray := prog_5_method_4_code
def yX8_put : MethodName := ⟨RX8, "put", "(IJ)V"⟩
def dkwX8_put_0 : List UInt8 := [42, 180, 0, 7, 27, 32, 136, 145, 84, 177]
abbrev dktX8_put_0 : List UInt8 := dkwX8_put_0 ++ []
theorem dksX8_put_0 : cX8_put.data.toList.drop 0 = dktX8_put_0 := by decide +kernel
theorem dX8_put_0 : decode cX8_put 0 = .ok (.aload_n 0, 1) := dk_42 (dk_at dksX8_put_0 0 rfl rfl)
theorem dX8_put_1 : decode cX8_put 1 = .ok (.getfield 7, 3) := dk_180 0 7 (dk_at dksX8_put_0 1 rfl rfl)
theorem dX8_put_4 : decode cX8_put 4 = .ok (.iload_n 1, 1) := dk_27 (dk_at dksX8_put_0 4 rfl rfl)
theorem dX8_put_5 : decode cX8_put 5 = .ok (.lload_n 2, 1) := dk_32 (dk_at dksX8_put_0 5 rfl rfl)
theorem dX8_put_6 : decode cX8_put 6 = .ok (.l2i, 1) := dk_136 (dk_at dksX8_put_0 6 rfl rfl)
theorem dX8_put_7 : decode cX8_put 7 = .ok (.i2b, 1) := dk_145 (dk_at dksX8_put_0 7 rfl rfl)
theorem dX8_put_8 : decode cX8_put 8 = .ok (.bastore, 1) := dk_84 (dk_at dksX8_put_0 8 rfl rfl)
theorem dX8_put_9 : decode cX8_put 9 = .ok (.return_, 1) := dk_177 (dk_at dksX8_put_0 9 rfl rfl)
abbrev cX8_sort : ByteArray := prog_5_method_2_code
def yX8_sort : MethodName := ⟨RX8, "sort", "()I"⟩
theorem dX8_sort_0 : decode cX8_sort 0 = .ok (.iconst 0, 1) := by decide +kernel
theorem dX8_sort_1 : decode cX8_sort 1 = .ok (.ireturn, 1) := by decide +kernel
abbrev cX8_held : ByteArray := prog_5_method_8_code
def yX8_held : MethodName := ⟨RX8, "held", "()Ljava/lang/Object;"⟩
theorem dX8_held_0 : decode cX8_held 0 = .ok (.aload_n 0, 1) := by decide +kernel
theorem dX8_held_1 : decode cX8_held 1 = .ok (.getfield 7, 3) := by decide +kernel
theorem dX8_held_4 : decode cX8_held 4 = .ok (.areturn, 1) := by decide +kernel
abbrev cX8_get : ByteArray := prog_5_method_5_code
def yX8_get : MethodName := ⟨RX8, "get", "(I)J"⟩
def dkwX8_get_0 : List UInt8 := [42, 180, 0, 7, 27, 51, 133, 173]
abbrev dktX8_get_0 : List UInt8 := dkwX8_get_0 ++ []
theorem dksX8_get_0 : cX8_get.data.toList.drop 0 = dktX8_get_0 := by decide +kernel
theorem dX8_get_0 : decode cX8_get 0 = .ok (.aload_n 0, 1) := dk_42 (dk_at dksX8_get_0 0 rfl rfl)
theorem dX8_get_1 : decode cX8_get 1 = .ok (.getfield 7, 3) := dk_180 0 7 (dk_at dksX8_get_0 1 rfl rfl)
theorem dX8_get_4 : decode cX8_get 4 = .ok (.iload_n 1, 1) := dk_27 (dk_at dksX8_get_0 4 rfl rfl)
theorem dX8_get_5 : decode cX8_get 5 = .ok (.baload, 1) := dk_51 (dk_at dksX8_get_0 5 rfl rfl)
theorem dX8_get_6 : decode cX8_get 6 = .ok (.i2l, 1) := dk_133 (dk_at dksX8_get_0 6 rfl rfl)
theorem dX8_get_7 : decode cX8_get 7 = .ok (.lreturn, 1) := dk_173 (dk_at dksX8_get_0 7 rfl rfl)
abbrev cX8_length : ByteArray := prog_5_method_3_code
def yX8_length : MethodName := ⟨RX8, "length", "()I"⟩
def dkwX8_length_0 : List UInt8 := [42, 180, 0, 7, 190, 172]
abbrev dktX8_length_0 : List UInt8 := dkwX8_length_0 ++ []
theorem dksX8_length_0 : cX8_length.data.toList.drop 0 = dktX8_length_0 := by decide +kernel
theorem dX8_length_0 : decode cX8_length 0 = .ok (.aload_n 0, 1) := dk_42 (dk_at dksX8_length_0 0 rfl rfl)
theorem dX8_length_1 : decode cX8_length 1 = .ok (.getfield 7, 3) := dk_180 0 7 (dk_at dksX8_length_0 1 rfl rfl)
theorem dX8_length_4 : decode cX8_length 4 = .ok (.arraylength, 1) := dk_190 (dk_at dksX8_length_0 4 rfl rfl)
theorem dX8_length_5 : decode cX8_length 5 = .ok (.ireturn, 1) := dk_172 (dk_at dksX8_length_0 5 rfl rfl)
theorem q97 : (Jvm.Cond.initialized "TaxOnLooks$Bytes") ∈ lw_all := lw_g (lw_at lw_m1 16 rfl) rfl
theorem q408 : (Jvm.Cond.instantiable "TaxOnLooks$Bytes" (1 : Nat)) ∈ lw_all := lw_g (lw_at lw_m2 87 rfl) rfl
theorem q410 : (Jvm.Cond.instanceMethod ({ cls := "TaxOnLooks$Bytes", name := "<init>", desc := "(I)V" } : Jvm.MethodName)) ∈ lw_all := lw_g (lw_at lw_m2 89 rfl) rfl
theorem q411 : (Jvm.Cond.code ({ cls := "TaxOnLooks$Bytes", name := "<init>", desc := "(I)V" } : Jvm.MethodName) prog_5_method_1_code (2 : Nat) (Option.none : Option Jvm.ClassFile.FieldType)) ∈ lw_all := lw_g (lw_at lw_m2 90 rfl) rfl
theorem q412 : (Jvm.Cond.methodLink "TaxOnLooks$Bytes" (1 : Nat) ({ cls := "TaxOnLooks$Row", name := "<init>", desc := "()V" } : Jvm.MethodName)) ∈ lw_all := lw_g (lw_at lw_m2 91 rfl) rfl
theorem q416 : (Jvm.Cond.fieldLink "TaxOnLooks$Bytes" (7 : Nat) "TaxOnLooks$Bytes" "e" "[B") ∈ lw_all := lw_g (lw_at lw_m2 95 rfl) rfl
theorem q417 : (Jvm.Cond.laysFinal "TaxOnLooks$Bytes" "TaxOnLooks$Bytes" "e" "[B") ∈ lw_all := lw_g (lw_at lw_m2 96 rfl) rfl
theorem q418 : (Jvm.Cond.soleField "TaxOnLooks$Bytes" "e") ∈ lw_all := lw_g (lw_at lw_m2 97 rfl) rfl
theorem q419 : (Jvm.Cond.superclass "TaxOnLooks$Bytes" "TaxOnLooks$Row") ∈ lw_all := lw_g (lw_at lw_m2 98 rfl) rfl
theorem q485 : (Jvm.Cond.selects "TaxOnLooks$Bytes" ({ cls := "TaxOnLooks$Row", name := "put", desc := "(IJ)V" } : Jvm.MethodName) ({ cls := "TaxOnLooks$Bytes", name := "put", desc := "(IJ)V" } : Jvm.MethodName)) ∈ lw_all := lw_g (lw_at lw_m2 164 rfl) rfl
theorem q486 : (Jvm.Cond.instanceMethod ({ cls := "TaxOnLooks$Bytes", name := "put", desc := "(IJ)V" } : Jvm.MethodName)) ∈ lw_all := lw_g (lw_at lw_m2 165 rfl) rfl
theorem q487 : (Jvm.Cond.code ({ cls := "TaxOnLooks$Bytes", name := "put", desc := "(IJ)V" } : Jvm.MethodName) prog_5_method_4_code (4 : Nat) (Option.none : Option Jvm.ClassFile.FieldType)) ∈ lw_all := lw_g (lw_at lw_m2 166 rfl) rfl
theorem q510 : (Jvm.Cond.selects "TaxOnLooks$Bytes" ({ cls := "TaxOnLooks$Row", name := "sort", desc := "()I" } : Jvm.MethodName) ({ cls := "TaxOnLooks$Bytes", name := "sort", desc := "()I" } : Jvm.MethodName)) ∈ lw_all := lw_g (lw_at lw_m2 189 rfl) rfl
theorem q511 : (Jvm.Cond.instanceMethod ({ cls := "TaxOnLooks$Bytes", name := "sort", desc := "()I" } : Jvm.MethodName)) ∈ lw_all := lw_g (lw_at lw_m2 190 rfl) rfl
theorem q512 : (Jvm.Cond.code ({ cls := "TaxOnLooks$Bytes", name := "sort", desc := "()I" } : Jvm.MethodName) prog_5_method_2_code (1 : Nat) (Option.some Jvm.ClassFile.FieldType.int)) ∈ lw_all := lw_g (lw_at lw_m2 191 rfl) rfl
theorem q525 : (Jvm.Cond.selects "TaxOnLooks$Bytes" ({ cls := "TaxOnLooks$Row", name := "held", desc := "()Ljava/lang/Object;" } : Jvm.MethodName) ({ cls := "TaxOnLooks$Bytes", name := "held", desc := "()Ljava/lang/Object;" } : Jvm.MethodName)) ∈ lw_all := lw_g (lw_at lw_m2 204 rfl) rfl
theorem q526 : (Jvm.Cond.instanceMethod ({ cls := "TaxOnLooks$Bytes", name := "held", desc := "()Ljava/lang/Object;" } : Jvm.MethodName)) ∈ lw_all := lw_g (lw_at lw_m2 205 rfl) rfl
theorem q527 : (Jvm.Cond.code ({ cls := "TaxOnLooks$Bytes", name := "held", desc := "()Ljava/lang/Object;" } : Jvm.MethodName) prog_5_method_8_code (1 : Nat) (Option.some (Jvm.ClassFile.FieldType.object "java/lang/Object"))) ∈ lw_all := lw_g (lw_at lw_m2 206 rfl) rfl
theorem q547 : (Jvm.Cond.selects "TaxOnLooks$Bytes" ({ cls := "TaxOnLooks$Row", name := "get", desc := "(I)J" } : Jvm.MethodName) ({ cls := "TaxOnLooks$Bytes", name := "get", desc := "(I)J" } : Jvm.MethodName)) ∈ lw_all := lw_g (lw_at lw_m2 226 rfl) rfl
theorem q548 : (Jvm.Cond.instanceMethod ({ cls := "TaxOnLooks$Bytes", name := "get", desc := "(I)J" } : Jvm.MethodName)) ∈ lw_all := lw_g (lw_at lw_m2 227 rfl) rfl
theorem q549 : (Jvm.Cond.code ({ cls := "TaxOnLooks$Bytes", name := "get", desc := "(I)J" } : Jvm.MethodName) prog_5_method_5_code (2 : Nat) (Option.some Jvm.ClassFile.FieldType.long)) ∈ lw_all := lw_g (lw_at lw_m2 228 rfl) rfl
theorem q859 : (Jvm.Cond.selects "TaxOnLooks$Bytes" ({ cls := "TaxOnLooks$Row", name := "length", desc := "()I" } : Jvm.MethodName) ({ cls := "TaxOnLooks$Bytes", name := "length", desc := "()I" } : Jvm.MethodName)) ∈ lw_all := lw_g (lw_at lw_m4 58 rfl) rfl
theorem q860 : (Jvm.Cond.instanceMethod ({ cls := "TaxOnLooks$Bytes", name := "length", desc := "()I" } : Jvm.MethodName)) ∈ lw_all := lw_g (lw_at lw_m4 59 rfl) rfl
theorem q861 : (Jvm.Cond.code ({ cls := "TaxOnLooks$Bytes", name := "length", desc := "()I" } : Jvm.MethodName) prog_5_method_3_code (1 : Nat) (Option.some Jvm.ClassFile.FieldType.int)) ∈ lw_all := lw_g (lw_at lw_m4 60 rfl) rfl
theorem q874 : (Jvm.Cond.selects "TaxOnLooks$Bytes" ({ cls := "TaxOnLooks$Row", name := "asInt", desc := "(I)I" } : Jvm.MethodName) ({ cls := "TaxOnLooks$Row", name := "asInt", desc := "(I)I" } : Jvm.MethodName)) ∈ lw_all := lw_g (lw_at lw_m4 73 rfl) rfl
theorem q1867 : (Jvm.Cond.castable "TaxOnLooks$Bytes" "TaxOnLooks$Row") ∈ lw_tbl := lw_at lw_m8 106 rfl
theorem in_X8 : ∀ w ∈ wsX80, w ∈ lw_all := lw_in wsX80 [417] (by decide +kernel) (by decide +kernel)

/-! TaxOnLooks$Shorts -/
set_option maxRecDepth 100000
def RX9 : String := "TaxOnLooks$Shorts"
def TX9 : u_T := fun k => match k with
  | _ => ("TaxOnLooks$Shorts", "e", "[S", true)
def tyX9 : Nat → FieldType := fun k => match k with
  | _ => .array .short
abbrev wsX90 : List Cond := u_ws RX9 TX9 1
theorem nmX9 : ∀ a, a < 1 → ∀ b, b < 1 → a ≠ b → (TX9 a).2.1 ≠ (TX9 b).2.1 := by decide +kernel
theorem tyX9_ok : ∀ k, k < 1 → parseFieldDescriptor (TX9 k).2.2.1 = some (tyX9 k) := by decide +kernel
abbrev cX9_init : ByteArray := prog_17_method_1_code
def yX9_init : MethodName := ⟨RX9, "<init>", "(I)V"⟩
def dkwX9_init_0 : List UInt8 := [42, 183, 0, 1, 42, 27, 188, 9, 181, 0, 7, 177]
abbrev dktX9_init_0 : List UInt8 := dkwX9_init_0 ++ []
theorem dksX9_init_0 : cX9_init.data.toList.drop 0 = dktX9_init_0 := by decide +kernel
theorem dX9_init_0 : decode cX9_init 0 = .ok (.aload_n 0, 1) := dk_42 (dk_at dksX9_init_0 0 rfl rfl)
theorem dX9_init_1 : decode cX9_init 1 = .ok (.invokespecial 1, 3) := dk_183 0 1 (dk_at dksX9_init_0 1 rfl rfl)
theorem dX9_init_4 : decode cX9_init 4 = .ok (.aload_n 0, 1) := dk_42 (dk_at dksX9_init_0 4 rfl rfl)
theorem dX9_init_5 : decode cX9_init 5 = .ok (.iload_n 1, 1) := dk_27 (dk_at dksX9_init_0 5 rfl rfl)
theorem dX9_init_6 : decode cX9_init 6 = .ok (.newarray .short, 2) := dk_188_9 (dk_at dksX9_init_0 6 rfl rfl)
theorem dX9_init_8 : decode cX9_init 8 = .ok (.putfield 7, 3) := dk_181 0 7 (dk_at dksX9_init_0 8 rfl rfl)
theorem dX9_init_11 : decode cX9_init 11 = .ok (.return_, 1) := dk_177 (dk_at dksX9_init_0 11 rfl rfl)
abbrev cX9_put : ByteArray := prog_17_method_4_code
def yX9_put : MethodName := ⟨RX9, "put", "(IJ)V"⟩
def dkwX9_put_0 : List UInt8 := [42, 180, 0, 7, 27, 32, 136, 147, 86, 177]
abbrev dktX9_put_0 : List UInt8 := dkwX9_put_0 ++ []
theorem dksX9_put_0 : cX9_put.data.toList.drop 0 = dktX9_put_0 := by decide +kernel
theorem dX9_put_0 : decode cX9_put 0 = .ok (.aload_n 0, 1) := dk_42 (dk_at dksX9_put_0 0 rfl rfl)
theorem dX9_put_1 : decode cX9_put 1 = .ok (.getfield 7, 3) := dk_180 0 7 (dk_at dksX9_put_0 1 rfl rfl)
theorem dX9_put_4 : decode cX9_put 4 = .ok (.iload_n 1, 1) := dk_27 (dk_at dksX9_put_0 4 rfl rfl)
theorem dX9_put_5 : decode cX9_put 5 = .ok (.lload_n 2, 1) := dk_32 (dk_at dksX9_put_0 5 rfl rfl)
theorem dX9_put_6 : decode cX9_put 6 = .ok (.l2i, 1) := dk_136 (dk_at dksX9_put_0 6 rfl rfl)
theorem dX9_put_7 : decode cX9_put 7 = .ok (.i2s, 1) := dk_147 (dk_at dksX9_put_0 7 rfl rfl)
theorem dX9_put_8 : decode cX9_put 8 = .ok (.sastore, 1) := dk_86 (dk_at dksX9_put_0 8 rfl rfl)
theorem dX9_put_9 : decode cX9_put 9 = .ok (.return_, 1) := dk_177 (dk_at dksX9_put_0 9 rfl rfl)
abbrev cX9_sort : ByteArray := prog_17_method_2_code
def yX9_sort : MethodName := ⟨RX9, "sort", "()I"⟩
theorem dX9_sort_0 : decode cX9_sort 0 = .ok (.iconst 1, 1) := by decide +kernel
theorem dX9_sort_1 : decode cX9_sort 1 = .ok (.ireturn, 1) := by decide +kernel
abbrev cX9_held : ByteArray := prog_17_method_8_code
def yX9_held : MethodName := ⟨RX9, "held", "()Ljava/lang/Object;"⟩
theorem dX9_held_0 : decode cX9_held 0 = .ok (.aload_n 0, 1) := by decide +kernel
theorem dX9_held_1 : decode cX9_held 1 = .ok (.getfield 7, 3) := by decide +kernel
theorem dX9_held_4 : decode cX9_held 4 = .ok (.areturn, 1) := by decide +kernel
abbrev cX9_get : ByteArray := prog_17_method_5_code
def yX9_get : MethodName := ⟨RX9, "get", "(I)J"⟩
def dkwX9_get_0 : List UInt8 := [42, 180, 0, 7, 27, 53, 133, 173]
abbrev dktX9_get_0 : List UInt8 := dkwX9_get_0 ++ []
theorem dksX9_get_0 : cX9_get.data.toList.drop 0 = dktX9_get_0 := by decide +kernel
theorem dX9_get_0 : decode cX9_get 0 = .ok (.aload_n 0, 1) := dk_42 (dk_at dksX9_get_0 0 rfl rfl)
theorem dX9_get_1 : decode cX9_get 1 = .ok (.getfield 7, 3) := dk_180 0 7 (dk_at dksX9_get_0 1 rfl rfl)
theorem dX9_get_4 : decode cX9_get 4 = .ok (.iload_n 1, 1) := dk_27 (dk_at dksX9_get_0 4 rfl rfl)
theorem dX9_get_5 : decode cX9_get 5 = .ok (.saload, 1) := dk_53 (dk_at dksX9_get_0 5 rfl rfl)
theorem dX9_get_6 : decode cX9_get 6 = .ok (.i2l, 1) := dk_133 (dk_at dksX9_get_0 6 rfl rfl)
theorem dX9_get_7 : decode cX9_get 7 = .ok (.lreturn, 1) := dk_173 (dk_at dksX9_get_0 7 rfl rfl)
abbrev cX9_length : ByteArray := prog_17_method_3_code
def yX9_length : MethodName := ⟨RX9, "length", "()I"⟩
def dkwX9_length_0 : List UInt8 := [42, 180, 0, 7, 190, 172]
abbrev dktX9_length_0 : List UInt8 := dkwX9_length_0 ++ []
theorem dksX9_length_0 : cX9_length.data.toList.drop 0 = dktX9_length_0 := by decide +kernel
theorem dX9_length_0 : decode cX9_length 0 = .ok (.aload_n 0, 1) := dk_42 (dk_at dksX9_length_0 0 rfl rfl)
theorem dX9_length_1 : decode cX9_length 1 = .ok (.getfield 7, 3) := dk_180 0 7 (dk_at dksX9_length_0 1 rfl rfl)
theorem dX9_length_4 : decode cX9_length 4 = .ok (.arraylength, 1) := dk_190 (dk_at dksX9_length_0 4 rfl rfl)
theorem dX9_length_5 : decode cX9_length 5 = .ok (.ireturn, 1) := dk_172 (dk_at dksX9_length_0 5 rfl rfl)
theorem q98 : (Jvm.Cond.initialized "TaxOnLooks$Shorts") ∈ lw_all := lw_g (lw_at lw_m1 17 rfl) rfl
theorem q421 : (Jvm.Cond.instantiable "TaxOnLooks$Shorts" (1 : Nat)) ∈ lw_all := lw_g (lw_at lw_m2 100 rfl) rfl
theorem q423 : (Jvm.Cond.instanceMethod ({ cls := "TaxOnLooks$Shorts", name := "<init>", desc := "(I)V" } : Jvm.MethodName)) ∈ lw_all := lw_g (lw_at lw_m2 102 rfl) rfl
theorem q424 : (Jvm.Cond.code ({ cls := "TaxOnLooks$Shorts", name := "<init>", desc := "(I)V" } : Jvm.MethodName) prog_17_method_1_code (2 : Nat) (Option.none : Option Jvm.ClassFile.FieldType)) ∈ lw_all := lw_g (lw_at lw_m2 103 rfl) rfl
theorem q425 : (Jvm.Cond.methodLink "TaxOnLooks$Shorts" (1 : Nat) ({ cls := "TaxOnLooks$Row", name := "<init>", desc := "()V" } : Jvm.MethodName)) ∈ lw_all := lw_g (lw_at lw_m2 104 rfl) rfl
theorem q426 : (Jvm.Cond.fieldLink "TaxOnLooks$Shorts" (7 : Nat) "TaxOnLooks$Shorts" "e" "[S") ∈ lw_all := lw_g (lw_at lw_m2 105 rfl) rfl
theorem q427 : (Jvm.Cond.laysFinal "TaxOnLooks$Shorts" "TaxOnLooks$Shorts" "e" "[S") ∈ lw_all := lw_g (lw_at lw_m2 106 rfl) rfl
theorem q428 : (Jvm.Cond.soleField "TaxOnLooks$Shorts" "e") ∈ lw_all := lw_g (lw_at lw_m2 107 rfl) rfl
theorem q429 : (Jvm.Cond.superclass "TaxOnLooks$Shorts" "TaxOnLooks$Row") ∈ lw_all := lw_g (lw_at lw_m2 108 rfl) rfl
theorem q494 : (Jvm.Cond.selects "TaxOnLooks$Shorts" ({ cls := "TaxOnLooks$Row", name := "put", desc := "(IJ)V" } : Jvm.MethodName) ({ cls := "TaxOnLooks$Shorts", name := "put", desc := "(IJ)V" } : Jvm.MethodName)) ∈ lw_all := lw_g (lw_at lw_m2 173 rfl) rfl
theorem q495 : (Jvm.Cond.instanceMethod ({ cls := "TaxOnLooks$Shorts", name := "put", desc := "(IJ)V" } : Jvm.MethodName)) ∈ lw_all := lw_g (lw_at lw_m2 174 rfl) rfl
theorem q496 : (Jvm.Cond.code ({ cls := "TaxOnLooks$Shorts", name := "put", desc := "(IJ)V" } : Jvm.MethodName) prog_17_method_4_code (4 : Nat) (Option.none : Option Jvm.ClassFile.FieldType)) ∈ lw_all := lw_g (lw_at lw_m2 175 rfl) rfl
theorem q519 : (Jvm.Cond.selects "TaxOnLooks$Shorts" ({ cls := "TaxOnLooks$Row", name := "sort", desc := "()I" } : Jvm.MethodName) ({ cls := "TaxOnLooks$Shorts", name := "sort", desc := "()I" } : Jvm.MethodName)) ∈ lw_all := lw_g (lw_at lw_m2 198 rfl) rfl
theorem q520 : (Jvm.Cond.instanceMethod ({ cls := "TaxOnLooks$Shorts", name := "sort", desc := "()I" } : Jvm.MethodName)) ∈ lw_all := lw_g (lw_at lw_m2 199 rfl) rfl
theorem q521 : (Jvm.Cond.code ({ cls := "TaxOnLooks$Shorts", name := "sort", desc := "()I" } : Jvm.MethodName) prog_17_method_2_code (1 : Nat) (Option.some Jvm.ClassFile.FieldType.int)) ∈ lw_all := lw_g (lw_at lw_m2 200 rfl) rfl
theorem q534 : (Jvm.Cond.selects "TaxOnLooks$Shorts" ({ cls := "TaxOnLooks$Row", name := "held", desc := "()Ljava/lang/Object;" } : Jvm.MethodName) ({ cls := "TaxOnLooks$Shorts", name := "held", desc := "()Ljava/lang/Object;" } : Jvm.MethodName)) ∈ lw_all := lw_g (lw_at lw_m2 213 rfl) rfl
theorem q535 : (Jvm.Cond.instanceMethod ({ cls := "TaxOnLooks$Shorts", name := "held", desc := "()Ljava/lang/Object;" } : Jvm.MethodName)) ∈ lw_all := lw_g (lw_at lw_m2 214 rfl) rfl
theorem q536 : (Jvm.Cond.code ({ cls := "TaxOnLooks$Shorts", name := "held", desc := "()Ljava/lang/Object;" } : Jvm.MethodName) prog_17_method_8_code (1 : Nat) (Option.some (Jvm.ClassFile.FieldType.object "java/lang/Object"))) ∈ lw_all := lw_g (lw_at lw_m2 215 rfl) rfl
theorem q556 : (Jvm.Cond.selects "TaxOnLooks$Shorts" ({ cls := "TaxOnLooks$Row", name := "get", desc := "(I)J" } : Jvm.MethodName) ({ cls := "TaxOnLooks$Shorts", name := "get", desc := "(I)J" } : Jvm.MethodName)) ∈ lw_all := lw_g (lw_at lw_m2 235 rfl) rfl
theorem q557 : (Jvm.Cond.instanceMethod ({ cls := "TaxOnLooks$Shorts", name := "get", desc := "(I)J" } : Jvm.MethodName)) ∈ lw_all := lw_g (lw_at lw_m2 236 rfl) rfl
theorem q558 : (Jvm.Cond.code ({ cls := "TaxOnLooks$Shorts", name := "get", desc := "(I)J" } : Jvm.MethodName) prog_17_method_5_code (2 : Nat) (Option.some Jvm.ClassFile.FieldType.long)) ∈ lw_all := lw_g (lw_at lw_m2 237 rfl) rfl
theorem q868 : (Jvm.Cond.selects "TaxOnLooks$Shorts" ({ cls := "TaxOnLooks$Row", name := "length", desc := "()I" } : Jvm.MethodName) ({ cls := "TaxOnLooks$Shorts", name := "length", desc := "()I" } : Jvm.MethodName)) ∈ lw_all := lw_g (lw_at lw_m4 67 rfl) rfl
theorem q869 : (Jvm.Cond.instanceMethod ({ cls := "TaxOnLooks$Shorts", name := "length", desc := "()I" } : Jvm.MethodName)) ∈ lw_all := lw_g (lw_at lw_m4 68 rfl) rfl
theorem q870 : (Jvm.Cond.code ({ cls := "TaxOnLooks$Shorts", name := "length", desc := "()I" } : Jvm.MethodName) prog_17_method_3_code (1 : Nat) (Option.some Jvm.ClassFile.FieldType.int)) ∈ lw_all := lw_g (lw_at lw_m4 69 rfl) rfl
theorem q877 : (Jvm.Cond.selects "TaxOnLooks$Shorts" ({ cls := "TaxOnLooks$Row", name := "asInt", desc := "(I)I" } : Jvm.MethodName) ({ cls := "TaxOnLooks$Row", name := "asInt", desc := "(I)I" } : Jvm.MethodName)) ∈ lw_all := lw_g (lw_at lw_m4 76 rfl) rfl
theorem q1870 : (Jvm.Cond.castable "TaxOnLooks$Shorts" "TaxOnLooks$Row") ∈ lw_tbl := lw_at lw_m8 109 rfl
theorem in_X9 : ∀ w ∈ wsX90, w ∈ lw_all := lw_in wsX90 [427] (by decide +kernel) (by decide +kernel)

theorem q81 : (Jvm.Cond.initialized "TaxOnLooksLaw") ∈ lw_all := lw_g (lw_at lw_m1 0 rfl) rfl
set_option maxRecDepth 100000
theorem q118 : (Jvm.Cond.classLink "TaxOnLooksLaw" (7 : Nat) "TaxOnLooks") ∈ lw_all := lw_g (lw_at lw_m1 37 rfl) rfl
theorem q120 : (Jvm.Cond.methodLink "TaxOnLooksLaw" (9 : Nat) ({ cls := "TaxOnLooks", name := "<init>", desc := "()V" } : Jvm.MethodName)) ∈ lw_all := lw_g (lw_at lw_m1 39 rfl) rfl
theorem q273 : (Jvm.Cond.methodLink "TaxOnLooksLaw" (13 : Nat) ({ cls := "TaxOnLooks", name := "row", desc := "(III)I" } : Jvm.MethodName)) ∈ lw_all := lw_g (lw_at lw_m1 192 rfl) rfl
theorem q456 : (Jvm.Cond.methodLink "TaxOnLooksLaw" (20 : Nat) ({ cls := "TaxOnLooks", name := "set", desc := "(IIJ)I" } : Jvm.MethodName)) ∈ lw_all := lw_g (lw_at lw_m2 135 rfl) rfl
theorem q497 : (Jvm.Cond.methodLink "TaxOnLooksLaw" (25 : Nat) ({ cls := "TaxOnLooks", name := "copy", desc := "(IIIII)I" } : Jvm.MethodName)) ∈ lw_all := lw_g (lw_at lw_m2 176 rfl) rfl
theorem q540 : (Jvm.Cond.methodLink "TaxOnLooksLaw" (30 : Nat) ({ cls := "TaxOnLooks", name := "element", desc := "(II)J" } : Jvm.MethodName)) ∈ lw_all := lw_g (lw_at lw_m2 219 rfl) rfl
theorem q559 : (Jvm.Cond.methodLink "TaxOnLooksLaw" (35 : Nat) ({ cls := "TaxOnLooks", name := "show", desc := "(II)I" } : Jvm.MethodName)) ∈ lw_all := lw_g (lw_at lw_m2 238 rfl) rfl
theorem q571 : (Jvm.Cond.methodLink "TaxOnLooksLaw" (40 : Nat) ({ cls := "TaxOnLooks", name := "holds", desc := "(I)I" } : Jvm.MethodName)) ∈ lw_all := lw_g (lw_at lw_m3 10 rfl) rfl
theorem q577 : (Jvm.Cond.methodLink "TaxOnLooksLaw" (45 : Nat) ({ cls := "TaxOnLooks", name := "says", desc := "(II)I" } : Jvm.MethodName)) ∈ lw_all := lw_g (lw_at lw_m3 16 rfl) rfl
theorem q625 : (Jvm.Cond.methodLink "TaxOnLooksLaw" (49 : Nat) ({ cls := "TaxOnLooks", name := "person", desc := "(IIIIII)I" } : Jvm.MethodName)) ∈ lw_all := lw_g (lw_at lw_m3 64 rfl) rfl
theorem q744 : (Jvm.Cond.methodLink "TaxOnLooksLaw" (54 : Nat) ({ cls := "TaxOnLooks", name := "build", desc := "(IIZ)I" } : Jvm.MethodName)) ∈ lw_all := lw_g (lw_at lw_m3 183 rfl) rfl
theorem q757 : (Jvm.Cond.methodLink "TaxOnLooksLaw" (59 : Nat) ({ cls := "TaxOnLooks", name := "put", desc := "(II)I" } : Jvm.MethodName)) ∈ lw_all := lw_g (lw_at lw_m3 196 rfl) rfl
theorem q761 : (Jvm.Cond.methodLink "TaxOnLooksLaw" (63 : Nat) ({ cls := "TaxOnLooks", name := "sack", desc := "(IZ)I" } : Jvm.MethodName)) ∈ lw_all := lw_g (lw_at lw_m3 200 rfl) rfl
theorem q765 : (Jvm.Cond.methodLink "TaxOnLooksLaw" (68 : Nat) ({ cls := "TaxOnLooks", name := "ask", desc := "(II)I" } : Jvm.MethodName)) ∈ lw_all := lw_g (lw_at lw_m3 204 rfl) rfl
theorem q774 : (Jvm.Cond.methodLink "TaxOnLooksLaw" (72 : Nat) ({ cls := "TaxOnLooks", name := "personOf", desc := "(II)I" } : Jvm.MethodName)) ∈ lw_all := lw_g (lw_at lw_m3 213 rfl) rfl
theorem q806 : (Jvm.Cond.methodLink "TaxOnLooksLaw" (76 : Nat) ({ cls := "TaxOnLooks", name := "squareOf", desc := "(II)I" } : Jvm.MethodName)) ∈ lw_all := lw_g (lw_at lw_m4 5 rfl) rfl
theorem q811 : (Jvm.Cond.methodLink "TaxOnLooksLaw" (80 : Nat) ({ cls := "TaxOnLooks", name := "town", desc := "(I)I" } : Jvm.MethodName)) ∈ lw_all := lw_g (lw_at lw_m4 10 rfl) rfl
theorem q992 : (Jvm.Cond.methodLink "TaxOnLooksLaw" (84 : Nat) ({ cls := "TaxOnLooks", name := "fault", desc := "()I" } : Jvm.MethodName)) ∈ lw_all := lw_g (lw_at lw_m4 191 rfl) rfl
theorem q996 : (Jvm.Cond.methodLink "TaxOnLooksLaw" (89 : Nat) ({ cls := "TaxOnLooks", name := "view", desc := "(II)I" } : Jvm.MethodName)) ∈ lw_all := lw_g (lw_at lw_m4 195 rfl) rfl
theorem q1014 : (Jvm.Cond.methodLink "TaxOnLooksLaw" (93 : Nat) ({ cls := "TaxOnLooks", name := "glances", desc := "(II)I" } : Jvm.MethodName)) ∈ lw_all := lw_g (lw_at lw_m4 213 rfl) rfl
theorem q1063 : (Jvm.Cond.methodLink "TaxOnLooksLaw" (97 : Nat) ({ cls := "TaxOnLooks", name := "duty", desc := "(II)I" } : Jvm.MethodName)) ∈ lw_all := lw_g (lw_at lw_m5 22 rfl) rfl
theorem q1105 : (Jvm.Cond.methodLink "TaxOnLooksLaw" (101 : Nat) ({ cls := "TaxOnLooks", name := "all", desc := "(I)I" } : Jvm.MethodName)) ∈ lw_all := lw_g (lw_at lw_m5 64 rfl) rfl
theorem q1114 : (Jvm.Cond.methodLink "TaxOnLooksLaw" (105 : Nat) ({ cls := "TaxOnLooks", name := "walk", desc := "(III)I" } : Jvm.MethodName)) ∈ lw_all := lw_g (lw_at lw_m5 73 rfl) rfl
theorem q1157 : (Jvm.Cond.methodLink "TaxOnLooksLaw" (109 : Nat) ({ cls := "TaxOnLooks", name := "stand", desc := "(II)I" } : Jvm.MethodName)) ∈ lw_all := lw_g (lw_at lw_m5 116 rfl) rfl
theorem q1165 : (Jvm.Cond.methodLink "TaxOnLooksLaw" (113 : Nat) ({ cls := "TaxOnLooks", name := "sacks", desc := "(II)I" } : Jvm.MethodName)) ∈ lw_all := lw_g (lw_at lw_m5 124 rfl) rfl
theorem q1178 : (Jvm.Cond.methodLink "TaxOnLooksLaw" (117 : Nat) ({ cls := "TaxOnLooks", name := "balconies", desc := "(I)I" } : Jvm.MethodName)) ∈ lw_all := lw_g (lw_at lw_m5 137 rfl) rfl
theorem q1191 : (Jvm.Cond.methodLink "TaxOnLooksLaw" (121 : Nat) ({ cls := "TaxOnLooks", name := "fits", desc := "(II)I" } : Jvm.MethodName)) ∈ lw_all := lw_g (lw_at lw_m5 150 rfl) rfl
theorem q1201 : (Jvm.Cond.methodLink "TaxOnLooksLaw" (125 : Nat) ({ cls := "TaxOnLooks", name := "most", desc := "(I)I" } : Jvm.MethodName)) ∈ lw_all := lw_g (lw_at lw_m5 160 rfl) rfl
theorem q1209 : (Jvm.Cond.methodLink "TaxOnLooksLaw" (129 : Nat) ({ cls := "TaxOnLooks", name := "crowd", desc := "(I)I" } : Jvm.MethodName)) ∈ lw_all := lw_g (lw_at lw_m5 168 rfl) rfl
theorem q1219 : (Jvm.Cond.methodLink "TaxOnLooksLaw" (133 : Nat) ({ cls := "TaxOnLooks", name := "judge", desc := "(II)I" } : Jvm.MethodName)) ∈ lw_all := lw_g (lw_at lw_m5 178 rfl) rfl
theorem q1236 : (Jvm.Cond.methodLink "TaxOnLooksLaw" (137 : Nat) ({ cls := "TaxOnLooks", name := "behind", desc := "(III)I" } : Jvm.MethodName)) ∈ lw_all := lw_g (lw_at lw_m5 195 rfl) rfl
theorem q1244 : (Jvm.Cond.methodLink "TaxOnLooksLaw" (141 : Nat) ({ cls := "TaxOnLooks", name := "done", desc := "(II)I" } : Jvm.MethodName)) ∈ lw_all := lw_g (lw_at lw_m5 203 rfl) rfl
theorem q1248 : (Jvm.Cond.methodLink "TaxOnLooksLaw" (145 : Nat) ({ cls := "TaxOnLooks", name := "hours", desc := "(I)I" } : Jvm.MethodName)) ∈ lw_all := lw_g (lw_at lw_m5 207 rfl) rfl
theorem q1262 : (Jvm.Cond.methodLink "TaxOnLooksLaw" (149 : Nat) ({ cls := "TaxOnLooks", name := "seed", desc := "(I)I" } : Jvm.MethodName)) ∈ lw_all := lw_g (lw_at lw_m5 221 rfl) rfl
theorem q1266 : (Jvm.Cond.methodLink "TaxOnLooksLaw" (153 : Nat) ({ cls := "TaxOnLooks", name := "act", desc := "(III)I" } : Jvm.MethodName)) ∈ lw_all := lw_g (lw_at lw_m5 225 rfl) rfl
theorem q1343 : (Jvm.Cond.methodLink "TaxOnLooksLaw" (157 : Nat) ({ cls := "TaxOnLooks", name := "trace", desc := "(I)I" } : Jvm.MethodName)) ∈ lw_all := lw_g (lw_at lw_m6 62 rfl) rfl
theorem q1348 : (Jvm.Cond.methodLink "TaxOnLooksLaw" (161 : Nat) ({ cls := "TaxOnLooks", name := "image", desc := "()I" } : Jvm.MethodName)) ∈ lw_all := lw_g (lw_at lw_m6 67 rfl) rfl
theorem q1352 : (Jvm.Cond.methodLink "TaxOnLooksLaw" (165 : Nat) ({ cls := "TaxOnLooks", name := "restore", desc := "()I" } : Jvm.MethodName)) ∈ lw_all := lw_g (lw_at lw_m6 71 rfl) rfl
theorem q1360 : (Jvm.Cond.methodLink "TaxOnLooksLaw" (169 : Nat) ({ cls := "TaxOnLooks", name := "status", desc := "(I)I" } : Jvm.MethodName)) ∈ lw_all := lw_g (lw_at lw_m6 79 rfl) rfl
theorem q1376 : (Jvm.Cond.classLink "TaxOnLooksLaw" (10 : Nat) "TaxOnLooksModel") ∈ lw_all := lw_g (lw_at lw_m6 95 rfl) rfl
theorem q1378 : (Jvm.Cond.methodLink "TaxOnLooksLaw" (12 : Nat) ({ cls := "TaxOnLooksModel", name := "<init>", desc := "()V" } : Jvm.MethodName)) ∈ lw_all := lw_g (lw_at lw_m6 97 rfl) rfl
theorem q1515 : (Jvm.Cond.methodLink "TaxOnLooksLaw" (17 : Nat) ({ cls := "TaxOnLooksModel", name := "row", desc := "(III)I" } : Jvm.MethodName)) ∈ lw_all := lw_g (lw_at lw_m6 234 rfl) rfl
theorem q1527 : (Jvm.Cond.methodLink "TaxOnLooksLaw" (24 : Nat) ({ cls := "TaxOnLooksModel", name := "set", desc := "(IIJ)I" } : Jvm.MethodName)) ∈ lw_all := lw_g (lw_at lw_m7 6 rfl) rfl
theorem q1531 : (Jvm.Cond.methodLink "TaxOnLooksLaw" (29 : Nat) ({ cls := "TaxOnLooksModel", name := "copy", desc := "(IIIII)I" } : Jvm.MethodName)) ∈ lw_all := lw_g (lw_at lw_m7 10 rfl) rfl
theorem q1535 : (Jvm.Cond.methodLink "TaxOnLooksLaw" (34 : Nat) ({ cls := "TaxOnLooksModel", name := "element", desc := "(II)J" } : Jvm.MethodName)) ∈ lw_all := lw_g (lw_at lw_m7 14 rfl) rfl
theorem q1539 : (Jvm.Cond.methodLink "TaxOnLooksLaw" (39 : Nat) ({ cls := "TaxOnLooksModel", name := "show", desc := "(II)I" } : Jvm.MethodName)) ∈ lw_all := lw_g (lw_at lw_m7 18 rfl) rfl
theorem q1547 : (Jvm.Cond.methodLink "TaxOnLooksLaw" (44 : Nat) ({ cls := "TaxOnLooksModel", name := "holds", desc := "(I)I" } : Jvm.MethodName)) ∈ lw_all := lw_g (lw_at lw_m7 26 rfl) rfl
theorem q1551 : (Jvm.Cond.methodLink "TaxOnLooksLaw" (48 : Nat) ({ cls := "TaxOnLooksModel", name := "says", desc := "(II)I" } : Jvm.MethodName)) ∈ lw_all := lw_g (lw_at lw_m7 30 rfl) rfl
theorem q1559 : (Jvm.Cond.methodLink "TaxOnLooksLaw" (53 : Nat) ({ cls := "TaxOnLooksModel", name := "person", desc := "(IIIIII)I" } : Jvm.MethodName)) ∈ lw_all := lw_g (lw_at lw_m7 38 rfl) rfl
theorem q1575 : (Jvm.Cond.methodLink "TaxOnLooksLaw" (58 : Nat) ({ cls := "TaxOnLooksModel", name := "build", desc := "(IIZ)I" } : Jvm.MethodName)) ∈ lw_all := lw_g (lw_at lw_m7 54 rfl) rfl
theorem q1583 : (Jvm.Cond.methodLink "TaxOnLooksLaw" (62 : Nat) ({ cls := "TaxOnLooksModel", name := "put", desc := "(II)I" } : Jvm.MethodName)) ∈ lw_all := lw_g (lw_at lw_m7 62 rfl) rfl
theorem q1587 : (Jvm.Cond.methodLink "TaxOnLooksLaw" (67 : Nat) ({ cls := "TaxOnLooksModel", name := "sack", desc := "(IZ)I" } : Jvm.MethodName)) ∈ lw_all := lw_g (lw_at lw_m7 66 rfl) rfl
theorem q1591 : (Jvm.Cond.methodLink "TaxOnLooksLaw" (71 : Nat) ({ cls := "TaxOnLooksModel", name := "ask", desc := "(II)I" } : Jvm.MethodName)) ∈ lw_all := lw_g (lw_at lw_m7 70 rfl) rfl
theorem q1603 : (Jvm.Cond.methodLink "TaxOnLooksLaw" (75 : Nat) ({ cls := "TaxOnLooksModel", name := "personOf", desc := "(II)I" } : Jvm.MethodName)) ∈ lw_all := lw_g (lw_at lw_m7 82 rfl) rfl
theorem q1607 : (Jvm.Cond.methodLink "TaxOnLooksLaw" (79 : Nat) ({ cls := "TaxOnLooksModel", name := "squareOf", desc := "(II)I" } : Jvm.MethodName)) ∈ lw_all := lw_g (lw_at lw_m7 86 rfl) rfl
theorem q1611 : (Jvm.Cond.methodLink "TaxOnLooksLaw" (83 : Nat) ({ cls := "TaxOnLooksModel", name := "town", desc := "(I)I" } : Jvm.MethodName)) ∈ lw_all := lw_g (lw_at lw_m7 90 rfl) rfl
theorem q1655 : (Jvm.Cond.methodLink "TaxOnLooksLaw" (88 : Nat) ({ cls := "TaxOnLooksModel", name := "fault", desc := "()I" } : Jvm.MethodName)) ∈ lw_all := lw_g (lw_at lw_m7 134 rfl) rfl
theorem q1659 : (Jvm.Cond.methodLink "TaxOnLooksLaw" (92 : Nat) ({ cls := "TaxOnLooksModel", name := "view", desc := "(II)I" } : Jvm.MethodName)) ∈ lw_all := lw_g (lw_at lw_m7 138 rfl) rfl
theorem q1671 : (Jvm.Cond.methodLink "TaxOnLooksLaw" (96 : Nat) ({ cls := "TaxOnLooksModel", name := "glances", desc := "(II)I" } : Jvm.MethodName)) ∈ lw_all := lw_g (lw_at lw_m7 150 rfl) rfl
theorem q1687 : (Jvm.Cond.methodLink "TaxOnLooksLaw" (100 : Nat) ({ cls := "TaxOnLooksModel", name := "duty", desc := "(II)I" } : Jvm.MethodName)) ∈ lw_all := lw_g (lw_at lw_m7 166 rfl) rfl
theorem q1707 : (Jvm.Cond.methodLink "TaxOnLooksLaw" (104 : Nat) ({ cls := "TaxOnLooksModel", name := "all", desc := "(I)I" } : Jvm.MethodName)) ∈ lw_all := lw_g (lw_at lw_m7 186 rfl) rfl
theorem q1711 : (Jvm.Cond.methodLink "TaxOnLooksLaw" (108 : Nat) ({ cls := "TaxOnLooksModel", name := "walk", desc := "(III)I" } : Jvm.MethodName)) ∈ lw_all := lw_g (lw_at lw_m7 190 rfl) rfl
theorem q1736 : (Jvm.Cond.methodLink "TaxOnLooksLaw" (112 : Nat) ({ cls := "TaxOnLooksModel", name := "stand", desc := "(II)I" } : Jvm.MethodName)) ∈ lw_all := lw_g (lw_at lw_m7 215 rfl) rfl
theorem q1740 : (Jvm.Cond.methodLink "TaxOnLooksLaw" (116 : Nat) ({ cls := "TaxOnLooksModel", name := "sacks", desc := "(II)I" } : Jvm.MethodName)) ∈ lw_all := lw_g (lw_at lw_m7 219 rfl) rfl
theorem q1748 : (Jvm.Cond.methodLink "TaxOnLooksLaw" (120 : Nat) ({ cls := "TaxOnLooksModel", name := "balconies", desc := "(I)I" } : Jvm.MethodName)) ∈ lw_all := lw_g (lw_at lw_m7 227 rfl) rfl
theorem q1756 : (Jvm.Cond.methodLink "TaxOnLooksLaw" (124 : Nat) ({ cls := "TaxOnLooksModel", name := "fits", desc := "(II)I" } : Jvm.MethodName)) ∈ lw_all := lw_g (lw_at lw_m7 235 rfl) rfl
theorem q1764 : (Jvm.Cond.methodLink "TaxOnLooksLaw" (128 : Nat) ({ cls := "TaxOnLooksModel", name := "most", desc := "(I)I" } : Jvm.MethodName)) ∈ lw_all := lw_g (lw_at lw_m8 3 rfl) rfl
theorem q1772 : (Jvm.Cond.methodLink "TaxOnLooksLaw" (132 : Nat) ({ cls := "TaxOnLooksModel", name := "crowd", desc := "(I)I" } : Jvm.MethodName)) ∈ lw_all := lw_g (lw_at lw_m8 11 rfl) rfl
theorem q1780 : (Jvm.Cond.methodLink "TaxOnLooksLaw" (136 : Nat) ({ cls := "TaxOnLooksModel", name := "judge", desc := "(II)I" } : Jvm.MethodName)) ∈ lw_all := lw_g (lw_at lw_m8 19 rfl) rfl
theorem q1796 : (Jvm.Cond.methodLink "TaxOnLooksLaw" (140 : Nat) ({ cls := "TaxOnLooksModel", name := "behind", desc := "(III)I" } : Jvm.MethodName)) ∈ lw_all := lw_g (lw_at lw_m8 35 rfl) rfl
theorem q1804 : (Jvm.Cond.methodLink "TaxOnLooksLaw" (144 : Nat) ({ cls := "TaxOnLooksModel", name := "done", desc := "(II)I" } : Jvm.MethodName)) ∈ lw_all := lw_g (lw_at lw_m8 43 rfl) rfl
theorem q1808 : (Jvm.Cond.methodLink "TaxOnLooksLaw" (148 : Nat) ({ cls := "TaxOnLooksModel", name := "hours", desc := "(I)I" } : Jvm.MethodName)) ∈ lw_all := lw_g (lw_at lw_m8 47 rfl) rfl
theorem q1817 : (Jvm.Cond.methodLink "TaxOnLooksLaw" (152 : Nat) ({ cls := "TaxOnLooksModel", name := "seed", desc := "(I)I" } : Jvm.MethodName)) ∈ lw_all := lw_g (lw_at lw_m8 56 rfl) rfl
theorem q1821 : (Jvm.Cond.methodLink "TaxOnLooksLaw" (156 : Nat) ({ cls := "TaxOnLooksModel", name := "act", desc := "(III)I" } : Jvm.MethodName)) ∈ lw_all := lw_g (lw_at lw_m8 60 rfl) rfl
theorem q1841 : (Jvm.Cond.methodLink "TaxOnLooksLaw" (160 : Nat) ({ cls := "TaxOnLooksModel", name := "trace", desc := "(I)I" } : Jvm.MethodName)) ∈ lw_all := lw_g (lw_at lw_m8 80 rfl) rfl
theorem q1845 : (Jvm.Cond.methodLink "TaxOnLooksLaw" (164 : Nat) ({ cls := "TaxOnLooksModel", name := "image", desc := "()I" } : Jvm.MethodName)) ∈ lw_all := lw_g (lw_at lw_m8 84 rfl) rfl
theorem q1849 : (Jvm.Cond.methodLink "TaxOnLooksLaw" (168 : Nat) ({ cls := "TaxOnLooksModel", name := "restore", desc := "()I" } : Jvm.MethodName)) ∈ lw_all := lw_g (lw_at lw_m8 88 rfl) rfl
theorem q1853 : (Jvm.Cond.methodLink "TaxOnLooksLaw" (172 : Nat) ({ cls := "TaxOnLooksModel", name := "status", desc := "(I)I" } : Jvm.MethodName)) ∈ lw_all := lw_g (lw_at lw_m8 92 rfl) rfl
theorem q1861 : (Jvm.Cond.constantLong "TaxOnLooksLaw" (18 : Nat) (4294967295 : Int64)) ∈ lw_all := lw_g (lw_at lw_m8 100 rfl) rfl

theorem q102 : (Jvm.Cond.initialized "java/lang/System") ∈ lw_all := lw_g (lw_at lw_m1 21 rfl) rfl
set_option maxRecDepth 100000
theorem q538 : (Jvm.Cond.static ({ cls := "java/lang/System", name := "arraycopy", desc := "(Ljava/lang/Object;ILjava/lang/Object;II)V" } : Jvm.MethodName)) ∈ lw_all := lw_g (lw_at lw_m2 217 rfl) rfl
theorem q539 : (Jvm.Cond.native ({ cls := "java/lang/System", name := "arraycopy", desc := "(Ljava/lang/Object;ILjava/lang/Object;II)V" } : Jvm.MethodName)) ∈ lw_all := lw_g (lw_at lw_m2 218 rfl) rfl

theorem q127 : (Jvm.Cond.arrayOver (Jvm.ClassFile.FieldType.object "TaxOnLooks$Shelf")) ∈ lw_tbl := lw_at lw_m1 46 rfl
set_option maxRecDepth 100000
theorem q143 : (Jvm.Cond.arrayClass Jvm.ClassFile.FieldType.int) ∈ lw_all := lw_g (lw_at lw_m1 62 rfl) rfl
theorem q151 : (Jvm.Cond.arrayOver (Jvm.ClassFile.FieldType.object "TaxOnLooks$Person")) ∈ lw_tbl := lw_at lw_m1 70 rfl
theorem q355 : (Jvm.Cond.arrayClass Jvm.ClassFile.FieldType.byte) ∈ lw_all := lw_g (lw_at lw_m2 34 rfl) rfl
theorem q430 : (Jvm.Cond.arrayClass Jvm.ClassFile.FieldType.short) ∈ lw_all := lw_g (lw_at lw_m2 109 rfl) rfl
theorem q451 : (Jvm.Cond.arrayClass Jvm.ClassFile.FieldType.long) ∈ lw_all := lw_g (lw_at lw_m2 130 rfl) rfl
