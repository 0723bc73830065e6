/-! java/lang/Throwable -/
set_option maxRecDepth 100000
def RJ0 : String := "java/lang/Throwable"
def TJ0 : u_T := fun k => match k with
  | 0 => ("java/lang/Throwable", "cause", "Ljava/lang/Throwable;", false)
  | 1 => ("java/lang/Throwable", "stackTrace", "[Ljava/lang/StackTraceElement;", false)
  | 2 => ("java/lang/Throwable", "suppressedExceptions", "Ljava/util/List;", false)
  | 3 => ("java/lang/Throwable", "detailMessage", "Ljava/lang/String;", false)
  | _ => ("java/lang/Throwable", "backtrace", "Ljava/lang/Object;", false)
def tyJ0 : Nat → FieldType := fun k => match k with
  | 0 => .object "java/lang/Throwable"
  | 1 => .array (.object "java/lang/StackTraceElement")
  | 2 => .object "java/util/List"
  | 3 => .object "java/lang/String"
  | _ => .object "java/lang/Object"
abbrev wsJ00 : List Cond := u_ws RJ0 TJ0 5
theorem nmJ0 : ∀ a, a < 5 → ∀ b, b < 5 → a ≠ b → (TJ0 a).2.1 ≠ (TJ0 b).2.1 := by decide +kernel
theorem tyJ0_ok : ∀ k, k < 5 → parseFieldDescriptor (TJ0 k).2.2.1 = some (tyJ0 k) := by decide +kernel
abbrev cJ0_init : ByteArray := prog_33_method_2_code
def yJ0_init : MethodName := ⟨RJ0, "<init>", "(Ljava/lang/String;)V"⟩
def dkwJ0_init_1 : List UInt8 := [182, 0, 27, 87, 42, 43, 181, 0, 31, 177]
abbrev dktJ0_init_1 : List UInt8 := dkwJ0_init_1 ++ []
def dkwJ0_init_0 : List UInt8 := [42, 183, 0, 1, 42, 42, 181, 0, 7, 42, 178, 0, 13, 181, 0, 17, 42, 178, 0, 20, 181, 0, 24, 42]
abbrev dktJ0_init_0 : List UInt8 := dkwJ0_init_0 ++ dktJ0_init_1
theorem dksJ0_init_0 : cJ0_init.data.toList.drop 0 = dktJ0_init_0 := by decide +kernel
theorem dksJ0_init_1 : cJ0_init.data.toList.drop 24 = dktJ0_init_1 := dk_seg dksJ0_init_0 24 rfl rfl
theorem dJ0_init_0 : decode cJ0_init 0 = .ok (.aload_n 0, 1) := dk_42 (dk_at dksJ0_init_0 0 rfl rfl)
theorem dJ0_init_1 : decode cJ0_init 1 = .ok (.invokespecial 1, 3) := dk_183 0 1 (dk_at dksJ0_init_0 1 rfl rfl)
theorem dJ0_init_4 : decode cJ0_init 4 = .ok (.aload_n 0, 1) := dk_42 (dk_at dksJ0_init_0 4 rfl rfl)
theorem dJ0_init_5 : decode cJ0_init 5 = .ok (.aload_n 0, 1) := dk_42 (dk_at dksJ0_init_0 5 rfl rfl)
theorem dJ0_init_6 : decode cJ0_init 6 = .ok (.putfield 7, 3) := dk_181 0 7 (dk_at dksJ0_init_0 6 rfl rfl)
theorem dJ0_init_9 : decode cJ0_init 9 = .ok (.aload_n 0, 1) := dk_42 (dk_at dksJ0_init_0 9 rfl rfl)
theorem dJ0_init_10 : decode cJ0_init 10 = .ok (.getstatic 13, 3) := dk_178 0 13 (dk_at dksJ0_init_0 10 rfl rfl)
theorem dJ0_init_13 : decode cJ0_init 13 = .ok (.putfield 17, 3) := dk_181 0 17 (dk_at dksJ0_init_0 13 rfl rfl)
theorem dJ0_init_16 : decode cJ0_init 16 = .ok (.aload_n 0, 1) := dk_42 (dk_at dksJ0_init_0 16 rfl rfl)
theorem dJ0_init_17 : decode cJ0_init 17 = .ok (.getstatic 20, 3) := dk_178 0 20 (dk_at dksJ0_init_0 17 rfl rfl)
theorem dJ0_init_20 : decode cJ0_init 20 = .ok (.putfield 24, 3) := dk_181 0 24 (dk_at dksJ0_init_0 20 rfl rfl)
theorem dJ0_init_23 : decode cJ0_init 23 = .ok (.aload_n 0, 1) := dk_42 (dk_at dksJ0_init_0 23 rfl rfl)
theorem dJ0_init_24 : decode cJ0_init 24 = .ok (.invokevirtual 27, 3) := dk_182 0 27 (dk_at dksJ0_init_1 0 rfl rfl)
theorem dJ0_init_27 : decode cJ0_init 27 = .ok (.pop, 1) := dk_87 (dk_at dksJ0_init_1 3 rfl rfl)
theorem dJ0_init_28 : decode cJ0_init 28 = .ok (.aload_n 0, 1) := dk_42 (dk_at dksJ0_init_1 4 rfl rfl)
theorem dJ0_init_29 : decode cJ0_init 29 = .ok (.aload_n 1, 1) := dk_43 (dk_at dksJ0_init_1 5 rfl rfl)
theorem dJ0_init_30 : decode cJ0_init 30 = .ok (.putfield 31, 3) := dk_181 0 31 (dk_at dksJ0_init_1 6 rfl rfl)
theorem dJ0_init_33 : decode cJ0_init 33 = .ok (.return_, 1) := dk_177 (dk_at dksJ0_init_1 9 rfl rfl)
abbrev cJ0_init_2 : ByteArray := prog_33_method_1_code
def yJ0_init_2 : MethodName := ⟨RJ0, "<init>", "()V"⟩
def dkwJ0_init_2_1 : List UInt8 := [182, 0, 27, 87, 177]
abbrev dktJ0_init_2_1 : List UInt8 := dkwJ0_init_2_1 ++ []
def dkwJ0_init_2_0 : List UInt8 := [42, 183, 0, 1, 42, 42, 181, 0, 7, 42, 178, 0, 13, 181, 0, 17, 42, 178, 0, 20, 181, 0, 24, 42]
abbrev dktJ0_init_2_0 : List UInt8 := dkwJ0_init_2_0 ++ dktJ0_init_2_1
theorem dksJ0_init_2_0 : cJ0_init_2.data.toList.drop 0 = dktJ0_init_2_0 := by decide +kernel
theorem dksJ0_init_2_1 : cJ0_init_2.data.toList.drop 24 = dktJ0_init_2_1 := dk_seg dksJ0_init_2_0 24 rfl rfl
theorem dJ0_init_2_0 : decode cJ0_init_2 0 = .ok (.aload_n 0, 1) := dk_42 (dk_at dksJ0_init_2_0 0 rfl rfl)
theorem dJ0_init_2_1 : decode cJ0_init_2 1 = .ok (.invokespecial 1, 3) := dk_183 0 1 (dk_at dksJ0_init_2_0 1 rfl rfl)
theorem dJ0_init_2_4 : decode cJ0_init_2 4 = .ok (.aload_n 0, 1) := dk_42 (dk_at dksJ0_init_2_0 4 rfl rfl)
theorem dJ0_init_2_5 : decode cJ0_init_2 5 = .ok (.aload_n 0, 1) := dk_42 (dk_at dksJ0_init_2_0 5 rfl rfl)
theorem dJ0_init_2_6 : decode cJ0_init_2 6 = .ok (.putfield 7, 3) := dk_181 0 7 (dk_at dksJ0_init_2_0 6 rfl rfl)
theorem dJ0_init_2_9 : decode cJ0_init_2 9 = .ok (.aload_n 0, 1) := dk_42 (dk_at dksJ0_init_2_0 9 rfl rfl)
theorem dJ0_init_2_10 : decode cJ0_init_2 10 = .ok (.getstatic 13, 3) := dk_178 0 13 (dk_at dksJ0_init_2_0 10 rfl rfl)
theorem dJ0_init_2_13 : decode cJ0_init_2 13 = .ok (.putfield 17, 3) := dk_181 0 17 (dk_at dksJ0_init_2_0 13 rfl rfl)
theorem dJ0_init_2_16 : decode cJ0_init_2 16 = .ok (.aload_n 0, 1) := dk_42 (dk_at dksJ0_init_2_0 16 rfl rfl)
theorem dJ0_init_2_17 : decode cJ0_init_2 17 = .ok (.getstatic 20, 3) := dk_178 0 20 (dk_at dksJ0_init_2_0 17 rfl rfl)
theorem dJ0_init_2_20 : decode cJ0_init_2 20 = .ok (.putfield 24, 3) := dk_181 0 24 (dk_at dksJ0_init_2_0 20 rfl rfl)
theorem dJ0_init_2_23 : decode cJ0_init_2 23 = .ok (.aload_n 0, 1) := dk_42 (dk_at dksJ0_init_2_0 23 rfl rfl)
theorem dJ0_init_2_24 : decode cJ0_init_2 24 = .ok (.invokevirtual 27, 3) := dk_182 0 27 (dk_at dksJ0_init_2_1 0 rfl rfl)
theorem dJ0_init_2_27 : decode cJ0_init_2 27 = .ok (.pop, 1) := dk_87 (dk_at dksJ0_init_2_1 3 rfl rfl)
theorem dJ0_init_2_28 : decode cJ0_init_2 28 = .ok (.return_, 1) := dk_177 (dk_at dksJ0_init_2_1 4 rfl rfl)
abbrev cJ0_init_3 : ByteArray := prog_33_method_5_code
def yJ0_init_3 : MethodName := ⟨RJ0, "<init>", "(Ljava/lang/String;Ljava/lang/Throwable;ZZ)V"⟩
def dkwJ0_init_3_2 : List UInt8 := [44, 181, 0, 7, 29, 154, 0, 8, 42, 1, 181, 0, 24, 177]
abbrev dktJ0_init_3_2 : List UInt8 := dkwJ0_init_3_2 ++ []
def dkwJ0_init_3_1 : List UInt8 := [21, 4, 153, 0, 11, 42, 182, 0, 27, 87, 167, 0, 8, 42, 1, 181, 0, 17, 42, 43, 181, 0, 31, 42]
abbrev dktJ0_init_3_1 : List UInt8 := dkwJ0_init_3_1 ++ dktJ0_init_3_2
def dkwJ0_init_3_0 : List UInt8 := [42, 183, 0, 1, 42, 42, 181, 0, 7, 42, 178, 0, 13, 181, 0, 17, 42, 178, 0, 20, 181, 0, 24]
abbrev dktJ0_init_3_0 : List UInt8 := dkwJ0_init_3_0 ++ dktJ0_init_3_1
theorem dksJ0_init_3_0 : cJ0_init_3.data.toList.drop 0 = dktJ0_init_3_0 := by decide +kernel
theorem dksJ0_init_3_1 : cJ0_init_3.data.toList.drop 23 = dktJ0_init_3_1 := dk_seg dksJ0_init_3_0 23 rfl rfl
theorem dksJ0_init_3_2 : cJ0_init_3.data.toList.drop 47 = dktJ0_init_3_2 := dk_seg dksJ0_init_3_1 24 rfl rfl
theorem dJ0_init_3_0 : decode cJ0_init_3 0 = .ok (.aload_n 0, 1) := dk_42 (dk_at dksJ0_init_3_0 0 rfl rfl)
theorem dJ0_init_3_1 : decode cJ0_init_3 1 = .ok (.invokespecial 1, 3) := dk_183 0 1 (dk_at dksJ0_init_3_0 1 rfl rfl)
theorem dJ0_init_3_4 : decode cJ0_init_3 4 = .ok (.aload_n 0, 1) := dk_42 (dk_at dksJ0_init_3_0 4 rfl rfl)
theorem dJ0_init_3_5 : decode cJ0_init_3 5 = .ok (.aload_n 0, 1) := dk_42 (dk_at dksJ0_init_3_0 5 rfl rfl)
theorem dJ0_init_3_6 : decode cJ0_init_3 6 = .ok (.putfield 7, 3) := dk_181 0 7 (dk_at dksJ0_init_3_0 6 rfl rfl)
theorem dJ0_init_3_9 : decode cJ0_init_3 9 = .ok (.aload_n 0, 1) := dk_42 (dk_at dksJ0_init_3_0 9 rfl rfl)
theorem dJ0_init_3_10 : decode cJ0_init_3 10 = .ok (.getstatic 13, 3) := dk_178 0 13 (dk_at dksJ0_init_3_0 10 rfl rfl)
theorem dJ0_init_3_13 : decode cJ0_init_3 13 = .ok (.putfield 17, 3) := dk_181 0 17 (dk_at dksJ0_init_3_0 13 rfl rfl)
theorem dJ0_init_3_16 : decode cJ0_init_3 16 = .ok (.aload_n 0, 1) := dk_42 (dk_at dksJ0_init_3_0 16 rfl rfl)
theorem dJ0_init_3_17 : decode cJ0_init_3 17 = .ok (.getstatic 20, 3) := dk_178 0 20 (dk_at dksJ0_init_3_0 17 rfl rfl)
theorem dJ0_init_3_20 : decode cJ0_init_3 20 = .ok (.putfield 24, 3) := dk_181 0 24 (dk_at dksJ0_init_3_0 20 rfl rfl)
theorem dJ0_init_3_23 : decode cJ0_init_3 23 = .ok (.iload 4, 2) := dk_21 4 (dk_at dksJ0_init_3_1 0 rfl rfl)
theorem dJ0_init_3_25 : decode cJ0_init_3 25 = .ok (.ifCond .eq 11, 3) := dk_153 0 11 (dk_at dksJ0_init_3_1 2 rfl rfl)
theorem dJ0_init_3_28 : decode cJ0_init_3 28 = .ok (.aload_n 0, 1) := dk_42 (dk_at dksJ0_init_3_1 5 rfl rfl)
theorem dJ0_init_3_29 : decode cJ0_init_3 29 = .ok (.invokevirtual 27, 3) := dk_182 0 27 (dk_at dksJ0_init_3_1 6 rfl rfl)
theorem dJ0_init_3_32 : decode cJ0_init_3 32 = .ok (.pop, 1) := dk_87 (dk_at dksJ0_init_3_1 9 rfl rfl)
theorem dJ0_init_3_33 : decode cJ0_init_3 33 = .ok (.goto 8, 3) := dk_167 0 8 (dk_at dksJ0_init_3_1 10 rfl rfl)
theorem dJ0_init_3_36 : decode cJ0_init_3 36 = .ok (.aload_n 0, 1) := dk_42 (dk_at dksJ0_init_3_1 13 rfl rfl)
theorem dJ0_init_3_37 : decode cJ0_init_3 37 = .ok (.aconst_null, 1) := dk_1 (dk_at dksJ0_init_3_1 14 rfl rfl)
theorem dJ0_init_3_38 : decode cJ0_init_3 38 = .ok (.putfield 17, 3) := dk_181 0 17 (dk_at dksJ0_init_3_1 15 rfl rfl)
theorem dJ0_init_3_41 : decode cJ0_init_3 41 = .ok (.aload_n 0, 1) := dk_42 (dk_at dksJ0_init_3_1 18 rfl rfl)
theorem dJ0_init_3_42 : decode cJ0_init_3 42 = .ok (.aload_n 1, 1) := dk_43 (dk_at dksJ0_init_3_1 19 rfl rfl)
theorem dJ0_init_3_43 : decode cJ0_init_3 43 = .ok (.putfield 31, 3) := dk_181 0 31 (dk_at dksJ0_init_3_1 20 rfl rfl)
theorem dJ0_init_3_46 : decode cJ0_init_3 46 = .ok (.aload_n 0, 1) := dk_42 (dk_at dksJ0_init_3_1 23 rfl rfl)
theorem dJ0_init_3_47 : decode cJ0_init_3 47 = .ok (.aload_n 2, 1) := dk_44 (dk_at dksJ0_init_3_2 0 rfl rfl)
theorem dJ0_init_3_48 : decode cJ0_init_3 48 = .ok (.putfield 7, 3) := dk_181 0 7 (dk_at dksJ0_init_3_2 1 rfl rfl)
theorem dJ0_init_3_51 : decode cJ0_init_3 51 = .ok (.iload_n 3, 1) := dk_29 (dk_at dksJ0_init_3_2 4 rfl rfl)
theorem dJ0_init_3_52 : decode cJ0_init_3 52 = .ok (.ifCond .ne 8, 3) := dk_154 0 8 (dk_at dksJ0_init_3_2 5 rfl rfl)
theorem dJ0_init_3_55 : decode cJ0_init_3 55 = .ok (.aload_n 0, 1) := dk_42 (dk_at dksJ0_init_3_2 8 rfl rfl)
theorem dJ0_init_3_56 : decode cJ0_init_3 56 = .ok (.aconst_null, 1) := dk_1 (dk_at dksJ0_init_3_2 9 rfl rfl)
theorem dJ0_init_3_57 : decode cJ0_init_3 57 = .ok (.putfield 24, 3) := dk_181 0 24 (dk_at dksJ0_init_3_2 10 rfl rfl)
theorem dJ0_init_3_60 : decode cJ0_init_3 60 = .ok (.return_, 1) := dk_177 (dk_at dksJ0_init_3_2 13 rfl rfl)
theorem q67 : (Jvm.Cond.initialized "java/lang/Throwable") ∈ lw_all := lw_g (lw_at lw_m1 8 rfl) rfl
theorem q254 : (Jvm.Cond.instanceMethod ({ cls := "java/lang/Throwable", name := "<init>", desc := "(Ljava/lang/String;)V" } : Jvm.MethodName)) ∈ lw_all := lw_g (lw_at lw_m1 195 rfl) rfl
theorem q255 : (Jvm.Cond.code ({ cls := "java/lang/Throwable", name := "<init>", desc := "(Ljava/lang/String;)V" } : Jvm.MethodName) prog_33_method_2_code (2 : Nat) (Option.none : Option Jvm.ClassFile.FieldType)) ∈ lw_all := lw_g (lw_at lw_m1 196 rfl) rfl
theorem q256 : (Jvm.Cond.methodLink "java/lang/Throwable" (1 : Nat) ({ cls := "java/lang/Object", name := "<init>", desc := "()V" } : Jvm.MethodName)) ∈ lw_all := lw_g (lw_at lw_m1 197 rfl) rfl
theorem q257 : (Jvm.Cond.fieldLink "java/lang/Throwable" (13 : Nat) "java/lang/Throwable" "UNASSIGNED_STACK" "[Ljava/lang/StackTraceElement;") ∈ lw_all := lw_g (lw_at lw_m1 198 rfl) rfl
theorem q258 : (Jvm.Cond.laysStatic "java/lang/Throwable" "UNASSIGNED_STACK" "[Ljava/lang/StackTraceElement;") ∈ lw_tbl := lw_at lw_m1 199 rfl
theorem q259 : (Jvm.Cond.fieldLink "java/lang/Throwable" (20 : Nat) "java/lang/Throwable" "SUPPRESSED_SENTINEL" "Ljava/util/List;") ∈ lw_all := lw_g (lw_at lw_m1 200 rfl) rfl
theorem q260 : (Jvm.Cond.laysStatic "java/lang/Throwable" "SUPPRESSED_SENTINEL" "Ljava/util/List;") ∈ lw_tbl := lw_at lw_m1 201 rfl
theorem q261 : (Jvm.Cond.methodLink "java/lang/Throwable" (27 : Nat) ({ cls := "java/lang/Throwable", name := "fillInStackTrace", desc := "()Ljava/lang/Throwable;" } : Jvm.MethodName)) ∈ lw_all := lw_g (lw_at lw_m1 202 rfl) rfl
theorem q262 : (Jvm.Cond.instanceMethod ({ cls := "java/lang/Throwable", name := "fillInStackTrace", desc := "()Ljava/lang/Throwable;" } : Jvm.MethodName)) ∈ lw_all := lw_g (lw_at lw_m1 203 rfl) rfl
theorem q263 : (Jvm.Cond.sameMethod "java/lang/Throwable" "java/lang/Throwable" "fillInStackTrace" "()Ljava/lang/Throwable;") ∈ lw_all := lw_g (lw_at lw_m1 204 rfl) rfl
theorem q279 : (Jvm.Cond.declares ({ cls := "java/lang/Throwable", name := "fillInStackTrace", desc := "()Ljava/lang/Throwable;" } : Jvm.MethodName)) ∈ lw_tbl := lw_at lw_m1 220 rfl
theorem q283 : (Jvm.Cond.codeSync ({ cls := "java/lang/Throwable", name := "fillInStackTrace", desc := "()Ljava/lang/Throwable;" } : Jvm.MethodName) prog_33_method_18_code (1 : Nat) (Option.some (Jvm.ClassFile.FieldType.object "java/lang/Throwable"))) ∈ lw_all := lw_g (lw_at lw_m1 224 rfl) rfl
theorem q284 : (Jvm.Cond.methodLink "java/lang/Throwable" (202 : Nat) ({ cls := "java/lang/Throwable", name := "fillInStackTrace", desc := "(I)Ljava/lang/Throwable;" } : Jvm.MethodName)) ∈ lw_all := lw_g (lw_at lw_m1 225 rfl) rfl
theorem q285 : (Jvm.Cond.privateMethod ({ cls := "java/lang/Throwable", name := "fillInStackTrace", desc := "(I)Ljava/lang/Throwable;" } : Jvm.MethodName)) ∈ lw_tbl := lw_at lw_m1 226 rfl
theorem q286 : (Jvm.Cond.instanceMethod ({ cls := "java/lang/Throwable", name := "fillInStackTrace", desc := "(I)Ljava/lang/Throwable;" } : Jvm.MethodName)) ∈ lw_all := lw_g (lw_at lw_m1 227 rfl) rfl
theorem q287 : (Jvm.Cond.instantiable "java/lang/Throwable" (6 : Nat)) ∈ lw_all := lw_g (lw_at lw_m1 228 rfl) rfl
theorem q288 : (Jvm.Cond.native ({ cls := "java/lang/Throwable", name := "fillInStackTrace", desc := "(I)Ljava/lang/Throwable;" } : Jvm.MethodName)) ∈ lw_all := lw_g (lw_at lw_m1 229 rfl) rfl
theorem q289 : (Jvm.Cond.fieldLink "java/lang/Throwable" (198 : Nat) "java/lang/Throwable" "backtrace" "Ljava/lang/Object;") ∈ lw_all := lw_g (lw_at lw_m1 230 rfl) rfl
theorem q290 : (Jvm.Cond.fieldLink "java/lang/Throwable" (31 : Nat) "java/lang/Throwable" "detailMessage" "Ljava/lang/String;") ∈ lw_all := lw_g (lw_at lw_m1 231 rfl) rfl
theorem q291 : (Jvm.Cond.fieldLink "java/lang/Throwable" (7 : Nat) "java/lang/Throwable" "cause" "Ljava/lang/Throwable;") ∈ lw_all := lw_g (lw_at lw_m1 232 rfl) rfl
theorem q292 : (Jvm.Cond.fieldLink "java/lang/Throwable" (17 : Nat) "java/lang/Throwable" "stackTrace" "[Ljava/lang/StackTraceElement;") ∈ lw_all := lw_g (lw_at lw_m1 233 rfl) rfl
theorem q293 : (Jvm.Cond.fieldLink "java/lang/Throwable" (24 : Nat) "java/lang/Throwable" "suppressedExceptions" "Ljava/util/List;") ∈ lw_all := lw_g (lw_at lw_m1 234 rfl) rfl
theorem q295 : (Jvm.Cond.soleField "java/lang/Throwable" "backtrace") ∈ lw_all := lw_g (lw_at lw_m1 236 rfl) rfl
theorem q297 : (Jvm.Cond.soleField "java/lang/Throwable" "detailMessage") ∈ lw_all := lw_g (lw_at lw_m1 238 rfl) rfl
theorem q299 : (Jvm.Cond.soleField "java/lang/Throwable" "cause") ∈ lw_all := lw_g (lw_at lw_m2 0 rfl) rfl
theorem q301 : (Jvm.Cond.soleField "java/lang/Throwable" "stackTrace") ∈ lw_all := lw_g (lw_at lw_m2 2 rfl) rfl
theorem q303 : (Jvm.Cond.soleField "java/lang/Throwable" "depth") ∈ lw_all := lw_g (lw_at lw_m2 4 rfl) rfl
theorem q305 : (Jvm.Cond.soleField "java/lang/Throwable" "suppressedExceptions") ∈ lw_all := lw_g (lw_at lw_m2 6 rfl) rfl
theorem q312 : (Jvm.Cond.declares ({ cls := "java/lang/Throwable", name := "<init>", desc := "()V" } : Jvm.MethodName)) ∈ lw_tbl := lw_at lw_m2 13 rfl
theorem q313 : (Jvm.Cond.declares ({ cls := "java/lang/Throwable", name := "<init>", desc := "(Ljava/lang/String;)V" } : Jvm.MethodName)) ∈ lw_tbl := lw_at lw_m2 14 rfl
theorem q315 : (Jvm.Cond.lays "java/lang/Throwable" "java/lang/Throwable" "cause" "Ljava/lang/Throwable;") ∈ lw_all := lw_g (lw_at lw_m2 16 rfl) rfl
theorem q316 : (Jvm.Cond.lays "java/lang/Throwable" "java/lang/Throwable" "stackTrace" "[Ljava/lang/StackTraceElement;") ∈ lw_all := lw_g (lw_at lw_m2 17 rfl) rfl
theorem q317 : (Jvm.Cond.lays "java/lang/Throwable" "java/lang/Throwable" "suppressedExceptions" "Ljava/util/List;") ∈ lw_all := lw_g (lw_at lw_m2 18 rfl) rfl
theorem q318 : (Jvm.Cond.lays "java/lang/Throwable" "java/lang/Throwable" "detailMessage" "Ljava/lang/String;") ∈ lw_all := lw_g (lw_at lw_m2 19 rfl) rfl
theorem q319 : (Jvm.Cond.lays "java/lang/Throwable" "java/lang/Throwable" "backtrace" "Ljava/lang/Object;") ∈ lw_all := lw_g (lw_at lw_m2 20 rfl) rfl
theorem q320 : (Jvm.Cond.fieldLink "java/lang/Throwable" (198 : Nat) "java/lang/Throwable" "backtrace" "Ljava/lang/Object;") ∈ lw_all := lw_g (lw_at lw_m2 21 rfl) rfl
theorem q321 : (Jvm.Cond.superclass "java/lang/Throwable" "java/lang/Object") ∈ lw_all := lw_g (lw_at lw_m2 22 rfl) rfl
theorem q322 : (Jvm.Cond.instanceMethod ({ cls := "java/lang/Throwable", name := "<init>", desc := "()V" } : Jvm.MethodName)) ∈ lw_all := lw_g (lw_at lw_m2 23 rfl) rfl
theorem q323 : (Jvm.Cond.code ({ cls := "java/lang/Throwable", name := "<init>", desc := "()V" } : Jvm.MethodName) prog_33_method_1_code (1 : Nat) (Option.none : Option Jvm.ClassFile.FieldType)) ∈ lw_all := lw_g (lw_at lw_m2 24 rfl) rfl
theorem q528 : (Jvm.Cond.instanceMethod ({ cls := "java/lang/Throwable", name := "<init>", desc := "(Ljava/lang/String;Ljava/lang/Throwable;ZZ)V" } : Jvm.MethodName)) ∈ lw_all := lw_g (lw_at lw_m2 229 rfl) rfl
theorem q529 : (Jvm.Cond.code ({ cls := "java/lang/Throwable", name := "<init>", desc := "(Ljava/lang/String;Ljava/lang/Throwable;ZZ)V" } : Jvm.MethodName) prog_33_method_5_code (5 : Nat) (Option.none : Option Jvm.ClassFile.FieldType)) ∈ lw_all := lw_g (lw_at lw_m2 230 rfl) rfl
theorem q1497 : (Jvm.Cond.sameMethod "java/lang/Throwable" "java/lang/Throwable" "fillInStackTrace" "(I)Ljava/lang/Throwable;") ∈ lw_all := lw_g (lw_at lw_m6 238 rfl) rfl
theorem in_J0 : ∀ w ∈ wsJ00, w ∈ lw_all := lw_in wsJ00 [315, 316, 317, 318, 319] (by decide +kernel) (by decide +kernel)
/-! java/lang/Exception -/
set_option maxRecDepth 100000
def RJ1 : String := "java/lang/Exception"
abbrev cJ1_init : ByteArray := prog_22_method_2_code
def yJ1_init : MethodName := ⟨RJ1, "<init>", "(Ljava/lang/String;)V"⟩
def dkwJ1_init_0 : List UInt8 := [42, 43, 183, 0, 7, 177]
abbrev dktJ1_init_0 : List UInt8 := dkwJ1_init_0 ++ []
theorem dksJ1_init_0 : cJ1_init.data.toList.drop 0 = dktJ1_init_0 := by decide +kernel
theorem dJ1_init_0 : decode cJ1_init 0 = .ok (.aload_n 0, 1) := dk_42 (dk_at dksJ1_init_0 0 rfl rfl)
theorem dJ1_init_1 : decode cJ1_init 1 = .ok (.aload_n 1, 1) := dk_43 (dk_at dksJ1_init_0 1 rfl rfl)
theorem dJ1_init_2 : decode cJ1_init 2 = .ok (.invokespecial 7, 3) := dk_183 0 7 (dk_at dksJ1_init_0 2 rfl rfl)
theorem dJ1_init_5 : decode cJ1_init 5 = .ok (.return_, 1) := dk_177 (dk_at dksJ1_init_0 5 rfl rfl)
abbrev cJ1_init_2 : ByteArray := prog_22_method_1_code
def yJ1_init_2 : MethodName := ⟨RJ1, "<init>", "()V"⟩
theorem dJ1_init_2_0 : decode cJ1_init_2 0 = .ok (.aload_n 0, 1) := by decide +kernel
theorem dJ1_init_2_1 : decode cJ1_init_2 1 = .ok (.invokespecial 1, 3) := by decide +kernel
theorem dJ1_init_2_4 : decode cJ1_init_2 4 = .ok (.return_, 1) := by decide +kernel
abbrev cJ1_init_3 : ByteArray := prog_22_method_5_code
def yJ1_init_3 : MethodName := ⟨RJ1, "<init>", "(Ljava/lang/String;Ljava/lang/Throwable;ZZ)V"⟩
def dkwJ1_init_3_0 : List UInt8 := [42, 43, 44, 29, 21, 4, 183, 0, 16, 177]
abbrev dktJ1_init_3_0 : List UInt8 := dkwJ1_init_3_0 ++ []
theorem dksJ1_init_3_0 : cJ1_init_3.data.toList.drop 0 = dktJ1_init_3_0 := by decide +kernel
theorem dJ1_init_3_0 : decode cJ1_init_3 0 = .ok (.aload_n 0, 1) := dk_42 (dk_at dksJ1_init_3_0 0 rfl rfl)
theorem dJ1_init_3_1 : decode cJ1_init_3 1 = .ok (.aload_n 1, 1) := dk_43 (dk_at dksJ1_init_3_0 1 rfl rfl)
theorem dJ1_init_3_2 : decode cJ1_init_3 2 = .ok (.aload_n 2, 1) := dk_44 (dk_at dksJ1_init_3_0 2 rfl rfl)
theorem dJ1_init_3_3 : decode cJ1_init_3 3 = .ok (.iload_n 3, 1) := dk_29 (dk_at dksJ1_init_3_0 3 rfl rfl)
theorem dJ1_init_3_4 : decode cJ1_init_3 4 = .ok (.iload 4, 2) := dk_21 4 (dk_at dksJ1_init_3_0 4 rfl rfl)
theorem dJ1_init_3_6 : decode cJ1_init_3 6 = .ok (.invokespecial 16, 3) := dk_183 0 16 (dk_at dksJ1_init_3_0 6 rfl rfl)
theorem dJ1_init_3_9 : decode cJ1_init_3 9 = .ok (.return_, 1) := dk_177 (dk_at dksJ1_init_3_0 9 rfl rfl)
theorem q68 : (Jvm.Cond.initialized "java/lang/Exception") ∈ lw_all := lw_g (lw_at lw_m1 9 rfl) rfl
theorem q251 : (Jvm.Cond.instanceMethod ({ cls := "java/lang/Exception", name := "<init>", desc := "(Ljava/lang/String;)V" } : Jvm.MethodName)) ∈ lw_all := lw_g (lw_at lw_m1 192 rfl) rfl
theorem q252 : (Jvm.Cond.code ({ cls := "java/lang/Exception", name := "<init>", desc := "(Ljava/lang/String;)V" } : Jvm.MethodName) prog_22_method_2_code (2 : Nat) (Option.none : Option Jvm.ClassFile.FieldType)) ∈ lw_all := lw_g (lw_at lw_m1 193 rfl) rfl
theorem q253 : (Jvm.Cond.methodLink "java/lang/Exception" (7 : Nat) ({ cls := "java/lang/Throwable", name := "<init>", desc := "(Ljava/lang/String;)V" } : Jvm.MethodName)) ∈ lw_all := lw_g (lw_at lw_m1 194 rfl) rfl
theorem q282 : (Jvm.Cond.superclass "java/lang/Exception" "java/lang/Throwable") ∈ lw_all := lw_g (lw_at lw_m1 223 rfl) rfl
theorem q310 : (Jvm.Cond.declares ({ cls := "java/lang/Exception", name := "<init>", desc := "()V" } : Jvm.MethodName)) ∈ lw_tbl := lw_at lw_m2 11 rfl
theorem q311 : (Jvm.Cond.declares ({ cls := "java/lang/Exception", name := "<init>", desc := "(Ljava/lang/String;)V" } : Jvm.MethodName)) ∈ lw_tbl := lw_at lw_m2 12 rfl
theorem q362 : (Jvm.Cond.instanceMethod ({ cls := "java/lang/Exception", name := "<init>", desc := "()V" } : Jvm.MethodName)) ∈ lw_all := lw_g (lw_at lw_m2 63 rfl) rfl
theorem q363 : (Jvm.Cond.code ({ cls := "java/lang/Exception", name := "<init>", desc := "()V" } : Jvm.MethodName) prog_22_method_1_code (1 : Nat) (Option.none : Option Jvm.ClassFile.FieldType)) ∈ lw_all := lw_g (lw_at lw_m2 64 rfl) rfl
theorem q364 : (Jvm.Cond.methodLink "java/lang/Exception" (1 : Nat) ({ cls := "java/lang/Throwable", name := "<init>", desc := "()V" } : Jvm.MethodName)) ∈ lw_all := lw_g (lw_at lw_m2 65 rfl) rfl
theorem q525 : (Jvm.Cond.instanceMethod ({ cls := "java/lang/Exception", name := "<init>", desc := "(Ljava/lang/String;Ljava/lang/Throwable;ZZ)V" } : Jvm.MethodName)) ∈ lw_all := lw_g (lw_at lw_m2 226 rfl) rfl
theorem q526 : (Jvm.Cond.code ({ cls := "java/lang/Exception", name := "<init>", desc := "(Ljava/lang/String;Ljava/lang/Throwable;ZZ)V" } : Jvm.MethodName) prog_22_method_5_code (5 : Nat) (Option.none : Option Jvm.ClassFile.FieldType)) ∈ lw_all := lw_g (lw_at lw_m2 227 rfl) rfl
theorem q527 : (Jvm.Cond.methodLink "java/lang/Exception" (16 : Nat) ({ cls := "java/lang/Throwable", name := "<init>", desc := "(Ljava/lang/String;Ljava/lang/Throwable;ZZ)V" } : Jvm.MethodName)) ∈ lw_all := lw_g (lw_at lw_m2 228 rfl) rfl
/-! java/lang/RuntimeException -/
set_option maxRecDepth 100000
def RJ2 : String := "java/lang/RuntimeException"
abbrev cJ2_init : ByteArray := prog_28_method_2_code
def yJ2_init : MethodName := ⟨RJ2, "<init>", "(Ljava/lang/String;)V"⟩
def dkwJ2_init_0 : List UInt8 := [42, 43, 183, 0, 7, 177]
abbrev dktJ2_init_0 : List UInt8 := dkwJ2_init_0 ++ []
theorem dksJ2_init_0 : cJ2_init.data.toList.drop 0 = dktJ2_init_0 := by decide +kernel
theorem dJ2_init_0 : decode cJ2_init 0 = .ok (.aload_n 0, 1) := dk_42 (dk_at dksJ2_init_0 0 rfl rfl)
theorem dJ2_init_1 : decode cJ2_init 1 = .ok (.aload_n 1, 1) := dk_43 (dk_at dksJ2_init_0 1 rfl rfl)
theorem dJ2_init_2 : decode cJ2_init 2 = .ok (.invokespecial 7, 3) := dk_183 0 7 (dk_at dksJ2_init_0 2 rfl rfl)
theorem dJ2_init_5 : decode cJ2_init 5 = .ok (.return_, 1) := dk_177 (dk_at dksJ2_init_0 5 rfl rfl)
abbrev cJ2_init_2 : ByteArray := prog_28_method_1_code
def yJ2_init_2 : MethodName := ⟨RJ2, "<init>", "()V"⟩
theorem dJ2_init_2_0 : decode cJ2_init_2 0 = .ok (.aload_n 0, 1) := by decide +kernel
theorem dJ2_init_2_1 : decode cJ2_init_2 1 = .ok (.invokespecial 1, 3) := by decide +kernel
theorem dJ2_init_2_4 : decode cJ2_init_2 4 = .ok (.return_, 1) := by decide +kernel
theorem q69 : (Jvm.Cond.initialized "java/lang/RuntimeException") ∈ lw_all := lw_g (lw_at lw_m1 10 rfl) rfl
theorem q248 : (Jvm.Cond.instanceMethod ({ cls := "java/lang/RuntimeException", name := "<init>", desc := "(Ljava/lang/String;)V" } : Jvm.MethodName)) ∈ lw_all := lw_g (lw_at lw_m1 189 rfl) rfl
theorem q249 : (Jvm.Cond.code ({ cls := "java/lang/RuntimeException", name := "<init>", desc := "(Ljava/lang/String;)V" } : Jvm.MethodName) prog_28_method_2_code (2 : Nat) (Option.none : Option Jvm.ClassFile.FieldType)) ∈ lw_all := lw_g (lw_at lw_m1 190 rfl) rfl
theorem q250 : (Jvm.Cond.methodLink "java/lang/RuntimeException" (7 : Nat) ({ cls := "java/lang/Exception", name := "<init>", desc := "(Ljava/lang/String;)V" } : Jvm.MethodName)) ∈ lw_all := lw_g (lw_at lw_m1 191 rfl) rfl
theorem q278 : (Jvm.Cond.sameMethod "java/lang/RuntimeException" "java/lang/Throwable" "fillInStackTrace" "()Ljava/lang/Throwable;") ∈ lw_all := lw_g (lw_at lw_m1 219 rfl) rfl
theorem q281 : (Jvm.Cond.superclass "java/lang/RuntimeException" "java/lang/Exception") ∈ lw_all := lw_g (lw_at lw_m1 222 rfl) rfl
theorem q308 : (Jvm.Cond.declares ({ cls := "java/lang/RuntimeException", name := "<init>", desc := "()V" } : Jvm.MethodName)) ∈ lw_tbl := lw_at lw_m2 9 rfl
theorem q309 : (Jvm.Cond.declares ({ cls := "java/lang/RuntimeException", name := "<init>", desc := "(Ljava/lang/String;)V" } : Jvm.MethodName)) ∈ lw_tbl := lw_at lw_m2 10 rfl
theorem q359 : (Jvm.Cond.instanceMethod ({ cls := "java/lang/RuntimeException", name := "<init>", desc := "()V" } : Jvm.MethodName)) ∈ lw_all := lw_g (lw_at lw_m2 60 rfl) rfl
theorem q360 : (Jvm.Cond.code ({ cls := "java/lang/RuntimeException", name := "<init>", desc := "()V" } : Jvm.MethodName) prog_28_method_1_code (1 : Nat) (Option.none : Option Jvm.ClassFile.FieldType)) ∈ lw_all := lw_g (lw_at lw_m2 61 rfl) rfl
theorem q361 : (Jvm.Cond.methodLink "java/lang/RuntimeException" (1 : Nat) ({ cls := "java/lang/Exception", name := "<init>", desc := "()V" } : Jvm.MethodName)) ∈ lw_all := lw_g (lw_at lw_m2 62 rfl) rfl
theorem q379 : (Jvm.Cond.castable "java/lang/RuntimeException" "java/lang/Throwable") ∈ lw_tbl := lw_at lw_m2 80 rfl
/-! java/lang/NegativeArraySizeException -/
set_option maxRecDepth 100000
def RJ3 : String := "java/lang/NegativeArraySizeException"
def TJ3 : u_T := fun k => match k with
  | 0 => ("java/lang/Throwable", "backtrace", "Ljava/lang/Object;", false)
  | 1 => ("java/lang/Throwable", "detailMessage", "Ljava/lang/String;", false)
  | 2 => ("java/lang/Throwable", "cause", "Ljava/lang/Throwable;", false)
  | 3 => ("java/lang/Throwable", "stackTrace", "[Ljava/lang/StackTraceElement;", false)
  | 4 => ("java/lang/Throwable", "depth", "I", false)
  | _ => ("java/lang/Throwable", "suppressedExceptions", "Ljava/util/List;", false)
def tyJ3 : Nat → FieldType := fun k => match k with
  | 0 => .object "java/lang/Object"
  | 1 => .object "java/lang/String"
  | 2 => .object "java/lang/Throwable"
  | 3 => .array (.object "java/lang/StackTraceElement")
  | 4 => .int
  | _ => .object "java/util/List"
abbrev wsJ30 : List Cond := u_ws RJ3 TJ3 6
theorem nmJ3 : ∀ a, a < 6 → ∀ b, b < 6 → a ≠ b → (TJ3 a).2.1 ≠ (TJ3 b).2.1 := by decide +kernel
theorem tyJ3_ok : ∀ k, k < 6 → parseFieldDescriptor (TJ3 k).2.2.1 = some (tyJ3 k) := by decide +kernel
abbrev cJ3_init : ByteArray := prog_26_method_2_code
def yJ3_init : MethodName := ⟨RJ3, "<init>", "(Ljava/lang/String;)V"⟩
def dkwJ3_init_0 : List UInt8 := [42, 43, 183, 0, 7, 177]
abbrev dktJ3_init_0 : List UInt8 := dkwJ3_init_0 ++ []
theorem dksJ3_init_0 : cJ3_init.data.toList.drop 0 = dktJ3_init_0 := by decide +kernel
theorem dJ3_init_0 : decode cJ3_init 0 = .ok (.aload_n 0, 1) := dk_42 (dk_at dksJ3_init_0 0 rfl rfl)
theorem dJ3_init_1 : decode cJ3_init 1 = .ok (.aload_n 1, 1) := dk_43 (dk_at dksJ3_init_0 1 rfl rfl)
theorem dJ3_init_2 : decode cJ3_init 2 = .ok (.invokespecial 7, 3) := dk_183 0 7 (dk_at dksJ3_init_0 2 rfl rfl)
theorem dJ3_init_5 : decode cJ3_init 5 = .ok (.return_, 1) := dk_177 (dk_at dksJ3_init_0 5 rfl rfl)
theorem q70 : (Jvm.Cond.initialized "java/lang/NegativeArraySizeException") ∈ lw_all := lw_g (lw_at lw_m1 11 rfl) rfl
theorem q244 : (Jvm.Cond.instantiable "java/lang/NegativeArraySizeException" (6 : Nat)) ∈ lw_all := lw_g (lw_at lw_m1 185 rfl) rfl
theorem q245 : (Jvm.Cond.instanceMethod ({ cls := "java/lang/NegativeArraySizeException", name := "<init>", desc := "(Ljava/lang/String;)V" } : Jvm.MethodName)) ∈ lw_all := lw_g (lw_at lw_m1 186 rfl) rfl
theorem q246 : (Jvm.Cond.code ({ cls := "java/lang/NegativeArraySizeException", name := "<init>", desc := "(Ljava/lang/String;)V" } : Jvm.MethodName) prog_26_method_2_code (2 : Nat) (Option.none : Option Jvm.ClassFile.FieldType)) ∈ lw_all := lw_g (lw_at lw_m1 187 rfl) rfl
theorem q247 : (Jvm.Cond.methodLink "java/lang/NegativeArraySizeException" (7 : Nat) ({ cls := "java/lang/RuntimeException", name := "<init>", desc := "(Ljava/lang/String;)V" } : Jvm.MethodName)) ∈ lw_all := lw_g (lw_at lw_m1 188 rfl) rfl
theorem q268 : (Jvm.Cond.selects "java/lang/NegativeArraySizeException" ({ cls := "java/lang/Throwable", name := "fillInStackTrace", desc := "()Ljava/lang/Throwable;" } : Jvm.MethodName) ({ cls := "java/lang/Throwable", name := "fillInStackTrace", desc := "()Ljava/lang/Throwable;" } : Jvm.MethodName)) ∈ lw_all := lw_g (lw_at lw_m1 209 rfl) rfl
theorem q294 : (Jvm.Cond.lays "java/lang/NegativeArraySizeException" "java/lang/Throwable" "backtrace" "Ljava/lang/Object;") ∈ lw_all := lw_g (lw_at lw_m1 235 rfl) rfl
theorem q296 : (Jvm.Cond.lays "java/lang/NegativeArraySizeException" "java/lang/Throwable" "detailMessage" "Ljava/lang/String;") ∈ lw_all := lw_g (lw_at lw_m1 237 rfl) rfl
theorem q298 : (Jvm.Cond.lays "java/lang/NegativeArraySizeException" "java/lang/Throwable" "cause" "Ljava/lang/Throwable;") ∈ lw_all := lw_g (lw_at lw_m1 239 rfl) rfl
theorem q300 : (Jvm.Cond.lays "java/lang/NegativeArraySizeException" "java/lang/Throwable" "stackTrace" "[Ljava/lang/StackTraceElement;") ∈ lw_all := lw_g (lw_at lw_m2 1 rfl) rfl
theorem q302 : (Jvm.Cond.lays "java/lang/NegativeArraySizeException" "java/lang/Throwable" "depth" "I") ∈ lw_all := lw_g (lw_at lw_m2 3 rfl) rfl
theorem q304 : (Jvm.Cond.lays "java/lang/NegativeArraySizeException" "java/lang/Throwable" "suppressedExceptions" "Ljava/util/List;") ∈ lw_all := lw_g (lw_at lw_m2 5 rfl) rfl
theorem q306 : (Jvm.Cond.superclass "java/lang/NegativeArraySizeException" "java/lang/RuntimeException") ∈ lw_all := lw_g (lw_at lw_m2 7 rfl) rfl
theorem q307 : (Jvm.Cond.castable "java/lang/NegativeArraySizeException" "java/lang/NegativeArraySizeException") ∈ lw_tbl := lw_at lw_m2 8 rfl
theorem q314 : (Jvm.Cond.selects "java/lang/NegativeArraySizeException" ({ cls := "java/lang/Throwable", name := "fillInStackTrace", desc := "(I)Ljava/lang/Throwable;" } : Jvm.MethodName) ({ cls := "java/lang/Throwable", name := "fillInStackTrace", desc := "(I)Ljava/lang/Throwable;" } : Jvm.MethodName)) ∈ lw_all := lw_g (lw_at lw_m2 15 rfl) rfl
theorem in_J3 : ∀ w ∈ wsJ30, w ∈ lw_all := lw_in wsJ30 [294, 296, 298, 300, 302, 304] (by decide +kernel) (by decide +kernel)
/-! java/lang/String -/
set_option maxRecDepth 100000
def RJ4 : String := "java/lang/String"
def TJ4 : u_T := fun k => match k with
  | 0 => ("java/lang/String", "value", "[B", true)
  | _ => ("java/lang/String", "coder", "B", true)
def tyJ4 : Nat → FieldType := fun k => match k with
  | 0 => .array .byte
  | _ => .byte
abbrev wsJ40 : List Cond := u_ws RJ4 TJ4 2
theorem nmJ4 : ∀ a, a < 2 → ∀ b, b < 2 → a ≠ b → (TJ4 a).2.1 ≠ (TJ4 b).2.1 := by decide +kernel
theorem tyJ4_ok : ∀ k, k < 2 → parseFieldDescriptor (TJ4 k).2.2.1 = some (tyJ4 k) := by decide +kernel
abbrev cJ4_indexOf : ByteArray := prog_29_method_79_code
def yJ4_indexOf : MethodName := ⟨RJ4, "indexOf", "(I)I"⟩
def dkwJ4_indexOf_0 : List UInt8 := [42, 27, 3, 182, 2, 121, 172]
abbrev dktJ4_indexOf_0 : List UInt8 := dkwJ4_indexOf_0 ++ []
theorem dksJ4_indexOf_0 : cJ4_indexOf.data.toList.drop 0 = dktJ4_indexOf_0 := by decide +kernel
theorem dJ4_indexOf_0 : decode cJ4_indexOf 0 = .ok (.aload_n 0, 1) := dk_42 (dk_at dksJ4_indexOf_0 0 rfl rfl)
theorem dJ4_indexOf_1 : decode cJ4_indexOf 1 = .ok (.iload_n 1, 1) := dk_27 (dk_at dksJ4_indexOf_0 1 rfl rfl)
theorem dJ4_indexOf_2 : decode cJ4_indexOf 2 = .ok (.iconst 0, 1) := dk_3 (dk_at dksJ4_indexOf_0 2 rfl rfl)
theorem dJ4_indexOf_3 : decode cJ4_indexOf 3 = .ok (.invokevirtual 633, 3) := dk_182 2 121 (dk_at dksJ4_indexOf_0 3 rfl rfl)
theorem dJ4_indexOf_6 : decode cJ4_indexOf 6 = .ok (.ireturn, 1) := dk_172 (dk_at dksJ4_indexOf_0 6 rfl rfl)
abbrev cJ4_indexOf_2 : ByteArray := prog_29_method_80_code
def yJ4_indexOf_2 : MethodName := ⟨RJ4, "indexOf", "(II)I"⟩
def dkwJ4_indexOf_2_1 : List UInt8 := [180, 0, 9, 27, 28, 42, 182, 1, 249, 184, 2, 128, 172]
abbrev dktJ4_indexOf_2_1 : List UInt8 := dkwJ4_indexOf_2_1 ++ []
def dkwJ4_indexOf_2_0 : List UInt8 := [42, 182, 1, 236, 153, 0, 19, 42, 180, 0, 9, 27, 28, 42, 182, 1, 249, 184, 2, 125, 167, 0, 16, 42]
abbrev dktJ4_indexOf_2_0 : List UInt8 := dkwJ4_indexOf_2_0 ++ dktJ4_indexOf_2_1
theorem dksJ4_indexOf_2_0 : cJ4_indexOf_2.data.toList.drop 0 = dktJ4_indexOf_2_0 := by decide +kernel
theorem dksJ4_indexOf_2_1 : cJ4_indexOf_2.data.toList.drop 24 = dktJ4_indexOf_2_1 := dk_seg dksJ4_indexOf_2_0 24 rfl rfl
theorem dJ4_indexOf_2_0 : decode cJ4_indexOf_2 0 = .ok (.aload_n 0, 1) := dk_42 (dk_at dksJ4_indexOf_2_0 0 rfl rfl)
theorem dJ4_indexOf_2_1 : decode cJ4_indexOf_2 1 = .ok (.invokevirtual 492, 3) := dk_182 1 236 (dk_at dksJ4_indexOf_2_0 1 rfl rfl)
theorem dJ4_indexOf_2_4 : decode cJ4_indexOf_2 4 = .ok (.ifCond .eq 19, 3) := dk_153 0 19 (dk_at dksJ4_indexOf_2_0 4 rfl rfl)
theorem dJ4_indexOf_2_7 : decode cJ4_indexOf_2 7 = .ok (.aload_n 0, 1) := dk_42 (dk_at dksJ4_indexOf_2_0 7 rfl rfl)
theorem dJ4_indexOf_2_8 : decode cJ4_indexOf_2 8 = .ok (.getfield 9, 3) := dk_180 0 9 (dk_at dksJ4_indexOf_2_0 8 rfl rfl)
theorem dJ4_indexOf_2_11 : decode cJ4_indexOf_2 11 = .ok (.iload_n 1, 1) := dk_27 (dk_at dksJ4_indexOf_2_0 11 rfl rfl)
theorem dJ4_indexOf_2_12 : decode cJ4_indexOf_2 12 = .ok (.iload_n 2, 1) := dk_28 (dk_at dksJ4_indexOf_2_0 12 rfl rfl)
theorem dJ4_indexOf_2_13 : decode cJ4_indexOf_2 13 = .ok (.aload_n 0, 1) := dk_42 (dk_at dksJ4_indexOf_2_0 13 rfl rfl)
theorem dJ4_indexOf_2_14 : decode cJ4_indexOf_2 14 = .ok (.invokevirtual 505, 3) := dk_182 1 249 (dk_at dksJ4_indexOf_2_0 14 rfl rfl)
theorem dJ4_indexOf_2_17 : decode cJ4_indexOf_2 17 = .ok (.invokestatic 637, 3) := dk_184 2 125 (dk_at dksJ4_indexOf_2_0 17 rfl rfl)
theorem dJ4_indexOf_2_20 : decode cJ4_indexOf_2 20 = .ok (.goto 16, 3) := dk_167 0 16 (dk_at dksJ4_indexOf_2_0 20 rfl rfl)
theorem dJ4_indexOf_2_23 : decode cJ4_indexOf_2 23 = .ok (.aload_n 0, 1) := dk_42 (dk_at dksJ4_indexOf_2_0 23 rfl rfl)
theorem dJ4_indexOf_2_24 : decode cJ4_indexOf_2 24 = .ok (.getfield 9, 3) := dk_180 0 9 (dk_at dksJ4_indexOf_2_1 0 rfl rfl)
theorem dJ4_indexOf_2_27 : decode cJ4_indexOf_2 27 = .ok (.iload_n 1, 1) := dk_27 (dk_at dksJ4_indexOf_2_1 3 rfl rfl)
theorem dJ4_indexOf_2_28 : decode cJ4_indexOf_2 28 = .ok (.iload_n 2, 1) := dk_28 (dk_at dksJ4_indexOf_2_1 4 rfl rfl)
theorem dJ4_indexOf_2_29 : decode cJ4_indexOf_2 29 = .ok (.aload_n 0, 1) := dk_42 (dk_at dksJ4_indexOf_2_1 5 rfl rfl)
theorem dJ4_indexOf_2_30 : decode cJ4_indexOf_2 30 = .ok (.invokevirtual 505, 3) := dk_182 1 249 (dk_at dksJ4_indexOf_2_1 6 rfl rfl)
theorem dJ4_indexOf_2_33 : decode cJ4_indexOf_2 33 = .ok (.invokestatic 640, 3) := dk_184 2 128 (dk_at dksJ4_indexOf_2_1 9 rfl rfl)
theorem dJ4_indexOf_2_36 : decode cJ4_indexOf_2 36 = .ok (.ireturn, 1) := dk_172 (dk_at dksJ4_indexOf_2_1 12 rfl rfl)
abbrev cJ4_isLatin1 : ByteArray := prog_29_method_154_code
def yJ4_isLatin1 : MethodName := ⟨RJ4, "isLatin1", "()Z"⟩
def dkwJ4_isLatin1_0 : List UInt8 := [178, 0, 38, 153, 0, 14, 42, 180, 0, 15, 154, 0, 7, 4, 167, 0, 4, 3, 172]
abbrev dktJ4_isLatin1_0 : List UInt8 := dkwJ4_isLatin1_0 ++ []
theorem dksJ4_isLatin1_0 : cJ4_isLatin1.data.toList.drop 0 = dktJ4_isLatin1_0 := by decide +kernel
theorem dJ4_isLatin1_0 : decode cJ4_isLatin1 0 = .ok (.getstatic 38, 3) := dk_178 0 38 (dk_at dksJ4_isLatin1_0 0 rfl rfl)
theorem dJ4_isLatin1_3 : decode cJ4_isLatin1 3 = .ok (.ifCond .eq 14, 3) := dk_153 0 14 (dk_at dksJ4_isLatin1_0 3 rfl rfl)
theorem dJ4_isLatin1_6 : decode cJ4_isLatin1 6 = .ok (.aload_n 0, 1) := dk_42 (dk_at dksJ4_isLatin1_0 6 rfl rfl)
theorem dJ4_isLatin1_7 : decode cJ4_isLatin1 7 = .ok (.getfield 15, 3) := dk_180 0 15 (dk_at dksJ4_isLatin1_0 7 rfl rfl)
theorem dJ4_isLatin1_10 : decode cJ4_isLatin1 10 = .ok (.ifCond .ne 7, 3) := dk_154 0 7 (dk_at dksJ4_isLatin1_0 10 rfl rfl)
theorem dJ4_isLatin1_13 : decode cJ4_isLatin1 13 = .ok (.iconst 1, 1) := dk_4 (dk_at dksJ4_isLatin1_0 13 rfl rfl)
theorem dJ4_isLatin1_14 : decode cJ4_isLatin1 14 = .ok (.goto 4, 3) := dk_167 0 4 (dk_at dksJ4_isLatin1_0 14 rfl rfl)
theorem dJ4_isLatin1_17 : decode cJ4_isLatin1 17 = .ok (.iconst 0, 1) := dk_3 (dk_at dksJ4_isLatin1_0 17 rfl rfl)
theorem dJ4_isLatin1_18 : decode cJ4_isLatin1 18 = .ok (.ireturn, 1) := dk_172 (dk_at dksJ4_isLatin1_0 18 rfl rfl)
abbrev cJ4_length : ByteArray := prog_29_method_54_code
def yJ4_length : MethodName := ⟨RJ4, "length", "()I"⟩
def dkwJ4_length_0 : List UInt8 := [42, 180, 0, 9, 190, 42, 182, 1, 79, 122, 172]
abbrev dktJ4_length_0 : List UInt8 := dkwJ4_length_0 ++ []
theorem dksJ4_length_0 : cJ4_length.data.toList.drop 0 = dktJ4_length_0 := by decide +kernel
theorem dJ4_length_0 : decode cJ4_length 0 = .ok (.aload_n 0, 1) := dk_42 (dk_at dksJ4_length_0 0 rfl rfl)
theorem dJ4_length_1 : decode cJ4_length 1 = .ok (.getfield 9, 3) := dk_180 0 9 (dk_at dksJ4_length_0 1 rfl rfl)
theorem dJ4_length_4 : decode cJ4_length 4 = .ok (.arraylength, 1) := dk_190 (dk_at dksJ4_length_0 4 rfl rfl)
theorem dJ4_length_5 : decode cJ4_length 5 = .ok (.aload_n 0, 1) := dk_42 (dk_at dksJ4_length_0 5 rfl rfl)
theorem dJ4_length_6 : decode cJ4_length 6 = .ok (.invokevirtual 335, 3) := dk_182 1 79 (dk_at dksJ4_length_0 6 rfl rfl)
theorem dJ4_length_9 : decode cJ4_length 9 = .ok (.ishr, 1) := dk_122 (dk_at dksJ4_length_0 9 rfl rfl)
theorem dJ4_length_10 : decode cJ4_length 10 = .ok (.ireturn, 1) := dk_172 (dk_at dksJ4_length_0 10 rfl rfl)
abbrev cJ4_coder : ByteArray := prog_29_method_152_code
def yJ4_coder : MethodName := ⟨RJ4, "coder", "()B"⟩
def dkwJ4_coder_0 : List UInt8 := [178, 0, 38, 153, 0, 10, 42, 180, 0, 15, 167, 0, 4, 4, 172]
abbrev dktJ4_coder_0 : List UInt8 := dkwJ4_coder_0 ++ []
theorem dksJ4_coder_0 : cJ4_coder.data.toList.drop 0 = dktJ4_coder_0 := by decide +kernel
theorem dJ4_coder_0 : decode cJ4_coder 0 = .ok (.getstatic 38, 3) := dk_178 0 38 (dk_at dksJ4_coder_0 0 rfl rfl)
theorem dJ4_coder_3 : decode cJ4_coder 3 = .ok (.ifCond .eq 10, 3) := dk_153 0 10 (dk_at dksJ4_coder_0 3 rfl rfl)
theorem dJ4_coder_6 : decode cJ4_coder 6 = .ok (.aload_n 0, 1) := dk_42 (dk_at dksJ4_coder_0 6 rfl rfl)
theorem dJ4_coder_7 : decode cJ4_coder 7 = .ok (.getfield 15, 3) := dk_180 0 15 (dk_at dksJ4_coder_0 7 rfl rfl)
theorem dJ4_coder_10 : decode cJ4_coder 10 = .ok (.goto 4, 3) := dk_167 0 4 (dk_at dksJ4_coder_0 10 rfl rfl)
theorem dJ4_coder_13 : decode cJ4_coder 13 = .ok (.iconst 1, 1) := dk_4 (dk_at dksJ4_coder_0 13 rfl rfl)
theorem dJ4_coder_14 : decode cJ4_coder 14 = .ok (.ireturn, 1) := dk_172 (dk_at dksJ4_coder_0 14 rfl rfl)
abbrev cJ4_checkBoundsBeginEnd : ByteArray := prog_29_method_158_code
def yJ4_checkBoundsBeginEnd : MethodName := ⟨RJ4, "checkBoundsBeginEnd", "(III)V"⟩
def dkwJ4_checkBoundsBeginEnd_0 : List UInt8 := [26, 27, 28, 178, 4, 29, 184, 4, 38, 87, 177]
abbrev dktJ4_checkBoundsBeginEnd_0 : List UInt8 := dkwJ4_checkBoundsBeginEnd_0 ++ []
theorem dksJ4_checkBoundsBeginEnd_0 : cJ4_checkBoundsBeginEnd.data.toList.drop 0 = dktJ4_checkBoundsBeginEnd_0 := by decide +kernel
theorem dJ4_checkBoundsBeginEnd_0 : decode cJ4_checkBoundsBeginEnd 0 = .ok (.iload_n 0, 1) := dk_26 (dk_at dksJ4_checkBoundsBeginEnd_0 0 rfl rfl)
theorem dJ4_checkBoundsBeginEnd_1 : decode cJ4_checkBoundsBeginEnd 1 = .ok (.iload_n 1, 1) := dk_27 (dk_at dksJ4_checkBoundsBeginEnd_0 1 rfl rfl)
theorem dJ4_checkBoundsBeginEnd_2 : decode cJ4_checkBoundsBeginEnd 2 = .ok (.iload_n 2, 1) := dk_28 (dk_at dksJ4_checkBoundsBeginEnd_0 2 rfl rfl)
theorem dJ4_checkBoundsBeginEnd_3 : decode cJ4_checkBoundsBeginEnd 3 = .ok (.getstatic 1053, 3) := dk_178 4 29 (dk_at dksJ4_checkBoundsBeginEnd_0 3 rfl rfl)
theorem dJ4_checkBoundsBeginEnd_6 : decode cJ4_checkBoundsBeginEnd 6 = .ok (.invokestatic 1062, 3) := dk_184 4 38 (dk_at dksJ4_checkBoundsBeginEnd_0 6 rfl rfl)
theorem dJ4_checkBoundsBeginEnd_9 : decode cJ4_checkBoundsBeginEnd 9 = .ok (.pop, 1) := dk_87 (dk_at dksJ4_checkBoundsBeginEnd_0 9 rfl rfl)
theorem dJ4_checkBoundsBeginEnd_10 : decode cJ4_checkBoundsBeginEnd 10 = .ok (.return_, 1) := dk_177 (dk_at dksJ4_checkBoundsBeginEnd_0 10 rfl rfl)
theorem q71 : (Jvm.Cond.initialized "java/lang/String") ∈ lw_all := lw_g (lw_at lw_m1 12 rfl) rfl
theorem q324 : (Jvm.Cond.instantiable "java/lang/String" (4 : Nat)) ∈ lw_all := lw_g (lw_at lw_m2 25 rfl) rfl
theorem q325 : (Jvm.Cond.laysFinal "java/lang/String" "java/lang/String" "value" "[B") ∈ lw_all := lw_g (lw_at lw_m2 26 rfl) rfl
theorem q326 : (Jvm.Cond.soleField "java/lang/String" "value") ∈ lw_all := lw_g (lw_at lw_m2 27 rfl) rfl
theorem q327 : (Jvm.Cond.laysFinal "java/lang/String" "java/lang/String" "coder" "B") ∈ lw_all := lw_g (lw_at lw_m2 28 rfl) rfl
theorem q328 : (Jvm.Cond.soleField "java/lang/String" "coder") ∈ lw_all := lw_g (lw_at lw_m2 29 rfl) rfl
theorem q550 : (Jvm.Cond.instanceMethod ({ cls := "java/lang/String", name := "indexOf", desc := "(I)I" } : Jvm.MethodName)) ∈ lw_all := lw_g (lw_at lw_m3 11 rfl) rfl
theorem q551 : (Jvm.Cond.selects "java/lang/String" ({ cls := "java/lang/String", name := "indexOf", desc := "(I)I" } : Jvm.MethodName) ({ cls := "java/lang/String", name := "indexOf", desc := "(I)I" } : Jvm.MethodName)) ∈ lw_all := lw_g (lw_at lw_m3 12 rfl) rfl
theorem q552 : (Jvm.Cond.code ({ cls := "java/lang/String", name := "indexOf", desc := "(I)I" } : Jvm.MethodName) prog_29_method_79_code (2 : Nat) (Option.some Jvm.ClassFile.FieldType.int)) ∈ lw_all := lw_g (lw_at lw_m3 13 rfl) rfl
theorem q553 : (Jvm.Cond.methodLink "java/lang/String" (633 : Nat) ({ cls := "java/lang/String", name := "indexOf", desc := "(II)I" } : Jvm.MethodName)) ∈ lw_all := lw_g (lw_at lw_m3 14 rfl) rfl
theorem q554 : (Jvm.Cond.instanceMethod ({ cls := "java/lang/String", name := "indexOf", desc := "(II)I" } : Jvm.MethodName)) ∈ lw_all := lw_g (lw_at lw_m3 15 rfl) rfl
theorem q555 : (Jvm.Cond.selects "java/lang/String" ({ cls := "java/lang/String", name := "indexOf", desc := "(II)I" } : Jvm.MethodName) ({ cls := "java/lang/String", name := "indexOf", desc := "(II)I" } : Jvm.MethodName)) ∈ lw_all := lw_g (lw_at lw_m3 16 rfl) rfl
theorem q556 : (Jvm.Cond.code ({ cls := "java/lang/String", name := "indexOf", desc := "(II)I" } : Jvm.MethodName) prog_29_method_80_code (3 : Nat) (Option.some Jvm.ClassFile.FieldType.int)) ∈ lw_all := lw_g (lw_at lw_m3 17 rfl) rfl
theorem q557 : (Jvm.Cond.methodLink "java/lang/String" (492 : Nat) ({ cls := "java/lang/String", name := "isLatin1", desc := "()Z" } : Jvm.MethodName)) ∈ lw_all := lw_g (lw_at lw_m3 18 rfl) rfl
theorem q558 : (Jvm.Cond.instanceMethod ({ cls := "java/lang/String", name := "isLatin1", desc := "()Z" } : Jvm.MethodName)) ∈ lw_all := lw_g (lw_at lw_m3 19 rfl) rfl
theorem q559 : (Jvm.Cond.selects "java/lang/String" ({ cls := "java/lang/String", name := "isLatin1", desc := "()Z" } : Jvm.MethodName) ({ cls := "java/lang/String", name := "isLatin1", desc := "()Z" } : Jvm.MethodName)) ∈ lw_all := lw_g (lw_at lw_m3 20 rfl) rfl
theorem q560 : (Jvm.Cond.code ({ cls := "java/lang/String", name := "isLatin1", desc := "()Z" } : Jvm.MethodName) prog_29_method_154_code (1 : Nat) (Option.some Jvm.ClassFile.FieldType.boolean)) ∈ lw_all := lw_g (lw_at lw_m3 21 rfl) rfl
theorem q561 : (Jvm.Cond.fieldLink "java/lang/String" (38 : Nat) "java/lang/String" "COMPACT_STRINGS" "Z") ∈ lw_all := lw_g (lw_at lw_m3 22 rfl) rfl
theorem q562 : (Jvm.Cond.laysStatic "java/lang/String" "COMPACT_STRINGS" "Z") ∈ lw_tbl := lw_at lw_m3 23 rfl
theorem q563 : (Jvm.Cond.methodLink "java/lang/String" (505 : Nat) ({ cls := "java/lang/String", name := "length", desc := "()I" } : Jvm.MethodName)) ∈ lw_all := lw_g (lw_at lw_m3 24 rfl) rfl
theorem q564 : (Jvm.Cond.instanceMethod ({ cls := "java/lang/String", name := "length", desc := "()I" } : Jvm.MethodName)) ∈ lw_all := lw_g (lw_at lw_m3 25 rfl) rfl
theorem q565 : (Jvm.Cond.selects "java/lang/String" ({ cls := "java/lang/String", name := "length", desc := "()I" } : Jvm.MethodName) ({ cls := "java/lang/String", name := "length", desc := "()I" } : Jvm.MethodName)) ∈ lw_all := lw_g (lw_at lw_m3 26 rfl) rfl
theorem q566 : (Jvm.Cond.code ({ cls := "java/lang/String", name := "length", desc := "()I" } : Jvm.MethodName) prog_29_method_54_code (1 : Nat) (Option.some Jvm.ClassFile.FieldType.int)) ∈ lw_all := lw_g (lw_at lw_m3 27 rfl) rfl
theorem q567 : (Jvm.Cond.methodLink "java/lang/String" (335 : Nat) ({ cls := "java/lang/String", name := "coder", desc := "()B" } : Jvm.MethodName)) ∈ lw_all := lw_g (lw_at lw_m3 28 rfl) rfl
theorem q568 : (Jvm.Cond.instanceMethod ({ cls := "java/lang/String", name := "coder", desc := "()B" } : Jvm.MethodName)) ∈ lw_all := lw_g (lw_at lw_m3 29 rfl) rfl
theorem q569 : (Jvm.Cond.selects "java/lang/String" ({ cls := "java/lang/String", name := "coder", desc := "()B" } : Jvm.MethodName) ({ cls := "java/lang/String", name := "coder", desc := "()B" } : Jvm.MethodName)) ∈ lw_all := lw_g (lw_at lw_m3 30 rfl) rfl
theorem q570 : (Jvm.Cond.code ({ cls := "java/lang/String", name := "coder", desc := "()B" } : Jvm.MethodName) prog_29_method_152_code (1 : Nat) (Option.some Jvm.ClassFile.FieldType.byte)) ∈ lw_all := lw_g (lw_at lw_m3 31 rfl) rfl
theorem q571 : (Jvm.Cond.methodLink "java/lang/String" (637 : Nat) ({ cls := "java/lang/StringLatin1", name := "indexOf", desc := "([BIII)I" } : Jvm.MethodName)) ∈ lw_all := lw_g (lw_at lw_m3 32 rfl) rfl
theorem q586 : (Jvm.Cond.methodLink "java/lang/String" (640 : Nat) ({ cls := "java/lang/StringUTF16", name := "indexOf", desc := "([BIII)I" } : Jvm.MethodName)) ∈ lw_all := lw_g (lw_at lw_m3 47 rfl) rfl
theorem q602 : (Jvm.Cond.static ({ cls := "java/lang/String", name := "checkBoundsBeginEnd", desc := "(III)V" } : Jvm.MethodName)) ∈ lw_all := lw_g (lw_at lw_m3 63 rfl) rfl
theorem q603 : (Jvm.Cond.code ({ cls := "java/lang/String", name := "checkBoundsBeginEnd", desc := "(III)V" } : Jvm.MethodName) prog_29_method_158_code (3 : Nat) (Option.none : Option Jvm.ClassFile.FieldType)) ∈ lw_all := lw_g (lw_at lw_m3 64 rfl) rfl
theorem q604 : (Jvm.Cond.fieldLink "java/lang/String" (1053 : Nat) "jdk/internal/util/Preconditions" "SIOOBE_FORMATTER" "Ljava/util/function/BiFunction;") ∈ lw_all := lw_g (lw_at lw_m3 65 rfl) rfl
theorem q606 : (Jvm.Cond.methodLink "java/lang/String" (1062 : Nat) ({ cls := "jdk/internal/util/Preconditions", name := "checkFromToIndex", desc := "(IIILjava/util/function/BiFunction;)I" } : Jvm.MethodName)) ∈ lw_all := lw_g (lw_at lw_m3 67 rfl) rfl
theorem q1512 : (Jvm.Cond.fieldLink "java/lang/String" (15 : Nat) "java/lang/String" "coder" "B") ∈ lw_all := lw_g (lw_at lw_m7 13 rfl) rfl
theorem q1513 : (Jvm.Cond.fieldLink "java/lang/String" (9 : Nat) "java/lang/String" "value" "[B") ∈ lw_all := lw_g (lw_at lw_m7 14 rfl) rfl
theorem in_J4 : ∀ w ∈ wsJ40, w ∈ lw_all := lw_in wsJ40 [325, 327] (by decide +kernel) (by decide +kernel)
/-! java/lang/NullPointerException -/
set_option maxRecDepth 100000
def RJ5 : String := "java/lang/NullPointerException"
def TJ5 : u_T := fun k => match k with
  | 0 => ("java/lang/Throwable", "backtrace", "Ljava/lang/Object;", false)
  | 1 => ("java/lang/Throwable", "detailMessage", "Ljava/lang/String;", false)
  | 2 => ("java/lang/Throwable", "cause", "Ljava/lang/Throwable;", false)
  | 3 => ("java/lang/Throwable", "stackTrace", "[Ljava/lang/StackTraceElement;", false)
  | 4 => ("java/lang/Throwable", "depth", "I", false)
  | 5 => ("java/lang/Throwable", "suppressedExceptions", "Ljava/util/List;", false)
  | 6 => ("java/lang/NullPointerException", "extendedMessageState", "I", false)
  | _ => ("java/lang/NullPointerException", "extendedMessage", "Ljava/lang/String;", false)
def tyJ5 : Nat → FieldType := fun k => match k with
  | 0 => .object "java/lang/Object"
  | 1 => .object "java/lang/String"
  | 2 => .object "java/lang/Throwable"
  | 3 => .array (.object "java/lang/StackTraceElement")
  | 4 => .int
  | 5 => .object "java/util/List"
  | 6 => .int
  | _ => .object "java/lang/String"
abbrev wsJ50 : List Cond := u_ws RJ5 TJ5 8
theorem nmJ5 : ∀ a, a < 8 → ∀ b, b < 8 → a ≠ b → (TJ5 a).2.1 ≠ (TJ5 b).2.1 := by decide +kernel
theorem tyJ5_ok : ∀ k, k < 8 → parseFieldDescriptor (TJ5 k).2.2.1 = some (tyJ5 k) := by decide +kernel
abbrev cJ5_init : ByteArray := prog_27_method_1_code
def yJ5_init : MethodName := ⟨RJ5, "<init>", "()V"⟩
theorem dJ5_init_0 : decode cJ5_init 0 = .ok (.aload_n 0, 1) := by decide +kernel
theorem dJ5_init_1 : decode cJ5_init 1 = .ok (.invokespecial 1, 3) := by decide +kernel
theorem dJ5_init_4 : decode cJ5_init 4 = .ok (.return_, 1) := by decide +kernel
theorem q72 : (Jvm.Cond.initialized "java/lang/NullPointerException") ∈ lw_all := lw_g (lw_at lw_m1 13 rfl) rfl
theorem q269 : (Jvm.Cond.selects "java/lang/NullPointerException" ({ cls := "java/lang/Throwable", name := "fillInStackTrace", desc := "()Ljava/lang/Throwable;" } : Jvm.MethodName) ({ cls := "java/lang/NullPointerException", name := "fillInStackTrace", desc := "()Ljava/lang/Throwable;" } : Jvm.MethodName)) ∈ lw_all := lw_g (lw_at lw_m1 210 rfl) rfl
theorem q270 : (Jvm.Cond.instanceMethod ({ cls := "java/lang/NullPointerException", name := "fillInStackTrace", desc := "()Ljava/lang/Throwable;" } : Jvm.MethodName)) ∈ lw_all := lw_g (lw_at lw_m1 211 rfl) rfl
theorem q271 : (Jvm.Cond.codeSync ({ cls := "java/lang/NullPointerException", name := "fillInStackTrace", desc := "()Ljava/lang/Throwable;" } : Jvm.MethodName) prog_27_method_3_code (1 : Nat) (Option.some (Jvm.ClassFile.FieldType.object "java/lang/Throwable"))) ∈ lw_all := lw_g (lw_at lw_m1 212 rfl) rfl
theorem q272 : (Jvm.Cond.methodLink "java/lang/NullPointerException" (16 : Nat) ({ cls := "java/lang/NullPointerException", name := "getExtendedNPEMessage", desc := "()Ljava/lang/String;" } : Jvm.MethodName)) ∈ lw_all := lw_g (lw_at lw_m1 213 rfl) rfl
theorem q273 : (Jvm.Cond.privateMethod ({ cls := "java/lang/NullPointerException", name := "getExtendedNPEMessage", desc := "()Ljava/lang/String;" } : Jvm.MethodName)) ∈ lw_tbl := lw_at lw_m1 214 rfl
theorem q274 : (Jvm.Cond.instanceMethod ({ cls := "java/lang/NullPointerException", name := "getExtendedNPEMessage", desc := "()Ljava/lang/String;" } : Jvm.MethodName)) ∈ lw_all := lw_g (lw_at lw_m1 215 rfl) rfl
theorem q275 : (Jvm.Cond.instantiable "java/lang/NullPointerException" (8 : Nat)) ∈ lw_all := lw_g (lw_at lw_m1 216 rfl) rfl
theorem q276 : (Jvm.Cond.native ({ cls := "java/lang/NullPointerException", name := "getExtendedNPEMessage", desc := "()Ljava/lang/String;" } : Jvm.MethodName)) ∈ lw_all := lw_g (lw_at lw_m1 217 rfl) rfl
theorem q277 : (Jvm.Cond.methodLink "java/lang/NullPointerException" (24 : Nat) ({ cls := "java/lang/RuntimeException", name := "fillInStackTrace", desc := "()Ljava/lang/Throwable;" } : Jvm.MethodName)) ∈ lw_all := lw_g (lw_at lw_m1 218 rfl) rfl
theorem q280 : (Jvm.Cond.superclass "java/lang/NullPointerException" "java/lang/RuntimeException") ∈ lw_all := lw_g (lw_at lw_m1 221 rfl) rfl
theorem q356 : (Jvm.Cond.instanceMethod ({ cls := "java/lang/NullPointerException", name := "<init>", desc := "()V" } : Jvm.MethodName)) ∈ lw_all := lw_g (lw_at lw_m2 57 rfl) rfl
theorem q357 : (Jvm.Cond.code ({ cls := "java/lang/NullPointerException", name := "<init>", desc := "()V" } : Jvm.MethodName) prog_27_method_1_code (1 : Nat) (Option.none : Option Jvm.ClassFile.FieldType)) ∈ lw_all := lw_g (lw_at lw_m2 58 rfl) rfl
theorem q358 : (Jvm.Cond.methodLink "java/lang/NullPointerException" (1 : Nat) ({ cls := "java/lang/RuntimeException", name := "<init>", desc := "()V" } : Jvm.MethodName)) ∈ lw_all := lw_g (lw_at lw_m2 59 rfl) rfl
theorem q365 : (Jvm.Cond.fieldLink "java/lang/NullPointerException" (10 : Nat) "java/lang/NullPointerException" "extendedMessageState" "I") ∈ lw_all := lw_g (lw_at lw_m2 66 rfl) rfl
theorem q366 : (Jvm.Cond.fieldLink "java/lang/NullPointerException" (20 : Nat) "java/lang/NullPointerException" "extendedMessage" "Ljava/lang/String;") ∈ lw_all := lw_g (lw_at lw_m2 67 rfl) rfl
theorem q367 : (Jvm.Cond.lays "java/lang/NullPointerException" "java/lang/NullPointerException" "extendedMessageState" "I") ∈ lw_all := lw_g (lw_at lw_m2 68 rfl) rfl
theorem q368 : (Jvm.Cond.soleField "java/lang/NullPointerException" "extendedMessageState") ∈ lw_all := lw_g (lw_at lw_m2 69 rfl) rfl
theorem q369 : (Jvm.Cond.lays "java/lang/NullPointerException" "java/lang/NullPointerException" "extendedMessage" "Ljava/lang/String;") ∈ lw_all := lw_g (lw_at lw_m2 70 rfl) rfl
theorem q370 : (Jvm.Cond.soleField "java/lang/NullPointerException" "extendedMessage") ∈ lw_all := lw_g (lw_at lw_m2 71 rfl) rfl
theorem q371 : (Jvm.Cond.lays "java/lang/NullPointerException" "java/lang/Throwable" "backtrace" "Ljava/lang/Object;") ∈ lw_all := lw_g (lw_at lw_m2 72 rfl) rfl
theorem q372 : (Jvm.Cond.lays "java/lang/NullPointerException" "java/lang/Throwable" "detailMessage" "Ljava/lang/String;") ∈ lw_all := lw_g (lw_at lw_m2 73 rfl) rfl
theorem q373 : (Jvm.Cond.lays "java/lang/NullPointerException" "java/lang/Throwable" "cause" "Ljava/lang/Throwable;") ∈ lw_all := lw_g (lw_at lw_m2 74 rfl) rfl
theorem q374 : (Jvm.Cond.lays "java/lang/NullPointerException" "java/lang/Throwable" "stackTrace" "[Ljava/lang/StackTraceElement;") ∈ lw_all := lw_g (lw_at lw_m2 75 rfl) rfl
theorem q375 : (Jvm.Cond.lays "java/lang/NullPointerException" "java/lang/Throwable" "depth" "I") ∈ lw_all := lw_g (lw_at lw_m2 76 rfl) rfl
theorem q376 : (Jvm.Cond.lays "java/lang/NullPointerException" "java/lang/Throwable" "suppressedExceptions" "Ljava/util/List;") ∈ lw_all := lw_g (lw_at lw_m2 77 rfl) rfl
theorem q377 : (Jvm.Cond.castable "java/lang/NullPointerException" "java/lang/NullPointerException") ∈ lw_tbl := lw_at lw_m2 78 rfl
theorem q378 : (Jvm.Cond.selects "java/lang/NullPointerException" ({ cls := "java/lang/Throwable", name := "fillInStackTrace", desc := "(I)Ljava/lang/Throwable;" } : Jvm.MethodName) ({ cls := "java/lang/Throwable", name := "fillInStackTrace", desc := "(I)Ljava/lang/Throwable;" } : Jvm.MethodName)) ∈ lw_all := lw_g (lw_at lw_m2 79 rfl) rfl
theorem in_J5 : ∀ w ∈ wsJ50, w ∈ lw_all := lw_in wsJ50 [371, 372, 373, 374, 375, 376, 367, 369] (by decide +kernel) (by decide +kernel)
/-! java/lang/IndexOutOfBoundsException -/
set_option maxRecDepth 100000
def RJ6 : String := "java/lang/IndexOutOfBoundsException"
abbrev cJ6_init : ByteArray := prog_23_method_2_code
def yJ6_init : MethodName := ⟨RJ6, "<init>", "(Ljava/lang/String;)V"⟩
def dkwJ6_init_0 : List UInt8 := [42, 43, 183, 0, 7, 177]
abbrev dktJ6_init_0 : List UInt8 := dkwJ6_init_0 ++ []
theorem dksJ6_init_0 : cJ6_init.data.toList.drop 0 = dktJ6_init_0 := by decide +kernel
theorem dJ6_init_0 : decode cJ6_init 0 = .ok (.aload_n 0, 1) := dk_42 (dk_at dksJ6_init_0 0 rfl rfl)
theorem dJ6_init_1 : decode cJ6_init 1 = .ok (.aload_n 1, 1) := dk_43 (dk_at dksJ6_init_0 1 rfl rfl)
theorem dJ6_init_2 : decode cJ6_init 2 = .ok (.invokespecial 7, 3) := dk_183 0 7 (dk_at dksJ6_init_0 2 rfl rfl)
theorem dJ6_init_5 : decode cJ6_init 5 = .ok (.return_, 1) := dk_177 (dk_at dksJ6_init_0 5 rfl rfl)
abbrev cJ6_init_2 : ByteArray := prog_23_method_1_code
def yJ6_init_2 : MethodName := ⟨RJ6, "<init>", "()V"⟩
theorem dJ6_init_2_0 : decode cJ6_init_2 0 = .ok (.aload_n 0, 1) := by decide +kernel
theorem dJ6_init_2_1 : decode cJ6_init_2 1 = .ok (.invokespecial 1, 3) := by decide +kernel
theorem dJ6_init_2_4 : decode cJ6_init_2 4 = .ok (.return_, 1) := by decide +kernel
theorem q73 : (Jvm.Cond.initialized "java/lang/IndexOutOfBoundsException") ∈ lw_all := lw_g (lw_at lw_m1 14 rfl) rfl
theorem q385 : (Jvm.Cond.instanceMethod ({ cls := "java/lang/IndexOutOfBoundsException", name := "<init>", desc := "(Ljava/lang/String;)V" } : Jvm.MethodName)) ∈ lw_all := lw_g (lw_at lw_m2 86 rfl) rfl
theorem q386 : (Jvm.Cond.code ({ cls := "java/lang/IndexOutOfBoundsException", name := "<init>", desc := "(Ljava/lang/String;)V" } : Jvm.MethodName) prog_23_method_2_code (2 : Nat) (Option.none : Option Jvm.ClassFile.FieldType)) ∈ lw_all := lw_g (lw_at lw_m2 87 rfl) rfl
theorem q387 : (Jvm.Cond.methodLink "java/lang/IndexOutOfBoundsException" (7 : Nat) ({ cls := "java/lang/RuntimeException", name := "<init>", desc := "(Ljava/lang/String;)V" } : Jvm.MethodName)) ∈ lw_all := lw_g (lw_at lw_m2 88 rfl) rfl
theorem q396 : (Jvm.Cond.declares ({ cls := "java/lang/IndexOutOfBoundsException", name := "<init>", desc := "()V" } : Jvm.MethodName)) ∈ lw_tbl := lw_at lw_m2 97 rfl
theorem q397 : (Jvm.Cond.declares ({ cls := "java/lang/IndexOutOfBoundsException", name := "<init>", desc := "(Ljava/lang/String;)V" } : Jvm.MethodName)) ∈ lw_tbl := lw_at lw_m2 98 rfl
theorem q890 : (Jvm.Cond.instanceMethod ({ cls := "java/lang/IndexOutOfBoundsException", name := "<init>", desc := "()V" } : Jvm.MethodName)) ∈ lw_all := lw_g (lw_at lw_m4 111 rfl) rfl
theorem q891 : (Jvm.Cond.code ({ cls := "java/lang/IndexOutOfBoundsException", name := "<init>", desc := "()V" } : Jvm.MethodName) prog_23_method_1_code (1 : Nat) (Option.none : Option Jvm.ClassFile.FieldType)) ∈ lw_all := lw_g (lw_at lw_m4 112 rfl) rfl
theorem q892 : (Jvm.Cond.methodLink "java/lang/IndexOutOfBoundsException" (1 : Nat) ({ cls := "java/lang/RuntimeException", name := "<init>", desc := "()V" } : Jvm.MethodName)) ∈ lw_all := lw_g (lw_at lw_m4 113 rfl) rfl
/-! java/lang/ArrayIndexOutOfBoundsException -/
set_option maxRecDepth 100000
def RJ7 : String := "java/lang/ArrayIndexOutOfBoundsException"
def TJ7 : u_T := fun k => match k with
  | 0 => ("java/lang/Throwable", "backtrace", "Ljava/lang/Object;", false)
  | 1 => ("java/lang/Throwable", "detailMessage", "Ljava/lang/String;", false)
  | 2 => ("java/lang/Throwable", "cause", "Ljava/lang/Throwable;", false)
  | 3 => ("java/lang/Throwable", "stackTrace", "[Ljava/lang/StackTraceElement;", false)
  | 4 => ("java/lang/Throwable", "depth", "I", false)
  | _ => ("java/lang/Throwable", "suppressedExceptions", "Ljava/util/List;", false)
def tyJ7 : Nat → FieldType := fun k => match k with
  | 0 => .object "java/lang/Object"
  | 1 => .object "java/lang/String"
  | 2 => .object "java/lang/Throwable"
  | 3 => .array (.object "java/lang/StackTraceElement")
  | 4 => .int
  | _ => .object "java/util/List"
abbrev wsJ70 : List Cond := u_ws RJ7 TJ7 6
theorem nmJ7 : ∀ a, a < 6 → ∀ b, b < 6 → a ≠ b → (TJ7 a).2.1 ≠ (TJ7 b).2.1 := by decide +kernel
theorem tyJ7_ok : ∀ k, k < 6 → parseFieldDescriptor (TJ7 k).2.2.1 = some (tyJ7 k) := by decide +kernel
abbrev cJ7_init : ByteArray := prog_18_method_2_code
def yJ7_init : MethodName := ⟨RJ7, "<init>", "(Ljava/lang/String;)V"⟩
def dkwJ7_init_0 : List UInt8 := [42, 43, 183, 0, 7, 177]
abbrev dktJ7_init_0 : List UInt8 := dkwJ7_init_0 ++ []
theorem dksJ7_init_0 : cJ7_init.data.toList.drop 0 = dktJ7_init_0 := by decide +kernel
theorem dJ7_init_0 : decode cJ7_init 0 = .ok (.aload_n 0, 1) := dk_42 (dk_at dksJ7_init_0 0 rfl rfl)
theorem dJ7_init_1 : decode cJ7_init 1 = .ok (.aload_n 1, 1) := dk_43 (dk_at dksJ7_init_0 1 rfl rfl)
theorem dJ7_init_2 : decode cJ7_init 2 = .ok (.invokespecial 7, 3) := dk_183 0 7 (dk_at dksJ7_init_0 2 rfl rfl)
theorem dJ7_init_5 : decode cJ7_init 5 = .ok (.return_, 1) := dk_177 (dk_at dksJ7_init_0 5 rfl rfl)
abbrev cJ7_init_2 : ByteArray := prog_18_method_1_code
def yJ7_init_2 : MethodName := ⟨RJ7, "<init>", "()V"⟩
theorem dJ7_init_2_0 : decode cJ7_init_2 0 = .ok (.aload_n 0, 1) := by decide +kernel
theorem dJ7_init_2_1 : decode cJ7_init_2 1 = .ok (.invokespecial 1, 3) := by decide +kernel
theorem dJ7_init_2_4 : decode cJ7_init_2 4 = .ok (.return_, 1) := by decide +kernel
theorem q74 : (Jvm.Cond.initialized "java/lang/ArrayIndexOutOfBoundsException") ∈ lw_all := lw_g (lw_at lw_m1 15 rfl) rfl
theorem q265 : (Jvm.Cond.selects "java/lang/ArrayIndexOutOfBoundsException" ({ cls := "java/lang/Throwable", name := "fillInStackTrace", desc := "()Ljava/lang/Throwable;" } : Jvm.MethodName) ({ cls := "java/lang/Throwable", name := "fillInStackTrace", desc := "()Ljava/lang/Throwable;" } : Jvm.MethodName)) ∈ lw_all := lw_g (lw_at lw_m1 206 rfl) rfl
theorem q381 : (Jvm.Cond.instantiable "java/lang/ArrayIndexOutOfBoundsException" (6 : Nat)) ∈ lw_all := lw_g (lw_at lw_m2 82 rfl) rfl
theorem q382 : (Jvm.Cond.instanceMethod ({ cls := "java/lang/ArrayIndexOutOfBoundsException", name := "<init>", desc := "(Ljava/lang/String;)V" } : Jvm.MethodName)) ∈ lw_all := lw_g (lw_at lw_m2 83 rfl) rfl
theorem q383 : (Jvm.Cond.code ({ cls := "java/lang/ArrayIndexOutOfBoundsException", name := "<init>", desc := "(Ljava/lang/String;)V" } : Jvm.MethodName) prog_18_method_2_code (2 : Nat) (Option.none : Option Jvm.ClassFile.FieldType)) ∈ lw_all := lw_g (lw_at lw_m2 84 rfl) rfl
theorem q384 : (Jvm.Cond.methodLink "java/lang/ArrayIndexOutOfBoundsException" (7 : Nat) ({ cls := "java/lang/IndexOutOfBoundsException", name := "<init>", desc := "(Ljava/lang/String;)V" } : Jvm.MethodName)) ∈ lw_all := lw_g (lw_at lw_m2 85 rfl) rfl
theorem q388 : (Jvm.Cond.lays "java/lang/ArrayIndexOutOfBoundsException" "java/lang/Throwable" "backtrace" "Ljava/lang/Object;") ∈ lw_all := lw_g (lw_at lw_m2 89 rfl) rfl
theorem q389 : (Jvm.Cond.lays "java/lang/ArrayIndexOutOfBoundsException" "java/lang/Throwable" "detailMessage" "Ljava/lang/String;") ∈ lw_all := lw_g (lw_at lw_m2 90 rfl) rfl
theorem q390 : (Jvm.Cond.lays "java/lang/ArrayIndexOutOfBoundsException" "java/lang/Throwable" "cause" "Ljava/lang/Throwable;") ∈ lw_all := lw_g (lw_at lw_m2 91 rfl) rfl
theorem q391 : (Jvm.Cond.lays "java/lang/ArrayIndexOutOfBoundsException" "java/lang/Throwable" "stackTrace" "[Ljava/lang/StackTraceElement;") ∈ lw_all := lw_g (lw_at lw_m2 92 rfl) rfl
theorem q392 : (Jvm.Cond.lays "java/lang/ArrayIndexOutOfBoundsException" "java/lang/Throwable" "depth" "I") ∈ lw_all := lw_g (lw_at lw_m2 93 rfl) rfl
theorem q393 : (Jvm.Cond.lays "java/lang/ArrayIndexOutOfBoundsException" "java/lang/Throwable" "suppressedExceptions" "Ljava/util/List;") ∈ lw_all := lw_g (lw_at lw_m2 94 rfl) rfl
theorem q394 : (Jvm.Cond.superclass "java/lang/ArrayIndexOutOfBoundsException" "java/lang/IndexOutOfBoundsException") ∈ lw_all := lw_g (lw_at lw_m2 95 rfl) rfl
theorem q395 : (Jvm.Cond.castable "java/lang/ArrayIndexOutOfBoundsException" "java/lang/ArrayIndexOutOfBoundsException") ∈ lw_tbl := lw_at lw_m2 96 rfl
theorem q398 : (Jvm.Cond.selects "java/lang/ArrayIndexOutOfBoundsException" ({ cls := "java/lang/Throwable", name := "fillInStackTrace", desc := "(I)Ljava/lang/Throwable;" } : Jvm.MethodName) ({ cls := "java/lang/Throwable", name := "fillInStackTrace", desc := "(I)Ljava/lang/Throwable;" } : Jvm.MethodName)) ∈ lw_all := lw_g (lw_at lw_m2 99 rfl) rfl
theorem q887 : (Jvm.Cond.instanceMethod ({ cls := "java/lang/ArrayIndexOutOfBoundsException", name := "<init>", desc := "()V" } : Jvm.MethodName)) ∈ lw_all := lw_g (lw_at lw_m4 108 rfl) rfl
theorem q888 : (Jvm.Cond.code ({ cls := "java/lang/ArrayIndexOutOfBoundsException", name := "<init>", desc := "()V" } : Jvm.MethodName) prog_18_method_1_code (1 : Nat) (Option.none : Option Jvm.ClassFile.FieldType)) ∈ lw_all := lw_g (lw_at lw_m4 109 rfl) rfl
theorem q889 : (Jvm.Cond.methodLink "java/lang/ArrayIndexOutOfBoundsException" (1 : Nat) ({ cls := "java/lang/IndexOutOfBoundsException", name := "<init>", desc := "()V" } : Jvm.MethodName)) ∈ lw_all := lw_g (lw_at lw_m4 110 rfl) rfl
theorem q1503 : (Jvm.Cond.castable "java/lang/ArrayIndexOutOfBoundsException" "java/lang/IndexOutOfBoundsException") ∈ lw_tbl := lw_at lw_m7 4 rfl
theorem in_J7 : ∀ w ∈ wsJ70, w ∈ lw_all := lw_in wsJ70 [388, 389, 390, 391, 392, 393] (by decide +kernel) (by decide +kernel)
/-! java/lang/ArrayStoreException -/
set_option maxRecDepth 100000
def RJ8 : String := "java/lang/ArrayStoreException"
def TJ8 : u_T := fun k => match k with
  | 0 => ("java/lang/Throwable", "backtrace", "Ljava/lang/Object;", false)
  | 1 => ("java/lang/Throwable", "detailMessage", "Ljava/lang/String;", false)
  | 2 => ("java/lang/Throwable", "cause", "Ljava/lang/Throwable;", false)
  | 3 => ("java/lang/Throwable", "stackTrace", "[Ljava/lang/StackTraceElement;", false)
  | 4 => ("java/lang/Throwable", "depth", "I", false)
  | _ => ("java/lang/Throwable", "suppressedExceptions", "Ljava/util/List;", false)
def tyJ8 : Nat → FieldType := fun k => match k with
  | 0 => .object "java/lang/Object"
  | 1 => .object "java/lang/String"
  | 2 => .object "java/lang/Throwable"
  | 3 => .array (.object "java/lang/StackTraceElement")
  | 4 => .int
  | _ => .object "java/util/List"
abbrev wsJ80 : List Cond := u_ws RJ8 TJ8 6
theorem nmJ8 : ∀ a, a < 6 → ∀ b, b < 6 → a ≠ b → (TJ8 a).2.1 ≠ (TJ8 b).2.1 := by decide +kernel
theorem tyJ8_ok : ∀ k, k < 6 → parseFieldDescriptor (TJ8 k).2.2.1 = some (tyJ8 k) := by decide +kernel
abbrev cJ8_init : ByteArray := prog_19_method_2_code
def yJ8_init : MethodName := ⟨RJ8, "<init>", "(Ljava/lang/String;)V"⟩
def dkwJ8_init_0 : List UInt8 := [42, 43, 183, 0, 7, 177]
abbrev dktJ8_init_0 : List UInt8 := dkwJ8_init_0 ++ []
theorem dksJ8_init_0 : cJ8_init.data.toList.drop 0 = dktJ8_init_0 := by decide +kernel
theorem dJ8_init_0 : decode cJ8_init 0 = .ok (.aload_n 0, 1) := dk_42 (dk_at dksJ8_init_0 0 rfl rfl)
theorem dJ8_init_1 : decode cJ8_init 1 = .ok (.aload_n 1, 1) := dk_43 (dk_at dksJ8_init_0 1 rfl rfl)
theorem dJ8_init_2 : decode cJ8_init 2 = .ok (.invokespecial 7, 3) := dk_183 0 7 (dk_at dksJ8_init_0 2 rfl rfl)
theorem dJ8_init_5 : decode cJ8_init 5 = .ok (.return_, 1) := dk_177 (dk_at dksJ8_init_0 5 rfl rfl)
theorem q75 : (Jvm.Cond.initialized "java/lang/ArrayStoreException") ∈ lw_all := lw_g (lw_at lw_m1 16 rfl) rfl
theorem q266 : (Jvm.Cond.selects "java/lang/ArrayStoreException" ({ cls := "java/lang/Throwable", name := "fillInStackTrace", desc := "()Ljava/lang/Throwable;" } : Jvm.MethodName) ({ cls := "java/lang/Throwable", name := "fillInStackTrace", desc := "()Ljava/lang/Throwable;" } : Jvm.MethodName)) ∈ lw_all := lw_g (lw_at lw_m1 207 rfl) rfl
theorem q415 : (Jvm.Cond.instantiable "java/lang/ArrayStoreException" (6 : Nat)) ∈ lw_all := lw_g (lw_at lw_m2 116 rfl) rfl
theorem q416 : (Jvm.Cond.instanceMethod ({ cls := "java/lang/ArrayStoreException", name := "<init>", desc := "(Ljava/lang/String;)V" } : Jvm.MethodName)) ∈ lw_all := lw_g (lw_at lw_m2 117 rfl) rfl
theorem q417 : (Jvm.Cond.code ({ cls := "java/lang/ArrayStoreException", name := "<init>", desc := "(Ljava/lang/String;)V" } : Jvm.MethodName) prog_19_method_2_code (2 : Nat) (Option.none : Option Jvm.ClassFile.FieldType)) ∈ lw_all := lw_g (lw_at lw_m2 118 rfl) rfl
theorem q418 : (Jvm.Cond.methodLink "java/lang/ArrayStoreException" (7 : Nat) ({ cls := "java/lang/RuntimeException", name := "<init>", desc := "(Ljava/lang/String;)V" } : Jvm.MethodName)) ∈ lw_all := lw_g (lw_at lw_m2 119 rfl) rfl
theorem q419 : (Jvm.Cond.lays "java/lang/ArrayStoreException" "java/lang/Throwable" "backtrace" "Ljava/lang/Object;") ∈ lw_all := lw_g (lw_at lw_m2 120 rfl) rfl
theorem q420 : (Jvm.Cond.lays "java/lang/ArrayStoreException" "java/lang/Throwable" "detailMessage" "Ljava/lang/String;") ∈ lw_all := lw_g (lw_at lw_m2 121 rfl) rfl
theorem q421 : (Jvm.Cond.lays "java/lang/ArrayStoreException" "java/lang/Throwable" "cause" "Ljava/lang/Throwable;") ∈ lw_all := lw_g (lw_at lw_m2 122 rfl) rfl
theorem q422 : (Jvm.Cond.lays "java/lang/ArrayStoreException" "java/lang/Throwable" "stackTrace" "[Ljava/lang/StackTraceElement;") ∈ lw_all := lw_g (lw_at lw_m2 123 rfl) rfl
theorem q423 : (Jvm.Cond.lays "java/lang/ArrayStoreException" "java/lang/Throwable" "depth" "I") ∈ lw_all := lw_g (lw_at lw_m2 124 rfl) rfl
theorem q424 : (Jvm.Cond.lays "java/lang/ArrayStoreException" "java/lang/Throwable" "suppressedExceptions" "Ljava/util/List;") ∈ lw_all := lw_g (lw_at lw_m2 125 rfl) rfl
theorem q425 : (Jvm.Cond.superclass "java/lang/ArrayStoreException" "java/lang/RuntimeException") ∈ lw_all := lw_g (lw_at lw_m2 126 rfl) rfl
theorem q426 : (Jvm.Cond.castable "java/lang/ArrayStoreException" "java/lang/ArrayStoreException") ∈ lw_tbl := lw_at lw_m2 127 rfl
theorem q427 : (Jvm.Cond.selects "java/lang/ArrayStoreException" ({ cls := "java/lang/Throwable", name := "fillInStackTrace", desc := "(I)Ljava/lang/Throwable;" } : Jvm.MethodName) ({ cls := "java/lang/Throwable", name := "fillInStackTrace", desc := "(I)Ljava/lang/Throwable;" } : Jvm.MethodName)) ∈ lw_all := lw_g (lw_at lw_m2 128 rfl) rfl
theorem in_J8 : ∀ w ∈ wsJ80, w ∈ lw_all := lw_in wsJ80 [419, 420, 421, 422, 423, 424] (by decide +kernel) (by decide +kernel)
/-! java/lang/StringLatin1 -/
set_option maxRecDepth 100000
def RJ9 : String := "java/lang/StringLatin1"
abbrev cJ9_indexOf : ByteArray := prog_30_method_22_code
def yJ9_indexOf : MethodName := ⟨RJ9, "indexOf", "([BIII)I"⟩
def dkwJ9_indexOf_1 : List UInt8 := [161, 0, 5, 2, 172, 42, 27, 28, 29, 184, 0, 95, 172]
abbrev dktJ9_indexOf_1 : List UInt8 := dkwJ9_indexOf_1 ++ []
def dkwJ9_indexOf_0 : List UInt8 := [27, 184, 0, 88, 154, 0, 5, 2, 172, 28, 3, 184, 0, 92, 61, 29, 42, 190, 184, 0, 38, 62, 28, 29]
abbrev dktJ9_indexOf_0 : List UInt8 := dkwJ9_indexOf_0 ++ dktJ9_indexOf_1
theorem dksJ9_indexOf_0 : cJ9_indexOf.data.toList.drop 0 = dktJ9_indexOf_0 := by decide +kernel
theorem dksJ9_indexOf_1 : cJ9_indexOf.data.toList.drop 24 = dktJ9_indexOf_1 := dk_seg dksJ9_indexOf_0 24 rfl rfl
theorem dJ9_indexOf_0 : decode cJ9_indexOf 0 = .ok (.iload_n 1, 1) := dk_27 (dk_at dksJ9_indexOf_0 0 rfl rfl)
theorem dJ9_indexOf_1 : decode cJ9_indexOf 1 = .ok (.invokestatic 88, 3) := dk_184 0 88 (dk_at dksJ9_indexOf_0 1 rfl rfl)
theorem dJ9_indexOf_4 : decode cJ9_indexOf 4 = .ok (.ifCond .ne 5, 3) := dk_154 0 5 (dk_at dksJ9_indexOf_0 4 rfl rfl)
theorem dJ9_indexOf_7 : decode cJ9_indexOf 7 = .ok (.iconst (-1), 1) := dk_2 (dk_at dksJ9_indexOf_0 7 rfl rfl)
theorem dJ9_indexOf_8 : decode cJ9_indexOf 8 = .ok (.ireturn, 1) := dk_172 (dk_at dksJ9_indexOf_0 8 rfl rfl)
theorem dJ9_indexOf_9 : decode cJ9_indexOf 9 = .ok (.iload_n 2, 1) := dk_28 (dk_at dksJ9_indexOf_0 9 rfl rfl)
theorem dJ9_indexOf_10 : decode cJ9_indexOf 10 = .ok (.iconst 0, 1) := dk_3 (dk_at dksJ9_indexOf_0 10 rfl rfl)
theorem dJ9_indexOf_11 : decode cJ9_indexOf 11 = .ok (.invokestatic 92, 3) := dk_184 0 92 (dk_at dksJ9_indexOf_0 11 rfl rfl)
theorem dJ9_indexOf_14 : decode cJ9_indexOf 14 = .ok (.istore_n 2, 1) := dk_61 (dk_at dksJ9_indexOf_0 14 rfl rfl)
theorem dJ9_indexOf_15 : decode cJ9_indexOf 15 = .ok (.iload_n 3, 1) := dk_29 (dk_at dksJ9_indexOf_0 15 rfl rfl)
theorem dJ9_indexOf_16 : decode cJ9_indexOf 16 = .ok (.aload_n 0, 1) := dk_42 (dk_at dksJ9_indexOf_0 16 rfl rfl)
theorem dJ9_indexOf_17 : decode cJ9_indexOf 17 = .ok (.arraylength, 1) := dk_190 (dk_at dksJ9_indexOf_0 17 rfl rfl)
theorem dJ9_indexOf_18 : decode cJ9_indexOf 18 = .ok (.invokestatic 38, 3) := dk_184 0 38 (dk_at dksJ9_indexOf_0 18 rfl rfl)
theorem dJ9_indexOf_21 : decode cJ9_indexOf 21 = .ok (.istore_n 3, 1) := dk_62 (dk_at dksJ9_indexOf_0 21 rfl rfl)
theorem dJ9_indexOf_22 : decode cJ9_indexOf 22 = .ok (.iload_n 2, 1) := dk_28 (dk_at dksJ9_indexOf_0 22 rfl rfl)
theorem dJ9_indexOf_23 : decode cJ9_indexOf 23 = .ok (.iload_n 3, 1) := dk_29 (dk_at dksJ9_indexOf_0 23 rfl rfl)
theorem dJ9_indexOf_24 : decode cJ9_indexOf 24 = .ok (.if_icmp .lt 5, 3) := dk_161 0 5 (dk_at dksJ9_indexOf_1 0 rfl rfl)
theorem dJ9_indexOf_27 : decode cJ9_indexOf 27 = .ok (.iconst (-1), 1) := dk_2 (dk_at dksJ9_indexOf_1 3 rfl rfl)
theorem dJ9_indexOf_28 : decode cJ9_indexOf 28 = .ok (.ireturn, 1) := dk_172 (dk_at dksJ9_indexOf_1 4 rfl rfl)
theorem dJ9_indexOf_29 : decode cJ9_indexOf 29 = .ok (.aload_n 0, 1) := dk_42 (dk_at dksJ9_indexOf_1 5 rfl rfl)
theorem dJ9_indexOf_30 : decode cJ9_indexOf 30 = .ok (.iload_n 1, 1) := dk_27 (dk_at dksJ9_indexOf_1 6 rfl rfl)
theorem dJ9_indexOf_31 : decode cJ9_indexOf 31 = .ok (.iload_n 2, 1) := dk_28 (dk_at dksJ9_indexOf_1 7 rfl rfl)
theorem dJ9_indexOf_32 : decode cJ9_indexOf 32 = .ok (.iload_n 3, 1) := dk_29 (dk_at dksJ9_indexOf_1 8 rfl rfl)
theorem dJ9_indexOf_33 : decode cJ9_indexOf 33 = .ok (.invokestatic 95, 3) := dk_184 0 95 (dk_at dksJ9_indexOf_1 9 rfl rfl)
theorem dJ9_indexOf_36 : decode cJ9_indexOf 36 = .ok (.ireturn, 1) := dk_172 (dk_at dksJ9_indexOf_1 12 rfl rfl)
abbrev cJ9_canEncode : ByteArray := prog_30_method_4_code
def yJ9_canEncode : MethodName := ⟨RJ9, "canEncode", "(I)Z"⟩
def dkwJ9_canEncode_0 : List UInt8 := [26, 155, 0, 14, 26, 17, 0, 255, 163, 0, 7, 4, 167, 0, 4, 3, 172]
abbrev dktJ9_canEncode_0 : List UInt8 := dkwJ9_canEncode_0 ++ []
theorem dksJ9_canEncode_0 : cJ9_canEncode.data.toList.drop 0 = dktJ9_canEncode_0 := by decide +kernel
theorem dJ9_canEncode_0 : decode cJ9_canEncode 0 = .ok (.iload_n 0, 1) := dk_26 (dk_at dksJ9_canEncode_0 0 rfl rfl)
theorem dJ9_canEncode_1 : decode cJ9_canEncode 1 = .ok (.ifCond .lt 14, 3) := dk_155 0 14 (dk_at dksJ9_canEncode_0 1 rfl rfl)
theorem dJ9_canEncode_4 : decode cJ9_canEncode 4 = .ok (.iload_n 0, 1) := dk_26 (dk_at dksJ9_canEncode_0 4 rfl rfl)
theorem dJ9_canEncode_5 : decode cJ9_canEncode 5 = .ok (.sipush 255, 3) := dk_17 0 255 (dk_at dksJ9_canEncode_0 5 rfl rfl)
theorem dJ9_canEncode_8 : decode cJ9_canEncode 8 = .ok (.if_icmp .gt 7, 3) := dk_163 0 7 (dk_at dksJ9_canEncode_0 8 rfl rfl)
theorem dJ9_canEncode_11 : decode cJ9_canEncode 11 = .ok (.iconst 1, 1) := dk_4 (dk_at dksJ9_canEncode_0 11 rfl rfl)
theorem dJ9_canEncode_12 : decode cJ9_canEncode 12 = .ok (.goto 4, 3) := dk_167 0 4 (dk_at dksJ9_canEncode_0 12 rfl rfl)
theorem dJ9_canEncode_15 : decode cJ9_canEncode 15 = .ok (.iconst 0, 1) := dk_3 (dk_at dksJ9_canEncode_0 15 rfl rfl)
theorem dJ9_canEncode_16 : decode cJ9_canEncode 16 = .ok (.ireturn, 1) := dk_172 (dk_at dksJ9_canEncode_0 16 rfl rfl)
abbrev cJ9_indexOfChar : ByteArray := prog_30_method_23_code
def yJ9_indexOfChar : MethodName := ⟨RJ9, "indexOfChar", "([BIII)I"⟩
def dkwJ9_indexOfChar_1 : List UInt8 := [172, 132, 5, 1, 167, 255, 235, 2, 172]
abbrev dktJ9_indexOfChar_1 : List UInt8 := dkwJ9_indexOfChar_1 ++ []
def dkwJ9_indexOfChar_0 : List UInt8 := [27, 145, 54, 4, 28, 54, 5, 21, 5, 29, 162, 0, 21, 42, 21, 5, 51, 21, 4, 160, 0, 6, 21, 5]
abbrev dktJ9_indexOfChar_0 : List UInt8 := dkwJ9_indexOfChar_0 ++ dktJ9_indexOfChar_1
theorem dksJ9_indexOfChar_0 : cJ9_indexOfChar.data.toList.drop 0 = dktJ9_indexOfChar_0 := by decide +kernel
theorem dksJ9_indexOfChar_1 : cJ9_indexOfChar.data.toList.drop 24 = dktJ9_indexOfChar_1 := dk_seg dksJ9_indexOfChar_0 24 rfl rfl
theorem dJ9_indexOfChar_0 : decode cJ9_indexOfChar 0 = .ok (.iload_n 1, 1) := dk_27 (dk_at dksJ9_indexOfChar_0 0 rfl rfl)
theorem dJ9_indexOfChar_1 : decode cJ9_indexOfChar 1 = .ok (.i2b, 1) := dk_145 (dk_at dksJ9_indexOfChar_0 1 rfl rfl)
theorem dJ9_indexOfChar_2 : decode cJ9_indexOfChar 2 = .ok (.istore 4, 2) := dk_54 4 (dk_at dksJ9_indexOfChar_0 2 rfl rfl)
theorem dJ9_indexOfChar_4 : decode cJ9_indexOfChar 4 = .ok (.iload_n 2, 1) := dk_28 (dk_at dksJ9_indexOfChar_0 4 rfl rfl)
theorem dJ9_indexOfChar_5 : decode cJ9_indexOfChar 5 = .ok (.istore 5, 2) := dk_54 5 (dk_at dksJ9_indexOfChar_0 5 rfl rfl)
theorem dJ9_indexOfChar_7 : decode cJ9_indexOfChar 7 = .ok (.iload 5, 2) := dk_21 5 (dk_at dksJ9_indexOfChar_0 7 rfl rfl)
theorem dJ9_indexOfChar_9 : decode cJ9_indexOfChar 9 = .ok (.iload_n 3, 1) := dk_29 (dk_at dksJ9_indexOfChar_0 9 rfl rfl)
theorem dJ9_indexOfChar_10 : decode cJ9_indexOfChar 10 = .ok (.if_icmp .ge 21, 3) := dk_162 0 21 (dk_at dksJ9_indexOfChar_0 10 rfl rfl)
theorem dJ9_indexOfChar_13 : decode cJ9_indexOfChar 13 = .ok (.aload_n 0, 1) := dk_42 (dk_at dksJ9_indexOfChar_0 13 rfl rfl)
theorem dJ9_indexOfChar_14 : decode cJ9_indexOfChar 14 = .ok (.iload 5, 2) := dk_21 5 (dk_at dksJ9_indexOfChar_0 14 rfl rfl)
theorem dJ9_indexOfChar_16 : decode cJ9_indexOfChar 16 = .ok (.baload, 1) := dk_51 (dk_at dksJ9_indexOfChar_0 16 rfl rfl)
theorem dJ9_indexOfChar_17 : decode cJ9_indexOfChar 17 = .ok (.iload 4, 2) := dk_21 4 (dk_at dksJ9_indexOfChar_0 17 rfl rfl)
theorem dJ9_indexOfChar_19 : decode cJ9_indexOfChar 19 = .ok (.if_icmp .ne 6, 3) := dk_160 0 6 (dk_at dksJ9_indexOfChar_0 19 rfl rfl)
theorem dJ9_indexOfChar_22 : decode cJ9_indexOfChar 22 = .ok (.iload 5, 2) := dk_21 5 (dk_at dksJ9_indexOfChar_0 22 rfl rfl)
theorem dJ9_indexOfChar_24 : decode cJ9_indexOfChar 24 = .ok (.ireturn, 1) := dk_172 (dk_at dksJ9_indexOfChar_1 0 rfl rfl)
theorem dJ9_indexOfChar_25 : decode cJ9_indexOfChar 25 = .ok (.iinc 5 1, 3) := dk_132 5 1 (dk_at dksJ9_indexOfChar_1 1 rfl rfl)
theorem dJ9_indexOfChar_28 : decode cJ9_indexOfChar 28 = .ok (.goto (-21), 3) := dk_167 255 235 (dk_at dksJ9_indexOfChar_1 4 rfl rfl)
theorem dJ9_indexOfChar_31 : decode cJ9_indexOfChar 31 = .ok (.iconst (-1), 1) := dk_2 (dk_at dksJ9_indexOfChar_1 7 rfl rfl)
theorem dJ9_indexOfChar_32 : decode cJ9_indexOfChar 32 = .ok (.ireturn, 1) := dk_172 (dk_at dksJ9_indexOfChar_1 8 rfl rfl)
theorem q79 : (Jvm.Cond.initialized "java/lang/StringLatin1") ∈ lw_all := lw_g (lw_at lw_m1 20 rfl) rfl
theorem q572 : (Jvm.Cond.static ({ cls := "java/lang/StringLatin1", name := "indexOf", desc := "([BIII)I" } : Jvm.MethodName)) ∈ lw_all := lw_g (lw_at lw_m3 33 rfl) rfl
theorem q573 : (Jvm.Cond.code ({ cls := "java/lang/StringLatin1", name := "indexOf", desc := "([BIII)I" } : Jvm.MethodName) prog_30_method_22_code (4 : Nat) (Option.some Jvm.ClassFile.FieldType.int)) ∈ lw_all := lw_g (lw_at lw_m3 34 rfl) rfl
theorem q574 : (Jvm.Cond.methodLink "java/lang/StringLatin1" (88 : Nat) ({ cls := "java/lang/StringLatin1", name := "canEncode", desc := "(I)Z" } : Jvm.MethodName)) ∈ lw_all := lw_g (lw_at lw_m3 35 rfl) rfl
theorem q575 : (Jvm.Cond.static ({ cls := "java/lang/StringLatin1", name := "canEncode", desc := "(I)Z" } : Jvm.MethodName)) ∈ lw_all := lw_g (lw_at lw_m3 36 rfl) rfl
theorem q576 : (Jvm.Cond.code ({ cls := "java/lang/StringLatin1", name := "canEncode", desc := "(I)Z" } : Jvm.MethodName) prog_30_method_4_code (1 : Nat) (Option.some Jvm.ClassFile.FieldType.boolean)) ∈ lw_all := lw_g (lw_at lw_m3 37 rfl) rfl
theorem q577 : (Jvm.Cond.methodLink "java/lang/StringLatin1" (92 : Nat) ({ cls := "java/lang/Math", name := "max", desc := "(II)I" } : Jvm.MethodName)) ∈ lw_all := lw_g (lw_at lw_m3 38 rfl) rfl
theorem q580 : (Jvm.Cond.methodLink "java/lang/StringLatin1" (38 : Nat) ({ cls := "java/lang/Math", name := "min", desc := "(II)I" } : Jvm.MethodName)) ∈ lw_all := lw_g (lw_at lw_m3 41 rfl) rfl
theorem q583 : (Jvm.Cond.methodLink "java/lang/StringLatin1" (95 : Nat) ({ cls := "java/lang/StringLatin1", name := "indexOfChar", desc := "([BIII)I" } : Jvm.MethodName)) ∈ lw_all := lw_g (lw_at lw_m3 44 rfl) rfl
theorem q584 : (Jvm.Cond.static ({ cls := "java/lang/StringLatin1", name := "indexOfChar", desc := "([BIII)I" } : Jvm.MethodName)) ∈ lw_all := lw_g (lw_at lw_m3 45 rfl) rfl
theorem q585 : (Jvm.Cond.code ({ cls := "java/lang/StringLatin1", name := "indexOfChar", desc := "([BIII)I" } : Jvm.MethodName) prog_30_method_23_code (6 : Nat) (Option.some Jvm.ClassFile.FieldType.int)) ∈ lw_all := lw_g (lw_at lw_m3 46 rfl) rfl
/-! java/lang/Math -/
set_option maxRecDepth 100000
def RJ10 : String := "java/lang/Math"
abbrev cJ10_max : ByteArray := prog_25_method_65_code
def yJ10_max : MethodName := ⟨RJ10, "max", "(II)I"⟩
def dkwJ10_max_0 : List UInt8 := [26, 27, 161, 0, 7, 26, 167, 0, 4, 27, 172]
abbrev dktJ10_max_0 : List UInt8 := dkwJ10_max_0 ++ []
theorem dksJ10_max_0 : cJ10_max.data.toList.drop 0 = dktJ10_max_0 := by decide +kernel
theorem dJ10_max_0 : decode cJ10_max 0 = .ok (.iload_n 0, 1) := dk_26 (dk_at dksJ10_max_0 0 rfl rfl)
theorem dJ10_max_1 : decode cJ10_max 1 = .ok (.iload_n 1, 1) := dk_27 (dk_at dksJ10_max_0 1 rfl rfl)
theorem dJ10_max_2 : decode cJ10_max 2 = .ok (.if_icmp .lt 7, 3) := dk_161 0 7 (dk_at dksJ10_max_0 2 rfl rfl)
theorem dJ10_max_5 : decode cJ10_max 5 = .ok (.iload_n 0, 1) := dk_26 (dk_at dksJ10_max_0 5 rfl rfl)
theorem dJ10_max_6 : decode cJ10_max 6 = .ok (.goto 4, 3) := dk_167 0 4 (dk_at dksJ10_max_0 6 rfl rfl)
theorem dJ10_max_9 : decode cJ10_max 9 = .ok (.iload_n 1, 1) := dk_27 (dk_at dksJ10_max_0 9 rfl rfl)
theorem dJ10_max_10 : decode cJ10_max 10 = .ok (.ireturn, 1) := dk_172 (dk_at dksJ10_max_0 10 rfl rfl)
abbrev cJ10_min : ByteArray := prog_25_method_69_code
def yJ10_min : MethodName := ⟨RJ10, "min", "(II)I"⟩
def dkwJ10_min_0 : List UInt8 := [26, 27, 163, 0, 7, 26, 167, 0, 4, 27, 172]
abbrev dktJ10_min_0 : List UInt8 := dkwJ10_min_0 ++ []
theorem dksJ10_min_0 : cJ10_min.data.toList.drop 0 = dktJ10_min_0 := by decide +kernel
theorem dJ10_min_0 : decode cJ10_min 0 = .ok (.iload_n 0, 1) := dk_26 (dk_at dksJ10_min_0 0 rfl rfl)
theorem dJ10_min_1 : decode cJ10_min 1 = .ok (.iload_n 1, 1) := dk_27 (dk_at dksJ10_min_0 1 rfl rfl)
theorem dJ10_min_2 : decode cJ10_min 2 = .ok (.if_icmp .gt 7, 3) := dk_163 0 7 (dk_at dksJ10_min_0 2 rfl rfl)
theorem dJ10_min_5 : decode cJ10_min 5 = .ok (.iload_n 0, 1) := dk_26 (dk_at dksJ10_min_0 5 rfl rfl)
theorem dJ10_min_6 : decode cJ10_min 6 = .ok (.goto 4, 3) := dk_167 0 4 (dk_at dksJ10_min_0 6 rfl rfl)
theorem dJ10_min_9 : decode cJ10_min 9 = .ok (.iload_n 1, 1) := dk_27 (dk_at dksJ10_min_0 9 rfl rfl)
theorem dJ10_min_10 : decode cJ10_min 10 = .ok (.ireturn, 1) := dk_172 (dk_at dksJ10_min_0 10 rfl rfl)
theorem q80 : (Jvm.Cond.initialized "java/lang/Math") ∈ lw_all := lw_g (lw_at lw_m1 21 rfl) rfl
theorem q578 : (Jvm.Cond.static ({ cls := "java/lang/Math", name := "max", desc := "(II)I" } : Jvm.MethodName)) ∈ lw_all := lw_g (lw_at lw_m3 39 rfl) rfl
theorem q579 : (Jvm.Cond.code ({ cls := "java/lang/Math", name := "max", desc := "(II)I" } : Jvm.MethodName) prog_25_method_65_code (2 : Nat) (Option.some Jvm.ClassFile.FieldType.int)) ∈ lw_all := lw_g (lw_at lw_m3 40 rfl) rfl
theorem q581 : (Jvm.Cond.static ({ cls := "java/lang/Math", name := "min", desc := "(II)I" } : Jvm.MethodName)) ∈ lw_all := lw_g (lw_at lw_m3 42 rfl) rfl
theorem q582 : (Jvm.Cond.code ({ cls := "java/lang/Math", name := "min", desc := "(II)I" } : Jvm.MethodName) prog_25_method_69_code (2 : Nat) (Option.some Jvm.ClassFile.FieldType.int)) ∈ lw_all := lw_g (lw_at lw_m3 43 rfl) rfl
/-! java/lang/StringUTF16 -/
set_option maxRecDepth 100000
def RJ11 : String := "java/lang/StringUTF16"
abbrev cJ11_indexOf : ByteArray := prog_31_method_40_code
def yJ11_indexOf : MethodName := ⟨RJ11, "indexOf", "([BIII)I"⟩
def dkwJ11_indexOf_1 : List UInt8 := [18, 227, 162, 0, 11, 42, 27, 28, 29, 184, 0, 228, 172, 42, 27, 28, 29, 184, 0, 232, 172]
abbrev dktJ11_indexOf_1 : List UInt8 := dkwJ11_indexOf_1 ++ []
def dkwJ11_indexOf_0 : List UInt8 := [28, 3, 184, 0, 224, 61, 29, 42, 190, 4, 122, 184, 0, 183, 62, 28, 29, 161, 0, 5, 2, 172, 27]
abbrev dktJ11_indexOf_0 : List UInt8 := dkwJ11_indexOf_0 ++ dktJ11_indexOf_1
theorem dksJ11_indexOf_0 : cJ11_indexOf.data.toList.drop 0 = dktJ11_indexOf_0 := by decide +kernel
theorem dksJ11_indexOf_1 : cJ11_indexOf.data.toList.drop 23 = dktJ11_indexOf_1 := dk_seg dksJ11_indexOf_0 23 rfl rfl
theorem dJ11_indexOf_0 : decode cJ11_indexOf 0 = .ok (.iload_n 2, 1) := dk_28 (dk_at dksJ11_indexOf_0 0 rfl rfl)
theorem dJ11_indexOf_1 : decode cJ11_indexOf 1 = .ok (.iconst 0, 1) := dk_3 (dk_at dksJ11_indexOf_0 1 rfl rfl)
theorem dJ11_indexOf_2 : decode cJ11_indexOf 2 = .ok (.invokestatic 224, 3) := dk_184 0 224 (dk_at dksJ11_indexOf_0 2 rfl rfl)
theorem dJ11_indexOf_5 : decode cJ11_indexOf 5 = .ok (.istore_n 2, 1) := dk_61 (dk_at dksJ11_indexOf_0 5 rfl rfl)
theorem dJ11_indexOf_6 : decode cJ11_indexOf 6 = .ok (.iload_n 3, 1) := dk_29 (dk_at dksJ11_indexOf_0 6 rfl rfl)
theorem dJ11_indexOf_7 : decode cJ11_indexOf 7 = .ok (.aload_n 0, 1) := dk_42 (dk_at dksJ11_indexOf_0 7 rfl rfl)
theorem dJ11_indexOf_8 : decode cJ11_indexOf 8 = .ok (.arraylength, 1) := dk_190 (dk_at dksJ11_indexOf_0 8 rfl rfl)
theorem dJ11_indexOf_9 : decode cJ11_indexOf 9 = .ok (.iconst 1, 1) := dk_4 (dk_at dksJ11_indexOf_0 9 rfl rfl)
theorem dJ11_indexOf_10 : decode cJ11_indexOf 10 = .ok (.ishr, 1) := dk_122 (dk_at dksJ11_indexOf_0 10 rfl rfl)
theorem dJ11_indexOf_11 : decode cJ11_indexOf 11 = .ok (.invokestatic 183, 3) := dk_184 0 183 (dk_at dksJ11_indexOf_0 11 rfl rfl)
theorem dJ11_indexOf_14 : decode cJ11_indexOf 14 = .ok (.istore_n 3, 1) := dk_62 (dk_at dksJ11_indexOf_0 14 rfl rfl)
theorem dJ11_indexOf_15 : decode cJ11_indexOf 15 = .ok (.iload_n 2, 1) := dk_28 (dk_at dksJ11_indexOf_0 15 rfl rfl)
theorem dJ11_indexOf_16 : decode cJ11_indexOf 16 = .ok (.iload_n 3, 1) := dk_29 (dk_at dksJ11_indexOf_0 16 rfl rfl)
theorem dJ11_indexOf_17 : decode cJ11_indexOf 17 = .ok (.if_icmp .lt 5, 3) := dk_161 0 5 (dk_at dksJ11_indexOf_0 17 rfl rfl)
theorem dJ11_indexOf_20 : decode cJ11_indexOf 20 = .ok (.iconst (-1), 1) := dk_2 (dk_at dksJ11_indexOf_0 20 rfl rfl)
theorem dJ11_indexOf_21 : decode cJ11_indexOf 21 = .ok (.ireturn, 1) := dk_172 (dk_at dksJ11_indexOf_0 21 rfl rfl)
theorem dJ11_indexOf_22 : decode cJ11_indexOf 22 = .ok (.iload_n 1, 1) := dk_27 (dk_at dksJ11_indexOf_0 22 rfl rfl)
theorem dJ11_indexOf_23 : decode cJ11_indexOf 23 = .ok (.ldc 227, 2) := dk_18 227 (dk_at dksJ11_indexOf_1 0 rfl rfl)
theorem dJ11_indexOf_25 : decode cJ11_indexOf 25 = .ok (.if_icmp .ge 11, 3) := dk_162 0 11 (dk_at dksJ11_indexOf_1 2 rfl rfl)
theorem dJ11_indexOf_28 : decode cJ11_indexOf 28 = .ok (.aload_n 0, 1) := dk_42 (dk_at dksJ11_indexOf_1 5 rfl rfl)
theorem dJ11_indexOf_29 : decode cJ11_indexOf 29 = .ok (.iload_n 1, 1) := dk_27 (dk_at dksJ11_indexOf_1 6 rfl rfl)
theorem dJ11_indexOf_30 : decode cJ11_indexOf 30 = .ok (.iload_n 2, 1) := dk_28 (dk_at dksJ11_indexOf_1 7 rfl rfl)
theorem dJ11_indexOf_31 : decode cJ11_indexOf 31 = .ok (.iload_n 3, 1) := dk_29 (dk_at dksJ11_indexOf_1 8 rfl rfl)
theorem dJ11_indexOf_32 : decode cJ11_indexOf 32 = .ok (.invokestatic 228, 3) := dk_184 0 228 (dk_at dksJ11_indexOf_1 9 rfl rfl)
theorem dJ11_indexOf_35 : decode cJ11_indexOf 35 = .ok (.ireturn, 1) := dk_172 (dk_at dksJ11_indexOf_1 12 rfl rfl)
theorem dJ11_indexOf_36 : decode cJ11_indexOf 36 = .ok (.aload_n 0, 1) := dk_42 (dk_at dksJ11_indexOf_1 13 rfl rfl)
theorem dJ11_indexOf_37 : decode cJ11_indexOf 37 = .ok (.iload_n 1, 1) := dk_27 (dk_at dksJ11_indexOf_1 14 rfl rfl)
theorem dJ11_indexOf_38 : decode cJ11_indexOf 38 = .ok (.iload_n 2, 1) := dk_28 (dk_at dksJ11_indexOf_1 15 rfl rfl)
theorem dJ11_indexOf_39 : decode cJ11_indexOf 39 = .ok (.iload_n 3, 1) := dk_29 (dk_at dksJ11_indexOf_1 16 rfl rfl)
theorem dJ11_indexOf_40 : decode cJ11_indexOf 40 = .ok (.invokestatic 232, 3) := dk_184 0 232 (dk_at dksJ11_indexOf_1 17 rfl rfl)
theorem dJ11_indexOf_43 : decode cJ11_indexOf 43 = .ok (.ireturn, 1) := dk_172 (dk_at dksJ11_indexOf_1 20 rfl rfl)
abbrev cJ11_indexOfChar : ByteArray := prog_31_method_47_code
def yJ11_indexOfChar : MethodName := ⟨RJ11, "indexOfChar", "([BIII)I"⟩
def dkwJ11_indexOfChar_0 : List UInt8 := [28, 29, 42, 184, 0, 96, 42, 27, 28, 29, 184, 0, 244, 172]
abbrev dktJ11_indexOfChar_0 : List UInt8 := dkwJ11_indexOfChar_0 ++ []
theorem dksJ11_indexOfChar_0 : cJ11_indexOfChar.data.toList.drop 0 = dktJ11_indexOfChar_0 := by decide +kernel
theorem dJ11_indexOfChar_0 : decode cJ11_indexOfChar 0 = .ok (.iload_n 2, 1) := dk_28 (dk_at dksJ11_indexOfChar_0 0 rfl rfl)
theorem dJ11_indexOfChar_1 : decode cJ11_indexOfChar 1 = .ok (.iload_n 3, 1) := dk_29 (dk_at dksJ11_indexOfChar_0 1 rfl rfl)
theorem dJ11_indexOfChar_2 : decode cJ11_indexOfChar 2 = .ok (.aload_n 0, 1) := dk_42 (dk_at dksJ11_indexOfChar_0 2 rfl rfl)
theorem dJ11_indexOfChar_3 : decode cJ11_indexOfChar 3 = .ok (.invokestatic 96, 3) := dk_184 0 96 (dk_at dksJ11_indexOfChar_0 3 rfl rfl)
theorem dJ11_indexOfChar_6 : decode cJ11_indexOfChar 6 = .ok (.aload_n 0, 1) := dk_42 (dk_at dksJ11_indexOfChar_0 6 rfl rfl)
theorem dJ11_indexOfChar_7 : decode cJ11_indexOfChar 7 = .ok (.iload_n 1, 1) := dk_27 (dk_at dksJ11_indexOfChar_0 7 rfl rfl)
theorem dJ11_indexOfChar_8 : decode cJ11_indexOfChar 8 = .ok (.iload_n 2, 1) := dk_28 (dk_at dksJ11_indexOfChar_0 8 rfl rfl)
theorem dJ11_indexOfChar_9 : decode cJ11_indexOfChar 9 = .ok (.iload_n 3, 1) := dk_29 (dk_at dksJ11_indexOfChar_0 9 rfl rfl)
theorem dJ11_indexOfChar_10 : decode cJ11_indexOfChar 10 = .ok (.invokestatic 244, 3) := dk_184 0 244 (dk_at dksJ11_indexOfChar_0 10 rfl rfl)
theorem dJ11_indexOfChar_13 : decode cJ11_indexOfChar 13 = .ok (.ireturn, 1) := dk_172 (dk_at dksJ11_indexOfChar_0 13 rfl rfl)
abbrev cJ11_checkBoundsBeginEnd : ByteArray := prog_31_method_93_code
def yJ11_checkBoundsBeginEnd : MethodName := ⟨RJ11, "checkBoundsBeginEnd", "(II[B)V"⟩
def dkwJ11_checkBoundsBeginEnd_0 : List UInt8 := [26, 27, 44, 184, 0, 48, 184, 0, 241, 177]
abbrev dktJ11_checkBoundsBeginEnd_0 : List UInt8 := dkwJ11_checkBoundsBeginEnd_0 ++ []
theorem dksJ11_checkBoundsBeginEnd_0 : cJ11_checkBoundsBeginEnd.data.toList.drop 0 = dktJ11_checkBoundsBeginEnd_0 := by decide +kernel
theorem dJ11_checkBoundsBeginEnd_0 : decode cJ11_checkBoundsBeginEnd 0 = .ok (.iload_n 0, 1) := dk_26 (dk_at dksJ11_checkBoundsBeginEnd_0 0 rfl rfl)
theorem dJ11_checkBoundsBeginEnd_1 : decode cJ11_checkBoundsBeginEnd 1 = .ok (.iload_n 1, 1) := dk_27 (dk_at dksJ11_checkBoundsBeginEnd_0 1 rfl rfl)
theorem dJ11_checkBoundsBeginEnd_2 : decode cJ11_checkBoundsBeginEnd 2 = .ok (.aload_n 2, 1) := dk_44 (dk_at dksJ11_checkBoundsBeginEnd_0 2 rfl rfl)
theorem dJ11_checkBoundsBeginEnd_3 : decode cJ11_checkBoundsBeginEnd 3 = .ok (.invokestatic 48, 3) := dk_184 0 48 (dk_at dksJ11_checkBoundsBeginEnd_0 3 rfl rfl)
theorem dJ11_checkBoundsBeginEnd_6 : decode cJ11_checkBoundsBeginEnd 6 = .ok (.invokestatic 241, 3) := dk_184 0 241 (dk_at dksJ11_checkBoundsBeginEnd_0 6 rfl rfl)
theorem dJ11_checkBoundsBeginEnd_9 : decode cJ11_checkBoundsBeginEnd 9 = .ok (.return_, 1) := dk_177 (dk_at dksJ11_checkBoundsBeginEnd_0 9 rfl rfl)
abbrev cJ11_length : ByteArray := prog_31_method_6_code
def yJ11_length : MethodName := ⟨RJ11, "length", "([B)I"⟩
def dkwJ11_length_0 : List UInt8 := [42, 190, 4, 122, 172]
abbrev dktJ11_length_0 : List UInt8 := dkwJ11_length_0 ++ []
theorem dksJ11_length_0 : cJ11_length.data.toList.drop 0 = dktJ11_length_0 := by decide +kernel
theorem dJ11_length_0 : decode cJ11_length 0 = .ok (.aload_n 0, 1) := dk_42 (dk_at dksJ11_length_0 0 rfl rfl)
theorem dJ11_length_1 : decode cJ11_length 1 = .ok (.arraylength, 1) := dk_190 (dk_at dksJ11_length_0 1 rfl rfl)
theorem dJ11_length_2 : decode cJ11_length 2 = .ok (.iconst 1, 1) := dk_4 (dk_at dksJ11_length_0 2 rfl rfl)
theorem dJ11_length_3 : decode cJ11_length 3 = .ok (.ishr, 1) := dk_122 (dk_at dksJ11_length_0 3 rfl rfl)
theorem dJ11_length_4 : decode cJ11_length 4 = .ok (.ireturn, 1) := dk_172 (dk_at dksJ11_length_0 4 rfl rfl)
abbrev cJ11_indexOfCharUnsafe : ByteArray := prog_31_method_48_code
def yJ11_indexOfCharUnsafe : MethodName := ⟨RJ11, "indexOfCharUnsafe", "([BIII)I"⟩
def dkwJ11_indexOfCharUnsafe_1 : List UInt8 := [132, 4, 1, 167, 255, 234, 2, 172]
abbrev dktJ11_indexOfCharUnsafe_1 : List UInt8 := dkwJ11_indexOfCharUnsafe_1 ++ []
def dkwJ11_indexOfCharUnsafe_0 : List UInt8 := [28, 54, 4, 21, 4, 29, 162, 0, 22, 42, 21, 4, 184, 0, 71, 27, 160, 0, 6, 21, 4, 172]
abbrev dktJ11_indexOfCharUnsafe_0 : List UInt8 := dkwJ11_indexOfCharUnsafe_0 ++ dktJ11_indexOfCharUnsafe_1
theorem dksJ11_indexOfCharUnsafe_0 : cJ11_indexOfCharUnsafe.data.toList.drop 0 = dktJ11_indexOfCharUnsafe_0 := by decide +kernel
theorem dksJ11_indexOfCharUnsafe_1 : cJ11_indexOfCharUnsafe.data.toList.drop 22 = dktJ11_indexOfCharUnsafe_1 := dk_seg dksJ11_indexOfCharUnsafe_0 22 rfl rfl
theorem dJ11_indexOfCharUnsafe_0 : decode cJ11_indexOfCharUnsafe 0 = .ok (.iload_n 2, 1) := dk_28 (dk_at dksJ11_indexOfCharUnsafe_0 0 rfl rfl)
theorem dJ11_indexOfCharUnsafe_1 : decode cJ11_indexOfCharUnsafe 1 = .ok (.istore 4, 2) := dk_54 4 (dk_at dksJ11_indexOfCharUnsafe_0 1 rfl rfl)
theorem dJ11_indexOfCharUnsafe_3 : decode cJ11_indexOfCharUnsafe 3 = .ok (.iload 4, 2) := dk_21 4 (dk_at dksJ11_indexOfCharUnsafe_0 3 rfl rfl)
theorem dJ11_indexOfCharUnsafe_5 : decode cJ11_indexOfCharUnsafe 5 = .ok (.iload_n 3, 1) := dk_29 (dk_at dksJ11_indexOfCharUnsafe_0 5 rfl rfl)
theorem dJ11_indexOfCharUnsafe_6 : decode cJ11_indexOfCharUnsafe 6 = .ok (.if_icmp .ge 22, 3) := dk_162 0 22 (dk_at dksJ11_indexOfCharUnsafe_0 6 rfl rfl)
theorem dJ11_indexOfCharUnsafe_9 : decode cJ11_indexOfCharUnsafe 9 = .ok (.aload_n 0, 1) := dk_42 (dk_at dksJ11_indexOfCharUnsafe_0 9 rfl rfl)
theorem dJ11_indexOfCharUnsafe_10 : decode cJ11_indexOfCharUnsafe 10 = .ok (.iload 4, 2) := dk_21 4 (dk_at dksJ11_indexOfCharUnsafe_0 10 rfl rfl)
theorem dJ11_indexOfCharUnsafe_12 : decode cJ11_indexOfCharUnsafe 12 = .ok (.invokestatic 71, 3) := dk_184 0 71 (dk_at dksJ11_indexOfCharUnsafe_0 12 rfl rfl)
theorem dJ11_indexOfCharUnsafe_15 : decode cJ11_indexOfCharUnsafe 15 = .ok (.iload_n 1, 1) := dk_27 (dk_at dksJ11_indexOfCharUnsafe_0 15 rfl rfl)
theorem dJ11_indexOfCharUnsafe_16 : decode cJ11_indexOfCharUnsafe 16 = .ok (.if_icmp .ne 6, 3) := dk_160 0 6 (dk_at dksJ11_indexOfCharUnsafe_0 16 rfl rfl)
theorem dJ11_indexOfCharUnsafe_19 : decode cJ11_indexOfCharUnsafe 19 = .ok (.iload 4, 2) := dk_21 4 (dk_at dksJ11_indexOfCharUnsafe_0 19 rfl rfl)
theorem dJ11_indexOfCharUnsafe_21 : decode cJ11_indexOfCharUnsafe 21 = .ok (.ireturn, 1) := dk_172 (dk_at dksJ11_indexOfCharUnsafe_0 21 rfl rfl)
theorem dJ11_indexOfCharUnsafe_22 : decode cJ11_indexOfCharUnsafe 22 = .ok (.iinc 4 1, 3) := dk_132 4 1 (dk_at dksJ11_indexOfCharUnsafe_1 0 rfl rfl)
theorem dJ11_indexOfCharUnsafe_25 : decode cJ11_indexOfCharUnsafe 25 = .ok (.goto (-22), 3) := dk_167 255 234 (dk_at dksJ11_indexOfCharUnsafe_1 3 rfl rfl)
theorem dJ11_indexOfCharUnsafe_28 : decode cJ11_indexOfCharUnsafe 28 = .ok (.iconst (-1), 1) := dk_2 (dk_at dksJ11_indexOfCharUnsafe_1 6 rfl rfl)
theorem dJ11_indexOfCharUnsafe_29 : decode cJ11_indexOfCharUnsafe 29 = .ok (.ireturn, 1) := dk_172 (dk_at dksJ11_indexOfCharUnsafe_1 7 rfl rfl)
abbrev cJ11_getChar : ByteArray := prog_31_method_5_code
def yJ11_getChar : MethodName := ⟨RJ11, "getChar", "([BI)C"⟩
def dkwJ11_getChar_2 : List UInt8 := [51, 17, 0, 255, 126, 178, 0, 63, 120, 128, 146, 172]
abbrev dktJ11_getChar_2 : List UInt8 := dkwJ11_getChar_2 ++ []
def dkwJ11_getChar_1 : List UInt8 := [183, 0, 56, 191, 27, 4, 120, 60, 42, 27, 132, 1, 1, 51, 17, 0, 255, 126, 178, 0, 59, 120, 42, 27]
abbrev dktJ11_getChar_1 : List UInt8 := dkwJ11_getChar_1 ++ dktJ11_getChar_2
def dkwJ11_getChar_0 : List UInt8 := [178, 0, 44, 154, 0, 25, 27, 155, 0, 11, 27, 42, 184, 0, 48, 161, 0, 13, 187, 0, 52, 89, 18, 54]
abbrev dktJ11_getChar_0 : List UInt8 := dkwJ11_getChar_0 ++ dktJ11_getChar_1
theorem dksJ11_getChar_0 : cJ11_getChar.data.toList.drop 0 = dktJ11_getChar_0 := by decide +kernel
theorem dksJ11_getChar_1 : cJ11_getChar.data.toList.drop 24 = dktJ11_getChar_1 := dk_seg dksJ11_getChar_0 24 rfl rfl
theorem dksJ11_getChar_2 : cJ11_getChar.data.toList.drop 48 = dktJ11_getChar_2 := dk_seg dksJ11_getChar_1 24 rfl rfl
theorem dJ11_getChar_0 : decode cJ11_getChar 0 = .ok (.getstatic 44, 3) := dk_178 0 44 (dk_at dksJ11_getChar_0 0 rfl rfl)
theorem dJ11_getChar_3 : decode cJ11_getChar 3 = .ok (.ifCond .ne 25, 3) := dk_154 0 25 (dk_at dksJ11_getChar_0 3 rfl rfl)
theorem dJ11_getChar_6 : decode cJ11_getChar 6 = .ok (.iload_n 1, 1) := dk_27 (dk_at dksJ11_getChar_0 6 rfl rfl)
theorem dJ11_getChar_7 : decode cJ11_getChar 7 = .ok (.ifCond .lt 11, 3) := dk_155 0 11 (dk_at dksJ11_getChar_0 7 rfl rfl)
theorem dJ11_getChar_10 : decode cJ11_getChar 10 = .ok (.iload_n 1, 1) := dk_27 (dk_at dksJ11_getChar_0 10 rfl rfl)
theorem dJ11_getChar_11 : decode cJ11_getChar 11 = .ok (.aload_n 0, 1) := dk_42 (dk_at dksJ11_getChar_0 11 rfl rfl)
theorem dJ11_getChar_12 : decode cJ11_getChar 12 = .ok (.invokestatic 48, 3) := dk_184 0 48 (dk_at dksJ11_getChar_0 12 rfl rfl)
theorem dJ11_getChar_15 : decode cJ11_getChar 15 = .ok (.if_icmp .lt 13, 3) := dk_161 0 13 (dk_at dksJ11_getChar_0 15 rfl rfl)
theorem dJ11_getChar_18 : decode cJ11_getChar 18 = .ok (.new 52, 3) := dk_187 0 52 (dk_at dksJ11_getChar_0 18 rfl rfl)
theorem dJ11_getChar_21 : decode cJ11_getChar 21 = .ok (.dup, 1) := dk_89 (dk_at dksJ11_getChar_0 21 rfl rfl)
theorem dJ11_getChar_22 : decode cJ11_getChar 22 = .ok (.ldc 54, 2) := dk_18 54 (dk_at dksJ11_getChar_0 22 rfl rfl)
theorem dJ11_getChar_24 : decode cJ11_getChar 24 = .ok (.invokespecial 56, 3) := dk_183 0 56 (dk_at dksJ11_getChar_1 0 rfl rfl)
theorem dJ11_getChar_27 : decode cJ11_getChar 27 = .ok (.athrow, 1) := dk_191 (dk_at dksJ11_getChar_1 3 rfl rfl)
theorem dJ11_getChar_28 : decode cJ11_getChar 28 = .ok (.iload_n 1, 1) := dk_27 (dk_at dksJ11_getChar_1 4 rfl rfl)
theorem dJ11_getChar_29 : decode cJ11_getChar 29 = .ok (.iconst 1, 1) := dk_4 (dk_at dksJ11_getChar_1 5 rfl rfl)
theorem dJ11_getChar_30 : decode cJ11_getChar 30 = .ok (.ishl, 1) := dk_120 (dk_at dksJ11_getChar_1 6 rfl rfl)
theorem dJ11_getChar_31 : decode cJ11_getChar 31 = .ok (.istore_n 1, 1) := dk_60 (dk_at dksJ11_getChar_1 7 rfl rfl)
theorem dJ11_getChar_32 : decode cJ11_getChar 32 = .ok (.aload_n 0, 1) := dk_42 (dk_at dksJ11_getChar_1 8 rfl rfl)
theorem dJ11_getChar_33 : decode cJ11_getChar 33 = .ok (.iload_n 1, 1) := dk_27 (dk_at dksJ11_getChar_1 9 rfl rfl)
theorem dJ11_getChar_34 : decode cJ11_getChar 34 = .ok (.iinc 1 1, 3) := dk_132 1 1 (dk_at dksJ11_getChar_1 10 rfl rfl)
theorem dJ11_getChar_37 : decode cJ11_getChar 37 = .ok (.baload, 1) := dk_51 (dk_at dksJ11_getChar_1 13 rfl rfl)
theorem dJ11_getChar_38 : decode cJ11_getChar 38 = .ok (.sipush 255, 3) := dk_17 0 255 (dk_at dksJ11_getChar_1 14 rfl rfl)
theorem dJ11_getChar_41 : decode cJ11_getChar 41 = .ok (.iand, 1) := dk_126 (dk_at dksJ11_getChar_1 17 rfl rfl)
theorem dJ11_getChar_42 : decode cJ11_getChar 42 = .ok (.getstatic 59, 3) := dk_178 0 59 (dk_at dksJ11_getChar_1 18 rfl rfl)
theorem dJ11_getChar_45 : decode cJ11_getChar 45 = .ok (.ishl, 1) := dk_120 (dk_at dksJ11_getChar_1 21 rfl rfl)
theorem dJ11_getChar_46 : decode cJ11_getChar 46 = .ok (.aload_n 0, 1) := dk_42 (dk_at dksJ11_getChar_1 22 rfl rfl)
theorem dJ11_getChar_47 : decode cJ11_getChar 47 = .ok (.iload_n 1, 1) := dk_27 (dk_at dksJ11_getChar_1 23 rfl rfl)
theorem dJ11_getChar_48 : decode cJ11_getChar 48 = .ok (.baload, 1) := dk_51 (dk_at dksJ11_getChar_2 0 rfl rfl)
theorem dJ11_getChar_49 : decode cJ11_getChar 49 = .ok (.sipush 255, 3) := dk_17 0 255 (dk_at dksJ11_getChar_2 1 rfl rfl)
theorem dJ11_getChar_52 : decode cJ11_getChar 52 = .ok (.iand, 1) := dk_126 (dk_at dksJ11_getChar_2 4 rfl rfl)
theorem dJ11_getChar_53 : decode cJ11_getChar 53 = .ok (.getstatic 63, 3) := dk_178 0 63 (dk_at dksJ11_getChar_2 5 rfl rfl)
theorem dJ11_getChar_56 : decode cJ11_getChar 56 = .ok (.ishl, 1) := dk_120 (dk_at dksJ11_getChar_2 8 rfl rfl)
theorem dJ11_getChar_57 : decode cJ11_getChar 57 = .ok (.ior, 1) := dk_128 (dk_at dksJ11_getChar_2 9 rfl rfl)
theorem dJ11_getChar_58 : decode cJ11_getChar 58 = .ok (.i2c, 1) := dk_146 (dk_at dksJ11_getChar_2 10 rfl rfl)
theorem dJ11_getChar_59 : decode cJ11_getChar 59 = .ok (.ireturn, 1) := dk_172 (dk_at dksJ11_getChar_2 11 rfl rfl)
abbrev cJ11_indexOfSupplementary : ByteArray := prog_31_method_49_code
def yJ11_indexOfSupplementary : MethodName := ⟨RJ11, "indexOfSupplementary", "([BIII)I"⟩
def dkwJ11_indexOfSupplementary_3 : List UInt8 := [167, 255, 218, 2, 172]
abbrev dktJ11_indexOfSupplementary_3 : List UInt8 := dkwJ11_indexOfSupplementary_3 ++ []
def dkwJ11_indexOfSupplementary_2 : List UInt8 := [160, 0, 19, 42, 21, 6, 4, 96, 184, 0, 71, 21, 5, 160, 0, 6, 21, 6, 172, 132, 6, 1]
abbrev dktJ11_indexOfSupplementary_2 : List UInt8 := dkwJ11_indexOfSupplementary_2 ++ dktJ11_indexOfSupplementary_3
def dkwJ11_indexOfSupplementary_1 : List UInt8 := [184, 0, 96, 28, 54, 6, 21, 6, 29, 4, 100, 162, 0, 36, 42, 21, 6, 184, 0, 71, 21, 4]
abbrev dktJ11_indexOfSupplementary_1 : List UInt8 := dkwJ11_indexOfSupplementary_1 ++ dktJ11_indexOfSupplementary_2
def dkwJ11_indexOfSupplementary_0 : List UInt8 := [27, 184, 0, 164, 153, 0, 65, 27, 184, 0, 157, 54, 4, 27, 184, 0, 161, 54, 5, 28, 29, 42]
abbrev dktJ11_indexOfSupplementary_0 : List UInt8 := dkwJ11_indexOfSupplementary_0 ++ dktJ11_indexOfSupplementary_1
theorem dksJ11_indexOfSupplementary_0 : cJ11_indexOfSupplementary.data.toList.drop 0 = dktJ11_indexOfSupplementary_0 := by decide +kernel
theorem dksJ11_indexOfSupplementary_1 : cJ11_indexOfSupplementary.data.toList.drop 22 = dktJ11_indexOfSupplementary_1 := dk_seg dksJ11_indexOfSupplementary_0 22 rfl rfl
theorem dksJ11_indexOfSupplementary_2 : cJ11_indexOfSupplementary.data.toList.drop 44 = dktJ11_indexOfSupplementary_2 := dk_seg dksJ11_indexOfSupplementary_1 22 rfl rfl
theorem dksJ11_indexOfSupplementary_3 : cJ11_indexOfSupplementary.data.toList.drop 66 = dktJ11_indexOfSupplementary_3 := dk_seg dksJ11_indexOfSupplementary_2 22 rfl rfl
theorem dJ11_indexOfSupplementary_0 : decode cJ11_indexOfSupplementary 0 = .ok (.iload_n 1, 1) := dk_27 (dk_at dksJ11_indexOfSupplementary_0 0 rfl rfl)
theorem dJ11_indexOfSupplementary_1 : decode cJ11_indexOfSupplementary 1 = .ok (.invokestatic 164, 3) := dk_184 0 164 (dk_at dksJ11_indexOfSupplementary_0 1 rfl rfl)
theorem dJ11_indexOfSupplementary_4 : decode cJ11_indexOfSupplementary 4 = .ok (.ifCond .eq 65, 3) := dk_153 0 65 (dk_at dksJ11_indexOfSupplementary_0 4 rfl rfl)
theorem dJ11_indexOfSupplementary_7 : decode cJ11_indexOfSupplementary 7 = .ok (.iload_n 1, 1) := dk_27 (dk_at dksJ11_indexOfSupplementary_0 7 rfl rfl)
theorem dJ11_indexOfSupplementary_8 : decode cJ11_indexOfSupplementary 8 = .ok (.invokestatic 157, 3) := dk_184 0 157 (dk_at dksJ11_indexOfSupplementary_0 8 rfl rfl)
theorem dJ11_indexOfSupplementary_11 : decode cJ11_indexOfSupplementary 11 = .ok (.istore 4, 2) := dk_54 4 (dk_at dksJ11_indexOfSupplementary_0 11 rfl rfl)
theorem dJ11_indexOfSupplementary_13 : decode cJ11_indexOfSupplementary 13 = .ok (.iload_n 1, 1) := dk_27 (dk_at dksJ11_indexOfSupplementary_0 13 rfl rfl)
theorem dJ11_indexOfSupplementary_14 : decode cJ11_indexOfSupplementary 14 = .ok (.invokestatic 161, 3) := dk_184 0 161 (dk_at dksJ11_indexOfSupplementary_0 14 rfl rfl)
theorem dJ11_indexOfSupplementary_17 : decode cJ11_indexOfSupplementary 17 = .ok (.istore 5, 2) := dk_54 5 (dk_at dksJ11_indexOfSupplementary_0 17 rfl rfl)
theorem dJ11_indexOfSupplementary_19 : decode cJ11_indexOfSupplementary 19 = .ok (.iload_n 2, 1) := dk_28 (dk_at dksJ11_indexOfSupplementary_0 19 rfl rfl)
theorem dJ11_indexOfSupplementary_20 : decode cJ11_indexOfSupplementary 20 = .ok (.iload_n 3, 1) := dk_29 (dk_at dksJ11_indexOfSupplementary_0 20 rfl rfl)
theorem dJ11_indexOfSupplementary_21 : decode cJ11_indexOfSupplementary 21 = .ok (.aload_n 0, 1) := dk_42 (dk_at dksJ11_indexOfSupplementary_0 21 rfl rfl)
theorem dJ11_indexOfSupplementary_22 : decode cJ11_indexOfSupplementary 22 = .ok (.invokestatic 96, 3) := dk_184 0 96 (dk_at dksJ11_indexOfSupplementary_1 0 rfl rfl)
theorem dJ11_indexOfSupplementary_25 : decode cJ11_indexOfSupplementary 25 = .ok (.iload_n 2, 1) := dk_28 (dk_at dksJ11_indexOfSupplementary_1 3 rfl rfl)
theorem dJ11_indexOfSupplementary_26 : decode cJ11_indexOfSupplementary 26 = .ok (.istore 6, 2) := dk_54 6 (dk_at dksJ11_indexOfSupplementary_1 4 rfl rfl)
theorem dJ11_indexOfSupplementary_28 : decode cJ11_indexOfSupplementary 28 = .ok (.iload 6, 2) := dk_21 6 (dk_at dksJ11_indexOfSupplementary_1 6 rfl rfl)
theorem dJ11_indexOfSupplementary_30 : decode cJ11_indexOfSupplementary 30 = .ok (.iload_n 3, 1) := dk_29 (dk_at dksJ11_indexOfSupplementary_1 8 rfl rfl)
theorem dJ11_indexOfSupplementary_31 : decode cJ11_indexOfSupplementary 31 = .ok (.iconst 1, 1) := dk_4 (dk_at dksJ11_indexOfSupplementary_1 9 rfl rfl)
theorem dJ11_indexOfSupplementary_32 : decode cJ11_indexOfSupplementary 32 = .ok (.isub, 1) := dk_100 (dk_at dksJ11_indexOfSupplementary_1 10 rfl rfl)
theorem dJ11_indexOfSupplementary_33 : decode cJ11_indexOfSupplementary 33 = .ok (.if_icmp .ge 36, 3) := dk_162 0 36 (dk_at dksJ11_indexOfSupplementary_1 11 rfl rfl)
theorem dJ11_indexOfSupplementary_36 : decode cJ11_indexOfSupplementary 36 = .ok (.aload_n 0, 1) := dk_42 (dk_at dksJ11_indexOfSupplementary_1 14 rfl rfl)
theorem dJ11_indexOfSupplementary_37 : decode cJ11_indexOfSupplementary 37 = .ok (.iload 6, 2) := dk_21 6 (dk_at dksJ11_indexOfSupplementary_1 15 rfl rfl)
theorem dJ11_indexOfSupplementary_39 : decode cJ11_indexOfSupplementary 39 = .ok (.invokestatic 71, 3) := dk_184 0 71 (dk_at dksJ11_indexOfSupplementary_1 17 rfl rfl)
theorem dJ11_indexOfSupplementary_42 : decode cJ11_indexOfSupplementary 42 = .ok (.iload 4, 2) := dk_21 4 (dk_at dksJ11_indexOfSupplementary_1 20 rfl rfl)
theorem dJ11_indexOfSupplementary_44 : decode cJ11_indexOfSupplementary 44 = .ok (.if_icmp .ne 19, 3) := dk_160 0 19 (dk_at dksJ11_indexOfSupplementary_2 0 rfl rfl)
theorem dJ11_indexOfSupplementary_47 : decode cJ11_indexOfSupplementary 47 = .ok (.aload_n 0, 1) := dk_42 (dk_at dksJ11_indexOfSupplementary_2 3 rfl rfl)
theorem dJ11_indexOfSupplementary_48 : decode cJ11_indexOfSupplementary 48 = .ok (.iload 6, 2) := dk_21 6 (dk_at dksJ11_indexOfSupplementary_2 4 rfl rfl)
theorem dJ11_indexOfSupplementary_50 : decode cJ11_indexOfSupplementary 50 = .ok (.iconst 1, 1) := dk_4 (dk_at dksJ11_indexOfSupplementary_2 6 rfl rfl)
theorem dJ11_indexOfSupplementary_51 : decode cJ11_indexOfSupplementary 51 = .ok (.iadd, 1) := dk_96 (dk_at dksJ11_indexOfSupplementary_2 7 rfl rfl)
theorem dJ11_indexOfSupplementary_52 : decode cJ11_indexOfSupplementary 52 = .ok (.invokestatic 71, 3) := dk_184 0 71 (dk_at dksJ11_indexOfSupplementary_2 8 rfl rfl)
theorem dJ11_indexOfSupplementary_55 : decode cJ11_indexOfSupplementary 55 = .ok (.iload 5, 2) := dk_21 5 (dk_at dksJ11_indexOfSupplementary_2 11 rfl rfl)
theorem dJ11_indexOfSupplementary_57 : decode cJ11_indexOfSupplementary 57 = .ok (.if_icmp .ne 6, 3) := dk_160 0 6 (dk_at dksJ11_indexOfSupplementary_2 13 rfl rfl)
theorem dJ11_indexOfSupplementary_60 : decode cJ11_indexOfSupplementary 60 = .ok (.iload 6, 2) := dk_21 6 (dk_at dksJ11_indexOfSupplementary_2 16 rfl rfl)
theorem dJ11_indexOfSupplementary_62 : decode cJ11_indexOfSupplementary 62 = .ok (.ireturn, 1) := dk_172 (dk_at dksJ11_indexOfSupplementary_2 18 rfl rfl)
theorem dJ11_indexOfSupplementary_63 : decode cJ11_indexOfSupplementary 63 = .ok (.iinc 6 1, 3) := dk_132 6 1 (dk_at dksJ11_indexOfSupplementary_2 19 rfl rfl)
theorem dJ11_indexOfSupplementary_66 : decode cJ11_indexOfSupplementary 66 = .ok (.goto (-38), 3) := dk_167 255 218 (dk_at dksJ11_indexOfSupplementary_3 0 rfl rfl)
theorem dJ11_indexOfSupplementary_69 : decode cJ11_indexOfSupplementary 69 = .ok (.iconst (-1), 1) := dk_2 (dk_at dksJ11_indexOfSupplementary_3 3 rfl rfl)
theorem dJ11_indexOfSupplementary_70 : decode cJ11_indexOfSupplementary 70 = .ok (.ireturn, 1) := dk_172 (dk_at dksJ11_indexOfSupplementary_3 4 rfl rfl)
theorem q81 : (Jvm.Cond.initialized "java/lang/StringUTF16") ∈ lw_all := lw_g (lw_at lw_m1 22 rfl) rfl
theorem q587 : (Jvm.Cond.static ({ cls := "java/lang/StringUTF16", name := "indexOf", desc := "([BIII)I" } : Jvm.MethodName)) ∈ lw_all := lw_g (lw_at lw_m3 48 rfl) rfl
theorem q588 : (Jvm.Cond.code ({ cls := "java/lang/StringUTF16", name := "indexOf", desc := "([BIII)I" } : Jvm.MethodName) prog_31_method_40_code (4 : Nat) (Option.some Jvm.ClassFile.FieldType.int)) ∈ lw_all := lw_g (lw_at lw_m3 49 rfl) rfl
theorem q589 : (Jvm.Cond.methodLink "java/lang/StringUTF16" (224 : Nat) ({ cls := "java/lang/Math", name := "max", desc := "(II)I" } : Jvm.MethodName)) ∈ lw_all := lw_g (lw_at lw_m3 50 rfl) rfl
theorem q590 : (Jvm.Cond.methodLink "java/lang/StringUTF16" (183 : Nat) ({ cls := "java/lang/Math", name := "min", desc := "(II)I" } : Jvm.MethodName)) ∈ lw_all := lw_g (lw_at lw_m3 51 rfl) rfl
theorem q591 : (Jvm.Cond.constant "java/lang/StringUTF16" (227 : Nat) (65536 : Int32)) ∈ lw_all := lw_g (lw_at lw_m3 52 rfl) rfl
theorem q592 : (Jvm.Cond.methodLink "java/lang/StringUTF16" (228 : Nat) ({ cls := "java/lang/StringUTF16", name := "indexOfChar", desc := "([BIII)I" } : Jvm.MethodName)) ∈ lw_all := lw_g (lw_at lw_m3 53 rfl) rfl
theorem q593 : (Jvm.Cond.static ({ cls := "java/lang/StringUTF16", name := "indexOfChar", desc := "([BIII)I" } : Jvm.MethodName)) ∈ lw_all := lw_g (lw_at lw_m3 54 rfl) rfl
theorem q594 : (Jvm.Cond.code ({ cls := "java/lang/StringUTF16", name := "indexOfChar", desc := "([BIII)I" } : Jvm.MethodName) prog_31_method_47_code (4 : Nat) (Option.some Jvm.ClassFile.FieldType.int)) ∈ lw_all := lw_g (lw_at lw_m3 55 rfl) rfl
theorem q595 : (Jvm.Cond.methodLink "java/lang/StringUTF16" (96 : Nat) ({ cls := "java/lang/StringUTF16", name := "checkBoundsBeginEnd", desc := "(II[B)V" } : Jvm.MethodName)) ∈ lw_all := lw_g (lw_at lw_m3 56 rfl) rfl
theorem q596 : (Jvm.Cond.static ({ cls := "java/lang/StringUTF16", name := "checkBoundsBeginEnd", desc := "(II[B)V" } : Jvm.MethodName)) ∈ lw_all := lw_g (lw_at lw_m3 57 rfl) rfl
theorem q597 : (Jvm.Cond.code ({ cls := "java/lang/StringUTF16", name := "checkBoundsBeginEnd", desc := "(II[B)V" } : Jvm.MethodName) prog_31_method_93_code (3 : Nat) (Option.none : Option Jvm.ClassFile.FieldType)) ∈ lw_all := lw_g (lw_at lw_m3 58 rfl) rfl
theorem q598 : (Jvm.Cond.methodLink "java/lang/StringUTF16" (48 : Nat) ({ cls := "java/lang/StringUTF16", name := "length", desc := "([B)I" } : Jvm.MethodName)) ∈ lw_all := lw_g (lw_at lw_m3 59 rfl) rfl
theorem q599 : (Jvm.Cond.static ({ cls := "java/lang/StringUTF16", name := "length", desc := "([B)I" } : Jvm.MethodName)) ∈ lw_all := lw_g (lw_at lw_m3 60 rfl) rfl
theorem q600 : (Jvm.Cond.code ({ cls := "java/lang/StringUTF16", name := "length", desc := "([B)I" } : Jvm.MethodName) prog_31_method_6_code (1 : Nat) (Option.some Jvm.ClassFile.FieldType.int)) ∈ lw_all := lw_g (lw_at lw_m3 61 rfl) rfl
theorem q601 : (Jvm.Cond.methodLink "java/lang/StringUTF16" (241 : Nat) ({ cls := "java/lang/String", name := "checkBoundsBeginEnd", desc := "(III)V" } : Jvm.MethodName)) ∈ lw_all := lw_g (lw_at lw_m3 62 rfl) rfl
theorem q609 : (Jvm.Cond.methodLink "java/lang/StringUTF16" (244 : Nat) ({ cls := "java/lang/StringUTF16", name := "indexOfCharUnsafe", desc := "([BIII)I" } : Jvm.MethodName)) ∈ lw_all := lw_g (lw_at lw_m3 70 rfl) rfl
theorem q610 : (Jvm.Cond.static ({ cls := "java/lang/StringUTF16", name := "indexOfCharUnsafe", desc := "([BIII)I" } : Jvm.MethodName)) ∈ lw_all := lw_g (lw_at lw_m3 71 rfl) rfl
theorem q611 : (Jvm.Cond.code ({ cls := "java/lang/StringUTF16", name := "indexOfCharUnsafe", desc := "([BIII)I" } : Jvm.MethodName) prog_31_method_48_code (5 : Nat) (Option.some Jvm.ClassFile.FieldType.int)) ∈ lw_all := lw_g (lw_at lw_m3 72 rfl) rfl
theorem q612 : (Jvm.Cond.methodLink "java/lang/StringUTF16" (71 : Nat) ({ cls := "java/lang/StringUTF16", name := "getChar", desc := "([BI)C" } : Jvm.MethodName)) ∈ lw_all := lw_g (lw_at lw_m3 73 rfl) rfl
theorem q613 : (Jvm.Cond.static ({ cls := "java/lang/StringUTF16", name := "getChar", desc := "([BI)C" } : Jvm.MethodName)) ∈ lw_all := lw_g (lw_at lw_m3 74 rfl) rfl
theorem q614 : (Jvm.Cond.code ({ cls := "java/lang/StringUTF16", name := "getChar", desc := "([BI)C" } : Jvm.MethodName) prog_31_method_5_code (2 : Nat) (Option.some Jvm.ClassFile.FieldType.char)) ∈ lw_all := lw_g (lw_at lw_m3 75 rfl) rfl
theorem q615 : (Jvm.Cond.fieldLink "java/lang/StringUTF16" (44 : Nat) "java/lang/StringUTF16" "$assertionsDisabled" "Z") ∈ lw_all := lw_g (lw_at lw_m3 76 rfl) rfl
theorem q616 : (Jvm.Cond.laysStatic "java/lang/StringUTF16" "$assertionsDisabled" "Z") ∈ lw_tbl := lw_at lw_m3 77 rfl
theorem q617 : (Jvm.Cond.fieldLink "java/lang/StringUTF16" (59 : Nat) "java/lang/StringUTF16" "HI_BYTE_SHIFT" "I") ∈ lw_all := lw_g (lw_at lw_m3 78 rfl) rfl
theorem q618 : (Jvm.Cond.laysStatic "java/lang/StringUTF16" "HI_BYTE_SHIFT" "I") ∈ lw_tbl := lw_at lw_m3 79 rfl
theorem q619 : (Jvm.Cond.fieldLink "java/lang/StringUTF16" (63 : Nat) "java/lang/StringUTF16" "LO_BYTE_SHIFT" "I") ∈ lw_all := lw_g (lw_at lw_m3 80 rfl) rfl
theorem q620 : (Jvm.Cond.laysStatic "java/lang/StringUTF16" "LO_BYTE_SHIFT" "I") ∈ lw_tbl := lw_at lw_m3 81 rfl
theorem q621 : (Jvm.Cond.methodLink "java/lang/StringUTF16" (232 : Nat) ({ cls := "java/lang/StringUTF16", name := "indexOfSupplementary", desc := "([BIII)I" } : Jvm.MethodName)) ∈ lw_all := lw_g (lw_at lw_m3 82 rfl) rfl
theorem q622 : (Jvm.Cond.static ({ cls := "java/lang/StringUTF16", name := "indexOfSupplementary", desc := "([BIII)I" } : Jvm.MethodName)) ∈ lw_all := lw_g (lw_at lw_m3 83 rfl) rfl
theorem q623 : (Jvm.Cond.code ({ cls := "java/lang/StringUTF16", name := "indexOfSupplementary", desc := "([BIII)I" } : Jvm.MethodName) prog_31_method_49_code (7 : Nat) (Option.some Jvm.ClassFile.FieldType.int)) ∈ lw_all := lw_g (lw_at lw_m3 84 rfl) rfl
theorem q624 : (Jvm.Cond.methodLink "java/lang/StringUTF16" (164 : Nat) ({ cls := "java/lang/Character", name := "isValidCodePoint", desc := "(I)Z" } : Jvm.MethodName)) ∈ lw_all := lw_g (lw_at lw_m3 85 rfl) rfl
theorem q627 : (Jvm.Cond.methodLink "java/lang/StringUTF16" (157 : Nat) ({ cls := "java/lang/Character", name := "highSurrogate", desc := "(I)C" } : Jvm.MethodName)) ∈ lw_all := lw_g (lw_at lw_m3 88 rfl) rfl
theorem q631 : (Jvm.Cond.methodLink "java/lang/StringUTF16" (161 : Nat) ({ cls := "java/lang/Character", name := "lowSurrogate", desc := "(I)C" } : Jvm.MethodName)) ∈ lw_all := lw_g (lw_at lw_m3 92 rfl) rfl
/-! jdk/internal/util/Preconditions -/
set_option maxRecDepth 100000
def RJ12 : String := "jdk/internal/util/Preconditions"
abbrev cJ12_checkFromToIndex : ByteArray := prog_34_method_12_code
def yJ12_checkFromToIndex : MethodName := ⟨RJ12, "checkFromToIndex", "(IIILjava/util/function/BiFunction;)I"⟩
def dkwJ12_checkFromToIndex_0 : List UInt8 := [26, 155, 0, 13, 26, 27, 163, 0, 8, 27, 28, 164, 0, 11, 45, 26, 27, 28, 184, 0, 99, 191, 26, 172]
abbrev dktJ12_checkFromToIndex_0 : List UInt8 := dkwJ12_checkFromToIndex_0 ++ []
theorem dksJ12_checkFromToIndex_0 : cJ12_checkFromToIndex.data.toList.drop 0 = dktJ12_checkFromToIndex_0 := by decide +kernel
theorem dJ12_checkFromToIndex_0 : decode cJ12_checkFromToIndex 0 = .ok (.iload_n 0, 1) := dk_26 (dk_at dksJ12_checkFromToIndex_0 0 rfl rfl)
theorem dJ12_checkFromToIndex_1 : decode cJ12_checkFromToIndex 1 = .ok (.ifCond .lt 13, 3) := dk_155 0 13 (dk_at dksJ12_checkFromToIndex_0 1 rfl rfl)
theorem dJ12_checkFromToIndex_4 : decode cJ12_checkFromToIndex 4 = .ok (.iload_n 0, 1) := dk_26 (dk_at dksJ12_checkFromToIndex_0 4 rfl rfl)
theorem dJ12_checkFromToIndex_5 : decode cJ12_checkFromToIndex 5 = .ok (.iload_n 1, 1) := dk_27 (dk_at dksJ12_checkFromToIndex_0 5 rfl rfl)
theorem dJ12_checkFromToIndex_6 : decode cJ12_checkFromToIndex 6 = .ok (.if_icmp .gt 8, 3) := dk_163 0 8 (dk_at dksJ12_checkFromToIndex_0 6 rfl rfl)
theorem dJ12_checkFromToIndex_9 : decode cJ12_checkFromToIndex 9 = .ok (.iload_n 1, 1) := dk_27 (dk_at dksJ12_checkFromToIndex_0 9 rfl rfl)
theorem dJ12_checkFromToIndex_10 : decode cJ12_checkFromToIndex 10 = .ok (.iload_n 2, 1) := dk_28 (dk_at dksJ12_checkFromToIndex_0 10 rfl rfl)
theorem dJ12_checkFromToIndex_11 : decode cJ12_checkFromToIndex 11 = .ok (.if_icmp .le 11, 3) := dk_164 0 11 (dk_at dksJ12_checkFromToIndex_0 11 rfl rfl)
theorem dJ12_checkFromToIndex_14 : decode cJ12_checkFromToIndex 14 = .ok (.aload_n 3, 1) := dk_45 (dk_at dksJ12_checkFromToIndex_0 14 rfl rfl)
theorem dJ12_checkFromToIndex_15 : decode cJ12_checkFromToIndex 15 = .ok (.iload_n 0, 1) := dk_26 (dk_at dksJ12_checkFromToIndex_0 15 rfl rfl)
theorem dJ12_checkFromToIndex_16 : decode cJ12_checkFromToIndex 16 = .ok (.iload_n 1, 1) := dk_27 (dk_at dksJ12_checkFromToIndex_0 16 rfl rfl)
theorem dJ12_checkFromToIndex_17 : decode cJ12_checkFromToIndex 17 = .ok (.iload_n 2, 1) := dk_28 (dk_at dksJ12_checkFromToIndex_0 17 rfl rfl)
theorem dJ12_checkFromToIndex_18 : decode cJ12_checkFromToIndex 18 = .ok (.invokestatic 99, 3) := dk_184 0 99 (dk_at dksJ12_checkFromToIndex_0 18 rfl rfl)
theorem dJ12_checkFromToIndex_21 : decode cJ12_checkFromToIndex 21 = .ok (.athrow, 1) := dk_191 (dk_at dksJ12_checkFromToIndex_0 21 rfl rfl)
theorem dJ12_checkFromToIndex_22 : decode cJ12_checkFromToIndex 22 = .ok (.iload_n 0, 1) := dk_26 (dk_at dksJ12_checkFromToIndex_0 22 rfl rfl)
theorem dJ12_checkFromToIndex_23 : decode cJ12_checkFromToIndex 23 = .ok (.ireturn, 1) := dk_172 (dk_at dksJ12_checkFromToIndex_0 23 rfl rfl)
theorem q82 : (Jvm.Cond.initialized "jdk/internal/util/Preconditions") ∈ lw_all := lw_g (lw_at lw_m1 23 rfl) rfl
theorem q605 : (Jvm.Cond.laysStatic "jdk/internal/util/Preconditions" "SIOOBE_FORMATTER" "Ljava/util/function/BiFunction;") ∈ lw_tbl := lw_at lw_m3 66 rfl
theorem q607 : (Jvm.Cond.static ({ cls := "jdk/internal/util/Preconditions", name := "checkFromToIndex", desc := "(IIILjava/util/function/BiFunction;)I" } : Jvm.MethodName)) ∈ lw_all := lw_g (lw_at lw_m3 68 rfl) rfl
theorem q608 : (Jvm.Cond.code ({ cls := "jdk/internal/util/Preconditions", name := "checkFromToIndex", desc := "(IIILjava/util/function/BiFunction;)I" } : Jvm.MethodName) prog_34_method_12_code (4 : Nat) (Option.some Jvm.ClassFile.FieldType.int)) ∈ lw_all := lw_g (lw_at lw_m3 69 rfl) rfl
/-! java/lang/Character -/
set_option maxRecDepth 100000
def RJ13 : String := "java/lang/Character"
abbrev cJ13_isValidCodePoint : ByteArray := prog_20_method_11_code
def yJ13_isValidCodePoint : MethodName := ⟨RJ13, "isValidCodePoint", "(I)Z"⟩
def dkwJ13_isValidCodePoint_0 : List UInt8 := [26, 16, 16, 124, 60, 27, 16, 17, 162, 0, 7, 4, 167, 0, 4, 3, 172]
abbrev dktJ13_isValidCodePoint_0 : List UInt8 := dkwJ13_isValidCodePoint_0 ++ []
theorem dksJ13_isValidCodePoint_0 : cJ13_isValidCodePoint.data.toList.drop 0 = dktJ13_isValidCodePoint_0 := by decide +kernel
theorem dJ13_isValidCodePoint_0 : decode cJ13_isValidCodePoint 0 = .ok (.iload_n 0, 1) := dk_26 (dk_at dksJ13_isValidCodePoint_0 0 rfl rfl)
theorem dJ13_isValidCodePoint_1 : decode cJ13_isValidCodePoint 1 = .ok (.bipush 16, 2) := dk_16 16 (dk_at dksJ13_isValidCodePoint_0 1 rfl rfl)
theorem dJ13_isValidCodePoint_3 : decode cJ13_isValidCodePoint 3 = .ok (.iushr, 1) := dk_124 (dk_at dksJ13_isValidCodePoint_0 3 rfl rfl)
theorem dJ13_isValidCodePoint_4 : decode cJ13_isValidCodePoint 4 = .ok (.istore_n 1, 1) := dk_60 (dk_at dksJ13_isValidCodePoint_0 4 rfl rfl)
theorem dJ13_isValidCodePoint_5 : decode cJ13_isValidCodePoint 5 = .ok (.iload_n 1, 1) := dk_27 (dk_at dksJ13_isValidCodePoint_0 5 rfl rfl)
theorem dJ13_isValidCodePoint_6 : decode cJ13_isValidCodePoint 6 = .ok (.bipush 17, 2) := dk_16 17 (dk_at dksJ13_isValidCodePoint_0 6 rfl rfl)
theorem dJ13_isValidCodePoint_8 : decode cJ13_isValidCodePoint 8 = .ok (.if_icmp .ge 7, 3) := dk_162 0 7 (dk_at dksJ13_isValidCodePoint_0 8 rfl rfl)
theorem dJ13_isValidCodePoint_11 : decode cJ13_isValidCodePoint 11 = .ok (.iconst 1, 1) := dk_4 (dk_at dksJ13_isValidCodePoint_0 11 rfl rfl)
theorem dJ13_isValidCodePoint_12 : decode cJ13_isValidCodePoint 12 = .ok (.goto 4, 3) := dk_167 0 4 (dk_at dksJ13_isValidCodePoint_0 12 rfl rfl)
theorem dJ13_isValidCodePoint_15 : decode cJ13_isValidCodePoint 15 = .ok (.iconst 0, 1) := dk_3 (dk_at dksJ13_isValidCodePoint_0 15 rfl rfl)
theorem dJ13_isValidCodePoint_16 : decode cJ13_isValidCodePoint 16 = .ok (.ireturn, 1) := dk_172 (dk_at dksJ13_isValidCodePoint_0 16 rfl rfl)
abbrev cJ13_highSurrogate : ByteArray := prog_20_method_28_code
def yJ13_highSurrogate : MethodName := ⟨RJ13, "highSurrogate", "(I)C"⟩
def dkwJ13_highSurrogate_0 : List UInt8 := [26, 16, 10, 124, 18, 110, 96, 146, 172]
abbrev dktJ13_highSurrogate_0 : List UInt8 := dkwJ13_highSurrogate_0 ++ []
theorem dksJ13_highSurrogate_0 : cJ13_highSurrogate.data.toList.drop 0 = dktJ13_highSurrogate_0 := by decide +kernel
theorem dJ13_highSurrogate_0 : decode cJ13_highSurrogate 0 = .ok (.iload_n 0, 1) := dk_26 (dk_at dksJ13_highSurrogate_0 0 rfl rfl)
theorem dJ13_highSurrogate_1 : decode cJ13_highSurrogate 1 = .ok (.bipush 10, 2) := dk_16 10 (dk_at dksJ13_highSurrogate_0 1 rfl rfl)
theorem dJ13_highSurrogate_3 : decode cJ13_highSurrogate 3 = .ok (.iushr, 1) := dk_124 (dk_at dksJ13_highSurrogate_0 3 rfl rfl)
theorem dJ13_highSurrogate_4 : decode cJ13_highSurrogate 4 = .ok (.ldc 110, 2) := dk_18 110 (dk_at dksJ13_highSurrogate_0 4 rfl rfl)
theorem dJ13_highSurrogate_6 : decode cJ13_highSurrogate 6 = .ok (.iadd, 1) := dk_96 (dk_at dksJ13_highSurrogate_0 6 rfl rfl)
theorem dJ13_highSurrogate_7 : decode cJ13_highSurrogate 7 = .ok (.i2c, 1) := dk_146 (dk_at dksJ13_highSurrogate_0 7 rfl rfl)
theorem dJ13_highSurrogate_8 : decode cJ13_highSurrogate 8 = .ok (.ireturn, 1) := dk_172 (dk_at dksJ13_highSurrogate_0 8 rfl rfl)
abbrev cJ13_lowSurrogate : ByteArray := prog_20_method_29_code
def yJ13_lowSurrogate : MethodName := ⟨RJ13, "lowSurrogate", "(I)C"⟩
def dkwJ13_lowSurrogate_0 : List UInt8 := [26, 17, 3, 255, 126, 18, 76, 96, 146, 172]
abbrev dktJ13_lowSurrogate_0 : List UInt8 := dkwJ13_lowSurrogate_0 ++ []
theorem dksJ13_lowSurrogate_0 : cJ13_lowSurrogate.data.toList.drop 0 = dktJ13_lowSurrogate_0 := by decide +kernel
theorem dJ13_lowSurrogate_0 : decode cJ13_lowSurrogate 0 = .ok (.iload_n 0, 1) := dk_26 (dk_at dksJ13_lowSurrogate_0 0 rfl rfl)
theorem dJ13_lowSurrogate_1 : decode cJ13_lowSurrogate 1 = .ok (.sipush 1023, 3) := dk_17 3 255 (dk_at dksJ13_lowSurrogate_0 1 rfl rfl)
theorem dJ13_lowSurrogate_4 : decode cJ13_lowSurrogate 4 = .ok (.iand, 1) := dk_126 (dk_at dksJ13_lowSurrogate_0 4 rfl rfl)
theorem dJ13_lowSurrogate_5 : decode cJ13_lowSurrogate 5 = .ok (.ldc 76, 2) := dk_18 76 (dk_at dksJ13_lowSurrogate_0 5 rfl rfl)
theorem dJ13_lowSurrogate_7 : decode cJ13_lowSurrogate 7 = .ok (.iadd, 1) := dk_96 (dk_at dksJ13_lowSurrogate_0 7 rfl rfl)
theorem dJ13_lowSurrogate_8 : decode cJ13_lowSurrogate 8 = .ok (.i2c, 1) := dk_146 (dk_at dksJ13_lowSurrogate_0 8 rfl rfl)
theorem dJ13_lowSurrogate_9 : decode cJ13_lowSurrogate 9 = .ok (.ireturn, 1) := dk_172 (dk_at dksJ13_lowSurrogate_0 9 rfl rfl)
theorem q83 : (Jvm.Cond.initialized "java/lang/Character") ∈ lw_all := lw_g (lw_at lw_m1 24 rfl) rfl
theorem q625 : (Jvm.Cond.static ({ cls := "java/lang/Character", name := "isValidCodePoint", desc := "(I)Z" } : Jvm.MethodName)) ∈ lw_all := lw_g (lw_at lw_m3 86 rfl) rfl
theorem q626 : (Jvm.Cond.code ({ cls := "java/lang/Character", name := "isValidCodePoint", desc := "(I)Z" } : Jvm.MethodName) prog_20_method_11_code (2 : Nat) (Option.some Jvm.ClassFile.FieldType.boolean)) ∈ lw_all := lw_g (lw_at lw_m3 87 rfl) rfl
theorem q628 : (Jvm.Cond.static ({ cls := "java/lang/Character", name := "highSurrogate", desc := "(I)C" } : Jvm.MethodName)) ∈ lw_all := lw_g (lw_at lw_m3 89 rfl) rfl
theorem q629 : (Jvm.Cond.code ({ cls := "java/lang/Character", name := "highSurrogate", desc := "(I)C" } : Jvm.MethodName) prog_20_method_28_code (1 : Nat) (Option.some Jvm.ClassFile.FieldType.char)) ∈ lw_all := lw_g (lw_at lw_m3 90 rfl) rfl
theorem q630 : (Jvm.Cond.constant "java/lang/Character" (110 : Nat) (55232 : Int32)) ∈ lw_all := lw_g (lw_at lw_m3 91 rfl) rfl
theorem q632 : (Jvm.Cond.static ({ cls := "java/lang/Character", name := "lowSurrogate", desc := "(I)C" } : Jvm.MethodName)) ∈ lw_all := lw_g (lw_at lw_m3 93 rfl) rfl
theorem q633 : (Jvm.Cond.code ({ cls := "java/lang/Character", name := "lowSurrogate", desc := "(I)C" } : Jvm.MethodName) prog_20_method_29_code (1 : Nat) (Option.some Jvm.ClassFile.FieldType.char)) ∈ lw_all := lw_g (lw_at lw_m3 94 rfl) rfl
theorem q634 : (Jvm.Cond.constant "java/lang/Character" (76 : Nat) (56320 : Int32)) ∈ lw_all := lw_g (lw_at lw_m3 95 rfl) rfl
/-! java/lang/Integer -/
set_option maxRecDepth 100000
def RJ14 : String := "java/lang/Integer"
abbrev cJ14_numberOfTrailingZeros : ByteArray := prog_24_method_48_code
def yJ14_numberOfTrailingZeros : MethodName := ⟨RJ14, "numberOfTrailingZeros", "(I)I"⟩
def dkwJ14_numberOfTrailingZeros_3 : List UInt8 := [5, 124, 59, 27, 26, 4, 124, 96, 172]
abbrev dktJ14_numberOfTrailingZeros_3 : List UInt8 := dkwJ14_numberOfTrailingZeros_3 ++ []
def dkwJ14_numberOfTrailingZeros_2 : List UInt8 := [124, 59, 26, 16, 16, 164, 0, 10, 132, 1, 4, 26, 7, 124, 59, 26, 7, 164, 0, 10, 132, 1, 2, 26]
abbrev dktJ14_numberOfTrailingZeros_2 : List UInt8 := dkwJ14_numberOfTrailingZeros_2 ++ dktJ14_numberOfTrailingZeros_3
def dkwJ14_numberOfTrailingZeros_1 : List UInt8 := [164, 0, 11, 132, 1, 16, 26, 16, 16, 124, 59, 26, 17, 1, 0, 164, 0, 11, 132, 1, 8, 26, 16, 8]
abbrev dktJ14_numberOfTrailingZeros_1 : List UInt8 := dkwJ14_numberOfTrailingZeros_1 ++ dktJ14_numberOfTrailingZeros_2
def dkwJ14_numberOfTrailingZeros_0 : List UInt8 := [26, 2, 130, 26, 4, 100, 126, 59, 26, 157, 0, 8, 26, 16, 32, 126, 172, 4, 60, 26, 19, 1, 8]
abbrev dktJ14_numberOfTrailingZeros_0 : List UInt8 := dkwJ14_numberOfTrailingZeros_0 ++ dktJ14_numberOfTrailingZeros_1
theorem dksJ14_numberOfTrailingZeros_0 : cJ14_numberOfTrailingZeros.data.toList.drop 0 = dktJ14_numberOfTrailingZeros_0 := by decide +kernel
theorem dksJ14_numberOfTrailingZeros_1 : cJ14_numberOfTrailingZeros.data.toList.drop 23 = dktJ14_numberOfTrailingZeros_1 := dk_seg dksJ14_numberOfTrailingZeros_0 23 rfl rfl
theorem dksJ14_numberOfTrailingZeros_2 : cJ14_numberOfTrailingZeros.data.toList.drop 47 = dktJ14_numberOfTrailingZeros_2 := dk_seg dksJ14_numberOfTrailingZeros_1 24 rfl rfl
theorem dksJ14_numberOfTrailingZeros_3 : cJ14_numberOfTrailingZeros.data.toList.drop 71 = dktJ14_numberOfTrailingZeros_3 := dk_seg dksJ14_numberOfTrailingZeros_2 24 rfl rfl
theorem dJ14_numberOfTrailingZeros_0 : decode cJ14_numberOfTrailingZeros 0 = .ok (.iload_n 0, 1) := dk_26 (dk_at dksJ14_numberOfTrailingZeros_0 0 rfl rfl)
theorem dJ14_numberOfTrailingZeros_1 : decode cJ14_numberOfTrailingZeros 1 = .ok (.iconst (-1), 1) := dk_2 (dk_at dksJ14_numberOfTrailingZeros_0 1 rfl rfl)
theorem dJ14_numberOfTrailingZeros_2 : decode cJ14_numberOfTrailingZeros 2 = .ok (.ixor, 1) := dk_130 (dk_at dksJ14_numberOfTrailingZeros_0 2 rfl rfl)
theorem dJ14_numberOfTrailingZeros_3 : decode cJ14_numberOfTrailingZeros 3 = .ok (.iload_n 0, 1) := dk_26 (dk_at dksJ14_numberOfTrailingZeros_0 3 rfl rfl)
theorem dJ14_numberOfTrailingZeros_4 : decode cJ14_numberOfTrailingZeros 4 = .ok (.iconst 1, 1) := dk_4 (dk_at dksJ14_numberOfTrailingZeros_0 4 rfl rfl)
theorem dJ14_numberOfTrailingZeros_5 : decode cJ14_numberOfTrailingZeros 5 = .ok (.isub, 1) := dk_100 (dk_at dksJ14_numberOfTrailingZeros_0 5 rfl rfl)
theorem dJ14_numberOfTrailingZeros_6 : decode cJ14_numberOfTrailingZeros 6 = .ok (.iand, 1) := dk_126 (dk_at dksJ14_numberOfTrailingZeros_0 6 rfl rfl)
theorem dJ14_numberOfTrailingZeros_7 : decode cJ14_numberOfTrailingZeros 7 = .ok (.istore_n 0, 1) := dk_59 (dk_at dksJ14_numberOfTrailingZeros_0 7 rfl rfl)
theorem dJ14_numberOfTrailingZeros_8 : decode cJ14_numberOfTrailingZeros 8 = .ok (.iload_n 0, 1) := dk_26 (dk_at dksJ14_numberOfTrailingZeros_0 8 rfl rfl)
theorem dJ14_numberOfTrailingZeros_9 : decode cJ14_numberOfTrailingZeros 9 = .ok (.ifCond .gt 8, 3) := dk_157 0 8 (dk_at dksJ14_numberOfTrailingZeros_0 9 rfl rfl)
theorem dJ14_numberOfTrailingZeros_12 : decode cJ14_numberOfTrailingZeros 12 = .ok (.iload_n 0, 1) := dk_26 (dk_at dksJ14_numberOfTrailingZeros_0 12 rfl rfl)
theorem dJ14_numberOfTrailingZeros_13 : decode cJ14_numberOfTrailingZeros 13 = .ok (.bipush 32, 2) := dk_16 32 (dk_at dksJ14_numberOfTrailingZeros_0 13 rfl rfl)
theorem dJ14_numberOfTrailingZeros_15 : decode cJ14_numberOfTrailingZeros 15 = .ok (.iand, 1) := dk_126 (dk_at dksJ14_numberOfTrailingZeros_0 15 rfl rfl)
theorem dJ14_numberOfTrailingZeros_16 : decode cJ14_numberOfTrailingZeros 16 = .ok (.ireturn, 1) := dk_172 (dk_at dksJ14_numberOfTrailingZeros_0 16 rfl rfl)
theorem dJ14_numberOfTrailingZeros_17 : decode cJ14_numberOfTrailingZeros 17 = .ok (.iconst 1, 1) := dk_4 (dk_at dksJ14_numberOfTrailingZeros_0 17 rfl rfl)
theorem dJ14_numberOfTrailingZeros_18 : decode cJ14_numberOfTrailingZeros 18 = .ok (.istore_n 1, 1) := dk_60 (dk_at dksJ14_numberOfTrailingZeros_0 18 rfl rfl)
theorem dJ14_numberOfTrailingZeros_19 : decode cJ14_numberOfTrailingZeros 19 = .ok (.iload_n 0, 1) := dk_26 (dk_at dksJ14_numberOfTrailingZeros_0 19 rfl rfl)
theorem dJ14_numberOfTrailingZeros_20 : decode cJ14_numberOfTrailingZeros 20 = .ok (.ldc_w 264, 3) := dk_19 1 8 (dk_at dksJ14_numberOfTrailingZeros_0 20 rfl rfl)
theorem dJ14_numberOfTrailingZeros_23 : decode cJ14_numberOfTrailingZeros 23 = .ok (.if_icmp .le 11, 3) := dk_164 0 11 (dk_at dksJ14_numberOfTrailingZeros_1 0 rfl rfl)
theorem dJ14_numberOfTrailingZeros_26 : decode cJ14_numberOfTrailingZeros 26 = .ok (.iinc 1 16, 3) := dk_132 1 16 (dk_at dksJ14_numberOfTrailingZeros_1 3 rfl rfl)
theorem dJ14_numberOfTrailingZeros_29 : decode cJ14_numberOfTrailingZeros 29 = .ok (.iload_n 0, 1) := dk_26 (dk_at dksJ14_numberOfTrailingZeros_1 6 rfl rfl)
theorem dJ14_numberOfTrailingZeros_30 : decode cJ14_numberOfTrailingZeros 30 = .ok (.bipush 16, 2) := dk_16 16 (dk_at dksJ14_numberOfTrailingZeros_1 7 rfl rfl)
theorem dJ14_numberOfTrailingZeros_32 : decode cJ14_numberOfTrailingZeros 32 = .ok (.iushr, 1) := dk_124 (dk_at dksJ14_numberOfTrailingZeros_1 9 rfl rfl)
theorem dJ14_numberOfTrailingZeros_33 : decode cJ14_numberOfTrailingZeros 33 = .ok (.istore_n 0, 1) := dk_59 (dk_at dksJ14_numberOfTrailingZeros_1 10 rfl rfl)
theorem dJ14_numberOfTrailingZeros_34 : decode cJ14_numberOfTrailingZeros 34 = .ok (.iload_n 0, 1) := dk_26 (dk_at dksJ14_numberOfTrailingZeros_1 11 rfl rfl)
theorem dJ14_numberOfTrailingZeros_35 : decode cJ14_numberOfTrailingZeros 35 = .ok (.sipush 256, 3) := dk_17 1 0 (dk_at dksJ14_numberOfTrailingZeros_1 12 rfl rfl)
theorem dJ14_numberOfTrailingZeros_38 : decode cJ14_numberOfTrailingZeros 38 = .ok (.if_icmp .le 11, 3) := dk_164 0 11 (dk_at dksJ14_numberOfTrailingZeros_1 15 rfl rfl)
theorem dJ14_numberOfTrailingZeros_41 : decode cJ14_numberOfTrailingZeros 41 = .ok (.iinc 1 8, 3) := dk_132 1 8 (dk_at dksJ14_numberOfTrailingZeros_1 18 rfl rfl)
theorem dJ14_numberOfTrailingZeros_44 : decode cJ14_numberOfTrailingZeros 44 = .ok (.iload_n 0, 1) := dk_26 (dk_at dksJ14_numberOfTrailingZeros_1 21 rfl rfl)
theorem dJ14_numberOfTrailingZeros_45 : decode cJ14_numberOfTrailingZeros 45 = .ok (.bipush 8, 2) := dk_16 8 (dk_at dksJ14_numberOfTrailingZeros_1 22 rfl rfl)
theorem dJ14_numberOfTrailingZeros_47 : decode cJ14_numberOfTrailingZeros 47 = .ok (.iushr, 1) := dk_124 (dk_at dksJ14_numberOfTrailingZeros_2 0 rfl rfl)
theorem dJ14_numberOfTrailingZeros_48 : decode cJ14_numberOfTrailingZeros 48 = .ok (.istore_n 0, 1) := dk_59 (dk_at dksJ14_numberOfTrailingZeros_2 1 rfl rfl)
theorem dJ14_numberOfTrailingZeros_49 : decode cJ14_numberOfTrailingZeros 49 = .ok (.iload_n 0, 1) := dk_26 (dk_at dksJ14_numberOfTrailingZeros_2 2 rfl rfl)
theorem dJ14_numberOfTrailingZeros_50 : decode cJ14_numberOfTrailingZeros 50 = .ok (.bipush 16, 2) := dk_16 16 (dk_at dksJ14_numberOfTrailingZeros_2 3 rfl rfl)
theorem dJ14_numberOfTrailingZeros_52 : decode cJ14_numberOfTrailingZeros 52 = .ok (.if_icmp .le 10, 3) := dk_164 0 10 (dk_at dksJ14_numberOfTrailingZeros_2 5 rfl rfl)
theorem dJ14_numberOfTrailingZeros_55 : decode cJ14_numberOfTrailingZeros 55 = .ok (.iinc 1 4, 3) := dk_132 1 4 (dk_at dksJ14_numberOfTrailingZeros_2 8 rfl rfl)
theorem dJ14_numberOfTrailingZeros_58 : decode cJ14_numberOfTrailingZeros 58 = .ok (.iload_n 0, 1) := dk_26 (dk_at dksJ14_numberOfTrailingZeros_2 11 rfl rfl)
theorem dJ14_numberOfTrailingZeros_59 : decode cJ14_numberOfTrailingZeros 59 = .ok (.iconst 4, 1) := dk_7 (dk_at dksJ14_numberOfTrailingZeros_2 12 rfl rfl)
theorem dJ14_numberOfTrailingZeros_60 : decode cJ14_numberOfTrailingZeros 60 = .ok (.iushr, 1) := dk_124 (dk_at dksJ14_numberOfTrailingZeros_2 13 rfl rfl)
theorem dJ14_numberOfTrailingZeros_61 : decode cJ14_numberOfTrailingZeros 61 = .ok (.istore_n 0, 1) := dk_59 (dk_at dksJ14_numberOfTrailingZeros_2 14 rfl rfl)
theorem dJ14_numberOfTrailingZeros_62 : decode cJ14_numberOfTrailingZeros 62 = .ok (.iload_n 0, 1) := dk_26 (dk_at dksJ14_numberOfTrailingZeros_2 15 rfl rfl)
theorem dJ14_numberOfTrailingZeros_63 : decode cJ14_numberOfTrailingZeros 63 = .ok (.iconst 4, 1) := dk_7 (dk_at dksJ14_numberOfTrailingZeros_2 16 rfl rfl)
theorem dJ14_numberOfTrailingZeros_64 : decode cJ14_numberOfTrailingZeros 64 = .ok (.if_icmp .le 10, 3) := dk_164 0 10 (dk_at dksJ14_numberOfTrailingZeros_2 17 rfl rfl)
theorem dJ14_numberOfTrailingZeros_67 : decode cJ14_numberOfTrailingZeros 67 = .ok (.iinc 1 2, 3) := dk_132 1 2 (dk_at dksJ14_numberOfTrailingZeros_2 20 rfl rfl)
theorem dJ14_numberOfTrailingZeros_70 : decode cJ14_numberOfTrailingZeros 70 = .ok (.iload_n 0, 1) := dk_26 (dk_at dksJ14_numberOfTrailingZeros_2 23 rfl rfl)
theorem dJ14_numberOfTrailingZeros_71 : decode cJ14_numberOfTrailingZeros 71 = .ok (.iconst 2, 1) := dk_5 (dk_at dksJ14_numberOfTrailingZeros_3 0 rfl rfl)
theorem dJ14_numberOfTrailingZeros_72 : decode cJ14_numberOfTrailingZeros 72 = .ok (.iushr, 1) := dk_124 (dk_at dksJ14_numberOfTrailingZeros_3 1 rfl rfl)
theorem dJ14_numberOfTrailingZeros_73 : decode cJ14_numberOfTrailingZeros 73 = .ok (.istore_n 0, 1) := dk_59 (dk_at dksJ14_numberOfTrailingZeros_3 2 rfl rfl)
theorem dJ14_numberOfTrailingZeros_74 : decode cJ14_numberOfTrailingZeros 74 = .ok (.iload_n 1, 1) := dk_27 (dk_at dksJ14_numberOfTrailingZeros_3 3 rfl rfl)
theorem dJ14_numberOfTrailingZeros_75 : decode cJ14_numberOfTrailingZeros 75 = .ok (.iload_n 0, 1) := dk_26 (dk_at dksJ14_numberOfTrailingZeros_3 4 rfl rfl)
theorem dJ14_numberOfTrailingZeros_76 : decode cJ14_numberOfTrailingZeros 76 = .ok (.iconst 1, 1) := dk_4 (dk_at dksJ14_numberOfTrailingZeros_3 5 rfl rfl)
theorem dJ14_numberOfTrailingZeros_77 : decode cJ14_numberOfTrailingZeros 77 = .ok (.iushr, 1) := dk_124 (dk_at dksJ14_numberOfTrailingZeros_3 6 rfl rfl)
theorem dJ14_numberOfTrailingZeros_78 : decode cJ14_numberOfTrailingZeros 78 = .ok (.iadd, 1) := dk_96 (dk_at dksJ14_numberOfTrailingZeros_3 7 rfl rfl)
theorem dJ14_numberOfTrailingZeros_79 : decode cJ14_numberOfTrailingZeros 79 = .ok (.ireturn, 1) := dk_172 (dk_at dksJ14_numberOfTrailingZeros_3 8 rfl rfl)
theorem q88 : (Jvm.Cond.initialized "java/lang/Integer") ∈ lw_all := lw_g (lw_at lw_m1 29 rfl) rfl
theorem q875 : (Jvm.Cond.static ({ cls := "java/lang/Integer", name := "numberOfTrailingZeros", desc := "(I)I" } : Jvm.MethodName)) ∈ lw_all := lw_g (lw_at lw_m4 96 rfl) rfl
theorem q876 : (Jvm.Cond.code ({ cls := "java/lang/Integer", name := "numberOfTrailingZeros", desc := "(I)I" } : Jvm.MethodName) prog_24_method_48_code (2 : Nat) (Option.some Jvm.ClassFile.FieldType.int)) ∈ lw_all := lw_g (lw_at lw_m4 97 rfl) rfl
theorem q877 : (Jvm.Cond.constant "java/lang/Integer" (264 : Nat) (65536 : Int32)) ∈ lw_all := lw_g (lw_at lw_m4 98 rfl) rfl
/-! java/lang/ClassCastException -/
set_option maxRecDepth 100000
def RJ15 : String := "java/lang/ClassCastException"
def TJ15 : u_T := fun k => match k with
  | 0 => ("java/lang/Throwable", "backtrace", "Ljava/lang/Object;", false)
  | 1 => ("java/lang/Throwable", "detailMessage", "Ljava/lang/String;", false)
  | 2 => ("java/lang/Throwable", "cause", "Ljava/lang/Throwable;", false)
  | 3 => ("java/lang/Throwable", "stackTrace", "[Ljava/lang/StackTraceElement;", false)
  | 4 => ("java/lang/Throwable", "depth", "I", false)
  | _ => ("java/lang/Throwable", "suppressedExceptions", "Ljava/util/List;", false)
def tyJ15 : Nat → FieldType := fun k => match k with
  | 0 => .object "java/lang/Object"
  | 1 => .object "java/lang/String"
  | 2 => .object "java/lang/Throwable"
  | 3 => .array (.object "java/lang/StackTraceElement")
  | 4 => .int
  | _ => .object "java/util/List"
abbrev wsJ150 : List Cond := u_ws RJ15 TJ15 6
theorem nmJ15 : ∀ a, a < 6 → ∀ b, b < 6 → a ≠ b → (TJ15 a).2.1 ≠ (TJ15 b).2.1 := by decide +kernel
theorem tyJ15_ok : ∀ k, k < 6 → parseFieldDescriptor (TJ15 k).2.2.1 = some (tyJ15 k) := by decide +kernel
abbrev cJ15_init : ByteArray := prog_21_method_2_code
def yJ15_init : MethodName := ⟨RJ15, "<init>", "(Ljava/lang/String;)V"⟩
def dkwJ15_init_0 : List UInt8 := [42, 43, 183, 0, 7, 177]
abbrev dktJ15_init_0 : List UInt8 := dkwJ15_init_0 ++ []
theorem dksJ15_init_0 : cJ15_init.data.toList.drop 0 = dktJ15_init_0 := by decide +kernel
theorem dJ15_init_0 : decode cJ15_init 0 = .ok (.aload_n 0, 1) := dk_42 (dk_at dksJ15_init_0 0 rfl rfl)
theorem dJ15_init_1 : decode cJ15_init 1 = .ok (.aload_n 1, 1) := dk_43 (dk_at dksJ15_init_0 1 rfl rfl)
theorem dJ15_init_2 : decode cJ15_init 2 = .ok (.invokespecial 7, 3) := dk_183 0 7 (dk_at dksJ15_init_0 2 rfl rfl)
theorem dJ15_init_5 : decode cJ15_init 5 = .ok (.return_, 1) := dk_177 (dk_at dksJ15_init_0 5 rfl rfl)
theorem q89 : (Jvm.Cond.initialized "java/lang/ClassCastException") ∈ lw_all := lw_g (lw_at lw_m1 30 rfl) rfl
theorem q267 : (Jvm.Cond.selects "java/lang/ClassCastException" ({ cls := "java/lang/Throwable", name := "fillInStackTrace", desc := "()Ljava/lang/Throwable;" } : Jvm.MethodName) ({ cls := "java/lang/Throwable", name := "fillInStackTrace", desc := "()Ljava/lang/Throwable;" } : Jvm.MethodName)) ∈ lw_all := lw_g (lw_at lw_m1 208 rfl) rfl
theorem q954 : (Jvm.Cond.instantiable "java/lang/ClassCastException" (6 : Nat)) ∈ lw_all := lw_g (lw_at lw_m4 175 rfl) rfl
theorem q955 : (Jvm.Cond.instanceMethod ({ cls := "java/lang/ClassCastException", name := "<init>", desc := "(Ljava/lang/String;)V" } : Jvm.MethodName)) ∈ lw_all := lw_g (lw_at lw_m4 176 rfl) rfl
theorem q956 : (Jvm.Cond.code ({ cls := "java/lang/ClassCastException", name := "<init>", desc := "(Ljava/lang/String;)V" } : Jvm.MethodName) prog_21_method_2_code (2 : Nat) (Option.none : Option Jvm.ClassFile.FieldType)) ∈ lw_all := lw_g (lw_at lw_m4 177 rfl) rfl
theorem q957 : (Jvm.Cond.methodLink "java/lang/ClassCastException" (7 : Nat) ({ cls := "java/lang/RuntimeException", name := "<init>", desc := "(Ljava/lang/String;)V" } : Jvm.MethodName)) ∈ lw_all := lw_g (lw_at lw_m4 178 rfl) rfl
theorem q958 : (Jvm.Cond.lays "java/lang/ClassCastException" "java/lang/Throwable" "backtrace" "Ljava/lang/Object;") ∈ lw_all := lw_g (lw_at lw_m4 179 rfl) rfl
theorem q959 : (Jvm.Cond.lays "java/lang/ClassCastException" "java/lang/Throwable" "detailMessage" "Ljava/lang/String;") ∈ lw_all := lw_g (lw_at lw_m4 180 rfl) rfl
theorem q960 : (Jvm.Cond.lays "java/lang/ClassCastException" "java/lang/Throwable" "cause" "Ljava/lang/Throwable;") ∈ lw_all := lw_g (lw_at lw_m4 181 rfl) rfl
theorem q961 : (Jvm.Cond.lays "java/lang/ClassCastException" "java/lang/Throwable" "stackTrace" "[Ljava/lang/StackTraceElement;") ∈ lw_all := lw_g (lw_at lw_m4 182 rfl) rfl
theorem q962 : (Jvm.Cond.lays "java/lang/ClassCastException" "java/lang/Throwable" "depth" "I") ∈ lw_all := lw_g (lw_at lw_m4 183 rfl) rfl
theorem q963 : (Jvm.Cond.lays "java/lang/ClassCastException" "java/lang/Throwable" "suppressedExceptions" "Ljava/util/List;") ∈ lw_all := lw_g (lw_at lw_m4 184 rfl) rfl
theorem q964 : (Jvm.Cond.superclass "java/lang/ClassCastException" "java/lang/RuntimeException") ∈ lw_all := lw_g (lw_at lw_m4 185 rfl) rfl
theorem q965 : (Jvm.Cond.castable "java/lang/ClassCastException" "java/lang/ClassCastException") ∈ lw_tbl := lw_at lw_m4 186 rfl
theorem q966 : (Jvm.Cond.selects "java/lang/ClassCastException" ({ cls := "java/lang/Throwable", name := "fillInStackTrace", desc := "(I)Ljava/lang/Throwable;" } : Jvm.MethodName) ({ cls := "java/lang/Throwable", name := "fillInStackTrace", desc := "(I)Ljava/lang/Throwable;" } : Jvm.MethodName)) ∈ lw_all := lw_g (lw_at lw_m4 187 rfl) rfl
theorem in_J15 : ∀ w ∈ wsJ150, w ∈ lw_all := lw_in wsJ150 [958, 959, 960, 961, 962, 963] (by decide +kernel) (by decide +kernel)
