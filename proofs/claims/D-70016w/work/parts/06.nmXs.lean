/-! WindCarver$Shelf -/
set_option maxRecDepth 100000
def RX1 : String := "WindCarver$Shelf"
def TX1 : u_T := fun k => match k with
  | _ => ("WindCarver$Shelf", "held", "Ljava/lang/Object;", false)
def tyX1 : Nat → FieldType := fun k => match k with
  | _ => .object "java/lang/Object"
abbrev wsX10 : List Cond := u_ws RX1 TX1 1
theorem nmX1 : ∀ a, a < 1 → ∀ b, b < 1 → a ≠ b → (TX1 a).2.1 ≠ (TX1 b).2.1 := by decide +kernel
theorem tyX1_ok : ∀ k, k < 1 → parseFieldDescriptor (TX1 k).2.2.1 = some (tyX1 k) := by decide +kernel
abbrev cX1_init : ByteArray := prog_10_method_1_code
def yX1_init : MethodName := ⟨RX1, "<init>", "()V"⟩
theorem dX1_init_0 : decode cX1_init 0 = .ok (.aload_n 0, 1) := by decide +kernel
theorem dX1_init_1 : decode cX1_init 1 = .ok (.invokespecial 1, 3) := by decide +kernel
theorem dX1_init_4 : decode cX1_init 4 = .ok (.return_, 1) := by decide +kernel
abbrev cX1_put : ByteArray := prog_10_method_4_code
def yX1_put : MethodName := ⟨RX1, "put", "(II)I"⟩
def dkwX1_put_2 : List UInt8 := [42, 180, 0, 7, 192, 0, 17, 27, 28, 79, 42, 27, 182, 0, 19, 172]
abbrev dktX1_put_2 : List UInt8 := dkwX1_put_2 ++ []
def dkwX1_put_1 : List UInt8 := [42, 180, 0, 7, 193, 0, 15, 153, 0, 17, 42, 180, 0, 7, 192, 0, 15, 27, 28, 147, 86, 167, 0, 13]
abbrev dktX1_put_1 : List UInt8 := dkwX1_put_1 ++ dktX1_put_2
def dkwX1_put_0 : List UInt8 := [42, 180, 0, 7, 193, 0, 13, 153, 0, 17, 42, 180, 0, 7, 192, 0, 13, 27, 28, 145, 84, 167, 0, 37]
abbrev dktX1_put_0 : List UInt8 := dkwX1_put_0 ++ dktX1_put_1
theorem dksX1_put_0 : cX1_put.data.toList.drop 0 = dktX1_put_0 := by decide +kernel
theorem dksX1_put_1 : cX1_put.data.toList.drop 24 = dktX1_put_1 := dk_seg dksX1_put_0 24 rfl rfl
theorem dksX1_put_2 : cX1_put.data.toList.drop 48 = dktX1_put_2 := dk_seg dksX1_put_1 24 rfl rfl
theorem dX1_put_0 : decode cX1_put 0 = .ok (.aload_n 0, 1) := dk_42 (dk_at dksX1_put_0 0 rfl rfl)
theorem dX1_put_1 : decode cX1_put 1 = .ok (.getfield 7, 3) := dk_180 0 7 (dk_at dksX1_put_0 1 rfl rfl)
theorem dX1_put_4 : decode cX1_put 4 = .ok (.instanceof 13, 3) := dk_193 0 13 (dk_at dksX1_put_0 4 rfl rfl)
theorem dX1_put_7 : decode cX1_put 7 = .ok (.ifCond .eq 17, 3) := dk_153 0 17 (dk_at dksX1_put_0 7 rfl rfl)
theorem dX1_put_10 : decode cX1_put 10 = .ok (.aload_n 0, 1) := dk_42 (dk_at dksX1_put_0 10 rfl rfl)
theorem dX1_put_11 : decode cX1_put 11 = .ok (.getfield 7, 3) := dk_180 0 7 (dk_at dksX1_put_0 11 rfl rfl)
theorem dX1_put_14 : decode cX1_put 14 = .ok (.checkcast 13, 3) := dk_192 0 13 (dk_at dksX1_put_0 14 rfl rfl)
theorem dX1_put_17 : decode cX1_put 17 = .ok (.iload_n 1, 1) := dk_27 (dk_at dksX1_put_0 17 rfl rfl)
theorem dX1_put_18 : decode cX1_put 18 = .ok (.iload_n 2, 1) := dk_28 (dk_at dksX1_put_0 18 rfl rfl)
theorem dX1_put_19 : decode cX1_put 19 = .ok (.i2b, 1) := dk_145 (dk_at dksX1_put_0 19 rfl rfl)
theorem dX1_put_20 : decode cX1_put 20 = .ok (.bastore, 1) := dk_84 (dk_at dksX1_put_0 20 rfl rfl)
theorem dX1_put_21 : decode cX1_put 21 = .ok (.goto 37, 3) := dk_167 0 37 (dk_at dksX1_put_0 21 rfl rfl)
theorem dX1_put_24 : decode cX1_put 24 = .ok (.aload_n 0, 1) := dk_42 (dk_at dksX1_put_1 0 rfl rfl)
theorem dX1_put_25 : decode cX1_put 25 = .ok (.getfield 7, 3) := dk_180 0 7 (dk_at dksX1_put_1 1 rfl rfl)
theorem dX1_put_28 : decode cX1_put 28 = .ok (.instanceof 15, 3) := dk_193 0 15 (dk_at dksX1_put_1 4 rfl rfl)
theorem dX1_put_31 : decode cX1_put 31 = .ok (.ifCond .eq 17, 3) := dk_153 0 17 (dk_at dksX1_put_1 7 rfl rfl)
theorem dX1_put_34 : decode cX1_put 34 = .ok (.aload_n 0, 1) := dk_42 (dk_at dksX1_put_1 10 rfl rfl)
theorem dX1_put_35 : decode cX1_put 35 = .ok (.getfield 7, 3) := dk_180 0 7 (dk_at dksX1_put_1 11 rfl rfl)
theorem dX1_put_38 : decode cX1_put 38 = .ok (.checkcast 15, 3) := dk_192 0 15 (dk_at dksX1_put_1 14 rfl rfl)
theorem dX1_put_41 : decode cX1_put 41 = .ok (.iload_n 1, 1) := dk_27 (dk_at dksX1_put_1 17 rfl rfl)
theorem dX1_put_42 : decode cX1_put 42 = .ok (.iload_n 2, 1) := dk_28 (dk_at dksX1_put_1 18 rfl rfl)
theorem dX1_put_43 : decode cX1_put 43 = .ok (.i2s, 1) := dk_147 (dk_at dksX1_put_1 19 rfl rfl)
theorem dX1_put_44 : decode cX1_put 44 = .ok (.sastore, 1) := dk_86 (dk_at dksX1_put_1 20 rfl rfl)
theorem dX1_put_45 : decode cX1_put 45 = .ok (.goto 13, 3) := dk_167 0 13 (dk_at dksX1_put_1 21 rfl rfl)
theorem dX1_put_48 : decode cX1_put 48 = .ok (.aload_n 0, 1) := dk_42 (dk_at dksX1_put_2 0 rfl rfl)
theorem dX1_put_49 : decode cX1_put 49 = .ok (.getfield 7, 3) := dk_180 0 7 (dk_at dksX1_put_2 1 rfl rfl)
theorem dX1_put_52 : decode cX1_put 52 = .ok (.checkcast 17, 3) := dk_192 0 17 (dk_at dksX1_put_2 4 rfl rfl)
theorem dX1_put_55 : decode cX1_put 55 = .ok (.iload_n 1, 1) := dk_27 (dk_at dksX1_put_2 7 rfl rfl)
theorem dX1_put_56 : decode cX1_put 56 = .ok (.iload_n 2, 1) := dk_28 (dk_at dksX1_put_2 8 rfl rfl)
theorem dX1_put_57 : decode cX1_put 57 = .ok (.iastore, 1) := dk_79 (dk_at dksX1_put_2 9 rfl rfl)
theorem dX1_put_58 : decode cX1_put 58 = .ok (.aload_n 0, 1) := dk_42 (dk_at dksX1_put_2 10 rfl rfl)
theorem dX1_put_59 : decode cX1_put 59 = .ok (.iload_n 1, 1) := dk_27 (dk_at dksX1_put_2 11 rfl rfl)
theorem dX1_put_60 : decode cX1_put 60 = .ok (.invokevirtual 19, 3) := dk_182 0 19 (dk_at dksX1_put_2 12 rfl rfl)
theorem dX1_put_63 : decode cX1_put 63 = .ok (.ireturn, 1) := dk_172 (dk_at dksX1_put_2 15 rfl rfl)
abbrev cX1_at : ByteArray := prog_10_method_3_code
def yX1_at : MethodName := ⟨RX1, "at", "(I)I"⟩
def dkwX1_at_2 : List UInt8 := [46, 172]
abbrev dktX1_at_2 : List UInt8 := dkwX1_at_2 ++ []
def dkwX1_at_1 : List UInt8 := [193, 0, 15, 153, 0, 13, 42, 180, 0, 7, 192, 0, 15, 27, 53, 172, 42, 180, 0, 7, 192, 0, 17, 27]
abbrev dktX1_at_1 : List UInt8 := dkwX1_at_1 ++ dktX1_at_2
def dkwX1_at_0 : List UInt8 := [42, 180, 0, 7, 193, 0, 13, 153, 0, 13, 42, 180, 0, 7, 192, 0, 13, 27, 51, 172, 42, 180, 0, 7]
abbrev dktX1_at_0 : List UInt8 := dkwX1_at_0 ++ dktX1_at_1
theorem dksX1_at_0 : cX1_at.data.toList.drop 0 = dktX1_at_0 := by decide +kernel
theorem dksX1_at_1 : cX1_at.data.toList.drop 24 = dktX1_at_1 := dk_seg dksX1_at_0 24 rfl rfl
theorem dksX1_at_2 : cX1_at.data.toList.drop 48 = dktX1_at_2 := dk_seg dksX1_at_1 24 rfl rfl
theorem dX1_at_0 : decode cX1_at 0 = .ok (.aload_n 0, 1) := dk_42 (dk_at dksX1_at_0 0 rfl rfl)
theorem dX1_at_1 : decode cX1_at 1 = .ok (.getfield 7, 3) := dk_180 0 7 (dk_at dksX1_at_0 1 rfl rfl)
theorem dX1_at_4 : decode cX1_at 4 = .ok (.instanceof 13, 3) := dk_193 0 13 (dk_at dksX1_at_0 4 rfl rfl)
theorem dX1_at_7 : decode cX1_at 7 = .ok (.ifCond .eq 13, 3) := dk_153 0 13 (dk_at dksX1_at_0 7 rfl rfl)
theorem dX1_at_10 : decode cX1_at 10 = .ok (.aload_n 0, 1) := dk_42 (dk_at dksX1_at_0 10 rfl rfl)
theorem dX1_at_11 : decode cX1_at 11 = .ok (.getfield 7, 3) := dk_180 0 7 (dk_at dksX1_at_0 11 rfl rfl)
theorem dX1_at_14 : decode cX1_at 14 = .ok (.checkcast 13, 3) := dk_192 0 13 (dk_at dksX1_at_0 14 rfl rfl)
theorem dX1_at_17 : decode cX1_at 17 = .ok (.iload_n 1, 1) := dk_27 (dk_at dksX1_at_0 17 rfl rfl)
theorem dX1_at_18 : decode cX1_at 18 = .ok (.baload, 1) := dk_51 (dk_at dksX1_at_0 18 rfl rfl)
theorem dX1_at_19 : decode cX1_at 19 = .ok (.ireturn, 1) := dk_172 (dk_at dksX1_at_0 19 rfl rfl)
theorem dX1_at_20 : decode cX1_at 20 = .ok (.aload_n 0, 1) := dk_42 (dk_at dksX1_at_0 20 rfl rfl)
theorem dX1_at_21 : decode cX1_at 21 = .ok (.getfield 7, 3) := dk_180 0 7 (dk_at dksX1_at_0 21 rfl rfl)
theorem dX1_at_24 : decode cX1_at 24 = .ok (.instanceof 15, 3) := dk_193 0 15 (dk_at dksX1_at_1 0 rfl rfl)
theorem dX1_at_27 : decode cX1_at 27 = .ok (.ifCond .eq 13, 3) := dk_153 0 13 (dk_at dksX1_at_1 3 rfl rfl)
theorem dX1_at_30 : decode cX1_at 30 = .ok (.aload_n 0, 1) := dk_42 (dk_at dksX1_at_1 6 rfl rfl)
theorem dX1_at_31 : decode cX1_at 31 = .ok (.getfield 7, 3) := dk_180 0 7 (dk_at dksX1_at_1 7 rfl rfl)
theorem dX1_at_34 : decode cX1_at 34 = .ok (.checkcast 15, 3) := dk_192 0 15 (dk_at dksX1_at_1 10 rfl rfl)
theorem dX1_at_37 : decode cX1_at 37 = .ok (.iload_n 1, 1) := dk_27 (dk_at dksX1_at_1 13 rfl rfl)
theorem dX1_at_38 : decode cX1_at 38 = .ok (.saload, 1) := dk_53 (dk_at dksX1_at_1 14 rfl rfl)
theorem dX1_at_39 : decode cX1_at 39 = .ok (.ireturn, 1) := dk_172 (dk_at dksX1_at_1 15 rfl rfl)
theorem dX1_at_40 : decode cX1_at 40 = .ok (.aload_n 0, 1) := dk_42 (dk_at dksX1_at_1 16 rfl rfl)
theorem dX1_at_41 : decode cX1_at 41 = .ok (.getfield 7, 3) := dk_180 0 7 (dk_at dksX1_at_1 17 rfl rfl)
theorem dX1_at_44 : decode cX1_at 44 = .ok (.checkcast 17, 3) := dk_192 0 17 (dk_at dksX1_at_1 20 rfl rfl)
theorem dX1_at_47 : decode cX1_at 47 = .ok (.iload_n 1, 1) := dk_27 (dk_at dksX1_at_1 23 rfl rfl)
theorem dX1_at_48 : decode cX1_at 48 = .ok (.iaload, 1) := dk_46 (dk_at dksX1_at_2 0 rfl rfl)
theorem dX1_at_49 : decode cX1_at 49 = .ok (.ireturn, 1) := dk_172 (dk_at dksX1_at_2 1 rfl rfl)
abbrev cX1_many : ByteArray := prog_10_method_2_code
def yX1_many : MethodName := ⟨RX1, "many", "()I"⟩
def dkwX1_many_1 : List UInt8 := [193, 0, 15, 153, 0, 12, 42, 180, 0, 7, 192, 0, 15, 190, 172, 42, 180, 0, 7, 192, 0, 17, 190, 172]
abbrev dktX1_many_1 : List UInt8 := dkwX1_many_1 ++ []
def dkwX1_many_0 : List UInt8 := [42, 180, 0, 7, 193, 0, 13, 153, 0, 12, 42, 180, 0, 7, 192, 0, 13, 190, 172, 42, 180, 0, 7]
abbrev dktX1_many_0 : List UInt8 := dkwX1_many_0 ++ dktX1_many_1
theorem dksX1_many_0 : cX1_many.data.toList.drop 0 = dktX1_many_0 := by decide +kernel
theorem dksX1_many_1 : cX1_many.data.toList.drop 23 = dktX1_many_1 := dk_seg dksX1_many_0 23 rfl rfl
theorem dX1_many_0 : decode cX1_many 0 = .ok (.aload_n 0, 1) := dk_42 (dk_at dksX1_many_0 0 rfl rfl)
theorem dX1_many_1 : decode cX1_many 1 = .ok (.getfield 7, 3) := dk_180 0 7 (dk_at dksX1_many_0 1 rfl rfl)
theorem dX1_many_4 : decode cX1_many 4 = .ok (.instanceof 13, 3) := dk_193 0 13 (dk_at dksX1_many_0 4 rfl rfl)
theorem dX1_many_7 : decode cX1_many 7 = .ok (.ifCond .eq 12, 3) := dk_153 0 12 (dk_at dksX1_many_0 7 rfl rfl)
theorem dX1_many_10 : decode cX1_many 10 = .ok (.aload_n 0, 1) := dk_42 (dk_at dksX1_many_0 10 rfl rfl)
theorem dX1_many_11 : decode cX1_many 11 = .ok (.getfield 7, 3) := dk_180 0 7 (dk_at dksX1_many_0 11 rfl rfl)
theorem dX1_many_14 : decode cX1_many 14 = .ok (.checkcast 13, 3) := dk_192 0 13 (dk_at dksX1_many_0 14 rfl rfl)
theorem dX1_many_17 : decode cX1_many 17 = .ok (.arraylength, 1) := dk_190 (dk_at dksX1_many_0 17 rfl rfl)
theorem dX1_many_18 : decode cX1_many 18 = .ok (.ireturn, 1) := dk_172 (dk_at dksX1_many_0 18 rfl rfl)
theorem dX1_many_19 : decode cX1_many 19 = .ok (.aload_n 0, 1) := dk_42 (dk_at dksX1_many_0 19 rfl rfl)
theorem dX1_many_20 : decode cX1_many 20 = .ok (.getfield 7, 3) := dk_180 0 7 (dk_at dksX1_many_0 20 rfl rfl)
theorem dX1_many_23 : decode cX1_many 23 = .ok (.instanceof 15, 3) := dk_193 0 15 (dk_at dksX1_many_1 0 rfl rfl)
theorem dX1_many_26 : decode cX1_many 26 = .ok (.ifCond .eq 12, 3) := dk_153 0 12 (dk_at dksX1_many_1 3 rfl rfl)
theorem dX1_many_29 : decode cX1_many 29 = .ok (.aload_n 0, 1) := dk_42 (dk_at dksX1_many_1 6 rfl rfl)
theorem dX1_many_30 : decode cX1_many 30 = .ok (.getfield 7, 3) := dk_180 0 7 (dk_at dksX1_many_1 7 rfl rfl)
theorem dX1_many_33 : decode cX1_many 33 = .ok (.checkcast 15, 3) := dk_192 0 15 (dk_at dksX1_many_1 10 rfl rfl)
theorem dX1_many_36 : decode cX1_many 36 = .ok (.arraylength, 1) := dk_190 (dk_at dksX1_many_1 13 rfl rfl)
theorem dX1_many_37 : decode cX1_many 37 = .ok (.ireturn, 1) := dk_172 (dk_at dksX1_many_1 14 rfl rfl)
theorem dX1_many_38 : decode cX1_many 38 = .ok (.aload_n 0, 1) := dk_42 (dk_at dksX1_many_1 15 rfl rfl)
theorem dX1_many_39 : decode cX1_many 39 = .ok (.getfield 7, 3) := dk_180 0 7 (dk_at dksX1_many_1 16 rfl rfl)
theorem dX1_many_42 : decode cX1_many 42 = .ok (.checkcast 17, 3) := dk_192 0 17 (dk_at dksX1_many_1 19 rfl rfl)
theorem dX1_many_45 : decode cX1_many 45 = .ok (.arraylength, 1) := dk_190 (dk_at dksX1_many_1 22 rfl rfl)
theorem dX1_many_46 : decode cX1_many 46 = .ok (.ireturn, 1) := dk_172 (dk_at dksX1_many_1 23 rfl rfl)
theorem q61 : (Jvm.Cond.initialized "WindCarver$Shelf") ∈ lw_all := lw_g (lw_at lw_m1 2 rfl) rfl
theorem q104 : (Jvm.Cond.instantiable "WindCarver$Shelf" (1 : Nat)) ∈ lw_all := lw_g (lw_at lw_m1 45 rfl) rfl
theorem q106 : (Jvm.Cond.instanceMethod ({ cls := "WindCarver$Shelf", name := "<init>", desc := "()V" } : Jvm.MethodName)) ∈ lw_all := lw_g (lw_at lw_m1 47 rfl) rfl
theorem q107 : (Jvm.Cond.code ({ cls := "WindCarver$Shelf", name := "<init>", desc := "()V" } : Jvm.MethodName) prog_10_method_1_code (1 : Nat) (Option.none : Option Jvm.ClassFile.FieldType)) ∈ lw_all := lw_g (lw_at lw_m1 48 rfl) rfl
theorem q108 : (Jvm.Cond.methodLink "WindCarver$Shelf" (1 : Nat) ({ cls := "java/lang/Object", name := "<init>", desc := "()V" } : Jvm.MethodName)) ∈ lw_all := lw_g (lw_at lw_m1 49 rfl) rfl
theorem q109 : (Jvm.Cond.fieldLink "WindCarver$Shelf" (7 : Nat) "WindCarver$Shelf" "held" "Ljava/lang/Object;") ∈ lw_all := lw_g (lw_at lw_m1 50 rfl) rfl
theorem q111 : (Jvm.Cond.lays "WindCarver$Shelf" "WindCarver$Shelf" "held" "Ljava/lang/Object;") ∈ lw_all := lw_g (lw_at lw_m1 52 rfl) rfl
theorem q112 : (Jvm.Cond.soleField "WindCarver$Shelf" "held") ∈ lw_all := lw_g (lw_at lw_m1 53 rfl) rfl
theorem q113 : (Jvm.Cond.superclass "WindCarver$Shelf" "java/lang/Object") ∈ lw_all := lw_g (lw_at lw_m1 54 rfl) rfl
theorem q400 : (Jvm.Cond.privateMethod ({ cls := "WindCarver$Shelf", name := "put", desc := "(II)I" } : Jvm.MethodName)) ∈ lw_tbl := lw_at lw_m2 101 rfl
theorem q401 : (Jvm.Cond.instanceMethod ({ cls := "WindCarver$Shelf", name := "put", desc := "(II)I" } : Jvm.MethodName)) ∈ lw_all := lw_g (lw_at lw_m2 102 rfl) rfl
theorem q402 : (Jvm.Cond.code ({ cls := "WindCarver$Shelf", name := "put", desc := "(II)I" } : Jvm.MethodName) prog_10_method_4_code (3 : Nat) (Option.some Jvm.ClassFile.FieldType.int)) ∈ lw_all := lw_g (lw_at lw_m2 103 rfl) rfl
theorem q403 : (Jvm.Cond.classLink "WindCarver$Shelf" (13 : Nat) "[B") ∈ lw_all := lw_g (lw_at lw_m2 104 rfl) rfl
theorem q404 : (Jvm.Cond.classLink "WindCarver$Shelf" (15 : Nat) "[S") ∈ lw_all := lw_g (lw_at lw_m2 105 rfl) rfl
theorem q405 : (Jvm.Cond.classLink "WindCarver$Shelf" (17 : Nat) "[I") ∈ lw_all := lw_g (lw_at lw_m2 106 rfl) rfl
theorem q406 : (Jvm.Cond.methodLink "WindCarver$Shelf" (19 : Nat) ({ cls := "WindCarver$Shelf", name := "at", desc := "(I)I" } : Jvm.MethodName)) ∈ lw_all := lw_g (lw_at lw_m2 107 rfl) rfl
theorem q407 : (Jvm.Cond.privateMethod ({ cls := "WindCarver$Shelf", name := "at", desc := "(I)I" } : Jvm.MethodName)) ∈ lw_tbl := lw_at lw_m2 108 rfl
theorem q408 : (Jvm.Cond.instanceMethod ({ cls := "WindCarver$Shelf", name := "at", desc := "(I)I" } : Jvm.MethodName)) ∈ lw_all := lw_g (lw_at lw_m2 109 rfl) rfl
theorem q409 : (Jvm.Cond.code ({ cls := "WindCarver$Shelf", name := "at", desc := "(I)I" } : Jvm.MethodName) prog_10_method_3_code (2 : Nat) (Option.some Jvm.ClassFile.FieldType.int)) ∈ lw_all := lw_g (lw_at lw_m2 110 rfl) rfl
theorem q437 : (Jvm.Cond.privateMethod ({ cls := "WindCarver$Shelf", name := "many", desc := "()I" } : Jvm.MethodName)) ∈ lw_tbl := lw_at lw_m2 138 rfl
theorem q438 : (Jvm.Cond.instanceMethod ({ cls := "WindCarver$Shelf", name := "many", desc := "()I" } : Jvm.MethodName)) ∈ lw_all := lw_g (lw_at lw_m2 139 rfl) rfl
theorem q439 : (Jvm.Cond.code ({ cls := "WindCarver$Shelf", name := "many", desc := "()I" } : Jvm.MethodName) prog_10_method_2_code (1 : Nat) (Option.some Jvm.ClassFile.FieldType.int)) ∈ lw_all := lw_g (lw_at lw_m2 140 rfl) rfl
theorem in_X1 : ∀ w ∈ wsX10, w ∈ lw_all := lw_in wsX10 [111] (by decide +kernel) (by decide +kernel)
/-! WindCarver$Pass -/
set_option maxRecDepth 100000
def RX2 : String := "WindCarver$Pass"
def TX2 : u_T := fun k => match k with
  | 0 => ("WindCarver$Pass", "isTold", "Z", false)
  | 1 => ("WindCarver$Pass", "hour", "I", false)
  | 2 => ("WindCarver$Pass", "gusts", "[I", true)
  | 3 => ("WindCarver$Pass", "rises", "[I", true)
  | 4 => ("WindCarver$Pass", "works", "[LWindCarver$Work;", true)
  | 5 => ("WindCarver$Pass", "open", "I", false)
  | 6 => ("WindCarver$Pass", "felt", "[I", true)
  | 7 => ("WindCarver$Pass", "leaves", "[I", true)
  | _ => ("WindCarver$Pass", "lost", "I", false)
def tyX2 : Nat → FieldType := fun k => match k with
  | 0 => .boolean
  | 1 => .int
  | 2 => .array .int
  | 3 => .array .int
  | 4 => .array (.object "WindCarver$Work")
  | 5 => .int
  | 6 => .array .int
  | 7 => .array .int
  | _ => .int
abbrev wsX20 : List Cond := u_ws RX2 TX2 9
theorem nmX2 : ∀ a, a < 9 → ∀ b, b < 9 → a ≠ b → (TX2 a).2.1 ≠ (TX2 b).2.1 := by decide +kernel
theorem tyX2_ok : ∀ k, k < 9 → parseFieldDescriptor (TX2 k).2.2.1 = some (tyX2 k) := by decide +kernel
abbrev cX2_init : ByteArray := prog_8_method_1_code
def yX2_init : MethodName := ⟨RX2, "<init>", "()V"⟩
def dkwX2_init_1 : List UInt8 := [181, 0, 20, 42, 16, 16, 188, 10, 181, 0, 24, 42, 7, 188, 10, 181, 0, 27, 177]
abbrev dktX2_init_1 : List UInt8 := dkwX2_init_1 ++ []
def dkwX2_init_0 : List UInt8 := [42, 183, 0, 3, 42, 7, 188, 10, 181, 0, 9, 42, 7, 188, 10, 181, 0, 15, 42, 16, 16, 189, 0, 18]
abbrev dktX2_init_0 : List UInt8 := dkwX2_init_0 ++ dktX2_init_1
theorem dksX2_init_0 : cX2_init.data.toList.drop 0 = dktX2_init_0 := by decide +kernel
theorem dksX2_init_1 : cX2_init.data.toList.drop 24 = dktX2_init_1 := dk_seg dksX2_init_0 24 rfl rfl
theorem dX2_init_0 : decode cX2_init 0 = .ok (.aload_n 0, 1) := dk_42 (dk_at dksX2_init_0 0 rfl rfl)
theorem dX2_init_1 : decode cX2_init 1 = .ok (.invokespecial 3, 3) := dk_183 0 3 (dk_at dksX2_init_0 1 rfl rfl)
theorem dX2_init_4 : decode cX2_init 4 = .ok (.aload_n 0, 1) := dk_42 (dk_at dksX2_init_0 4 rfl rfl)
theorem dX2_init_5 : decode cX2_init 5 = .ok (.iconst 4, 1) := dk_7 (dk_at dksX2_init_0 5 rfl rfl)
theorem dX2_init_6 : decode cX2_init 6 = .ok (.newarray .int, 2) := dk_188_10 (dk_at dksX2_init_0 6 rfl rfl)
theorem dX2_init_8 : decode cX2_init 8 = .ok (.putfield 9, 3) := dk_181 0 9 (dk_at dksX2_init_0 8 rfl rfl)
theorem dX2_init_11 : decode cX2_init 11 = .ok (.aload_n 0, 1) := dk_42 (dk_at dksX2_init_0 11 rfl rfl)
theorem dX2_init_12 : decode cX2_init 12 = .ok (.iconst 4, 1) := dk_7 (dk_at dksX2_init_0 12 rfl rfl)
theorem dX2_init_13 : decode cX2_init 13 = .ok (.newarray .int, 2) := dk_188_10 (dk_at dksX2_init_0 13 rfl rfl)
theorem dX2_init_15 : decode cX2_init 15 = .ok (.putfield 15, 3) := dk_181 0 15 (dk_at dksX2_init_0 15 rfl rfl)
theorem dX2_init_18 : decode cX2_init 18 = .ok (.aload_n 0, 1) := dk_42 (dk_at dksX2_init_0 18 rfl rfl)
theorem dX2_init_19 : decode cX2_init 19 = .ok (.bipush 16, 2) := dk_16 16 (dk_at dksX2_init_0 19 rfl rfl)
theorem dX2_init_21 : decode cX2_init 21 = .ok (.anewarray 18, 3) := dk_189 0 18 (dk_at dksX2_init_0 21 rfl rfl)
theorem dX2_init_24 : decode cX2_init 24 = .ok (.putfield 20, 3) := dk_181 0 20 (dk_at dksX2_init_1 0 rfl rfl)
theorem dX2_init_27 : decode cX2_init 27 = .ok (.aload_n 0, 1) := dk_42 (dk_at dksX2_init_1 3 rfl rfl)
theorem dX2_init_28 : decode cX2_init 28 = .ok (.bipush 16, 2) := dk_16 16 (dk_at dksX2_init_1 4 rfl rfl)
theorem dX2_init_30 : decode cX2_init 30 = .ok (.newarray .int, 2) := dk_188_10 (dk_at dksX2_init_1 6 rfl rfl)
theorem dX2_init_32 : decode cX2_init 32 = .ok (.putfield 24, 3) := dk_181 0 24 (dk_at dksX2_init_1 8 rfl rfl)
theorem dX2_init_35 : decode cX2_init 35 = .ok (.aload_n 0, 1) := dk_42 (dk_at dksX2_init_1 11 rfl rfl)
theorem dX2_init_36 : decode cX2_init 36 = .ok (.iconst 4, 1) := dk_7 (dk_at dksX2_init_1 12 rfl rfl)
theorem dX2_init_37 : decode cX2_init 37 = .ok (.newarray .int, 2) := dk_188_10 (dk_at dksX2_init_1 13 rfl rfl)
theorem dX2_init_39 : decode cX2_init 39 = .ok (.putfield 27, 3) := dk_181 0 27 (dk_at dksX2_init_1 15 rfl rfl)
theorem dX2_init_42 : decode cX2_init 42 = .ok (.return_, 1) := dk_177 (dk_at dksX2_init_1 18 rfl rfl)
abbrev cX2_many : ByteArray := prog_8_method_4_code
def yX2_many : MethodName := ⟨RX2, "many", "()I"⟩
def dkwX2_many_1 : List UInt8 := [96, 60, 132, 2, 1, 167, 255, 231, 27, 172]
abbrev dktX2_many_1 : List UInt8 := dkwX2_many_1 ++ []
def dkwX2_many_0 : List UInt8 := [3, 60, 3, 61, 28, 16, 16, 162, 0, 25, 27, 42, 28, 182, 0, 47, 153, 0, 7, 4, 167, 0, 4, 3]
abbrev dktX2_many_0 : List UInt8 := dkwX2_many_0 ++ dktX2_many_1
theorem dksX2_many_0 : cX2_many.data.toList.drop 0 = dktX2_many_0 := by decide +kernel
theorem dksX2_many_1 : cX2_many.data.toList.drop 24 = dktX2_many_1 := dk_seg dksX2_many_0 24 rfl rfl
theorem dX2_many_0 : decode cX2_many 0 = .ok (.iconst 0, 1) := dk_3 (dk_at dksX2_many_0 0 rfl rfl)
theorem dX2_many_1 : decode cX2_many 1 = .ok (.istore_n 1, 1) := dk_60 (dk_at dksX2_many_0 1 rfl rfl)
theorem dX2_many_2 : decode cX2_many 2 = .ok (.iconst 0, 1) := dk_3 (dk_at dksX2_many_0 2 rfl rfl)
theorem dX2_many_3 : decode cX2_many 3 = .ok (.istore_n 2, 1) := dk_61 (dk_at dksX2_many_0 3 rfl rfl)
theorem dX2_many_4 : decode cX2_many 4 = .ok (.iload_n 2, 1) := dk_28 (dk_at dksX2_many_0 4 rfl rfl)
theorem dX2_many_5 : decode cX2_many 5 = .ok (.bipush 16, 2) := dk_16 16 (dk_at dksX2_many_0 5 rfl rfl)
theorem dX2_many_7 : decode cX2_many 7 = .ok (.if_icmp .ge 25, 3) := dk_162 0 25 (dk_at dksX2_many_0 7 rfl rfl)
theorem dX2_many_10 : decode cX2_many 10 = .ok (.iload_n 1, 1) := dk_27 (dk_at dksX2_many_0 10 rfl rfl)
theorem dX2_many_11 : decode cX2_many 11 = .ok (.aload_n 0, 1) := dk_42 (dk_at dksX2_many_0 11 rfl rfl)
theorem dX2_many_12 : decode cX2_many 12 = .ok (.iload_n 2, 1) := dk_28 (dk_at dksX2_many_0 12 rfl rfl)
theorem dX2_many_13 : decode cX2_many 13 = .ok (.invokevirtual 47, 3) := dk_182 0 47 (dk_at dksX2_many_0 13 rfl rfl)
theorem dX2_many_16 : decode cX2_many 16 = .ok (.ifCond .eq 7, 3) := dk_153 0 7 (dk_at dksX2_many_0 16 rfl rfl)
theorem dX2_many_19 : decode cX2_many 19 = .ok (.iconst 1, 1) := dk_4 (dk_at dksX2_many_0 19 rfl rfl)
theorem dX2_many_20 : decode cX2_many 20 = .ok (.goto 4, 3) := dk_167 0 4 (dk_at dksX2_many_0 20 rfl rfl)
theorem dX2_many_23 : decode cX2_many 23 = .ok (.iconst 0, 1) := dk_3 (dk_at dksX2_many_0 23 rfl rfl)
theorem dX2_many_24 : decode cX2_many 24 = .ok (.iadd, 1) := dk_96 (dk_at dksX2_many_1 0 rfl rfl)
theorem dX2_many_25 : decode cX2_many 25 = .ok (.istore_n 1, 1) := dk_60 (dk_at dksX2_many_1 1 rfl rfl)
theorem dX2_many_26 : decode cX2_many 26 = .ok (.iinc 2 1, 3) := dk_132 2 1 (dk_at dksX2_many_1 2 rfl rfl)
theorem dX2_many_29 : decode cX2_many 29 = .ok (.goto (-25), 3) := dk_167 255 231 (dk_at dksX2_many_1 5 rfl rfl)
theorem dX2_many_32 : decode cX2_many 32 = .ok (.iload_n 1, 1) := dk_27 (dk_at dksX2_many_1 8 rfl rfl)
theorem dX2_many_33 : decode cX2_many 33 = .ok (.ireturn, 1) := dk_172 (dk_at dksX2_many_1 9 rfl rfl)
abbrev cX2_has : ByteArray := prog_8_method_3_code
def yX2_has : MethodName := ⟨RX2, "has", "(I)Z"⟩
def dkwX2_has_0 : List UInt8 := [42, 180, 0, 20, 27, 50, 198, 0, 7, 4, 167, 0, 4, 3, 172]
abbrev dktX2_has_0 : List UInt8 := dkwX2_has_0 ++ []
theorem dksX2_has_0 : cX2_has.data.toList.drop 0 = dktX2_has_0 := by decide +kernel
theorem dX2_has_0 : decode cX2_has 0 = .ok (.aload_n 0, 1) := dk_42 (dk_at dksX2_has_0 0 rfl rfl)
theorem dX2_has_1 : decode cX2_has 1 = .ok (.getfield 20, 3) := dk_180 0 20 (dk_at dksX2_has_0 1 rfl rfl)
theorem dX2_has_4 : decode cX2_has 4 = .ok (.iload_n 1, 1) := dk_27 (dk_at dksX2_has_0 4 rfl rfl)
theorem dX2_has_5 : decode cX2_has 5 = .ok (.aaload, 1) := dk_50 (dk_at dksX2_has_0 5 rfl rfl)
theorem dX2_has_6 : decode cX2_has 6 = .ok (.ifnull 7, 3) := dk_198 0 7 (dk_at dksX2_has_0 6 rfl rfl)
theorem dX2_has_9 : decode cX2_has 9 = .ok (.iconst 1, 1) := dk_4 (dk_at dksX2_has_0 9 rfl rfl)
theorem dX2_has_10 : decode cX2_has 10 = .ok (.goto 4, 3) := dk_167 0 4 (dk_at dksX2_has_0 10 rfl rfl)
theorem dX2_has_13 : decode cX2_has 13 = .ok (.iconst 0, 1) := dk_3 (dk_at dksX2_has_0 13 rfl rfl)
theorem dX2_has_14 : decode cX2_has 14 = .ok (.ireturn, 1) := dk_172 (dk_at dksX2_has_0 14 rfl rfl)
abbrev cX2_become : ByteArray := prog_8_method_2_code
def yX2_become : MethodName := ⟨RX2, "become", "(LWindCarver$Pass;)V"⟩
def dkwX2_become_2 : List UInt8 := [7, 184, 0, 41, 43, 180, 0, 20, 3, 42, 180, 0, 20, 3, 16, 16, 184, 0, 41, 177]
abbrev dktX2_become_2 : List UInt8 := dkwX2_become_2 ++ []
def dkwX2_become_1 : List UInt8 := [43, 180, 0, 9, 3, 42, 180, 0, 9, 3, 7, 184, 0, 41, 43, 180, 0, 15, 3, 42, 180, 0, 15, 3]
abbrev dktX2_become_1 : List UInt8 := dkwX2_become_1 ++ dktX2_become_2
def dkwX2_become_0 : List UInt8 := [42, 43, 180, 0, 30, 181, 0, 30, 42, 43, 180, 0, 34, 181, 0, 34, 42, 43, 180, 0, 38, 181, 0, 38]
abbrev dktX2_become_0 : List UInt8 := dkwX2_become_0 ++ dktX2_become_1
theorem dksX2_become_0 : cX2_become.data.toList.drop 0 = dktX2_become_0 := by decide +kernel
theorem dksX2_become_1 : cX2_become.data.toList.drop 24 = dktX2_become_1 := dk_seg dksX2_become_0 24 rfl rfl
theorem dksX2_become_2 : cX2_become.data.toList.drop 48 = dktX2_become_2 := dk_seg dksX2_become_1 24 rfl rfl
theorem dX2_become_0 : decode cX2_become 0 = .ok (.aload_n 0, 1) := dk_42 (dk_at dksX2_become_0 0 rfl rfl)
theorem dX2_become_1 : decode cX2_become 1 = .ok (.aload_n 1, 1) := dk_43 (dk_at dksX2_become_0 1 rfl rfl)
theorem dX2_become_2 : decode cX2_become 2 = .ok (.getfield 30, 3) := dk_180 0 30 (dk_at dksX2_become_0 2 rfl rfl)
theorem dX2_become_5 : decode cX2_become 5 = .ok (.putfield 30, 3) := dk_181 0 30 (dk_at dksX2_become_0 5 rfl rfl)
theorem dX2_become_8 : decode cX2_become 8 = .ok (.aload_n 0, 1) := dk_42 (dk_at dksX2_become_0 8 rfl rfl)
theorem dX2_become_9 : decode cX2_become 9 = .ok (.aload_n 1, 1) := dk_43 (dk_at dksX2_become_0 9 rfl rfl)
theorem dX2_become_10 : decode cX2_become 10 = .ok (.getfield 34, 3) := dk_180 0 34 (dk_at dksX2_become_0 10 rfl rfl)
theorem dX2_become_13 : decode cX2_become 13 = .ok (.putfield 34, 3) := dk_181 0 34 (dk_at dksX2_become_0 13 rfl rfl)
theorem dX2_become_16 : decode cX2_become 16 = .ok (.aload_n 0, 1) := dk_42 (dk_at dksX2_become_0 16 rfl rfl)
theorem dX2_become_17 : decode cX2_become 17 = .ok (.aload_n 1, 1) := dk_43 (dk_at dksX2_become_0 17 rfl rfl)
theorem dX2_become_18 : decode cX2_become 18 = .ok (.getfield 38, 3) := dk_180 0 38 (dk_at dksX2_become_0 18 rfl rfl)
theorem dX2_become_21 : decode cX2_become 21 = .ok (.putfield 38, 3) := dk_181 0 38 (dk_at dksX2_become_0 21 rfl rfl)
theorem dX2_become_24 : decode cX2_become 24 = .ok (.aload_n 1, 1) := dk_43 (dk_at dksX2_become_1 0 rfl rfl)
theorem dX2_become_25 : decode cX2_become 25 = .ok (.getfield 9, 3) := dk_180 0 9 (dk_at dksX2_become_1 1 rfl rfl)
theorem dX2_become_28 : decode cX2_become 28 = .ok (.iconst 0, 1) := dk_3 (dk_at dksX2_become_1 4 rfl rfl)
theorem dX2_become_29 : decode cX2_become 29 = .ok (.aload_n 0, 1) := dk_42 (dk_at dksX2_become_1 5 rfl rfl)
theorem dX2_become_30 : decode cX2_become 30 = .ok (.getfield 9, 3) := dk_180 0 9 (dk_at dksX2_become_1 6 rfl rfl)
theorem dX2_become_33 : decode cX2_become 33 = .ok (.iconst 0, 1) := dk_3 (dk_at dksX2_become_1 9 rfl rfl)
theorem dX2_become_34 : decode cX2_become 34 = .ok (.iconst 4, 1) := dk_7 (dk_at dksX2_become_1 10 rfl rfl)
theorem dX2_become_35 : decode cX2_become 35 = .ok (.invokestatic 41, 3) := dk_184 0 41 (dk_at dksX2_become_1 11 rfl rfl)
theorem dX2_become_38 : decode cX2_become 38 = .ok (.aload_n 1, 1) := dk_43 (dk_at dksX2_become_1 14 rfl rfl)
theorem dX2_become_39 : decode cX2_become 39 = .ok (.getfield 15, 3) := dk_180 0 15 (dk_at dksX2_become_1 15 rfl rfl)
theorem dX2_become_42 : decode cX2_become 42 = .ok (.iconst 0, 1) := dk_3 (dk_at dksX2_become_1 18 rfl rfl)
theorem dX2_become_43 : decode cX2_become 43 = .ok (.aload_n 0, 1) := dk_42 (dk_at dksX2_become_1 19 rfl rfl)
theorem dX2_become_44 : decode cX2_become 44 = .ok (.getfield 15, 3) := dk_180 0 15 (dk_at dksX2_become_1 20 rfl rfl)
theorem dX2_become_47 : decode cX2_become 47 = .ok (.iconst 0, 1) := dk_3 (dk_at dksX2_become_1 23 rfl rfl)
theorem dX2_become_48 : decode cX2_become 48 = .ok (.iconst 4, 1) := dk_7 (dk_at dksX2_become_2 0 rfl rfl)
theorem dX2_become_49 : decode cX2_become 49 = .ok (.invokestatic 41, 3) := dk_184 0 41 (dk_at dksX2_become_2 1 rfl rfl)
theorem dX2_become_52 : decode cX2_become 52 = .ok (.aload_n 1, 1) := dk_43 (dk_at dksX2_become_2 4 rfl rfl)
theorem dX2_become_53 : decode cX2_become 53 = .ok (.getfield 20, 3) := dk_180 0 20 (dk_at dksX2_become_2 5 rfl rfl)
theorem dX2_become_56 : decode cX2_become 56 = .ok (.iconst 0, 1) := dk_3 (dk_at dksX2_become_2 8 rfl rfl)
theorem dX2_become_57 : decode cX2_become 57 = .ok (.aload_n 0, 1) := dk_42 (dk_at dksX2_become_2 9 rfl rfl)
theorem dX2_become_58 : decode cX2_become 58 = .ok (.getfield 20, 3) := dk_180 0 20 (dk_at dksX2_become_2 10 rfl rfl)
theorem dX2_become_61 : decode cX2_become 61 = .ok (.iconst 0, 1) := dk_3 (dk_at dksX2_become_2 13 rfl rfl)
theorem dX2_become_62 : decode cX2_become 62 = .ok (.bipush 16, 2) := dk_16 16 (dk_at dksX2_become_2 14 rfl rfl)
theorem dX2_become_64 : decode cX2_become 64 = .ok (.invokestatic 41, 3) := dk_184 0 41 (dk_at dksX2_become_2 16 rfl rfl)
theorem dX2_become_67 : decode cX2_become 67 = .ok (.return_, 1) := dk_177 (dk_at dksX2_become_2 19 rfl rfl)
abbrev cX2_clear : ByteArray := prog_8_method_5_code
def yX2_clear : MethodName := ⟨RX2, "clear", "(I)V"⟩
def dkwX2_clear_0 : List UInt8 := [42, 180, 0, 20, 27, 1, 83, 42, 89, 180, 0, 38, 4, 27, 120, 2, 130, 126, 181, 0, 38, 177]
abbrev dktX2_clear_0 : List UInt8 := dkwX2_clear_0 ++ []
theorem dksX2_clear_0 : cX2_clear.data.toList.drop 0 = dktX2_clear_0 := by decide +kernel
theorem dX2_clear_0 : decode cX2_clear 0 = .ok (.aload_n 0, 1) := dk_42 (dk_at dksX2_clear_0 0 rfl rfl)
theorem dX2_clear_1 : decode cX2_clear 1 = .ok (.getfield 20, 3) := dk_180 0 20 (dk_at dksX2_clear_0 1 rfl rfl)
theorem dX2_clear_4 : decode cX2_clear 4 = .ok (.iload_n 1, 1) := dk_27 (dk_at dksX2_clear_0 4 rfl rfl)
theorem dX2_clear_5 : decode cX2_clear 5 = .ok (.aconst_null, 1) := dk_1 (dk_at dksX2_clear_0 5 rfl rfl)
theorem dX2_clear_6 : decode cX2_clear 6 = .ok (.aastore, 1) := dk_83 (dk_at dksX2_clear_0 6 rfl rfl)
theorem dX2_clear_7 : decode cX2_clear 7 = .ok (.aload_n 0, 1) := dk_42 (dk_at dksX2_clear_0 7 rfl rfl)
theorem dX2_clear_8 : decode cX2_clear 8 = .ok (.dup, 1) := dk_89 (dk_at dksX2_clear_0 8 rfl rfl)
theorem dX2_clear_9 : decode cX2_clear 9 = .ok (.getfield 38, 3) := dk_180 0 38 (dk_at dksX2_clear_0 9 rfl rfl)
theorem dX2_clear_12 : decode cX2_clear 12 = .ok (.iconst 1, 1) := dk_4 (dk_at dksX2_clear_0 12 rfl rfl)
theorem dX2_clear_13 : decode cX2_clear 13 = .ok (.iload_n 1, 1) := dk_27 (dk_at dksX2_clear_0 13 rfl rfl)
theorem dX2_clear_14 : decode cX2_clear 14 = .ok (.ishl, 1) := dk_120 (dk_at dksX2_clear_0 14 rfl rfl)
theorem dX2_clear_15 : decode cX2_clear 15 = .ok (.iconst (-1), 1) := dk_2 (dk_at dksX2_clear_0 15 rfl rfl)
theorem dX2_clear_16 : decode cX2_clear 16 = .ok (.ixor, 1) := dk_130 (dk_at dksX2_clear_0 16 rfl rfl)
theorem dX2_clear_17 : decode cX2_clear 17 = .ok (.iand, 1) := dk_126 (dk_at dksX2_clear_0 17 rfl rfl)
theorem dX2_clear_18 : decode cX2_clear 18 = .ok (.putfield 38, 3) := dk_181 0 38 (dk_at dksX2_clear_0 18 rfl rfl)
theorem dX2_clear_21 : decode cX2_clear 21 = .ok (.return_, 1) := dk_177 (dk_at dksX2_clear_0 21 rfl rfl)
abbrev cX2_goOn : ByteArray := prog_8_method_9_code
def yX2_goOn : MethodName := ⟨RX2, "goOn", "()I"⟩
def dkwX2_goOn_5 : List UInt8 := [112, 79, 132, 2, 1, 167, 255, 226, 27, 172]
abbrev dktX2_goOn_5 : List UInt8 := dkwX2_goOn_5 ++ []
def dkwX2_goOn_4 : List UInt8 := [7, 162, 0, 31, 42, 180, 0, 9, 28, 42, 180, 0, 9, 28, 46, 42, 180, 0, 15, 28, 46, 96, 16, 32]
abbrev dktX2_goOn_4 : List UInt8 := dkwX2_goOn_4 ++ dktX2_goOn_5
def dkwX2_goOn_3 : List UInt8 := [42, 28, 182, 0, 80, 132, 2, 1, 167, 255, 234, 42, 89, 180, 0, 34, 4, 96, 181, 0, 34, 3, 61, 28]
abbrev dktX2_goOn_3 : List UInt8 := dkwX2_goOn_3 ++ dktX2_goOn_4
def dkwX2_goOn_2 : List UInt8 := [128, 60, 132, 2, 1, 167, 255, 211, 3, 61, 28, 16, 16, 162, 0, 22, 27, 28, 184, 0, 54, 153, 0, 8]
abbrev dktX2_goOn_2 : List UInt8 := dkwX2_goOn_2 ++ dktX2_goOn_3
def dkwX2_goOn_1 : List UInt8 := [180, 0, 24, 28, 46, 42, 180, 0, 20, 28, 50, 182, 0, 76, 164, 0, 9, 4, 28, 120, 167, 0, 4, 3]
abbrev dktX2_goOn_1 : List UInt8 := dkwX2_goOn_1 ++ dktX2_goOn_2
def dkwX2_goOn_0 : List UInt8 := [42, 182, 0, 73, 3, 60, 3, 61, 28, 16, 16, 162, 0, 45, 27, 42, 28, 182, 0, 47, 153, 0, 27, 42]
abbrev dktX2_goOn_0 : List UInt8 := dkwX2_goOn_0 ++ dktX2_goOn_1
theorem dksX2_goOn_0 : cX2_goOn.data.toList.drop 0 = dktX2_goOn_0 := by decide +kernel
theorem dksX2_goOn_1 : cX2_goOn.data.toList.drop 24 = dktX2_goOn_1 := dk_seg dksX2_goOn_0 24 rfl rfl
theorem dksX2_goOn_2 : cX2_goOn.data.toList.drop 48 = dktX2_goOn_2 := dk_seg dksX2_goOn_1 24 rfl rfl
theorem dksX2_goOn_3 : cX2_goOn.data.toList.drop 72 = dktX2_goOn_3 := dk_seg dksX2_goOn_2 24 rfl rfl
theorem dksX2_goOn_4 : cX2_goOn.data.toList.drop 96 = dktX2_goOn_4 := dk_seg dksX2_goOn_3 24 rfl rfl
theorem dksX2_goOn_5 : cX2_goOn.data.toList.drop 120 = dktX2_goOn_5 := dk_seg dksX2_goOn_4 24 rfl rfl
theorem dX2_goOn_0 : decode cX2_goOn 0 = .ok (.aload_n 0, 1) := dk_42 (dk_at dksX2_goOn_0 0 rfl rfl)
theorem dX2_goOn_1 : decode cX2_goOn 1 = .ok (.invokevirtual 73, 3) := dk_182 0 73 (dk_at dksX2_goOn_0 1 rfl rfl)
theorem dX2_goOn_4 : decode cX2_goOn 4 = .ok (.iconst 0, 1) := dk_3 (dk_at dksX2_goOn_0 4 rfl rfl)
theorem dX2_goOn_5 : decode cX2_goOn 5 = .ok (.istore_n 1, 1) := dk_60 (dk_at dksX2_goOn_0 5 rfl rfl)
theorem dX2_goOn_6 : decode cX2_goOn 6 = .ok (.iconst 0, 1) := dk_3 (dk_at dksX2_goOn_0 6 rfl rfl)
theorem dX2_goOn_7 : decode cX2_goOn 7 = .ok (.istore_n 2, 1) := dk_61 (dk_at dksX2_goOn_0 7 rfl rfl)
theorem dX2_goOn_8 : decode cX2_goOn 8 = .ok (.iload_n 2, 1) := dk_28 (dk_at dksX2_goOn_0 8 rfl rfl)
theorem dX2_goOn_9 : decode cX2_goOn 9 = .ok (.bipush 16, 2) := dk_16 16 (dk_at dksX2_goOn_0 9 rfl rfl)
theorem dX2_goOn_11 : decode cX2_goOn 11 = .ok (.if_icmp .ge 45, 3) := dk_162 0 45 (dk_at dksX2_goOn_0 11 rfl rfl)
theorem dX2_goOn_14 : decode cX2_goOn 14 = .ok (.iload_n 1, 1) := dk_27 (dk_at dksX2_goOn_0 14 rfl rfl)
theorem dX2_goOn_15 : decode cX2_goOn 15 = .ok (.aload_n 0, 1) := dk_42 (dk_at dksX2_goOn_0 15 rfl rfl)
theorem dX2_goOn_16 : decode cX2_goOn 16 = .ok (.iload_n 2, 1) := dk_28 (dk_at dksX2_goOn_0 16 rfl rfl)
theorem dX2_goOn_17 : decode cX2_goOn 17 = .ok (.invokevirtual 47, 3) := dk_182 0 47 (dk_at dksX2_goOn_0 17 rfl rfl)
theorem dX2_goOn_20 : decode cX2_goOn 20 = .ok (.ifCond .eq 27, 3) := dk_153 0 27 (dk_at dksX2_goOn_0 20 rfl rfl)
theorem dX2_goOn_23 : decode cX2_goOn 23 = .ok (.aload_n 0, 1) := dk_42 (dk_at dksX2_goOn_0 23 rfl rfl)
theorem dX2_goOn_24 : decode cX2_goOn 24 = .ok (.getfield 24, 3) := dk_180 0 24 (dk_at dksX2_goOn_1 0 rfl rfl)
theorem dX2_goOn_27 : decode cX2_goOn 27 = .ok (.iload_n 2, 1) := dk_28 (dk_at dksX2_goOn_1 3 rfl rfl)
theorem dX2_goOn_28 : decode cX2_goOn 28 = .ok (.iaload, 1) := dk_46 (dk_at dksX2_goOn_1 4 rfl rfl)
theorem dX2_goOn_29 : decode cX2_goOn 29 = .ok (.aload_n 0, 1) := dk_42 (dk_at dksX2_goOn_1 5 rfl rfl)
theorem dX2_goOn_30 : decode cX2_goOn 30 = .ok (.getfield 20, 3) := dk_180 0 20 (dk_at dksX2_goOn_1 6 rfl rfl)
theorem dX2_goOn_33 : decode cX2_goOn 33 = .ok (.iload_n 2, 1) := dk_28 (dk_at dksX2_goOn_1 9 rfl rfl)
theorem dX2_goOn_34 : decode cX2_goOn 34 = .ok (.aaload, 1) := dk_50 (dk_at dksX2_goOn_1 10 rfl rfl)
theorem dX2_goOn_35 : decode cX2_goOn 35 = .ok (.invokevirtual 76, 3) := dk_182 0 76 (dk_at dksX2_goOn_1 11 rfl rfl)
theorem dX2_goOn_38 : decode cX2_goOn 38 = .ok (.if_icmp .le 9, 3) := dk_164 0 9 (dk_at dksX2_goOn_1 14 rfl rfl)
theorem dX2_goOn_41 : decode cX2_goOn 41 = .ok (.iconst 1, 1) := dk_4 (dk_at dksX2_goOn_1 17 rfl rfl)
theorem dX2_goOn_42 : decode cX2_goOn 42 = .ok (.iload_n 2, 1) := dk_28 (dk_at dksX2_goOn_1 18 rfl rfl)
theorem dX2_goOn_43 : decode cX2_goOn 43 = .ok (.ishl, 1) := dk_120 (dk_at dksX2_goOn_1 19 rfl rfl)
theorem dX2_goOn_44 : decode cX2_goOn 44 = .ok (.goto 4, 3) := dk_167 0 4 (dk_at dksX2_goOn_1 20 rfl rfl)
theorem dX2_goOn_47 : decode cX2_goOn 47 = .ok (.iconst 0, 1) := dk_3 (dk_at dksX2_goOn_1 23 rfl rfl)
theorem dX2_goOn_48 : decode cX2_goOn 48 = .ok (.ior, 1) := dk_128 (dk_at dksX2_goOn_2 0 rfl rfl)
theorem dX2_goOn_49 : decode cX2_goOn 49 = .ok (.istore_n 1, 1) := dk_60 (dk_at dksX2_goOn_2 1 rfl rfl)
theorem dX2_goOn_50 : decode cX2_goOn 50 = .ok (.iinc 2 1, 3) := dk_132 2 1 (dk_at dksX2_goOn_2 2 rfl rfl)
theorem dX2_goOn_53 : decode cX2_goOn 53 = .ok (.goto (-45), 3) := dk_167 255 211 (dk_at dksX2_goOn_2 5 rfl rfl)
theorem dX2_goOn_56 : decode cX2_goOn 56 = .ok (.iconst 0, 1) := dk_3 (dk_at dksX2_goOn_2 8 rfl rfl)
theorem dX2_goOn_57 : decode cX2_goOn 57 = .ok (.istore_n 2, 1) := dk_61 (dk_at dksX2_goOn_2 9 rfl rfl)
theorem dX2_goOn_58 : decode cX2_goOn 58 = .ok (.iload_n 2, 1) := dk_28 (dk_at dksX2_goOn_2 10 rfl rfl)
theorem dX2_goOn_59 : decode cX2_goOn 59 = .ok (.bipush 16, 2) := dk_16 16 (dk_at dksX2_goOn_2 11 rfl rfl)
theorem dX2_goOn_61 : decode cX2_goOn 61 = .ok (.if_icmp .ge 22, 3) := dk_162 0 22 (dk_at dksX2_goOn_2 13 rfl rfl)
theorem dX2_goOn_64 : decode cX2_goOn 64 = .ok (.iload_n 1, 1) := dk_27 (dk_at dksX2_goOn_2 16 rfl rfl)
theorem dX2_goOn_65 : decode cX2_goOn 65 = .ok (.iload_n 2, 1) := dk_28 (dk_at dksX2_goOn_2 17 rfl rfl)
theorem dX2_goOn_66 : decode cX2_goOn 66 = .ok (.invokestatic 54, 3) := dk_184 0 54 (dk_at dksX2_goOn_2 18 rfl rfl)
theorem dX2_goOn_69 : decode cX2_goOn 69 = .ok (.ifCond .eq 8, 3) := dk_153 0 8 (dk_at dksX2_goOn_2 21 rfl rfl)
theorem dX2_goOn_72 : decode cX2_goOn 72 = .ok (.aload_n 0, 1) := dk_42 (dk_at dksX2_goOn_3 0 rfl rfl)
theorem dX2_goOn_73 : decode cX2_goOn 73 = .ok (.iload_n 2, 1) := dk_28 (dk_at dksX2_goOn_3 1 rfl rfl)
theorem dX2_goOn_74 : decode cX2_goOn 74 = .ok (.invokevirtual 80, 3) := dk_182 0 80 (dk_at dksX2_goOn_3 2 rfl rfl)
theorem dX2_goOn_77 : decode cX2_goOn 77 = .ok (.iinc 2 1, 3) := dk_132 2 1 (dk_at dksX2_goOn_3 5 rfl rfl)
theorem dX2_goOn_80 : decode cX2_goOn 80 = .ok (.goto (-22), 3) := dk_167 255 234 (dk_at dksX2_goOn_3 8 rfl rfl)
theorem dX2_goOn_83 : decode cX2_goOn 83 = .ok (.aload_n 0, 1) := dk_42 (dk_at dksX2_goOn_3 11 rfl rfl)
theorem dX2_goOn_84 : decode cX2_goOn 84 = .ok (.dup, 1) := dk_89 (dk_at dksX2_goOn_3 12 rfl rfl)
theorem dX2_goOn_85 : decode cX2_goOn 85 = .ok (.getfield 34, 3) := dk_180 0 34 (dk_at dksX2_goOn_3 13 rfl rfl)
theorem dX2_goOn_88 : decode cX2_goOn 88 = .ok (.iconst 1, 1) := dk_4 (dk_at dksX2_goOn_3 16 rfl rfl)
theorem dX2_goOn_89 : decode cX2_goOn 89 = .ok (.iadd, 1) := dk_96 (dk_at dksX2_goOn_3 17 rfl rfl)
theorem dX2_goOn_90 : decode cX2_goOn 90 = .ok (.putfield 34, 3) := dk_181 0 34 (dk_at dksX2_goOn_3 18 rfl rfl)
theorem dX2_goOn_93 : decode cX2_goOn 93 = .ok (.iconst 0, 1) := dk_3 (dk_at dksX2_goOn_3 21 rfl rfl)
theorem dX2_goOn_94 : decode cX2_goOn 94 = .ok (.istore_n 2, 1) := dk_61 (dk_at dksX2_goOn_3 22 rfl rfl)
theorem dX2_goOn_95 : decode cX2_goOn 95 = .ok (.iload_n 2, 1) := dk_28 (dk_at dksX2_goOn_3 23 rfl rfl)
theorem dX2_goOn_96 : decode cX2_goOn 96 = .ok (.iconst 4, 1) := dk_7 (dk_at dksX2_goOn_4 0 rfl rfl)
theorem dX2_goOn_97 : decode cX2_goOn 97 = .ok (.if_icmp .ge 31, 3) := dk_162 0 31 (dk_at dksX2_goOn_4 1 rfl rfl)
theorem dX2_goOn_100 : decode cX2_goOn 100 = .ok (.aload_n 0, 1) := dk_42 (dk_at dksX2_goOn_4 4 rfl rfl)
theorem dX2_goOn_101 : decode cX2_goOn 101 = .ok (.getfield 9, 3) := dk_180 0 9 (dk_at dksX2_goOn_4 5 rfl rfl)
theorem dX2_goOn_104 : decode cX2_goOn 104 = .ok (.iload_n 2, 1) := dk_28 (dk_at dksX2_goOn_4 8 rfl rfl)
theorem dX2_goOn_105 : decode cX2_goOn 105 = .ok (.aload_n 0, 1) := dk_42 (dk_at dksX2_goOn_4 9 rfl rfl)
theorem dX2_goOn_106 : decode cX2_goOn 106 = .ok (.getfield 9, 3) := dk_180 0 9 (dk_at dksX2_goOn_4 10 rfl rfl)
theorem dX2_goOn_109 : decode cX2_goOn 109 = .ok (.iload_n 2, 1) := dk_28 (dk_at dksX2_goOn_4 13 rfl rfl)
theorem dX2_goOn_110 : decode cX2_goOn 110 = .ok (.iaload, 1) := dk_46 (dk_at dksX2_goOn_4 14 rfl rfl)
theorem dX2_goOn_111 : decode cX2_goOn 111 = .ok (.aload_n 0, 1) := dk_42 (dk_at dksX2_goOn_4 15 rfl rfl)
theorem dX2_goOn_112 : decode cX2_goOn 112 = .ok (.getfield 15, 3) := dk_180 0 15 (dk_at dksX2_goOn_4 16 rfl rfl)
theorem dX2_goOn_115 : decode cX2_goOn 115 = .ok (.iload_n 2, 1) := dk_28 (dk_at dksX2_goOn_4 19 rfl rfl)
theorem dX2_goOn_116 : decode cX2_goOn 116 = .ok (.iaload, 1) := dk_46 (dk_at dksX2_goOn_4 20 rfl rfl)
theorem dX2_goOn_117 : decode cX2_goOn 117 = .ok (.iadd, 1) := dk_96 (dk_at dksX2_goOn_4 21 rfl rfl)
theorem dX2_goOn_118 : decode cX2_goOn 118 = .ok (.bipush 32, 2) := dk_16 32 (dk_at dksX2_goOn_4 22 rfl rfl)
theorem dX2_goOn_120 : decode cX2_goOn 120 = .ok (.irem, 1) := dk_112 (dk_at dksX2_goOn_5 0 rfl rfl)
theorem dX2_goOn_121 : decode cX2_goOn 121 = .ok (.iastore, 1) := dk_79 (dk_at dksX2_goOn_5 1 rfl rfl)
theorem dX2_goOn_122 : decode cX2_goOn 122 = .ok (.iinc 2 1, 3) := dk_132 2 1 (dk_at dksX2_goOn_5 2 rfl rfl)
theorem dX2_goOn_125 : decode cX2_goOn 125 = .ok (.goto (-30), 3) := dk_167 255 226 (dk_at dksX2_goOn_5 5 rfl rfl)
theorem dX2_goOn_128 : decode cX2_goOn 128 = .ok (.iload_n 1, 1) := dk_27 (dk_at dksX2_goOn_5 8 rfl rfl)
theorem dX2_goOn_129 : decode cX2_goOn 129 = .ok (.ireturn, 1) := dk_172 (dk_at dksX2_goOn_5 9 rfl rfl)
abbrev cX2_blow : ByteArray := prog_8_method_8_code
def yX2_blow : MethodName := ⟨RX2, "blow", "()V"⟩
def dkwX2_blow_3 : List UInt8 := [182, 0, 69, 132, 1, 1, 167, 255, 242, 177]
abbrev dktX2_blow_3 : List UInt8 := dkwX2_blow_3 ++ []
def dkwX2_blow_2 : List UInt8 := [180, 0, 27, 27, 3, 79, 132, 1, 1, 167, 255, 241, 3, 60, 27, 16, 16, 162, 0, 14, 42, 27]
abbrev dktX2_blow_2 : List UInt8 := dkwX2_blow_2 ++ dktX2_blow_3
def dkwX2_blow_1 : List UInt8 := [180, 0, 9, 27, 46, 167, 0, 4, 3, 79, 132, 1, 1, 167, 255, 226, 3, 60, 27, 7, 162, 0, 16, 42]
abbrev dktX2_blow_1 : List UInt8 := dkwX2_blow_1 ++ dktX2_blow_2
def dkwX2_blow_0 : List UInt8 := [42, 3, 181, 0, 51, 3, 60, 27, 16, 16, 162, 0, 30, 42, 180, 0, 24, 27, 27, 7, 162, 0, 12, 42]
abbrev dktX2_blow_0 : List UInt8 := dkwX2_blow_0 ++ dktX2_blow_1
theorem dksX2_blow_0 : cX2_blow.data.toList.drop 0 = dktX2_blow_0 := by decide +kernel
theorem dksX2_blow_1 : cX2_blow.data.toList.drop 24 = dktX2_blow_1 := dk_seg dksX2_blow_0 24 rfl rfl
theorem dksX2_blow_2 : cX2_blow.data.toList.drop 48 = dktX2_blow_2 := dk_seg dksX2_blow_1 24 rfl rfl
theorem dksX2_blow_3 : cX2_blow.data.toList.drop 70 = dktX2_blow_3 := dk_seg dksX2_blow_2 22 rfl rfl
theorem dX2_blow_0 : decode cX2_blow 0 = .ok (.aload_n 0, 1) := dk_42 (dk_at dksX2_blow_0 0 rfl rfl)
theorem dX2_blow_1 : decode cX2_blow 1 = .ok (.iconst 0, 1) := dk_3 (dk_at dksX2_blow_0 1 rfl rfl)
theorem dX2_blow_2 : decode cX2_blow 2 = .ok (.putfield 51, 3) := dk_181 0 51 (dk_at dksX2_blow_0 2 rfl rfl)
theorem dX2_blow_5 : decode cX2_blow 5 = .ok (.iconst 0, 1) := dk_3 (dk_at dksX2_blow_0 5 rfl rfl)
theorem dX2_blow_6 : decode cX2_blow 6 = .ok (.istore_n 1, 1) := dk_60 (dk_at dksX2_blow_0 6 rfl rfl)
theorem dX2_blow_7 : decode cX2_blow 7 = .ok (.iload_n 1, 1) := dk_27 (dk_at dksX2_blow_0 7 rfl rfl)
theorem dX2_blow_8 : decode cX2_blow 8 = .ok (.bipush 16, 2) := dk_16 16 (dk_at dksX2_blow_0 8 rfl rfl)
theorem dX2_blow_10 : decode cX2_blow 10 = .ok (.if_icmp .ge 30, 3) := dk_162 0 30 (dk_at dksX2_blow_0 10 rfl rfl)
theorem dX2_blow_13 : decode cX2_blow 13 = .ok (.aload_n 0, 1) := dk_42 (dk_at dksX2_blow_0 13 rfl rfl)
theorem dX2_blow_14 : decode cX2_blow 14 = .ok (.getfield 24, 3) := dk_180 0 24 (dk_at dksX2_blow_0 14 rfl rfl)
theorem dX2_blow_17 : decode cX2_blow 17 = .ok (.iload_n 1, 1) := dk_27 (dk_at dksX2_blow_0 17 rfl rfl)
theorem dX2_blow_18 : decode cX2_blow 18 = .ok (.iload_n 1, 1) := dk_27 (dk_at dksX2_blow_0 18 rfl rfl)
theorem dX2_blow_19 : decode cX2_blow 19 = .ok (.iconst 4, 1) := dk_7 (dk_at dksX2_blow_0 19 rfl rfl)
theorem dX2_blow_20 : decode cX2_blow 20 = .ok (.if_icmp .ge 12, 3) := dk_162 0 12 (dk_at dksX2_blow_0 20 rfl rfl)
theorem dX2_blow_23 : decode cX2_blow 23 = .ok (.aload_n 0, 1) := dk_42 (dk_at dksX2_blow_0 23 rfl rfl)
theorem dX2_blow_24 : decode cX2_blow 24 = .ok (.getfield 9, 3) := dk_180 0 9 (dk_at dksX2_blow_1 0 rfl rfl)
theorem dX2_blow_27 : decode cX2_blow 27 = .ok (.iload_n 1, 1) := dk_27 (dk_at dksX2_blow_1 3 rfl rfl)
theorem dX2_blow_28 : decode cX2_blow 28 = .ok (.iaload, 1) := dk_46 (dk_at dksX2_blow_1 4 rfl rfl)
theorem dX2_blow_29 : decode cX2_blow 29 = .ok (.goto 4, 3) := dk_167 0 4 (dk_at dksX2_blow_1 5 rfl rfl)
theorem dX2_blow_32 : decode cX2_blow 32 = .ok (.iconst 0, 1) := dk_3 (dk_at dksX2_blow_1 8 rfl rfl)
theorem dX2_blow_33 : decode cX2_blow 33 = .ok (.iastore, 1) := dk_79 (dk_at dksX2_blow_1 9 rfl rfl)
theorem dX2_blow_34 : decode cX2_blow 34 = .ok (.iinc 1 1, 3) := dk_132 1 1 (dk_at dksX2_blow_1 10 rfl rfl)
theorem dX2_blow_37 : decode cX2_blow 37 = .ok (.goto (-30), 3) := dk_167 255 226 (dk_at dksX2_blow_1 13 rfl rfl)
theorem dX2_blow_40 : decode cX2_blow 40 = .ok (.iconst 0, 1) := dk_3 (dk_at dksX2_blow_1 16 rfl rfl)
theorem dX2_blow_41 : decode cX2_blow 41 = .ok (.istore_n 1, 1) := dk_60 (dk_at dksX2_blow_1 17 rfl rfl)
theorem dX2_blow_42 : decode cX2_blow 42 = .ok (.iload_n 1, 1) := dk_27 (dk_at dksX2_blow_1 18 rfl rfl)
theorem dX2_blow_43 : decode cX2_blow 43 = .ok (.iconst 4, 1) := dk_7 (dk_at dksX2_blow_1 19 rfl rfl)
theorem dX2_blow_44 : decode cX2_blow 44 = .ok (.if_icmp .ge 16, 3) := dk_162 0 16 (dk_at dksX2_blow_1 20 rfl rfl)
theorem dX2_blow_47 : decode cX2_blow 47 = .ok (.aload_n 0, 1) := dk_42 (dk_at dksX2_blow_1 23 rfl rfl)
theorem dX2_blow_48 : decode cX2_blow 48 = .ok (.getfield 27, 3) := dk_180 0 27 (dk_at dksX2_blow_2 0 rfl rfl)
theorem dX2_blow_51 : decode cX2_blow 51 = .ok (.iload_n 1, 1) := dk_27 (dk_at dksX2_blow_2 3 rfl rfl)
theorem dX2_blow_52 : decode cX2_blow 52 = .ok (.iconst 0, 1) := dk_3 (dk_at dksX2_blow_2 4 rfl rfl)
theorem dX2_blow_53 : decode cX2_blow 53 = .ok (.iastore, 1) := dk_79 (dk_at dksX2_blow_2 5 rfl rfl)
theorem dX2_blow_54 : decode cX2_blow 54 = .ok (.iinc 1 1, 3) := dk_132 1 1 (dk_at dksX2_blow_2 6 rfl rfl)
theorem dX2_blow_57 : decode cX2_blow 57 = .ok (.goto (-15), 3) := dk_167 255 241 (dk_at dksX2_blow_2 9 rfl rfl)
theorem dX2_blow_60 : decode cX2_blow 60 = .ok (.iconst 0, 1) := dk_3 (dk_at dksX2_blow_2 12 rfl rfl)
theorem dX2_blow_61 : decode cX2_blow 61 = .ok (.istore_n 1, 1) := dk_60 (dk_at dksX2_blow_2 13 rfl rfl)
theorem dX2_blow_62 : decode cX2_blow 62 = .ok (.iload_n 1, 1) := dk_27 (dk_at dksX2_blow_2 14 rfl rfl)
theorem dX2_blow_63 : decode cX2_blow 63 = .ok (.bipush 16, 2) := dk_16 16 (dk_at dksX2_blow_2 15 rfl rfl)
theorem dX2_blow_65 : decode cX2_blow 65 = .ok (.if_icmp .ge 14, 3) := dk_162 0 14 (dk_at dksX2_blow_2 17 rfl rfl)
theorem dX2_blow_68 : decode cX2_blow 68 = .ok (.aload_n 0, 1) := dk_42 (dk_at dksX2_blow_2 20 rfl rfl)
theorem dX2_blow_69 : decode cX2_blow 69 = .ok (.iload_n 1, 1) := dk_27 (dk_at dksX2_blow_2 21 rfl rfl)
theorem dX2_blow_70 : decode cX2_blow 70 = .ok (.invokevirtual 69, 3) := dk_182 0 69 (dk_at dksX2_blow_3 0 rfl rfl)
theorem dX2_blow_73 : decode cX2_blow 73 = .ok (.iinc 1 1, 3) := dk_132 1 1 (dk_at dksX2_blow_3 3 rfl rfl)
theorem dX2_blow_76 : decode cX2_blow 76 = .ok (.goto (-14), 3) := dk_167 255 242 (dk_at dksX2_blow_3 6 rfl rfl)
theorem dX2_blow_79 : decode cX2_blow 79 = .ok (.return_, 1) := dk_177 (dk_at dksX2_blow_3 9 rfl rfl)
abbrev cX2_part : ByteArray := prog_8_method_7_code
def yX2_part : MethodName := ⟨RX2, "part", "(I)V"⟩
def dkwX2_part_5 : List UInt8 := [100, 182, 0, 65, 177]
abbrev dktX2_part_5 : List UInt8 := dkwX2_part_5 ++ []
def dkwX2_part_4 : List UInt8 := [4, 96, 29, 4, 100, 21, 6, 182, 0, 65, 42, 28, 4, 96, 29, 4, 96, 21, 4, 21, 5, 100, 21, 6]
abbrev dktX2_part_4 : List UInt8 := dkwX2_part_4 ++ dktX2_part_5
def dkwX2_part_3 : List UInt8 := [180, 0, 34, 182, 0, 61, 167, 0, 4, 3, 54, 6, 42, 28, 4, 96, 29, 21, 5, 182, 0, 65, 42, 28]
abbrev dktX2_part_3 : List UInt8 := dkwX2_part_3 ++ dktX2_part_4
def dkwX2_part_2 : List UInt8 := [54, 5, 42, 27, 182, 0, 47, 153, 0, 24, 42, 180, 0, 20, 27, 50, 21, 4, 21, 5, 100, 42]
abbrev dktX2_part_2 : List UInt8 := dkwX2_part_2 ++ dktX2_part_3
def dkwX2_part_1 : List UInt8 := [42, 180, 0, 20, 27, 50, 21, 4, 42, 180, 0, 38, 27, 184, 0, 54, 182, 0, 57, 167, 0, 5, 21, 4]
abbrev dktX2_part_1 : List UInt8 := dkwX2_part_1 ++ dktX2_part_2
def dkwX2_part_0 : List UInt8 := [27, 7, 108, 61, 27, 7, 112, 62, 42, 180, 0, 24, 27, 46, 54, 4, 42, 27, 182, 0, 47, 153, 0, 25]
abbrev dktX2_part_0 : List UInt8 := dkwX2_part_0 ++ dktX2_part_1
theorem dksX2_part_0 : cX2_part.data.toList.drop 0 = dktX2_part_0 := by decide +kernel
theorem dksX2_part_1 : cX2_part.data.toList.drop 24 = dktX2_part_1 := dk_seg dksX2_part_0 24 rfl rfl
theorem dksX2_part_2 : cX2_part.data.toList.drop 48 = dktX2_part_2 := dk_seg dksX2_part_1 24 rfl rfl
theorem dksX2_part_3 : cX2_part.data.toList.drop 70 = dktX2_part_3 := dk_seg dksX2_part_2 22 rfl rfl
theorem dksX2_part_4 : cX2_part.data.toList.drop 94 = dktX2_part_4 := dk_seg dksX2_part_3 24 rfl rfl
theorem dksX2_part_5 : cX2_part.data.toList.drop 118 = dktX2_part_5 := dk_seg dksX2_part_4 24 rfl rfl
theorem dX2_part_0 : decode cX2_part 0 = .ok (.iload_n 1, 1) := dk_27 (dk_at dksX2_part_0 0 rfl rfl)
theorem dX2_part_1 : decode cX2_part 1 = .ok (.iconst 4, 1) := dk_7 (dk_at dksX2_part_0 1 rfl rfl)
theorem dX2_part_2 : decode cX2_part 2 = .ok (.idiv, 1) := dk_108 (dk_at dksX2_part_0 2 rfl rfl)
theorem dX2_part_3 : decode cX2_part 3 = .ok (.istore_n 2, 1) := dk_61 (dk_at dksX2_part_0 3 rfl rfl)
theorem dX2_part_4 : decode cX2_part 4 = .ok (.iload_n 1, 1) := dk_27 (dk_at dksX2_part_0 4 rfl rfl)
theorem dX2_part_5 : decode cX2_part 5 = .ok (.iconst 4, 1) := dk_7 (dk_at dksX2_part_0 5 rfl rfl)
theorem dX2_part_6 : decode cX2_part 6 = .ok (.irem, 1) := dk_112 (dk_at dksX2_part_0 6 rfl rfl)
theorem dX2_part_7 : decode cX2_part 7 = .ok (.istore_n 3, 1) := dk_62 (dk_at dksX2_part_0 7 rfl rfl)
theorem dX2_part_8 : decode cX2_part 8 = .ok (.aload_n 0, 1) := dk_42 (dk_at dksX2_part_0 8 rfl rfl)
theorem dX2_part_9 : decode cX2_part 9 = .ok (.getfield 24, 3) := dk_180 0 24 (dk_at dksX2_part_0 9 rfl rfl)
theorem dX2_part_12 : decode cX2_part 12 = .ok (.iload_n 1, 1) := dk_27 (dk_at dksX2_part_0 12 rfl rfl)
theorem dX2_part_13 : decode cX2_part 13 = .ok (.iaload, 1) := dk_46 (dk_at dksX2_part_0 13 rfl rfl)
theorem dX2_part_14 : decode cX2_part 14 = .ok (.istore 4, 2) := dk_54 4 (dk_at dksX2_part_0 14 rfl rfl)
theorem dX2_part_16 : decode cX2_part 16 = .ok (.aload_n 0, 1) := dk_42 (dk_at dksX2_part_0 16 rfl rfl)
theorem dX2_part_17 : decode cX2_part 17 = .ok (.iload_n 1, 1) := dk_27 (dk_at dksX2_part_0 17 rfl rfl)
theorem dX2_part_18 : decode cX2_part 18 = .ok (.invokevirtual 47, 3) := dk_182 0 47 (dk_at dksX2_part_0 18 rfl rfl)
theorem dX2_part_21 : decode cX2_part 21 = .ok (.ifCond .eq 25, 3) := dk_153 0 25 (dk_at dksX2_part_0 21 rfl rfl)
theorem dX2_part_24 : decode cX2_part 24 = .ok (.aload_n 0, 1) := dk_42 (dk_at dksX2_part_1 0 rfl rfl)
theorem dX2_part_25 : decode cX2_part 25 = .ok (.getfield 20, 3) := dk_180 0 20 (dk_at dksX2_part_1 1 rfl rfl)
theorem dX2_part_28 : decode cX2_part 28 = .ok (.iload_n 1, 1) := dk_27 (dk_at dksX2_part_1 4 rfl rfl)
theorem dX2_part_29 : decode cX2_part 29 = .ok (.aaload, 1) := dk_50 (dk_at dksX2_part_1 5 rfl rfl)
theorem dX2_part_30 : decode cX2_part 30 = .ok (.iload 4, 2) := dk_21 4 (dk_at dksX2_part_1 6 rfl rfl)
theorem dX2_part_32 : decode cX2_part 32 = .ok (.aload_n 0, 1) := dk_42 (dk_at dksX2_part_1 8 rfl rfl)
theorem dX2_part_33 : decode cX2_part 33 = .ok (.getfield 38, 3) := dk_180 0 38 (dk_at dksX2_part_1 9 rfl rfl)
theorem dX2_part_36 : decode cX2_part 36 = .ok (.iload_n 1, 1) := dk_27 (dk_at dksX2_part_1 12 rfl rfl)
theorem dX2_part_37 : decode cX2_part 37 = .ok (.invokestatic 54, 3) := dk_184 0 54 (dk_at dksX2_part_1 13 rfl rfl)
theorem dX2_part_40 : decode cX2_part 40 = .ok (.invokevirtual 57, 3) := dk_182 0 57 (dk_at dksX2_part_1 16 rfl rfl)
theorem dX2_part_43 : decode cX2_part 43 = .ok (.goto 5, 3) := dk_167 0 5 (dk_at dksX2_part_1 19 rfl rfl)
theorem dX2_part_46 : decode cX2_part 46 = .ok (.iload 4, 2) := dk_21 4 (dk_at dksX2_part_1 22 rfl rfl)
theorem dX2_part_48 : decode cX2_part 48 = .ok (.istore 5, 2) := dk_54 5 (dk_at dksX2_part_2 0 rfl rfl)
theorem dX2_part_50 : decode cX2_part 50 = .ok (.aload_n 0, 1) := dk_42 (dk_at dksX2_part_2 2 rfl rfl)
theorem dX2_part_51 : decode cX2_part 51 = .ok (.iload_n 1, 1) := dk_27 (dk_at dksX2_part_2 3 rfl rfl)
theorem dX2_part_52 : decode cX2_part 52 = .ok (.invokevirtual 47, 3) := dk_182 0 47 (dk_at dksX2_part_2 4 rfl rfl)
theorem dX2_part_55 : decode cX2_part 55 = .ok (.ifCond .eq 24, 3) := dk_153 0 24 (dk_at dksX2_part_2 7 rfl rfl)
theorem dX2_part_58 : decode cX2_part 58 = .ok (.aload_n 0, 1) := dk_42 (dk_at dksX2_part_2 10 rfl rfl)
theorem dX2_part_59 : decode cX2_part 59 = .ok (.getfield 20, 3) := dk_180 0 20 (dk_at dksX2_part_2 11 rfl rfl)
theorem dX2_part_62 : decode cX2_part 62 = .ok (.iload_n 1, 1) := dk_27 (dk_at dksX2_part_2 14 rfl rfl)
theorem dX2_part_63 : decode cX2_part 63 = .ok (.aaload, 1) := dk_50 (dk_at dksX2_part_2 15 rfl rfl)
theorem dX2_part_64 : decode cX2_part 64 = .ok (.iload 4, 2) := dk_21 4 (dk_at dksX2_part_2 16 rfl rfl)
theorem dX2_part_66 : decode cX2_part 66 = .ok (.iload 5, 2) := dk_21 5 (dk_at dksX2_part_2 18 rfl rfl)
theorem dX2_part_68 : decode cX2_part 68 = .ok (.isub, 1) := dk_100 (dk_at dksX2_part_2 20 rfl rfl)
theorem dX2_part_69 : decode cX2_part 69 = .ok (.aload_n 0, 1) := dk_42 (dk_at dksX2_part_2 21 rfl rfl)
theorem dX2_part_70 : decode cX2_part 70 = .ok (.getfield 34, 3) := dk_180 0 34 (dk_at dksX2_part_3 0 rfl rfl)
theorem dX2_part_73 : decode cX2_part 73 = .ok (.invokevirtual 61, 3) := dk_182 0 61 (dk_at dksX2_part_3 3 rfl rfl)
theorem dX2_part_76 : decode cX2_part 76 = .ok (.goto 4, 3) := dk_167 0 4 (dk_at dksX2_part_3 6 rfl rfl)
theorem dX2_part_79 : decode cX2_part 79 = .ok (.iconst 0, 1) := dk_3 (dk_at dksX2_part_3 9 rfl rfl)
theorem dX2_part_80 : decode cX2_part 80 = .ok (.istore 6, 2) := dk_54 6 (dk_at dksX2_part_3 10 rfl rfl)
theorem dX2_part_82 : decode cX2_part 82 = .ok (.aload_n 0, 1) := dk_42 (dk_at dksX2_part_3 12 rfl rfl)
theorem dX2_part_83 : decode cX2_part 83 = .ok (.iload_n 2, 1) := dk_28 (dk_at dksX2_part_3 13 rfl rfl)
theorem dX2_part_84 : decode cX2_part 84 = .ok (.iconst 1, 1) := dk_4 (dk_at dksX2_part_3 14 rfl rfl)
theorem dX2_part_85 : decode cX2_part 85 = .ok (.iadd, 1) := dk_96 (dk_at dksX2_part_3 15 rfl rfl)
theorem dX2_part_86 : decode cX2_part 86 = .ok (.iload_n 3, 1) := dk_29 (dk_at dksX2_part_3 16 rfl rfl)
theorem dX2_part_87 : decode cX2_part 87 = .ok (.iload 5, 2) := dk_21 5 (dk_at dksX2_part_3 17 rfl rfl)
theorem dX2_part_89 : decode cX2_part 89 = .ok (.invokevirtual 65, 3) := dk_182 0 65 (dk_at dksX2_part_3 19 rfl rfl)
theorem dX2_part_92 : decode cX2_part 92 = .ok (.aload_n 0, 1) := dk_42 (dk_at dksX2_part_3 22 rfl rfl)
theorem dX2_part_93 : decode cX2_part 93 = .ok (.iload_n 2, 1) := dk_28 (dk_at dksX2_part_3 23 rfl rfl)
theorem dX2_part_94 : decode cX2_part 94 = .ok (.iconst 1, 1) := dk_4 (dk_at dksX2_part_4 0 rfl rfl)
theorem dX2_part_95 : decode cX2_part 95 = .ok (.iadd, 1) := dk_96 (dk_at dksX2_part_4 1 rfl rfl)
theorem dX2_part_96 : decode cX2_part 96 = .ok (.iload_n 3, 1) := dk_29 (dk_at dksX2_part_4 2 rfl rfl)
theorem dX2_part_97 : decode cX2_part 97 = .ok (.iconst 1, 1) := dk_4 (dk_at dksX2_part_4 3 rfl rfl)
theorem dX2_part_98 : decode cX2_part 98 = .ok (.isub, 1) := dk_100 (dk_at dksX2_part_4 4 rfl rfl)
theorem dX2_part_99 : decode cX2_part 99 = .ok (.iload 6, 2) := dk_21 6 (dk_at dksX2_part_4 5 rfl rfl)
theorem dX2_part_101 : decode cX2_part 101 = .ok (.invokevirtual 65, 3) := dk_182 0 65 (dk_at dksX2_part_4 7 rfl rfl)
theorem dX2_part_104 : decode cX2_part 104 = .ok (.aload_n 0, 1) := dk_42 (dk_at dksX2_part_4 10 rfl rfl)
theorem dX2_part_105 : decode cX2_part 105 = .ok (.iload_n 2, 1) := dk_28 (dk_at dksX2_part_4 11 rfl rfl)
theorem dX2_part_106 : decode cX2_part 106 = .ok (.iconst 1, 1) := dk_4 (dk_at dksX2_part_4 12 rfl rfl)
theorem dX2_part_107 : decode cX2_part 107 = .ok (.iadd, 1) := dk_96 (dk_at dksX2_part_4 13 rfl rfl)
theorem dX2_part_108 : decode cX2_part 108 = .ok (.iload_n 3, 1) := dk_29 (dk_at dksX2_part_4 14 rfl rfl)
theorem dX2_part_109 : decode cX2_part 109 = .ok (.iconst 1, 1) := dk_4 (dk_at dksX2_part_4 15 rfl rfl)
theorem dX2_part_110 : decode cX2_part 110 = .ok (.iadd, 1) := dk_96 (dk_at dksX2_part_4 16 rfl rfl)
theorem dX2_part_111 : decode cX2_part 111 = .ok (.iload 4, 2) := dk_21 4 (dk_at dksX2_part_4 17 rfl rfl)
theorem dX2_part_113 : decode cX2_part 113 = .ok (.iload 5, 2) := dk_21 5 (dk_at dksX2_part_4 19 rfl rfl)
theorem dX2_part_115 : decode cX2_part 115 = .ok (.isub, 1) := dk_100 (dk_at dksX2_part_4 21 rfl rfl)
theorem dX2_part_116 : decode cX2_part 116 = .ok (.iload 6, 2) := dk_21 6 (dk_at dksX2_part_4 22 rfl rfl)
theorem dX2_part_118 : decode cX2_part 118 = .ok (.isub, 1) := dk_100 (dk_at dksX2_part_5 0 rfl rfl)
theorem dX2_part_119 : decode cX2_part 119 = .ok (.invokevirtual 65, 3) := dk_182 0 65 (dk_at dksX2_part_5 1 rfl rfl)
theorem dX2_part_122 : decode cX2_part 122 = .ok (.return_, 1) := dk_177 (dk_at dksX2_part_5 4 rfl rfl)
abbrev cX2_come : ByteArray := prog_8_method_6_code
def yX2_come : MethodName := ⟨RX2, "come", "(III)V"⟩
def dkwX2_come_2 : List UInt8 := [96, 92, 46, 29, 96, 79, 177]
abbrev dktX2_come_2 : List UInt8 := dkwX2_come_2 ++ []
def dkwX2_come_1 : List UInt8 := [160, 0, 16, 42, 180, 0, 27, 28, 92, 46, 29, 96, 79, 167, 0, 17, 42, 180, 0, 24, 7, 27, 104, 28]
abbrev dktX2_come_1 : List UInt8 := dkwX2_come_1 ++ dktX2_come_2
def dkwX2_come_0 : List UInt8 := [28, 155, 0, 8, 28, 7, 161, 0, 16, 42, 89, 180, 0, 51, 29, 96, 181, 0, 51, 167, 0, 35, 27, 7]
abbrev dktX2_come_0 : List UInt8 := dkwX2_come_0 ++ dktX2_come_1
theorem dksX2_come_0 : cX2_come.data.toList.drop 0 = dktX2_come_0 := by decide +kernel
theorem dksX2_come_1 : cX2_come.data.toList.drop 24 = dktX2_come_1 := dk_seg dksX2_come_0 24 rfl rfl
theorem dksX2_come_2 : cX2_come.data.toList.drop 48 = dktX2_come_2 := dk_seg dksX2_come_1 24 rfl rfl
theorem dX2_come_0 : decode cX2_come 0 = .ok (.iload_n 2, 1) := dk_28 (dk_at dksX2_come_0 0 rfl rfl)
theorem dX2_come_1 : decode cX2_come 1 = .ok (.ifCond .lt 8, 3) := dk_155 0 8 (dk_at dksX2_come_0 1 rfl rfl)
theorem dX2_come_4 : decode cX2_come 4 = .ok (.iload_n 2, 1) := dk_28 (dk_at dksX2_come_0 4 rfl rfl)
theorem dX2_come_5 : decode cX2_come 5 = .ok (.iconst 4, 1) := dk_7 (dk_at dksX2_come_0 5 rfl rfl)
theorem dX2_come_6 : decode cX2_come 6 = .ok (.if_icmp .lt 16, 3) := dk_161 0 16 (dk_at dksX2_come_0 6 rfl rfl)
theorem dX2_come_9 : decode cX2_come 9 = .ok (.aload_n 0, 1) := dk_42 (dk_at dksX2_come_0 9 rfl rfl)
theorem dX2_come_10 : decode cX2_come 10 = .ok (.dup, 1) := dk_89 (dk_at dksX2_come_0 10 rfl rfl)
theorem dX2_come_11 : decode cX2_come 11 = .ok (.getfield 51, 3) := dk_180 0 51 (dk_at dksX2_come_0 11 rfl rfl)
theorem dX2_come_14 : decode cX2_come 14 = .ok (.iload_n 3, 1) := dk_29 (dk_at dksX2_come_0 14 rfl rfl)
theorem dX2_come_15 : decode cX2_come 15 = .ok (.iadd, 1) := dk_96 (dk_at dksX2_come_0 15 rfl rfl)
theorem dX2_come_16 : decode cX2_come 16 = .ok (.putfield 51, 3) := dk_181 0 51 (dk_at dksX2_come_0 16 rfl rfl)
theorem dX2_come_19 : decode cX2_come 19 = .ok (.goto 35, 3) := dk_167 0 35 (dk_at dksX2_come_0 19 rfl rfl)
theorem dX2_come_22 : decode cX2_come 22 = .ok (.iload_n 1, 1) := dk_27 (dk_at dksX2_come_0 22 rfl rfl)
theorem dX2_come_23 : decode cX2_come 23 = .ok (.iconst 4, 1) := dk_7 (dk_at dksX2_come_0 23 rfl rfl)
theorem dX2_come_24 : decode cX2_come 24 = .ok (.if_icmp .ne 16, 3) := dk_160 0 16 (dk_at dksX2_come_1 0 rfl rfl)
theorem dX2_come_27 : decode cX2_come 27 = .ok (.aload_n 0, 1) := dk_42 (dk_at dksX2_come_1 3 rfl rfl)
theorem dX2_come_28 : decode cX2_come 28 = .ok (.getfield 27, 3) := dk_180 0 27 (dk_at dksX2_come_1 4 rfl rfl)
theorem dX2_come_31 : decode cX2_come 31 = .ok (.iload_n 2, 1) := dk_28 (dk_at dksX2_come_1 7 rfl rfl)
theorem dX2_come_32 : decode cX2_come 32 = .ok (.dup2, 1) := dk_92 (dk_at dksX2_come_1 8 rfl rfl)
theorem dX2_come_33 : decode cX2_come 33 = .ok (.iaload, 1) := dk_46 (dk_at dksX2_come_1 9 rfl rfl)
theorem dX2_come_34 : decode cX2_come 34 = .ok (.iload_n 3, 1) := dk_29 (dk_at dksX2_come_1 10 rfl rfl)
theorem dX2_come_35 : decode cX2_come 35 = .ok (.iadd, 1) := dk_96 (dk_at dksX2_come_1 11 rfl rfl)
theorem dX2_come_36 : decode cX2_come 36 = .ok (.iastore, 1) := dk_79 (dk_at dksX2_come_1 12 rfl rfl)
theorem dX2_come_37 : decode cX2_come 37 = .ok (.goto 17, 3) := dk_167 0 17 (dk_at dksX2_come_1 13 rfl rfl)
theorem dX2_come_40 : decode cX2_come 40 = .ok (.aload_n 0, 1) := dk_42 (dk_at dksX2_come_1 16 rfl rfl)
theorem dX2_come_41 : decode cX2_come 41 = .ok (.getfield 24, 3) := dk_180 0 24 (dk_at dksX2_come_1 17 rfl rfl)
theorem dX2_come_44 : decode cX2_come 44 = .ok (.iconst 4, 1) := dk_7 (dk_at dksX2_come_1 20 rfl rfl)
theorem dX2_come_45 : decode cX2_come 45 = .ok (.iload_n 1, 1) := dk_27 (dk_at dksX2_come_1 21 rfl rfl)
theorem dX2_come_46 : decode cX2_come 46 = .ok (.imul, 1) := dk_104 (dk_at dksX2_come_1 22 rfl rfl)
theorem dX2_come_47 : decode cX2_come 47 = .ok (.iload_n 2, 1) := dk_28 (dk_at dksX2_come_1 23 rfl rfl)
theorem dX2_come_48 : decode cX2_come 48 = .ok (.iadd, 1) := dk_96 (dk_at dksX2_come_2 0 rfl rfl)
theorem dX2_come_49 : decode cX2_come 49 = .ok (.dup2, 1) := dk_92 (dk_at dksX2_come_2 1 rfl rfl)
theorem dX2_come_50 : decode cX2_come 50 = .ok (.iaload, 1) := dk_46 (dk_at dksX2_come_2 2 rfl rfl)
theorem dX2_come_51 : decode cX2_come 51 = .ok (.iload_n 3, 1) := dk_29 (dk_at dksX2_come_2 3 rfl rfl)
theorem dX2_come_52 : decode cX2_come 52 = .ok (.iadd, 1) := dk_96 (dk_at dksX2_come_2 4 rfl rfl)
theorem dX2_come_53 : decode cX2_come 53 = .ok (.iastore, 1) := dk_79 (dk_at dksX2_come_2 5 rfl rfl)
theorem dX2_come_54 : decode cX2_come 54 = .ok (.return_, 1) := dk_177 (dk_at dksX2_come_2 6 rfl rfl)
theorem q62 : (Jvm.Cond.initialized "WindCarver$Pass") ∈ lw_all := lw_g (lw_at lw_m1 3 rfl) rfl
theorem q115 : (Jvm.Cond.instantiable "WindCarver$Pass" (9 : Nat)) ∈ lw_all := lw_g (lw_at lw_m1 56 rfl) rfl
theorem q117 : (Jvm.Cond.instanceMethod ({ cls := "WindCarver$Pass", name := "<init>", desc := "()V" } : Jvm.MethodName)) ∈ lw_all := lw_g (lw_at lw_m1 58 rfl) rfl
theorem q118 : (Jvm.Cond.code ({ cls := "WindCarver$Pass", name := "<init>", desc := "()V" } : Jvm.MethodName) prog_8_method_1_code (1 : Nat) (Option.none : Option Jvm.ClassFile.FieldType)) ∈ lw_all := lw_g (lw_at lw_m1 59 rfl) rfl
theorem q119 : (Jvm.Cond.methodLink "WindCarver$Pass" (3 : Nat) ({ cls := "java/lang/Object", name := "<init>", desc := "()V" } : Jvm.MethodName)) ∈ lw_all := lw_g (lw_at lw_m1 60 rfl) rfl
theorem q120 : (Jvm.Cond.classLink "WindCarver$Pass" (18 : Nat) "WindCarver$Work") ∈ lw_all := lw_g (lw_at lw_m1 61 rfl) rfl
theorem q122 : (Jvm.Cond.fieldLink "WindCarver$Pass" (30 : Nat) "WindCarver$Pass" "isTold" "Z") ∈ lw_all := lw_g (lw_at lw_m1 63 rfl) rfl
theorem q125 : (Jvm.Cond.fieldLink "WindCarver$Pass" (34 : Nat) "WindCarver$Pass" "hour" "I") ∈ lw_all := lw_g (lw_at lw_m1 66 rfl) rfl
theorem q127 : (Jvm.Cond.fieldLink "WindCarver$Pass" (9 : Nat) "WindCarver$Pass" "gusts" "[I") ∈ lw_all := lw_g (lw_at lw_m1 68 rfl) rfl
theorem q130 : (Jvm.Cond.fieldLink "WindCarver$Pass" (15 : Nat) "WindCarver$Pass" "rises" "[I") ∈ lw_all := lw_g (lw_at lw_m1 71 rfl) rfl
theorem q133 : (Jvm.Cond.fieldLink "WindCarver$Pass" (20 : Nat) "WindCarver$Pass" "works" "[LWindCarver$Work;") ∈ lw_all := lw_g (lw_at lw_m1 74 rfl) rfl
theorem q136 : (Jvm.Cond.fieldLink "WindCarver$Pass" (38 : Nat) "WindCarver$Pass" "open" "I") ∈ lw_all := lw_g (lw_at lw_m1 77 rfl) rfl
theorem q138 : (Jvm.Cond.fieldLink "WindCarver$Pass" (24 : Nat) "WindCarver$Pass" "felt" "[I") ∈ lw_all := lw_g (lw_at lw_m1 79 rfl) rfl
theorem q141 : (Jvm.Cond.fieldLink "WindCarver$Pass" (27 : Nat) "WindCarver$Pass" "leaves" "[I") ∈ lw_all := lw_g (lw_at lw_m1 82 rfl) rfl
theorem q143 : (Jvm.Cond.fieldLink "WindCarver$Pass" (51 : Nat) "WindCarver$Pass" "lost" "I") ∈ lw_all := lw_g (lw_at lw_m1 84 rfl) rfl
theorem q145 : (Jvm.Cond.lays "WindCarver$Pass" "WindCarver$Pass" "isTold" "Z") ∈ lw_all := lw_g (lw_at lw_m1 86 rfl) rfl
theorem q146 : (Jvm.Cond.soleField "WindCarver$Pass" "isTold") ∈ lw_all := lw_g (lw_at lw_m1 87 rfl) rfl
theorem q147 : (Jvm.Cond.lays "WindCarver$Pass" "WindCarver$Pass" "hour" "I") ∈ lw_all := lw_g (lw_at lw_m1 88 rfl) rfl
theorem q148 : (Jvm.Cond.soleField "WindCarver$Pass" "hour") ∈ lw_all := lw_g (lw_at lw_m1 89 rfl) rfl
theorem q149 : (Jvm.Cond.laysFinal "WindCarver$Pass" "WindCarver$Pass" "gusts" "[I") ∈ lw_all := lw_g (lw_at lw_m1 90 rfl) rfl
theorem q150 : (Jvm.Cond.soleField "WindCarver$Pass" "gusts") ∈ lw_all := lw_g (lw_at lw_m1 91 rfl) rfl
theorem q151 : (Jvm.Cond.laysFinal "WindCarver$Pass" "WindCarver$Pass" "rises" "[I") ∈ lw_all := lw_g (lw_at lw_m1 92 rfl) rfl
theorem q152 : (Jvm.Cond.soleField "WindCarver$Pass" "rises") ∈ lw_all := lw_g (lw_at lw_m1 93 rfl) rfl
theorem q153 : (Jvm.Cond.laysFinal "WindCarver$Pass" "WindCarver$Pass" "works" "[LWindCarver$Work;") ∈ lw_all := lw_g (lw_at lw_m1 94 rfl) rfl
theorem q154 : (Jvm.Cond.soleField "WindCarver$Pass" "works") ∈ lw_all := lw_g (lw_at lw_m1 95 rfl) rfl
theorem q155 : (Jvm.Cond.lays "WindCarver$Pass" "WindCarver$Pass" "open" "I") ∈ lw_all := lw_g (lw_at lw_m1 96 rfl) rfl
theorem q156 : (Jvm.Cond.soleField "WindCarver$Pass" "open") ∈ lw_all := lw_g (lw_at lw_m1 97 rfl) rfl
theorem q157 : (Jvm.Cond.laysFinal "WindCarver$Pass" "WindCarver$Pass" "felt" "[I") ∈ lw_all := lw_g (lw_at lw_m1 98 rfl) rfl
theorem q158 : (Jvm.Cond.soleField "WindCarver$Pass" "felt") ∈ lw_all := lw_g (lw_at lw_m1 99 rfl) rfl
theorem q159 : (Jvm.Cond.laysFinal "WindCarver$Pass" "WindCarver$Pass" "leaves" "[I") ∈ lw_all := lw_g (lw_at lw_m1 100 rfl) rfl
theorem q160 : (Jvm.Cond.soleField "WindCarver$Pass" "leaves") ∈ lw_all := lw_g (lw_at lw_m1 101 rfl) rfl
theorem q161 : (Jvm.Cond.lays "WindCarver$Pass" "WindCarver$Pass" "lost" "I") ∈ lw_all := lw_g (lw_at lw_m1 102 rfl) rfl
theorem q162 : (Jvm.Cond.soleField "WindCarver$Pass" "lost") ∈ lw_all := lw_g (lw_at lw_m1 103 rfl) rfl
theorem q163 : (Jvm.Cond.superclass "WindCarver$Pass" "java/lang/Object") ∈ lw_all := lw_g (lw_at lw_m1 104 rfl) rfl
theorem q640 : (Jvm.Cond.instanceMethod ({ cls := "WindCarver$Pass", name := "many", desc := "()I" } : Jvm.MethodName)) ∈ lw_all := lw_g (lw_at lw_m3 101 rfl) rfl
theorem q641 : (Jvm.Cond.selects "WindCarver$Pass" ({ cls := "WindCarver$Pass", name := "many", desc := "()I" } : Jvm.MethodName) ({ cls := "WindCarver$Pass", name := "many", desc := "()I" } : Jvm.MethodName)) ∈ lw_all := lw_g (lw_at lw_m3 102 rfl) rfl
theorem q642 : (Jvm.Cond.code ({ cls := "WindCarver$Pass", name := "many", desc := "()I" } : Jvm.MethodName) prog_8_method_4_code (3 : Nat) (Option.some Jvm.ClassFile.FieldType.int)) ∈ lw_all := lw_g (lw_at lw_m3 103 rfl) rfl
theorem q643 : (Jvm.Cond.methodLink "WindCarver$Pass" (47 : Nat) ({ cls := "WindCarver$Pass", name := "has", desc := "(I)Z" } : Jvm.MethodName)) ∈ lw_all := lw_g (lw_at lw_m3 104 rfl) rfl
theorem q644 : (Jvm.Cond.instanceMethod ({ cls := "WindCarver$Pass", name := "has", desc := "(I)Z" } : Jvm.MethodName)) ∈ lw_all := lw_g (lw_at lw_m3 105 rfl) rfl
theorem q645 : (Jvm.Cond.selects "WindCarver$Pass" ({ cls := "WindCarver$Pass", name := "has", desc := "(I)Z" } : Jvm.MethodName) ({ cls := "WindCarver$Pass", name := "has", desc := "(I)Z" } : Jvm.MethodName)) ∈ lw_all := lw_g (lw_at lw_m3 106 rfl) rfl
theorem q646 : (Jvm.Cond.code ({ cls := "WindCarver$Pass", name := "has", desc := "(I)Z" } : Jvm.MethodName) prog_8_method_3_code (2 : Nat) (Option.some Jvm.ClassFile.FieldType.boolean)) ∈ lw_all := lw_g (lw_at lw_m3 107 rfl) rfl
theorem q690 : (Jvm.Cond.instanceMethod ({ cls := "WindCarver$Pass", name := "become", desc := "(LWindCarver$Pass;)V" } : Jvm.MethodName)) ∈ lw_all := lw_g (lw_at lw_m3 151 rfl) rfl
theorem q691 : (Jvm.Cond.selects "WindCarver$Pass" ({ cls := "WindCarver$Pass", name := "become", desc := "(LWindCarver$Pass;)V" } : Jvm.MethodName) ({ cls := "WindCarver$Pass", name := "become", desc := "(LWindCarver$Pass;)V" } : Jvm.MethodName)) ∈ lw_all := lw_g (lw_at lw_m3 152 rfl) rfl
theorem q692 : (Jvm.Cond.code ({ cls := "WindCarver$Pass", name := "become", desc := "(LWindCarver$Pass;)V" } : Jvm.MethodName) prog_8_method_2_code (2 : Nat) (Option.none : Option Jvm.ClassFile.FieldType)) ∈ lw_all := lw_g (lw_at lw_m3 153 rfl) rfl
theorem q693 : (Jvm.Cond.methodLink "WindCarver$Pass" (41 : Nat) ({ cls := "java/lang/System", name := "arraycopy", desc := "(Ljava/lang/Object;ILjava/lang/Object;II)V" } : Jvm.MethodName)) ∈ lw_all := lw_g (lw_at lw_m3 154 rfl) rfl
theorem q724 : (Jvm.Cond.instanceMethod ({ cls := "WindCarver$Pass", name := "clear", desc := "(I)V" } : Jvm.MethodName)) ∈ lw_all := lw_g (lw_at lw_m3 185 rfl) rfl
theorem q725 : (Jvm.Cond.selects "WindCarver$Pass" ({ cls := "WindCarver$Pass", name := "clear", desc := "(I)V" } : Jvm.MethodName) ({ cls := "WindCarver$Pass", name := "clear", desc := "(I)V" } : Jvm.MethodName)) ∈ lw_all := lw_g (lw_at lw_m3 186 rfl) rfl
theorem q726 : (Jvm.Cond.code ({ cls := "WindCarver$Pass", name := "clear", desc := "(I)V" } : Jvm.MethodName) prog_8_method_5_code (2 : Nat) (Option.none : Option Jvm.ClassFile.FieldType)) ∈ lw_all := lw_g (lw_at lw_m3 187 rfl) rfl
theorem q764 : (Jvm.Cond.instanceMethod ({ cls := "WindCarver$Pass", name := "goOn", desc := "()I" } : Jvm.MethodName)) ∈ lw_all := lw_g (lw_at lw_m3 225 rfl) rfl
theorem q765 : (Jvm.Cond.selects "WindCarver$Pass" ({ cls := "WindCarver$Pass", name := "goOn", desc := "()I" } : Jvm.MethodName) ({ cls := "WindCarver$Pass", name := "goOn", desc := "()I" } : Jvm.MethodName)) ∈ lw_all := lw_g (lw_at lw_m3 226 rfl) rfl
theorem q766 : (Jvm.Cond.code ({ cls := "WindCarver$Pass", name := "goOn", desc := "()I" } : Jvm.MethodName) prog_8_method_9_code (3 : Nat) (Option.some Jvm.ClassFile.FieldType.int)) ∈ lw_all := lw_g (lw_at lw_m3 227 rfl) rfl
theorem q767 : (Jvm.Cond.methodLink "WindCarver$Pass" (73 : Nat) ({ cls := "WindCarver$Pass", name := "blow", desc := "()V" } : Jvm.MethodName)) ∈ lw_all := lw_g (lw_at lw_m3 228 rfl) rfl
theorem q768 : (Jvm.Cond.instanceMethod ({ cls := "WindCarver$Pass", name := "blow", desc := "()V" } : Jvm.MethodName)) ∈ lw_all := lw_g (lw_at lw_m3 229 rfl) rfl
theorem q769 : (Jvm.Cond.selects "WindCarver$Pass" ({ cls := "WindCarver$Pass", name := "blow", desc := "()V" } : Jvm.MethodName) ({ cls := "WindCarver$Pass", name := "blow", desc := "()V" } : Jvm.MethodName)) ∈ lw_all := lw_g (lw_at lw_m3 230 rfl) rfl
theorem q770 : (Jvm.Cond.code ({ cls := "WindCarver$Pass", name := "blow", desc := "()V" } : Jvm.MethodName) prog_8_method_8_code (2 : Nat) (Option.none : Option Jvm.ClassFile.FieldType)) ∈ lw_all := lw_g (lw_at lw_m3 231 rfl) rfl
theorem q771 : (Jvm.Cond.methodLink "WindCarver$Pass" (69 : Nat) ({ cls := "WindCarver$Pass", name := "part", desc := "(I)V" } : Jvm.MethodName)) ∈ lw_all := lw_g (lw_at lw_m3 232 rfl) rfl
theorem q772 : (Jvm.Cond.privateMethod ({ cls := "WindCarver$Pass", name := "part", desc := "(I)V" } : Jvm.MethodName)) ∈ lw_tbl := lw_at lw_m3 233 rfl
theorem q773 : (Jvm.Cond.instanceMethod ({ cls := "WindCarver$Pass", name := "part", desc := "(I)V" } : Jvm.MethodName)) ∈ lw_all := lw_g (lw_at lw_m3 234 rfl) rfl
theorem q774 : (Jvm.Cond.code ({ cls := "WindCarver$Pass", name := "part", desc := "(I)V" } : Jvm.MethodName) prog_8_method_7_code (7 : Nat) (Option.none : Option Jvm.ClassFile.FieldType)) ∈ lw_all := lw_g (lw_at lw_m3 235 rfl) rfl
theorem q775 : (Jvm.Cond.methodLinkNest "WindCarver$Pass" (54 : Nat) ({ cls := "WindCarver", name := "has", desc := "(II)Z" } : Jvm.MethodName) "WindCarver") ∈ lw_tbl := lw_at lw_m3 236 rfl
theorem q778 : (Jvm.Cond.methodLink "WindCarver$Pass" (57 : Nat) ({ cls := "WindCarver$Work", name := "on", desc := "(IZ)I" } : Jvm.MethodName)) ∈ lw_all := lw_g (lw_at lw_m3 239 rfl) rfl
theorem q795 : (Jvm.Cond.methodLink "WindCarver$Pass" (61 : Nat) ({ cls := "WindCarver$Work", name := "north", desc := "(II)I" } : Jvm.MethodName)) ∈ lw_all := lw_g (lw_at lw_m4 16 rfl) rfl
theorem q810 : (Jvm.Cond.methodLink "WindCarver$Pass" (65 : Nat) ({ cls := "WindCarver$Pass", name := "come", desc := "(III)V" } : Jvm.MethodName)) ∈ lw_all := lw_g (lw_at lw_m4 31 rfl) rfl
theorem q811 : (Jvm.Cond.privateMethod ({ cls := "WindCarver$Pass", name := "come", desc := "(III)V" } : Jvm.MethodName)) ∈ lw_tbl := lw_at lw_m4 32 rfl
theorem q812 : (Jvm.Cond.instanceMethod ({ cls := "WindCarver$Pass", name := "come", desc := "(III)V" } : Jvm.MethodName)) ∈ lw_all := lw_g (lw_at lw_m4 33 rfl) rfl
theorem q813 : (Jvm.Cond.code ({ cls := "WindCarver$Pass", name := "come", desc := "(III)V" } : Jvm.MethodName) prog_8_method_6_code (4 : Nat) (Option.none : Option Jvm.ClassFile.FieldType)) ∈ lw_all := lw_g (lw_at lw_m4 34 rfl) rfl
theorem q814 : (Jvm.Cond.methodLink "WindCarver$Pass" (76 : Nat) ({ cls := "WindCarver$Work", name := "holds", desc := "()I" } : Jvm.MethodName)) ∈ lw_all := lw_g (lw_at lw_m4 35 rfl) rfl
theorem q823 : (Jvm.Cond.methodLink "WindCarver$Pass" (80 : Nat) ({ cls := "WindCarver$Pass", name := "clear", desc := "(I)V" } : Jvm.MethodName)) ∈ lw_all := lw_g (lw_at lw_m4 44 rfl) rfl
theorem in_X2 : ∀ w ∈ wsX20, w ∈ lw_all := lw_in wsX20 [145, 147, 149, 151, 153, 155, 157, 159, 161] (by decide +kernel) (by decide +kernel)
/-! WindCarver$Trail -/
set_option maxRecDepth 100000
def RX3 : String := "WindCarver$Trail"
def TX3 : u_T := fun k => match k with
  | 0 => ("WindCarver$Trail", "body", "[I", true)
  | _ => ("WindCarver$Trail", "many", "I", false)
def tyX3 : Nat → FieldType := fun k => match k with
  | 0 => .array .int
  | _ => .int
abbrev wsX30 : List Cond := u_ws RX3 TX3 2
theorem nmX3 : ∀ a, a < 2 → ∀ b, b < 2 → a ≠ b → (TX3 a).2.1 ≠ (TX3 b).2.1 := by decide +kernel
theorem tyX3_ok : ∀ k, k < 2 → parseFieldDescriptor (TX3 k).2.2.1 = some (tyX3 k) := by decide +kernel
abbrev cX3_init : ByteArray := prog_12_method_1_code
def yX3_init : MethodName := ⟨RX3, "<init>", "()V"⟩
def dkwX3_init_0 : List UInt8 := [42, 183, 0, 3, 42, 16, 16, 188, 10, 181, 0, 9, 177]
abbrev dktX3_init_0 : List UInt8 := dkwX3_init_0 ++ []
theorem dksX3_init_0 : cX3_init.data.toList.drop 0 = dktX3_init_0 := by decide +kernel
theorem dX3_init_0 : decode cX3_init 0 = .ok (.aload_n 0, 1) := dk_42 (dk_at dksX3_init_0 0 rfl rfl)
theorem dX3_init_1 : decode cX3_init 1 = .ok (.invokespecial 3, 3) := dk_183 0 3 (dk_at dksX3_init_0 1 rfl rfl)
theorem dX3_init_4 : decode cX3_init 4 = .ok (.aload_n 0, 1) := dk_42 (dk_at dksX3_init_0 4 rfl rfl)
theorem dX3_init_5 : decode cX3_init 5 = .ok (.bipush 16, 2) := dk_16 16 (dk_at dksX3_init_0 5 rfl rfl)
theorem dX3_init_7 : decode cX3_init 7 = .ok (.newarray .int, 2) := dk_188_10 (dk_at dksX3_init_0 7 rfl rfl)
theorem dX3_init_9 : decode cX3_init 9 = .ok (.putfield 9, 3) := dk_181 0 9 (dk_at dksX3_init_0 9 rfl rfl)
theorem dX3_init_12 : decode cX3_init 12 = .ok (.return_, 1) := dk_177 (dk_at dksX3_init_0 12 rfl rfl)
abbrev cX3_begins : ByteArray := prog_12_method_2_code
def yX3_begins : MethodName := ⟨RX3, "begins", "(I)V"⟩
def dkwX3_begins_1 : List UInt8 := [27, 79, 177]
abbrev dktX3_begins_1 : List UInt8 := dkwX3_begins_1 ++ []
def dkwX3_begins_0 : List UInt8 := [42, 180, 0, 15, 16, 16, 162, 0, 20, 42, 180, 0, 9, 42, 89, 180, 0, 15, 90, 4, 96, 181, 0, 15]
abbrev dktX3_begins_0 : List UInt8 := dkwX3_begins_0 ++ dktX3_begins_1
theorem dksX3_begins_0 : cX3_begins.data.toList.drop 0 = dktX3_begins_0 := by decide +kernel
theorem dksX3_begins_1 : cX3_begins.data.toList.drop 24 = dktX3_begins_1 := dk_seg dksX3_begins_0 24 rfl rfl
theorem dX3_begins_0 : decode cX3_begins 0 = .ok (.aload_n 0, 1) := dk_42 (dk_at dksX3_begins_0 0 rfl rfl)
theorem dX3_begins_1 : decode cX3_begins 1 = .ok (.getfield 15, 3) := dk_180 0 15 (dk_at dksX3_begins_0 1 rfl rfl)
theorem dX3_begins_4 : decode cX3_begins 4 = .ok (.bipush 16, 2) := dk_16 16 (dk_at dksX3_begins_0 4 rfl rfl)
theorem dX3_begins_6 : decode cX3_begins 6 = .ok (.if_icmp .ge 20, 3) := dk_162 0 20 (dk_at dksX3_begins_0 6 rfl rfl)
theorem dX3_begins_9 : decode cX3_begins 9 = .ok (.aload_n 0, 1) := dk_42 (dk_at dksX3_begins_0 9 rfl rfl)
theorem dX3_begins_10 : decode cX3_begins 10 = .ok (.getfield 9, 3) := dk_180 0 9 (dk_at dksX3_begins_0 10 rfl rfl)
theorem dX3_begins_13 : decode cX3_begins 13 = .ok (.aload_n 0, 1) := dk_42 (dk_at dksX3_begins_0 13 rfl rfl)
theorem dX3_begins_14 : decode cX3_begins 14 = .ok (.dup, 1) := dk_89 (dk_at dksX3_begins_0 14 rfl rfl)
theorem dX3_begins_15 : decode cX3_begins 15 = .ok (.getfield 15, 3) := dk_180 0 15 (dk_at dksX3_begins_0 15 rfl rfl)
theorem dX3_begins_18 : decode cX3_begins 18 = .ok (.dup_x1, 1) := dk_90 (dk_at dksX3_begins_0 18 rfl rfl)
theorem dX3_begins_19 : decode cX3_begins 19 = .ok (.iconst 1, 1) := dk_4 (dk_at dksX3_begins_0 19 rfl rfl)
theorem dX3_begins_20 : decode cX3_begins 20 = .ok (.iadd, 1) := dk_96 (dk_at dksX3_begins_0 20 rfl rfl)
theorem dX3_begins_21 : decode cX3_begins 21 = .ok (.putfield 15, 3) := dk_181 0 15 (dk_at dksX3_begins_0 21 rfl rfl)
theorem dX3_begins_24 : decode cX3_begins 24 = .ok (.iload_n 1, 1) := dk_27 (dk_at dksX3_begins_1 0 rfl rfl)
theorem dX3_begins_25 : decode cX3_begins 25 = .ok (.iastore, 1) := dk_79 (dk_at dksX3_begins_1 1 rfl rfl)
theorem dX3_begins_26 : decode cX3_begins 26 = .ok (.return_, 1) := dk_177 (dk_at dksX3_begins_1 2 rfl rfl)
theorem q63 : (Jvm.Cond.initialized "WindCarver$Trail") ∈ lw_all := lw_g (lw_at lw_m1 4 rfl) rfl
theorem q168 : (Jvm.Cond.instantiable "WindCarver$Trail" (2 : Nat)) ∈ lw_all := lw_g (lw_at lw_m1 109 rfl) rfl
theorem q170 : (Jvm.Cond.instanceMethod ({ cls := "WindCarver$Trail", name := "<init>", desc := "()V" } : Jvm.MethodName)) ∈ lw_all := lw_g (lw_at lw_m1 111 rfl) rfl
theorem q171 : (Jvm.Cond.code ({ cls := "WindCarver$Trail", name := "<init>", desc := "()V" } : Jvm.MethodName) prog_12_method_1_code (1 : Nat) (Option.none : Option Jvm.ClassFile.FieldType)) ∈ lw_all := lw_g (lw_at lw_m1 112 rfl) rfl
theorem q172 : (Jvm.Cond.methodLink "WindCarver$Trail" (3 : Nat) ({ cls := "java/lang/Object", name := "<init>", desc := "()V" } : Jvm.MethodName)) ∈ lw_all := lw_g (lw_at lw_m1 113 rfl) rfl
theorem q173 : (Jvm.Cond.fieldLink "WindCarver$Trail" (9 : Nat) "WindCarver$Trail" "body" "[I") ∈ lw_all := lw_g (lw_at lw_m1 114 rfl) rfl
theorem q175 : (Jvm.Cond.fieldLink "WindCarver$Trail" (15 : Nat) "WindCarver$Trail" "many" "I") ∈ lw_all := lw_g (lw_at lw_m1 116 rfl) rfl
theorem q177 : (Jvm.Cond.laysFinal "WindCarver$Trail" "WindCarver$Trail" "body" "[I") ∈ lw_all := lw_g (lw_at lw_m1 118 rfl) rfl
theorem q178 : (Jvm.Cond.soleField "WindCarver$Trail" "body") ∈ lw_all := lw_g (lw_at lw_m1 119 rfl) rfl
theorem q179 : (Jvm.Cond.lays "WindCarver$Trail" "WindCarver$Trail" "many" "I") ∈ lw_all := lw_g (lw_at lw_m1 120 rfl) rfl
theorem q180 : (Jvm.Cond.soleField "WindCarver$Trail" "many") ∈ lw_all := lw_g (lw_at lw_m1 121 rfl) rfl
theorem q181 : (Jvm.Cond.superclass "WindCarver$Trail" "java/lang/Object") ∈ lw_all := lw_g (lw_at lw_m1 122 rfl) rfl
theorem q1002 : (Jvm.Cond.instanceMethod ({ cls := "WindCarver$Trail", name := "begins", desc := "(I)V" } : Jvm.MethodName)) ∈ lw_all := lw_g (lw_at lw_m4 223 rfl) rfl
theorem q1003 : (Jvm.Cond.selects "WindCarver$Trail" ({ cls := "WindCarver$Trail", name := "begins", desc := "(I)V" } : Jvm.MethodName) ({ cls := "WindCarver$Trail", name := "begins", desc := "(I)V" } : Jvm.MethodName)) ∈ lw_all := lw_g (lw_at lw_m4 224 rfl) rfl
theorem q1004 : (Jvm.Cond.code ({ cls := "WindCarver$Trail", name := "begins", desc := "(I)V" } : Jvm.MethodName) prog_12_method_2_code (2 : Nat) (Option.none : Option Jvm.ClassFile.FieldType)) ∈ lw_all := lw_g (lw_at lw_m4 225 rfl) rfl
theorem in_X3 : ∀ w ∈ wsX30, w ∈ lw_all := lw_in wsX30 [177, 179] (by decide +kernel) (by decide +kernel)
/-! WindCarver$Work -/
set_option maxRecDepth 100000
def RX4 : String := "WindCarver$Work"
abbrev cX4_init : ByteArray := prog_15_method_1_code
def yX4_init : MethodName := ⟨RX4, "<init>", "(II)V"⟩
def dkwX4_init_0 : List UInt8 := [42, 183, 0, 1, 42, 27, 181, 0, 7, 42, 28, 181, 0, 13, 177]
abbrev dktX4_init_0 : List UInt8 := dkwX4_init_0 ++ []
theorem dksX4_init_0 : cX4_init.data.toList.drop 0 = dktX4_init_0 := by decide +kernel
theorem dX4_init_0 : decode cX4_init 0 = .ok (.aload_n 0, 1) := dk_42 (dk_at dksX4_init_0 0 rfl rfl)
theorem dX4_init_1 : decode cX4_init 1 = .ok (.invokespecial 1, 3) := dk_183 0 1 (dk_at dksX4_init_0 1 rfl rfl)
theorem dX4_init_4 : decode cX4_init 4 = .ok (.aload_n 0, 1) := dk_42 (dk_at dksX4_init_0 4 rfl rfl)
theorem dX4_init_5 : decode cX4_init 5 = .ok (.iload_n 1, 1) := dk_27 (dk_at dksX4_init_0 5 rfl rfl)
theorem dX4_init_6 : decode cX4_init 6 = .ok (.putfield 7, 3) := dk_181 0 7 (dk_at dksX4_init_0 6 rfl rfl)
theorem dX4_init_9 : decode cX4_init 9 = .ok (.aload_n 0, 1) := dk_42 (dk_at dksX4_init_0 9 rfl rfl)
theorem dX4_init_10 : decode cX4_init 10 = .ok (.iload_n 2, 1) := dk_28 (dk_at dksX4_init_0 10 rfl rfl)
theorem dX4_init_11 : decode cX4_init 11 = .ok (.putfield 13, 3) := dk_181 0 13 (dk_at dksX4_init_0 11 rfl rfl)
theorem dX4_init_14 : decode cX4_init 14 = .ok (.return_, 1) := dk_177 (dk_at dksX4_init_0 14 rfl rfl)
abbrev cX4_on : ByteArray := prog_15_method_3_code
def yX4_on : MethodName := ⟨RX4, "on", "(IZ)I"⟩
theorem dX4_on_0 : decode cX4_on 0 = .ok (.iconst 0, 1) := by decide +kernel
theorem dX4_on_1 : decode cX4_on 1 = .ok (.ireturn, 1) := by decide +kernel
abbrev cX4_holds : ByteArray := prog_15_method_6_code
def yX4_holds : MethodName := ⟨RX4, "holds", "()I"⟩
theorem dX4_holds_0 : decode cX4_holds 0 = .ok (.aload_n 0, 1) := by decide +kernel
theorem dX4_holds_1 : decode cX4_holds 1 = .ok (.getfield 13, 3) := by decide +kernel
theorem dX4_holds_4 : decode cX4_holds 4 = .ok (.ireturn, 1) := by decide +kernel
abbrev cX4_cell : ByteArray := prog_15_method_5_code
def yX4_cell : MethodName := ⟨RX4, "cell", "()I"⟩
theorem dX4_cell_0 : decode cX4_cell 0 = .ok (.aload_n 0, 1) := by decide +kernel
theorem dX4_cell_1 : decode cX4_cell 1 = .ok (.getfield 7, 3) := by decide +kernel
theorem dX4_cell_4 : decode cX4_cell 4 = .ok (.ireturn, 1) := by decide +kernel
theorem q64 : (Jvm.Cond.initialized "WindCarver$Work") ∈ lw_all := lw_g (lw_at lw_m1 5 rfl) rfl
theorem q192 : (Jvm.Cond.instanceMethod ({ cls := "WindCarver$Work", name := "<init>", desc := "(II)V" } : Jvm.MethodName)) ∈ lw_all := lw_g (lw_at lw_m1 133 rfl) rfl
theorem q193 : (Jvm.Cond.code ({ cls := "WindCarver$Work", name := "<init>", desc := "(II)V" } : Jvm.MethodName) prog_15_method_1_code (3 : Nat) (Option.none : Option Jvm.ClassFile.FieldType)) ∈ lw_all := lw_g (lw_at lw_m1 134 rfl) rfl
theorem q194 : (Jvm.Cond.methodLink "WindCarver$Work" (1 : Nat) ({ cls := "java/lang/Object", name := "<init>", desc := "()V" } : Jvm.MethodName)) ∈ lw_all := lw_g (lw_at lw_m1 135 rfl) rfl
theorem q195 : (Jvm.Cond.fieldLink "WindCarver$Work" (7 : Nat) "WindCarver$Work" "cell" "I") ∈ lw_all := lw_g (lw_at lw_m1 136 rfl) rfl
theorem q196 : (Jvm.Cond.fieldLink "WindCarver$Work" (13 : Nat) "WindCarver$Work" "holds" "I") ∈ lw_all := lw_g (lw_at lw_m1 137 rfl) rfl
theorem q198 : (Jvm.Cond.soleField "WindCarver$Work" "cell") ∈ lw_all := lw_g (lw_at lw_m1 139 rfl) rfl
theorem q200 : (Jvm.Cond.soleField "WindCarver$Work" "holds") ∈ lw_all := lw_g (lw_at lw_m1 141 rfl) rfl
theorem q732 : (Jvm.Cond.declares ({ cls := "WindCarver$Work", name := "kind", desc := "()I" } : Jvm.MethodName)) ∈ lw_tbl := lw_at lw_m3 193 rfl
theorem q733 : (Jvm.Cond.sameMethod "WindCarver$Work" "WindCarver$Work" "kind" "()I") ∈ lw_all := lw_g (lw_at lw_m3 194 rfl) rfl
theorem q779 : (Jvm.Cond.instanceMethod ({ cls := "WindCarver$Work", name := "on", desc := "(IZ)I" } : Jvm.MethodName)) ∈ lw_all := lw_g (lw_at lw_m4 0 rfl) rfl
theorem q780 : (Jvm.Cond.sameMethod "WindCarver$Work" "WindCarver$Work" "on" "(IZ)I") ∈ lw_all := lw_g (lw_at lw_m4 1 rfl) rfl
theorem q787 : (Jvm.Cond.declares ({ cls := "WindCarver$Work", name := "on", desc := "(IZ)I" } : Jvm.MethodName)) ∈ lw_tbl := lw_at lw_m4 8 rfl
theorem q794 : (Jvm.Cond.code ({ cls := "WindCarver$Work", name := "on", desc := "(IZ)I" } : Jvm.MethodName) prog_15_method_3_code (3 : Nat) (Option.some Jvm.ClassFile.FieldType.int)) ∈ lw_all := lw_g (lw_at lw_m4 15 rfl) rfl
theorem q796 : (Jvm.Cond.declares ({ cls := "WindCarver$Work", name := "north", desc := "(II)I" } : Jvm.MethodName)) ∈ lw_tbl := lw_at lw_m4 17 rfl
theorem q797 : (Jvm.Cond.sameMethod "WindCarver$Work" "WindCarver$Work" "north" "(II)I") ∈ lw_all := lw_g (lw_at lw_m4 18 rfl) rfl
theorem q815 : (Jvm.Cond.instanceMethod ({ cls := "WindCarver$Work", name := "holds", desc := "()I" } : Jvm.MethodName)) ∈ lw_all := lw_g (lw_at lw_m4 36 rfl) rfl
theorem q816 : (Jvm.Cond.sameMethod "WindCarver$Work" "WindCarver$Work" "holds" "()I") ∈ lw_all := lw_g (lw_at lw_m4 37 rfl) rfl
theorem q822 : (Jvm.Cond.code ({ cls := "WindCarver$Work", name := "holds", desc := "()I" } : Jvm.MethodName) prog_15_method_6_code (1 : Nat) (Option.some Jvm.ClassFile.FieldType.int)) ∈ lw_all := lw_g (lw_at lw_m4 43 rfl) rfl
theorem q971 : (Jvm.Cond.instanceMethod ({ cls := "WindCarver$Work", name := "cell", desc := "()I" } : Jvm.MethodName)) ∈ lw_all := lw_g (lw_at lw_m4 192 rfl) rfl
theorem q972 : (Jvm.Cond.sameMethod "WindCarver$Work" "WindCarver$Work" "cell" "()I") ∈ lw_all := lw_g (lw_at lw_m4 193 rfl) rfl
theorem q978 : (Jvm.Cond.code ({ cls := "WindCarver$Work", name := "cell", desc := "()I" } : Jvm.MethodName) prog_15_method_5_code (1 : Nat) (Option.some Jvm.ClassFile.FieldType.int)) ∈ lw_all := lw_g (lw_at lw_m4 199 rfl) rfl
theorem q996 : (Jvm.Cond.superclass "WindCarver$Work" "java/lang/Object") ∈ lw_all := lw_g (lw_at lw_m4 217 rfl) rfl
theorem q1015 : (Jvm.Cond.publicMethod ({ cls := "WindCarver$Work", name := "holds", desc := "()I" } : Jvm.MethodName)) ∈ lw_tbl := lw_at lw_m4 236 rfl
theorem q1059 : (Jvm.Cond.publicMethod ({ cls := "WindCarver$Work", name := "cell", desc := "()I" } : Jvm.MethodName)) ∈ lw_tbl := lw_at lw_m5 40 rfl
/-! WindCarver$Wall -/
set_option maxRecDepth 100000
def RX5 : String := "WindCarver$Wall"
def TX5 : u_T := fun k => match k with
  | 0 => ("WindCarver$Work", "cell", "I", true)
  | _ => ("WindCarver$Work", "holds", "I", true)
def tyX5 : Nat → FieldType := fun k => match k with
  | 0 => .int
  | _ => .int
abbrev wsX50 : List Cond := u_ws RX5 TX5 2
theorem nmX5 : ∀ a, a < 2 → ∀ b, b < 2 → a ≠ b → (TX5 a).2.1 ≠ (TX5 b).2.1 := by decide +kernel
theorem tyX5_ok : ∀ k, k < 2 → parseFieldDescriptor (TX5 k).2.2.1 = some (tyX5 k) := by decide +kernel
abbrev cX5_init : ByteArray := prog_14_method_1_code
def yX5_init : MethodName := ⟨RX5, "<init>", "(II)V"⟩
def dkwX5_init_0 : List UInt8 := [42, 27, 28, 183, 0, 3, 177]
abbrev dktX5_init_0 : List UInt8 := dkwX5_init_0 ++ []
theorem dksX5_init_0 : cX5_init.data.toList.drop 0 = dktX5_init_0 := by decide +kernel
theorem dX5_init_0 : decode cX5_init 0 = .ok (.aload_n 0, 1) := dk_42 (dk_at dksX5_init_0 0 rfl rfl)
theorem dX5_init_1 : decode cX5_init 1 = .ok (.iload_n 1, 1) := dk_27 (dk_at dksX5_init_0 1 rfl rfl)
theorem dX5_init_2 : decode cX5_init 2 = .ok (.iload_n 2, 1) := dk_28 (dk_at dksX5_init_0 2 rfl rfl)
theorem dX5_init_3 : decode cX5_init 3 = .ok (.invokespecial 3, 3) := dk_183 0 3 (dk_at dksX5_init_0 3 rfl rfl)
theorem dX5_init_6 : decode cX5_init 6 = .ok (.return_, 1) := dk_177 (dk_at dksX5_init_0 6 rfl rfl)
abbrev cX5_kind : ByteArray := prog_14_method_2_code
def yX5_kind : MethodName := ⟨RX5, "kind", "()I"⟩
theorem dX5_kind_0 : decode cX5_kind 0 = .ok (.iconst 1, 1) := by decide +kernel
theorem dX5_kind_1 : decode cX5_kind 1 = .ok (.ireturn, 1) := by decide +kernel
abbrev cX5_north : ByteArray := prog_14_method_3_code
def yX5_north : MethodName := ⟨RX5, "north", "(II)I"⟩
def dkwX5_north_0 : List UInt8 := [27, 5, 108, 172]
abbrev dktX5_north_0 : List UInt8 := dkwX5_north_0 ++ []
theorem dksX5_north_0 : cX5_north.data.toList.drop 0 = dktX5_north_0 := by decide +kernel
theorem dX5_north_0 : decode cX5_north 0 = .ok (.iload_n 1, 1) := dk_27 (dk_at dksX5_north_0 0 rfl rfl)
theorem dX5_north_1 : decode cX5_north 1 = .ok (.iconst 2, 1) := dk_5 (dk_at dksX5_north_0 1 rfl rfl)
theorem dX5_north_2 : decode cX5_north 2 = .ok (.idiv, 1) := dk_108 (dk_at dksX5_north_0 2 rfl rfl)
theorem dX5_north_3 : decode cX5_north 3 = .ok (.ireturn, 1) := dk_172 (dk_at dksX5_north_0 3 rfl rfl)
abbrev cX5_size : ByteArray := prog_14_method_4_code
def yX5_size : MethodName := ⟨RX5, "size", "(LWindCarver$Trail;LWindCarver$Held;)I"⟩
def dkwX5_size_0 : List UInt8 := [43, 16, 11, 182, 0, 9, 42, 43, 44, 183, 0, 15, 42, 43, 44, 182, 0, 19, 96, 172]
abbrev dktX5_size_0 : List UInt8 := dkwX5_size_0 ++ []
theorem dksX5_size_0 : cX5_size.data.toList.drop 0 = dktX5_size_0 := by decide +kernel
theorem dX5_size_0 : decode cX5_size 0 = .ok (.aload_n 1, 1) := dk_43 (dk_at dksX5_size_0 0 rfl rfl)
theorem dX5_size_1 : decode cX5_size 1 = .ok (.bipush 11, 2) := dk_16 11 (dk_at dksX5_size_0 1 rfl rfl)
theorem dX5_size_3 : decode cX5_size 3 = .ok (.invokevirtual 9, 3) := dk_182 0 9 (dk_at dksX5_size_0 3 rfl rfl)
theorem dX5_size_6 : decode cX5_size 6 = .ok (.aload_n 0, 1) := dk_42 (dk_at dksX5_size_0 6 rfl rfl)
theorem dX5_size_7 : decode cX5_size 7 = .ok (.aload_n 1, 1) := dk_43 (dk_at dksX5_size_0 7 rfl rfl)
theorem dX5_size_8 : decode cX5_size 8 = .ok (.aload_n 2, 1) := dk_44 (dk_at dksX5_size_0 8 rfl rfl)
theorem dX5_size_9 : decode cX5_size 9 = .ok (.invokespecial 15, 3) := dk_183 0 15 (dk_at dksX5_size_0 9 rfl rfl)
theorem dX5_size_12 : decode cX5_size 12 = .ok (.aload_n 0, 1) := dk_42 (dk_at dksX5_size_0 12 rfl rfl)
theorem dX5_size_13 : decode cX5_size 13 = .ok (.aload_n 1, 1) := dk_43 (dk_at dksX5_size_0 13 rfl rfl)
theorem dX5_size_14 : decode cX5_size 14 = .ok (.aload_n 2, 1) := dk_44 (dk_at dksX5_size_0 14 rfl rfl)
theorem dX5_size_15 : decode cX5_size 15 = .ok (.invokevirtual 19, 3) := dk_182 0 19 (dk_at dksX5_size_0 15 rfl rfl)
theorem dX5_size_18 : decode cX5_size 18 = .ok (.iadd, 1) := dk_96 (dk_at dksX5_size_0 18 rfl rfl)
theorem dX5_size_19 : decode cX5_size 19 = .ok (.ireturn, 1) := dk_172 (dk_at dksX5_size_0 19 rfl rfl)
abbrev cX5_mark : ByteArray := prog_14_method_5_code
def yX5_mark : MethodName := ⟨RX5, "mark", "(LWindCarver$Trail;LWindCarver$Held;)I"⟩
def dkwX5_mark_0 : List UInt8 := [43, 16, 21, 182, 0, 9, 42, 43, 44, 183, 0, 24, 44, 185, 0, 25, 1, 0, 96, 172]
abbrev dktX5_mark_0 : List UInt8 := dkwX5_mark_0 ++ []
theorem dksX5_mark_0 : cX5_mark.data.toList.drop 0 = dktX5_mark_0 := by decide +kernel
theorem dX5_mark_0 : decode cX5_mark 0 = .ok (.aload_n 1, 1) := dk_43 (dk_at dksX5_mark_0 0 rfl rfl)
theorem dX5_mark_1 : decode cX5_mark 1 = .ok (.bipush 21, 2) := dk_16 21 (dk_at dksX5_mark_0 1 rfl rfl)
theorem dX5_mark_3 : decode cX5_mark 3 = .ok (.invokevirtual 9, 3) := dk_182 0 9 (dk_at dksX5_mark_0 3 rfl rfl)
theorem dX5_mark_6 : decode cX5_mark 6 = .ok (.aload_n 0, 1) := dk_42 (dk_at dksX5_mark_0 6 rfl rfl)
theorem dX5_mark_7 : decode cX5_mark 7 = .ok (.aload_n 1, 1) := dk_43 (dk_at dksX5_mark_0 7 rfl rfl)
theorem dX5_mark_8 : decode cX5_mark 8 = .ok (.aload_n 2, 1) := dk_44 (dk_at dksX5_mark_0 8 rfl rfl)
theorem dX5_mark_9 : decode cX5_mark 9 = .ok (.invokespecial 24, 3) := dk_183 0 24 (dk_at dksX5_mark_0 9 rfl rfl)
theorem dX5_mark_12 : decode cX5_mark 12 = .ok (.aload_n 2, 1) := dk_44 (dk_at dksX5_mark_0 12 rfl rfl)
theorem dX5_mark_13 : decode cX5_mark 13 = .ok (.invokeinterface 25 1, 5) := by decide +kernel
theorem dX5_mark_18 : decode cX5_mark 18 = .ok (.iadd, 1) := dk_96 (dk_at dksX5_mark_0 18 rfl rfl)
theorem dX5_mark_19 : decode cX5_mark 19 = .ok (.ireturn, 1) := dk_172 (dk_at dksX5_mark_0 19 rfl rfl)
theorem q65 : (Jvm.Cond.initialized "WindCarver$Wall") ∈ lw_all := lw_g (lw_at lw_m1 6 rfl) rfl
theorem q187 : (Jvm.Cond.instantiable "WindCarver$Wall" (2 : Nat)) ∈ lw_all := lw_g (lw_at lw_m1 128 rfl) rfl
theorem q189 : (Jvm.Cond.instanceMethod ({ cls := "WindCarver$Wall", name := "<init>", desc := "(II)V" } : Jvm.MethodName)) ∈ lw_all := lw_g (lw_at lw_m1 130 rfl) rfl
theorem q190 : (Jvm.Cond.code ({ cls := "WindCarver$Wall", name := "<init>", desc := "(II)V" } : Jvm.MethodName) prog_14_method_1_code (3 : Nat) (Option.none : Option Jvm.ClassFile.FieldType)) ∈ lw_all := lw_g (lw_at lw_m1 131 rfl) rfl
theorem q191 : (Jvm.Cond.methodLink "WindCarver$Wall" (3 : Nat) ({ cls := "WindCarver$Work", name := "<init>", desc := "(II)V" } : Jvm.MethodName)) ∈ lw_all := lw_g (lw_at lw_m1 132 rfl) rfl
theorem q197 : (Jvm.Cond.laysFinal "WindCarver$Wall" "WindCarver$Work" "cell" "I") ∈ lw_all := lw_g (lw_at lw_m1 138 rfl) rfl
theorem q199 : (Jvm.Cond.laysFinal "WindCarver$Wall" "WindCarver$Work" "holds" "I") ∈ lw_all := lw_g (lw_at lw_m1 140 rfl) rfl
theorem q201 : (Jvm.Cond.superclass "WindCarver$Wall" "WindCarver$Work") ∈ lw_all := lw_g (lw_at lw_m1 142 rfl) rfl
theorem q746 : (Jvm.Cond.selects "WindCarver$Wall" ({ cls := "WindCarver$Work", name := "kind", desc := "()I" } : Jvm.MethodName) ({ cls := "WindCarver$Wall", name := "kind", desc := "()I" } : Jvm.MethodName)) ∈ lw_all := lw_g (lw_at lw_m3 207 rfl) rfl
theorem q747 : (Jvm.Cond.instanceMethod ({ cls := "WindCarver$Wall", name := "kind", desc := "()I" } : Jvm.MethodName)) ∈ lw_all := lw_g (lw_at lw_m3 208 rfl) rfl
theorem q748 : (Jvm.Cond.code ({ cls := "WindCarver$Wall", name := "kind", desc := "()I" } : Jvm.MethodName) prog_14_method_2_code (1 : Nat) (Option.some Jvm.ClassFile.FieldType.int)) ∈ lw_all := lw_g (lw_at lw_m3 209 rfl) rfl
theorem q786 : (Jvm.Cond.sameMethod "WindCarver$Wall" "WindCarver$Work" "on" "(IZ)I") ∈ lw_all := lw_g (lw_at lw_m4 7 rfl) rfl
theorem q793 : (Jvm.Cond.selects "WindCarver$Wall" ({ cls := "WindCarver$Work", name := "on", desc := "(IZ)I" } : Jvm.MethodName) ({ cls := "WindCarver$Work", name := "on", desc := "(IZ)I" } : Jvm.MethodName)) ∈ lw_all := lw_g (lw_at lw_m4 14 rfl) rfl
theorem q802 : (Jvm.Cond.instanceMethod ({ cls := "WindCarver$Wall", name := "north", desc := "(II)I" } : Jvm.MethodName)) ∈ lw_all := lw_g (lw_at lw_m4 23 rfl) rfl
theorem q803 : (Jvm.Cond.code ({ cls := "WindCarver$Wall", name := "north", desc := "(II)I" } : Jvm.MethodName) prog_14_method_3_code (3 : Nat) (Option.some Jvm.ClassFile.FieldType.int)) ∈ lw_all := lw_g (lw_at lw_m4 24 rfl) rfl
theorem q809 : (Jvm.Cond.selects "WindCarver$Wall" ({ cls := "WindCarver$Work", name := "north", desc := "(II)I" } : Jvm.MethodName) ({ cls := "WindCarver$Wall", name := "north", desc := "(II)I" } : Jvm.MethodName)) ∈ lw_all := lw_g (lw_at lw_m4 30 rfl) rfl
theorem q821 : (Jvm.Cond.selects "WindCarver$Wall" ({ cls := "WindCarver$Work", name := "holds", desc := "()I" } : Jvm.MethodName) ({ cls := "WindCarver$Work", name := "holds", desc := "()I" } : Jvm.MethodName)) ∈ lw_all := lw_g (lw_at lw_m4 42 rfl) rfl
theorem q977 : (Jvm.Cond.selects "WindCarver$Wall" ({ cls := "WindCarver$Work", name := "cell", desc := "()I" } : Jvm.MethodName) ({ cls := "WindCarver$Work", name := "cell", desc := "()I" } : Jvm.MethodName)) ∈ lw_all := lw_g (lw_at lw_m4 198 rfl) rfl
theorem q1025 : (Jvm.Cond.castable "WindCarver$Wall" "WindCarver$Marked") ∈ lw_tbl := lw_at lw_m5 6 rfl
theorem q1026 : (Jvm.Cond.selects "WindCarver$Wall" ({ cls := "WindCarver$Marked", name := "holds", desc := "()I" } : Jvm.MethodName) ({ cls := "WindCarver$Work", name := "holds", desc := "()I" } : Jvm.MethodName)) ∈ lw_all := lw_g (lw_at lw_m5 7 rfl) rfl
theorem q1027 : (Jvm.Cond.unhidden "WindCarver$Wall" "holds" "()I") ∈ lw_tbl := lw_at lw_m5 8 rfl
theorem q1033 : (Jvm.Cond.instanceMethod ({ cls := "WindCarver$Wall", name := "size", desc := "(LWindCarver$Trail;LWindCarver$Held;)I" } : Jvm.MethodName)) ∈ lw_all := lw_g (lw_at lw_m5 14 rfl) rfl
theorem q1034 : (Jvm.Cond.code ({ cls := "WindCarver$Wall", name := "size", desc := "(LWindCarver$Trail;LWindCarver$Held;)I" } : Jvm.MethodName) prog_14_method_4_code (3 : Nat) (Option.some Jvm.ClassFile.FieldType.int)) ∈ lw_all := lw_g (lw_at lw_m5 15 rfl) rfl
theorem q1035 : (Jvm.Cond.methodLink "WindCarver$Wall" (9 : Nat) ({ cls := "WindCarver$Trail", name := "begins", desc := "(I)V" } : Jvm.MethodName)) ∈ lw_all := lw_g (lw_at lw_m5 16 rfl) rfl
theorem q1036 : (Jvm.Cond.methodLink "WindCarver$Wall" (19 : Nat) ({ cls := "WindCarver$Wall", name := "mark", desc := "(LWindCarver$Trail;LWindCarver$Held;)I" } : Jvm.MethodName)) ∈ lw_all := lw_g (lw_at lw_m5 17 rfl) rfl
theorem q1037 : (Jvm.Cond.instanceMethod ({ cls := "WindCarver$Wall", name := "mark", desc := "(LWindCarver$Trail;LWindCarver$Held;)I" } : Jvm.MethodName)) ∈ lw_all := lw_g (lw_at lw_m5 18 rfl) rfl
theorem q1038 : (Jvm.Cond.selects "WindCarver$Wall" ({ cls := "WindCarver$Wall", name := "mark", desc := "(LWindCarver$Trail;LWindCarver$Held;)I" } : Jvm.MethodName) ({ cls := "WindCarver$Wall", name := "mark", desc := "(LWindCarver$Trail;LWindCarver$Held;)I" } : Jvm.MethodName)) ∈ lw_all := lw_g (lw_at lw_m5 19 rfl) rfl
theorem q1039 : (Jvm.Cond.sameMethod "WindCarver$Wall" "WindCarver$Wall" "mark" "(LWindCarver$Trail;LWindCarver$Held;)I") ∈ lw_all := lw_g (lw_at lw_m5 20 rfl) rfl
theorem q1049 : (Jvm.Cond.code ({ cls := "WindCarver$Wall", name := "mark", desc := "(LWindCarver$Trail;LWindCarver$Held;)I" } : Jvm.MethodName) prog_14_method_5_code (3 : Nat) (Option.some Jvm.ClassFile.FieldType.int)) ∈ lw_all := lw_g (lw_at lw_m5 30 rfl) rfl
theorem q1066 : (Jvm.Cond.selects "WindCarver$Wall" ({ cls := "WindCarver$Marked", name := "cell", desc := "()I" } : Jvm.MethodName) ({ cls := "WindCarver$Work", name := "cell", desc := "()I" } : Jvm.MethodName)) ∈ lw_all := lw_g (lw_at lw_m5 47 rfl) rfl
theorem q1067 : (Jvm.Cond.unhidden "WindCarver$Wall" "cell" "()I") ∈ lw_tbl := lw_at lw_m5 48 rfl
theorem q1068 : (Jvm.Cond.interfaceEntry "WindCarver$Wall" (25 : Nat)) ∈ lw_tbl := lw_at lw_m5 49 rfl
theorem q1069 : (Jvm.Cond.methodLink "WindCarver$Wall" (25 : Nat) ({ cls := "WindCarver$Held", name := "felt", desc := "()I" } : Jvm.MethodName)) ∈ lw_all := lw_g (lw_at lw_m5 50 rfl) rfl
theorem q1085 : (Jvm.Cond.selects "WindCarver$Wall" ({ cls := "WindCarver$Marked", name := "size", desc := "(LWindCarver$Trail;LWindCarver$Held;)I" } : Jvm.MethodName) ({ cls := "WindCarver$Wall", name := "size", desc := "(LWindCarver$Trail;LWindCarver$Held;)I" } : Jvm.MethodName)) ∈ lw_all := lw_g (lw_at lw_m5 66 rfl) rfl
theorem q1093 : (Jvm.Cond.selects "WindCarver$Wall" ({ cls := "WindCarver$Marked", name := "mark", desc := "(LWindCarver$Trail;LWindCarver$Held;)I" } : Jvm.MethodName) ({ cls := "WindCarver$Wall", name := "mark", desc := "(LWindCarver$Trail;LWindCarver$Held;)I" } : Jvm.MethodName)) ∈ lw_all := lw_g (lw_at lw_m5 74 rfl) rfl
theorem q1499 : (Jvm.Cond.sameMethod "WindCarver$Wall" "WindCarver$Wall" "size" "(LWindCarver$Trail;LWindCarver$Held;)I") ∈ lw_all := lw_g (lw_at lw_m7 0 rfl) rfl
theorem q1508 : (Jvm.Cond.castable "WindCarver$Wall" "WindCarver$Work") ∈ lw_tbl := lw_at lw_m7 9 rfl
theorem in_X5 : ∀ w ∈ wsX50, w ∈ lw_all := lw_in wsX50 [197, 199] (by decide +kernel) (by decide +kernel)
/-! WindCarver$Net -/
set_option maxRecDepth 100000
def RX9 : String := "WindCarver$Net"
def TX9 : u_T := fun k => match k with
  | 0 => ("WindCarver$Work", "cell", "I", true)
  | _ => ("WindCarver$Work", "holds", "I", true)
def tyX9 : Nat → FieldType := fun k => match k with
  | 0 => .int
  | _ => .int
abbrev wsX90 : List Cond := u_ws RX9 TX9 2
theorem nmX9 : ∀ a, a < 2 → ∀ b, b < 2 → a ≠ b → (TX9 a).2.1 ≠ (TX9 b).2.1 := by decide +kernel
theorem tyX9_ok : ∀ k, k < 2 → parseFieldDescriptor (TX9 k).2.2.1 = some (tyX9 k) := by decide +kernel
abbrev cX9_init : ByteArray := prog_7_method_1_code
def yX9_init : MethodName := ⟨RX9, "<init>", "(II)V"⟩
def dkwX9_init_0 : List UInt8 := [42, 27, 28, 183, 0, 3, 177]
abbrev dktX9_init_0 : List UInt8 := dkwX9_init_0 ++ []
theorem dksX9_init_0 : cX9_init.data.toList.drop 0 = dktX9_init_0 := by decide +kernel
theorem dX9_init_0 : decode cX9_init 0 = .ok (.aload_n 0, 1) := dk_42 (dk_at dksX9_init_0 0 rfl rfl)
theorem dX9_init_1 : decode cX9_init 1 = .ok (.iload_n 1, 1) := dk_27 (dk_at dksX9_init_0 1 rfl rfl)
theorem dX9_init_2 : decode cX9_init 2 = .ok (.iload_n 2, 1) := dk_28 (dk_at dksX9_init_0 2 rfl rfl)
theorem dX9_init_3 : decode cX9_init 3 = .ok (.invokespecial 3, 3) := dk_183 0 3 (dk_at dksX9_init_0 3 rfl rfl)
theorem dX9_init_6 : decode cX9_init 6 = .ok (.return_, 1) := dk_177 (dk_at dksX9_init_0 6 rfl rfl)
abbrev cX9_kind : ByteArray := prog_7_method_2_code
def yX9_kind : MethodName := ⟨RX9, "kind", "()I"⟩
theorem dX9_kind_0 : decode cX9_kind 0 = .ok (.iconst 2, 1) := by decide +kernel
theorem dX9_kind_1 : decode cX9_kind 1 = .ok (.ireturn, 1) := by decide +kernel
abbrev cX9_on : ByteArray := prog_7_method_3_code
def yX9_on : MethodName := ⟨RX9, "on", "(IZ)I"⟩
def dkwX9_on_0 : List UInt8 := [42, 27, 28, 183, 0, 9, 27, 5, 108, 96, 172]
abbrev dktX9_on_0 : List UInt8 := dkwX9_on_0 ++ []
theorem dksX9_on_0 : cX9_on.data.toList.drop 0 = dktX9_on_0 := by decide +kernel
theorem dX9_on_0 : decode cX9_on 0 = .ok (.aload_n 0, 1) := dk_42 (dk_at dksX9_on_0 0 rfl rfl)
theorem dX9_on_1 : decode cX9_on 1 = .ok (.iload_n 1, 1) := dk_27 (dk_at dksX9_on_0 1 rfl rfl)
theorem dX9_on_2 : decode cX9_on 2 = .ok (.iload_n 2, 1) := dk_28 (dk_at dksX9_on_0 2 rfl rfl)
theorem dX9_on_3 : decode cX9_on 3 = .ok (.invokespecial 9, 3) := dk_183 0 9 (dk_at dksX9_on_0 3 rfl rfl)
theorem dX9_on_6 : decode cX9_on 6 = .ok (.iload_n 1, 1) := dk_27 (dk_at dksX9_on_0 6 rfl rfl)
theorem dX9_on_7 : decode cX9_on 7 = .ok (.iconst 2, 1) := dk_5 (dk_at dksX9_on_0 7 rfl rfl)
theorem dX9_on_8 : decode cX9_on 8 = .ok (.idiv, 1) := dk_108 (dk_at dksX9_on_0 8 rfl rfl)
theorem dX9_on_9 : decode cX9_on 9 = .ok (.iadd, 1) := dk_96 (dk_at dksX9_on_0 9 rfl rfl)
theorem dX9_on_10 : decode cX9_on 10 = .ok (.ireturn, 1) := dk_172 (dk_at dksX9_on_0 10 rfl rfl)
abbrev cX9_size : ByteArray := prog_7_method_4_code
def yX9_size : MethodName := ⟨RX9, "size", "(LWindCarver$Trail;LWindCarver$Held;)I"⟩
def dkwX9_size_0 : List UInt8 := [43, 16, 12, 182, 0, 13, 42, 43, 44, 183, 0, 19, 116, 172]
abbrev dktX9_size_0 : List UInt8 := dkwX9_size_0 ++ []
theorem dksX9_size_0 : cX9_size.data.toList.drop 0 = dktX9_size_0 := by decide +kernel
theorem dX9_size_0 : decode cX9_size 0 = .ok (.aload_n 1, 1) := dk_43 (dk_at dksX9_size_0 0 rfl rfl)
theorem dX9_size_1 : decode cX9_size 1 = .ok (.bipush 12, 2) := dk_16 12 (dk_at dksX9_size_0 1 rfl rfl)
theorem dX9_size_3 : decode cX9_size 3 = .ok (.invokevirtual 13, 3) := dk_182 0 13 (dk_at dksX9_size_0 3 rfl rfl)
theorem dX9_size_6 : decode cX9_size 6 = .ok (.aload_n 0, 1) := dk_42 (dk_at dksX9_size_0 6 rfl rfl)
theorem dX9_size_7 : decode cX9_size 7 = .ok (.aload_n 1, 1) := dk_43 (dk_at dksX9_size_0 7 rfl rfl)
theorem dX9_size_8 : decode cX9_size 8 = .ok (.aload_n 2, 1) := dk_44 (dk_at dksX9_size_0 8 rfl rfl)
theorem dX9_size_9 : decode cX9_size 9 = .ok (.invokespecial 19, 3) := dk_183 0 19 (dk_at dksX9_size_0 9 rfl rfl)
theorem dX9_size_12 : decode cX9_size 12 = .ok (.ineg, 1) := dk_116 (dk_at dksX9_size_0 12 rfl rfl)
theorem dX9_size_13 : decode cX9_size 13 = .ok (.ireturn, 1) := dk_172 (dk_at dksX9_size_0 13 rfl rfl)
abbrev cX9_mark : ByteArray := prog_7_method_5_code
def yX9_mark : MethodName := ⟨RX9, "mark", "(LWindCarver$Trail;LWindCarver$Held;)I"⟩
def dkwX9_mark_0 : List UInt8 := [43, 16, 24, 182, 0, 13, 5, 42, 43, 44, 183, 0, 23, 104, 172]
abbrev dktX9_mark_0 : List UInt8 := dkwX9_mark_0 ++ []
theorem dksX9_mark_0 : cX9_mark.data.toList.drop 0 = dktX9_mark_0 := by decide +kernel
theorem dX9_mark_0 : decode cX9_mark 0 = .ok (.aload_n 1, 1) := dk_43 (dk_at dksX9_mark_0 0 rfl rfl)
theorem dX9_mark_1 : decode cX9_mark 1 = .ok (.bipush 24, 2) := dk_16 24 (dk_at dksX9_mark_0 1 rfl rfl)
theorem dX9_mark_3 : decode cX9_mark 3 = .ok (.invokevirtual 13, 3) := dk_182 0 13 (dk_at dksX9_mark_0 3 rfl rfl)
theorem dX9_mark_6 : decode cX9_mark 6 = .ok (.iconst 2, 1) := dk_5 (dk_at dksX9_mark_0 6 rfl rfl)
theorem dX9_mark_7 : decode cX9_mark 7 = .ok (.aload_n 0, 1) := dk_42 (dk_at dksX9_mark_0 7 rfl rfl)
theorem dX9_mark_8 : decode cX9_mark 8 = .ok (.aload_n 1, 1) := dk_43 (dk_at dksX9_mark_0 8 rfl rfl)
theorem dX9_mark_9 : decode cX9_mark 9 = .ok (.aload_n 2, 1) := dk_44 (dk_at dksX9_mark_0 9 rfl rfl)
theorem dX9_mark_10 : decode cX9_mark 10 = .ok (.invokespecial 23, 3) := dk_183 0 23 (dk_at dksX9_mark_0 10 rfl rfl)
theorem dX9_mark_13 : decode cX9_mark 13 = .ok (.imul, 1) := dk_104 (dk_at dksX9_mark_0 13 rfl rfl)
theorem dX9_mark_14 : decode cX9_mark 14 = .ok (.ireturn, 1) := dk_172 (dk_at dksX9_mark_0 14 rfl rfl)
theorem q84 : (Jvm.Cond.initialized "WindCarver$Net") ∈ lw_all := lw_g (lw_at lw_m1 25 rfl) rfl
theorem q653 : (Jvm.Cond.instantiable "WindCarver$Net" (2 : Nat)) ∈ lw_all := lw_g (lw_at lw_m3 114 rfl) rfl
theorem q655 : (Jvm.Cond.instanceMethod ({ cls := "WindCarver$Net", name := "<init>", desc := "(II)V" } : Jvm.MethodName)) ∈ lw_all := lw_g (lw_at lw_m3 116 rfl) rfl
theorem q656 : (Jvm.Cond.code ({ cls := "WindCarver$Net", name := "<init>", desc := "(II)V" } : Jvm.MethodName) prog_7_method_1_code (3 : Nat) (Option.none : Option Jvm.ClassFile.FieldType)) ∈ lw_all := lw_g (lw_at lw_m3 117 rfl) rfl
theorem q657 : (Jvm.Cond.methodLink "WindCarver$Net" (3 : Nat) ({ cls := "WindCarver$Wall", name := "<init>", desc := "(II)V" } : Jvm.MethodName)) ∈ lw_all := lw_g (lw_at lw_m3 118 rfl) rfl
theorem q658 : (Jvm.Cond.laysFinal "WindCarver$Net" "WindCarver$Work" "cell" "I") ∈ lw_all := lw_g (lw_at lw_m3 119 rfl) rfl
theorem q659 : (Jvm.Cond.laysFinal "WindCarver$Net" "WindCarver$Work" "holds" "I") ∈ lw_all := lw_g (lw_at lw_m3 120 rfl) rfl
theorem q660 : (Jvm.Cond.superclass "WindCarver$Net" "WindCarver$Wall") ∈ lw_all := lw_g (lw_at lw_m3 121 rfl) rfl
theorem q737 : (Jvm.Cond.selects "WindCarver$Net" ({ cls := "WindCarver$Work", name := "kind", desc := "()I" } : Jvm.MethodName) ({ cls := "WindCarver$Net", name := "kind", desc := "()I" } : Jvm.MethodName)) ∈ lw_all := lw_g (lw_at lw_m3 198 rfl) rfl
theorem q738 : (Jvm.Cond.instanceMethod ({ cls := "WindCarver$Net", name := "kind", desc := "()I" } : Jvm.MethodName)) ∈ lw_all := lw_g (lw_at lw_m3 199 rfl) rfl
theorem q739 : (Jvm.Cond.code ({ cls := "WindCarver$Net", name := "kind", desc := "()I" } : Jvm.MethodName) prog_7_method_2_code (1 : Nat) (Option.some Jvm.ClassFile.FieldType.int)) ∈ lw_all := lw_g (lw_at lw_m3 200 rfl) rfl
theorem q782 : (Jvm.Cond.selects "WindCarver$Net" ({ cls := "WindCarver$Work", name := "on", desc := "(IZ)I" } : Jvm.MethodName) ({ cls := "WindCarver$Net", name := "on", desc := "(IZ)I" } : Jvm.MethodName)) ∈ lw_all := lw_g (lw_at lw_m4 3 rfl) rfl
theorem q783 : (Jvm.Cond.instanceMethod ({ cls := "WindCarver$Net", name := "on", desc := "(IZ)I" } : Jvm.MethodName)) ∈ lw_all := lw_g (lw_at lw_m4 4 rfl) rfl
theorem q784 : (Jvm.Cond.code ({ cls := "WindCarver$Net", name := "on", desc := "(IZ)I" } : Jvm.MethodName) prog_7_method_3_code (3 : Nat) (Option.some Jvm.ClassFile.FieldType.int)) ∈ lw_all := lw_g (lw_at lw_m4 5 rfl) rfl
theorem q785 : (Jvm.Cond.methodLink "WindCarver$Net" (9 : Nat) ({ cls := "WindCarver$Wall", name := "on", desc := "(IZ)I" } : Jvm.MethodName)) ∈ lw_all := lw_g (lw_at lw_m4 6 rfl) rfl
theorem q801 : (Jvm.Cond.selects "WindCarver$Net" ({ cls := "WindCarver$Work", name := "north", desc := "(II)I" } : Jvm.MethodName) ({ cls := "WindCarver$Wall", name := "north", desc := "(II)I" } : Jvm.MethodName)) ∈ lw_all := lw_g (lw_at lw_m4 22 rfl) rfl
theorem q818 : (Jvm.Cond.selects "WindCarver$Net" ({ cls := "WindCarver$Work", name := "holds", desc := "()I" } : Jvm.MethodName) ({ cls := "WindCarver$Work", name := "holds", desc := "()I" } : Jvm.MethodName)) ∈ lw_all := lw_g (lw_at lw_m4 39 rfl) rfl
theorem q974 : (Jvm.Cond.selects "WindCarver$Net" ({ cls := "WindCarver$Work", name := "cell", desc := "()I" } : Jvm.MethodName) ({ cls := "WindCarver$Work", name := "cell", desc := "()I" } : Jvm.MethodName)) ∈ lw_all := lw_g (lw_at lw_m4 195 rfl) rfl
theorem q1016 : (Jvm.Cond.castable "WindCarver$Net" "WindCarver$Marked") ∈ lw_tbl := lw_at lw_m4 237 rfl
theorem q1017 : (Jvm.Cond.selects "WindCarver$Net" ({ cls := "WindCarver$Marked", name := "holds", desc := "()I" } : Jvm.MethodName) ({ cls := "WindCarver$Work", name := "holds", desc := "()I" } : Jvm.MethodName)) ∈ lw_all := lw_g (lw_at lw_m4 238 rfl) rfl
theorem q1018 : (Jvm.Cond.unhidden "WindCarver$Net" "holds" "()I") ∈ lw_tbl := lw_at lw_m4 239 rfl
theorem q1028 : (Jvm.Cond.selects "WindCarver$Net" ({ cls := "WindCarver$Marked", name := "size", desc := "(LWindCarver$Trail;LWindCarver$Held;)I" } : Jvm.MethodName) ({ cls := "WindCarver$Net", name := "size", desc := "(LWindCarver$Trail;LWindCarver$Held;)I" } : Jvm.MethodName)) ∈ lw_all := lw_g (lw_at lw_m5 9 rfl) rfl
theorem q1029 : (Jvm.Cond.instanceMethod ({ cls := "WindCarver$Net", name := "size", desc := "(LWindCarver$Trail;LWindCarver$Held;)I" } : Jvm.MethodName)) ∈ lw_all := lw_g (lw_at lw_m5 10 rfl) rfl
theorem q1030 : (Jvm.Cond.code ({ cls := "WindCarver$Net", name := "size", desc := "(LWindCarver$Trail;LWindCarver$Held;)I" } : Jvm.MethodName) prog_7_method_4_code (3 : Nat) (Option.some Jvm.ClassFile.FieldType.int)) ∈ lw_all := lw_g (lw_at lw_m5 11 rfl) rfl
theorem q1031 : (Jvm.Cond.methodLink "WindCarver$Net" (13 : Nat) ({ cls := "WindCarver$Trail", name := "begins", desc := "(I)V" } : Jvm.MethodName)) ∈ lw_all := lw_g (lw_at lw_m5 12 rfl) rfl
theorem q1032 : (Jvm.Cond.methodLink "WindCarver$Net" (19 : Nat) ({ cls := "WindCarver$Wall", name := "size", desc := "(LWindCarver$Trail;LWindCarver$Held;)I" } : Jvm.MethodName)) ∈ lw_all := lw_g (lw_at lw_m5 13 rfl) rfl
theorem q1040 : (Jvm.Cond.selects "WindCarver$Net" ({ cls := "WindCarver$Wall", name := "mark", desc := "(LWindCarver$Trail;LWindCarver$Held;)I" } : Jvm.MethodName) ({ cls := "WindCarver$Net", name := "mark", desc := "(LWindCarver$Trail;LWindCarver$Held;)I" } : Jvm.MethodName)) ∈ lw_all := lw_g (lw_at lw_m5 21 rfl) rfl
theorem q1041 : (Jvm.Cond.instanceMethod ({ cls := "WindCarver$Net", name := "mark", desc := "(LWindCarver$Trail;LWindCarver$Held;)I" } : Jvm.MethodName)) ∈ lw_all := lw_g (lw_at lw_m5 22 rfl) rfl
theorem q1042 : (Jvm.Cond.code ({ cls := "WindCarver$Net", name := "mark", desc := "(LWindCarver$Trail;LWindCarver$Held;)I" } : Jvm.MethodName) prog_7_method_5_code (3 : Nat) (Option.some Jvm.ClassFile.FieldType.int)) ∈ lw_all := lw_g (lw_at lw_m5 23 rfl) rfl
theorem q1043 : (Jvm.Cond.methodLink "WindCarver$Net" (23 : Nat) ({ cls := "WindCarver$Wall", name := "mark", desc := "(LWindCarver$Trail;LWindCarver$Held;)I" } : Jvm.MethodName)) ∈ lw_all := lw_g (lw_at lw_m5 24 rfl) rfl
theorem q1060 : (Jvm.Cond.selects "WindCarver$Net" ({ cls := "WindCarver$Marked", name := "cell", desc := "()I" } : Jvm.MethodName) ({ cls := "WindCarver$Work", name := "cell", desc := "()I" } : Jvm.MethodName)) ∈ lw_all := lw_g (lw_at lw_m5 41 rfl) rfl
theorem q1061 : (Jvm.Cond.unhidden "WindCarver$Net" "cell" "()I") ∈ lw_tbl := lw_at lw_m5 42 rfl
theorem q1090 : (Jvm.Cond.selects "WindCarver$Net" ({ cls := "WindCarver$Marked", name := "mark", desc := "(LWindCarver$Trail;LWindCarver$Held;)I" } : Jvm.MethodName) ({ cls := "WindCarver$Net", name := "mark", desc := "(LWindCarver$Trail;LWindCarver$Held;)I" } : Jvm.MethodName)) ∈ lw_all := lw_g (lw_at lw_m5 71 rfl) rfl
theorem q1505 : (Jvm.Cond.castable "WindCarver$Net" "WindCarver$Work") ∈ lw_tbl := lw_at lw_m7 6 rfl
theorem q1509 : (Jvm.Cond.castable "WindCarver$Net" "WindCarver$Wall") ∈ lw_tbl := lw_at lw_m7 10 rfl
theorem in_X9 : ∀ w ∈ wsX90, w ∈ lw_all := lw_in wsX90 [658, 659] (by decide +kernel) (by decide +kernel)
/-! WindCarver$Shutter -/
set_option maxRecDepth 100000
def RX10 : String := "WindCarver$Shutter"
def TX10 : u_T := fun k => match k with
  | 0 => ("WindCarver$Work", "cell", "I", true)
  | _ => ("WindCarver$Work", "holds", "I", true)
def tyX10 : Nat → FieldType := fun k => match k with
  | 0 => .int
  | _ => .int
abbrev wsX100 : List Cond := u_ws RX10 TX10 2
theorem nmX10 : ∀ a, a < 2 → ∀ b, b < 2 → a ≠ b → (TX10 a).2.1 ≠ (TX10 b).2.1 := by decide +kernel
theorem tyX10_ok : ∀ k, k < 2 → parseFieldDescriptor (TX10 k).2.2.1 = some (tyX10 k) := by decide +kernel
abbrev cX10_init : ByteArray := prog_11_method_1_code
def yX10_init : MethodName := ⟨RX10, "<init>", "(II)V"⟩
def dkwX10_init_0 : List UInt8 := [42, 27, 28, 183, 0, 3, 177]
abbrev dktX10_init_0 : List UInt8 := dkwX10_init_0 ++ []
theorem dksX10_init_0 : cX10_init.data.toList.drop 0 = dktX10_init_0 := by decide +kernel
theorem dX10_init_0 : decode cX10_init 0 = .ok (.aload_n 0, 1) := dk_42 (dk_at dksX10_init_0 0 rfl rfl)
theorem dX10_init_1 : decode cX10_init 1 = .ok (.iload_n 1, 1) := dk_27 (dk_at dksX10_init_0 1 rfl rfl)
theorem dX10_init_2 : decode cX10_init 2 = .ok (.iload_n 2, 1) := dk_28 (dk_at dksX10_init_0 2 rfl rfl)
theorem dX10_init_3 : decode cX10_init 3 = .ok (.invokespecial 3, 3) := dk_183 0 3 (dk_at dksX10_init_0 3 rfl rfl)
theorem dX10_init_6 : decode cX10_init 6 = .ok (.return_, 1) := dk_177 (dk_at dksX10_init_0 6 rfl rfl)
abbrev cX10_kind : ByteArray := prog_11_method_2_code
def yX10_kind : MethodName := ⟨RX10, "kind", "()I"⟩
theorem dX10_kind_0 : decode cX10_kind 0 = .ok (.iconst 3, 1) := by decide +kernel
theorem dX10_kind_1 : decode cX10_kind 1 = .ok (.ireturn, 1) := by decide +kernel
abbrev cX10_on : ByteArray := prog_11_method_3_code
def yX10_on : MethodName := ⟨RX10, "on", "(IZ)I"⟩
def dkwX10_on_0 : List UInt8 := [28, 153, 0, 7, 27, 167, 0, 9, 42, 27, 28, 183, 0, 9, 172]
abbrev dktX10_on_0 : List UInt8 := dkwX10_on_0 ++ []
theorem dksX10_on_0 : cX10_on.data.toList.drop 0 = dktX10_on_0 := by decide +kernel
theorem dX10_on_0 : decode cX10_on 0 = .ok (.iload_n 2, 1) := dk_28 (dk_at dksX10_on_0 0 rfl rfl)
theorem dX10_on_1 : decode cX10_on 1 = .ok (.ifCond .eq 7, 3) := dk_153 0 7 (dk_at dksX10_on_0 1 rfl rfl)
theorem dX10_on_4 : decode cX10_on 4 = .ok (.iload_n 1, 1) := dk_27 (dk_at dksX10_on_0 4 rfl rfl)
theorem dX10_on_5 : decode cX10_on 5 = .ok (.goto 9, 3) := dk_167 0 9 (dk_at dksX10_on_0 5 rfl rfl)
theorem dX10_on_8 : decode cX10_on 8 = .ok (.aload_n 0, 1) := dk_42 (dk_at dksX10_on_0 8 rfl rfl)
theorem dX10_on_9 : decode cX10_on 9 = .ok (.iload_n 1, 1) := dk_27 (dk_at dksX10_on_0 9 rfl rfl)
theorem dX10_on_10 : decode cX10_on 10 = .ok (.iload_n 2, 1) := dk_28 (dk_at dksX10_on_0 10 rfl rfl)
theorem dX10_on_11 : decode cX10_on 11 = .ok (.invokespecial 9, 3) := dk_183 0 9 (dk_at dksX10_on_0 11 rfl rfl)
theorem dX10_on_14 : decode cX10_on 14 = .ok (.ireturn, 1) := dk_172 (dk_at dksX10_on_0 14 rfl rfl)
abbrev cX10_mark : ByteArray := prog_11_method_4_code
def yX10_mark : MethodName := ⟨RX10, "mark", "(LWindCarver$Trail;LWindCarver$Held;)I"⟩
def dkwX10_mark_0 : List UInt8 := [43, 16, 22, 182, 0, 13, 42, 43, 44, 183, 0, 19, 17, 3, 232, 100, 172]
abbrev dktX10_mark_0 : List UInt8 := dkwX10_mark_0 ++ []
theorem dksX10_mark_0 : cX10_mark.data.toList.drop 0 = dktX10_mark_0 := by decide +kernel
theorem dX10_mark_0 : decode cX10_mark 0 = .ok (.aload_n 1, 1) := dk_43 (dk_at dksX10_mark_0 0 rfl rfl)
theorem dX10_mark_1 : decode cX10_mark 1 = .ok (.bipush 22, 2) := dk_16 22 (dk_at dksX10_mark_0 1 rfl rfl)
theorem dX10_mark_3 : decode cX10_mark 3 = .ok (.invokevirtual 13, 3) := dk_182 0 13 (dk_at dksX10_mark_0 3 rfl rfl)
theorem dX10_mark_6 : decode cX10_mark 6 = .ok (.aload_n 0, 1) := dk_42 (dk_at dksX10_mark_0 6 rfl rfl)
theorem dX10_mark_7 : decode cX10_mark 7 = .ok (.aload_n 1, 1) := dk_43 (dk_at dksX10_mark_0 7 rfl rfl)
theorem dX10_mark_8 : decode cX10_mark 8 = .ok (.aload_n 2, 1) := dk_44 (dk_at dksX10_mark_0 8 rfl rfl)
theorem dX10_mark_9 : decode cX10_mark 9 = .ok (.invokespecial 19, 3) := dk_183 0 19 (dk_at dksX10_mark_0 9 rfl rfl)
theorem dX10_mark_12 : decode cX10_mark 12 = .ok (.sipush 1000, 3) := dk_17 3 232 (dk_at dksX10_mark_0 12 rfl rfl)
theorem dX10_mark_15 : decode cX10_mark 15 = .ok (.isub, 1) := dk_100 (dk_at dksX10_mark_0 15 rfl rfl)
theorem dX10_mark_16 : decode cX10_mark 16 = .ok (.ireturn, 1) := dk_172 (dk_at dksX10_mark_0 16 rfl rfl)
theorem q85 : (Jvm.Cond.initialized "WindCarver$Shutter") ∈ lw_all := lw_g (lw_at lw_m1 26 rfl) rfl
theorem q662 : (Jvm.Cond.instantiable "WindCarver$Shutter" (2 : Nat)) ∈ lw_all := lw_g (lw_at lw_m3 123 rfl) rfl
theorem q664 : (Jvm.Cond.instanceMethod ({ cls := "WindCarver$Shutter", name := "<init>", desc := "(II)V" } : Jvm.MethodName)) ∈ lw_all := lw_g (lw_at lw_m3 125 rfl) rfl
theorem q665 : (Jvm.Cond.code ({ cls := "WindCarver$Shutter", name := "<init>", desc := "(II)V" } : Jvm.MethodName) prog_11_method_1_code (3 : Nat) (Option.none : Option Jvm.ClassFile.FieldType)) ∈ lw_all := lw_g (lw_at lw_m3 126 rfl) rfl
theorem q666 : (Jvm.Cond.methodLink "WindCarver$Shutter" (3 : Nat) ({ cls := "WindCarver$Wall", name := "<init>", desc := "(II)V" } : Jvm.MethodName)) ∈ lw_all := lw_g (lw_at lw_m3 127 rfl) rfl
theorem q667 : (Jvm.Cond.laysFinal "WindCarver$Shutter" "WindCarver$Work" "cell" "I") ∈ lw_all := lw_g (lw_at lw_m3 128 rfl) rfl
theorem q668 : (Jvm.Cond.laysFinal "WindCarver$Shutter" "WindCarver$Work" "holds" "I") ∈ lw_all := lw_g (lw_at lw_m3 129 rfl) rfl
theorem q669 : (Jvm.Cond.superclass "WindCarver$Shutter" "WindCarver$Wall") ∈ lw_all := lw_g (lw_at lw_m3 130 rfl) rfl
theorem q740 : (Jvm.Cond.selects "WindCarver$Shutter" ({ cls := "WindCarver$Work", name := "kind", desc := "()I" } : Jvm.MethodName) ({ cls := "WindCarver$Shutter", name := "kind", desc := "()I" } : Jvm.MethodName)) ∈ lw_all := lw_g (lw_at lw_m3 201 rfl) rfl
theorem q741 : (Jvm.Cond.instanceMethod ({ cls := "WindCarver$Shutter", name := "kind", desc := "()I" } : Jvm.MethodName)) ∈ lw_all := lw_g (lw_at lw_m3 202 rfl) rfl
theorem q742 : (Jvm.Cond.code ({ cls := "WindCarver$Shutter", name := "kind", desc := "()I" } : Jvm.MethodName) prog_11_method_2_code (1 : Nat) (Option.some Jvm.ClassFile.FieldType.int)) ∈ lw_all := lw_g (lw_at lw_m3 203 rfl) rfl
theorem q788 : (Jvm.Cond.selects "WindCarver$Shutter" ({ cls := "WindCarver$Work", name := "on", desc := "(IZ)I" } : Jvm.MethodName) ({ cls := "WindCarver$Shutter", name := "on", desc := "(IZ)I" } : Jvm.MethodName)) ∈ lw_all := lw_g (lw_at lw_m4 9 rfl) rfl
theorem q789 : (Jvm.Cond.instanceMethod ({ cls := "WindCarver$Shutter", name := "on", desc := "(IZ)I" } : Jvm.MethodName)) ∈ lw_all := lw_g (lw_at lw_m4 10 rfl) rfl
theorem q790 : (Jvm.Cond.code ({ cls := "WindCarver$Shutter", name := "on", desc := "(IZ)I" } : Jvm.MethodName) prog_11_method_3_code (3 : Nat) (Option.some Jvm.ClassFile.FieldType.int)) ∈ lw_all := lw_g (lw_at lw_m4 11 rfl) rfl
theorem q791 : (Jvm.Cond.methodLink "WindCarver$Shutter" (9 : Nat) ({ cls := "WindCarver$Wall", name := "on", desc := "(IZ)I" } : Jvm.MethodName)) ∈ lw_all := lw_g (lw_at lw_m4 12 rfl) rfl
theorem q804 : (Jvm.Cond.selects "WindCarver$Shutter" ({ cls := "WindCarver$Work", name := "north", desc := "(II)I" } : Jvm.MethodName) ({ cls := "WindCarver$Wall", name := "north", desc := "(II)I" } : Jvm.MethodName)) ∈ lw_all := lw_g (lw_at lw_m4 25 rfl) rfl
theorem q819 : (Jvm.Cond.selects "WindCarver$Shutter" ({ cls := "WindCarver$Work", name := "holds", desc := "()I" } : Jvm.MethodName) ({ cls := "WindCarver$Work", name := "holds", desc := "()I" } : Jvm.MethodName)) ∈ lw_all := lw_g (lw_at lw_m4 40 rfl) rfl
theorem q975 : (Jvm.Cond.selects "WindCarver$Shutter" ({ cls := "WindCarver$Work", name := "cell", desc := "()I" } : Jvm.MethodName) ({ cls := "WindCarver$Work", name := "cell", desc := "()I" } : Jvm.MethodName)) ∈ lw_all := lw_g (lw_at lw_m4 196 rfl) rfl
theorem q1019 : (Jvm.Cond.castable "WindCarver$Shutter" "WindCarver$Marked") ∈ lw_tbl := lw_at lw_m5 0 rfl
theorem q1020 : (Jvm.Cond.selects "WindCarver$Shutter" ({ cls := "WindCarver$Marked", name := "holds", desc := "()I" } : Jvm.MethodName) ({ cls := "WindCarver$Work", name := "holds", desc := "()I" } : Jvm.MethodName)) ∈ lw_all := lw_g (lw_at lw_m5 1 rfl) rfl
theorem q1021 : (Jvm.Cond.unhidden "WindCarver$Shutter" "holds" "()I") ∈ lw_tbl := lw_at lw_m5 2 rfl
theorem q1044 : (Jvm.Cond.selects "WindCarver$Shutter" ({ cls := "WindCarver$Wall", name := "mark", desc := "(LWindCarver$Trail;LWindCarver$Held;)I" } : Jvm.MethodName) ({ cls := "WindCarver$Shutter", name := "mark", desc := "(LWindCarver$Trail;LWindCarver$Held;)I" } : Jvm.MethodName)) ∈ lw_all := lw_g (lw_at lw_m5 25 rfl) rfl
theorem q1045 : (Jvm.Cond.instanceMethod ({ cls := "WindCarver$Shutter", name := "mark", desc := "(LWindCarver$Trail;LWindCarver$Held;)I" } : Jvm.MethodName)) ∈ lw_all := lw_g (lw_at lw_m5 26 rfl) rfl
theorem q1046 : (Jvm.Cond.code ({ cls := "WindCarver$Shutter", name := "mark", desc := "(LWindCarver$Trail;LWindCarver$Held;)I" } : Jvm.MethodName) prog_11_method_4_code (3 : Nat) (Option.some Jvm.ClassFile.FieldType.int)) ∈ lw_all := lw_g (lw_at lw_m5 27 rfl) rfl
theorem q1047 : (Jvm.Cond.methodLink "WindCarver$Shutter" (13 : Nat) ({ cls := "WindCarver$Trail", name := "begins", desc := "(I)V" } : Jvm.MethodName)) ∈ lw_all := lw_g (lw_at lw_m5 28 rfl) rfl
theorem q1048 : (Jvm.Cond.methodLink "WindCarver$Shutter" (19 : Nat) ({ cls := "WindCarver$Wall", name := "mark", desc := "(LWindCarver$Trail;LWindCarver$Held;)I" } : Jvm.MethodName)) ∈ lw_all := lw_g (lw_at lw_m5 29 rfl) rfl
theorem q1062 : (Jvm.Cond.selects "WindCarver$Shutter" ({ cls := "WindCarver$Marked", name := "cell", desc := "()I" } : Jvm.MethodName) ({ cls := "WindCarver$Work", name := "cell", desc := "()I" } : Jvm.MethodName)) ∈ lw_all := lw_g (lw_at lw_m5 43 rfl) rfl
theorem q1063 : (Jvm.Cond.unhidden "WindCarver$Shutter" "cell" "()I") ∈ lw_tbl := lw_at lw_m5 44 rfl
theorem q1079 : (Jvm.Cond.selects "WindCarver$Shutter" ({ cls := "WindCarver$Marked", name := "size", desc := "(LWindCarver$Trail;LWindCarver$Held;)I" } : Jvm.MethodName) ({ cls := "WindCarver$Wall", name := "size", desc := "(LWindCarver$Trail;LWindCarver$Held;)I" } : Jvm.MethodName)) ∈ lw_all := lw_g (lw_at lw_m5 60 rfl) rfl
theorem q1091 : (Jvm.Cond.selects "WindCarver$Shutter" ({ cls := "WindCarver$Marked", name := "mark", desc := "(LWindCarver$Trail;LWindCarver$Held;)I" } : Jvm.MethodName) ({ cls := "WindCarver$Shutter", name := "mark", desc := "(LWindCarver$Trail;LWindCarver$Held;)I" } : Jvm.MethodName)) ∈ lw_all := lw_g (lw_at lw_m5 72 rfl) rfl
theorem q1506 : (Jvm.Cond.castable "WindCarver$Shutter" "WindCarver$Work") ∈ lw_tbl := lw_at lw_m7 7 rfl
theorem q1510 : (Jvm.Cond.castable "WindCarver$Shutter" "WindCarver$Wall") ∈ lw_tbl := lw_at lw_m7 11 rfl
theorem in_X10 : ∀ w ∈ wsX100, w ∈ lw_all := lw_in wsX100 [667, 668] (by decide +kernel) (by decide +kernel)
/-! WindCarver$Hand -/
set_option maxRecDepth 100000
def RX11 : String := "WindCarver$Hand"
def TX11 : u_T := fun k => match k with
  | 0 => ("WindCarver$Work", "cell", "I", true)
  | _ => ("WindCarver$Work", "holds", "I", true)
def tyX11 : Nat → FieldType := fun k => match k with
  | 0 => .int
  | _ => .int
abbrev wsX110 : List Cond := u_ws RX11 TX11 2
theorem nmX11 : ∀ a, a < 2 → ∀ b, b < 2 → a ≠ b → (TX11 a).2.1 ≠ (TX11 b).2.1 := by decide +kernel
theorem tyX11_ok : ∀ k, k < 2 → parseFieldDescriptor (TX11 k).2.2.1 = some (tyX11 k) := by decide +kernel
abbrev cX11_init : ByteArray := prog_3_method_1_code
def yX11_init : MethodName := ⟨RX11, "<init>", "(II)V"⟩
def dkwX11_init_0 : List UInt8 := [42, 27, 28, 183, 0, 3, 177]
abbrev dktX11_init_0 : List UInt8 := dkwX11_init_0 ++ []
theorem dksX11_init_0 : cX11_init.data.toList.drop 0 = dktX11_init_0 := by decide +kernel
theorem dX11_init_0 : decode cX11_init 0 = .ok (.aload_n 0, 1) := dk_42 (dk_at dksX11_init_0 0 rfl rfl)
theorem dX11_init_1 : decode cX11_init 1 = .ok (.iload_n 1, 1) := dk_27 (dk_at dksX11_init_0 1 rfl rfl)
theorem dX11_init_2 : decode cX11_init 2 = .ok (.iload_n 2, 1) := dk_28 (dk_at dksX11_init_0 2 rfl rfl)
theorem dX11_init_3 : decode cX11_init 3 = .ok (.invokespecial 3, 3) := dk_183 0 3 (dk_at dksX11_init_0 3 rfl rfl)
theorem dX11_init_6 : decode cX11_init 6 = .ok (.return_, 1) := dk_177 (dk_at dksX11_init_0 6 rfl rfl)
abbrev cX11_kind : ByteArray := prog_3_method_2_code
def yX11_kind : MethodName := ⟨RX11, "kind", "()I"⟩
theorem dX11_kind_0 : decode cX11_kind 0 = .ok (.iconst 4, 1) := by decide +kernel
theorem dX11_kind_1 : decode cX11_kind 1 = .ok (.ireturn, 1) := by decide +kernel
abbrev cX11_north : ByteArray := prog_3_method_3_code
def yX11_north : MethodName := ⟨RX11, "north", "(II)I"⟩
theorem dX11_north_0 : decode cX11_north 0 = .ok (.iload_n 1, 1) := by decide +kernel
theorem dX11_north_1 : decode cX11_north 1 = .ok (.ireturn, 1) := by decide +kernel
abbrev cX11_size : ByteArray := prog_3_method_4_code
def yX11_size : MethodName := ⟨RX11, "size", "(LWindCarver$Trail;LWindCarver$Held;)I"⟩
def dkwX11_size_0 : List UInt8 := [43, 16, 13, 182, 0, 9, 42, 43, 44, 183, 0, 15, 16, 100, 100, 172]
abbrev dktX11_size_0 : List UInt8 := dkwX11_size_0 ++ []
theorem dksX11_size_0 : cX11_size.data.toList.drop 0 = dktX11_size_0 := by decide +kernel
theorem dX11_size_0 : decode cX11_size 0 = .ok (.aload_n 1, 1) := dk_43 (dk_at dksX11_size_0 0 rfl rfl)
theorem dX11_size_1 : decode cX11_size 1 = .ok (.bipush 13, 2) := dk_16 13 (dk_at dksX11_size_0 1 rfl rfl)
theorem dX11_size_3 : decode cX11_size 3 = .ok (.invokevirtual 9, 3) := dk_182 0 9 (dk_at dksX11_size_0 3 rfl rfl)
theorem dX11_size_6 : decode cX11_size 6 = .ok (.aload_n 0, 1) := dk_42 (dk_at dksX11_size_0 6 rfl rfl)
theorem dX11_size_7 : decode cX11_size 7 = .ok (.aload_n 1, 1) := dk_43 (dk_at dksX11_size_0 7 rfl rfl)
theorem dX11_size_8 : decode cX11_size 8 = .ok (.aload_n 2, 1) := dk_44 (dk_at dksX11_size_0 8 rfl rfl)
theorem dX11_size_9 : decode cX11_size 9 = .ok (.invokespecial 15, 3) := dk_183 0 15 (dk_at dksX11_size_0 9 rfl rfl)
theorem dX11_size_12 : decode cX11_size 12 = .ok (.bipush 100, 2) := dk_16 100 (dk_at dksX11_size_0 12 rfl rfl)
theorem dX11_size_14 : decode cX11_size 14 = .ok (.isub, 1) := dk_100 (dk_at dksX11_size_0 14 rfl rfl)
theorem dX11_size_15 : decode cX11_size 15 = .ok (.ireturn, 1) := dk_172 (dk_at dksX11_size_0 15 rfl rfl)
abbrev cX11_mark : ByteArray := prog_3_method_5_code
def yX11_mark : MethodName := ⟨RX11, "mark", "(LWindCarver$Trail;LWindCarver$Held;)I"⟩
def dkwX11_mark_0 : List UInt8 := [43, 16, 23, 182, 0, 9, 42, 43, 44, 183, 0, 19, 42, 43, 44, 182, 0, 22, 100, 172]
abbrev dktX11_mark_0 : List UInt8 := dkwX11_mark_0 ++ []
theorem dksX11_mark_0 : cX11_mark.data.toList.drop 0 = dktX11_mark_0 := by decide +kernel
theorem dX11_mark_0 : decode cX11_mark 0 = .ok (.aload_n 1, 1) := dk_43 (dk_at dksX11_mark_0 0 rfl rfl)
theorem dX11_mark_1 : decode cX11_mark 1 = .ok (.bipush 23, 2) := dk_16 23 (dk_at dksX11_mark_0 1 rfl rfl)
theorem dX11_mark_3 : decode cX11_mark 3 = .ok (.invokevirtual 9, 3) := dk_182 0 9 (dk_at dksX11_mark_0 3 rfl rfl)
theorem dX11_mark_6 : decode cX11_mark 6 = .ok (.aload_n 0, 1) := dk_42 (dk_at dksX11_mark_0 6 rfl rfl)
theorem dX11_mark_7 : decode cX11_mark 7 = .ok (.aload_n 1, 1) := dk_43 (dk_at dksX11_mark_0 7 rfl rfl)
theorem dX11_mark_8 : decode cX11_mark 8 = .ok (.aload_n 2, 1) := dk_44 (dk_at dksX11_mark_0 8 rfl rfl)
theorem dX11_mark_9 : decode cX11_mark 9 = .ok (.invokespecial 19, 3) := dk_183 0 19 (dk_at dksX11_mark_0 9 rfl rfl)
theorem dX11_mark_12 : decode cX11_mark 12 = .ok (.aload_n 0, 1) := dk_42 (dk_at dksX11_mark_0 12 rfl rfl)
theorem dX11_mark_13 : decode cX11_mark 13 = .ok (.aload_n 1, 1) := dk_43 (dk_at dksX11_mark_0 13 rfl rfl)
theorem dX11_mark_14 : decode cX11_mark 14 = .ok (.aload_n 2, 1) := dk_44 (dk_at dksX11_mark_0 14 rfl rfl)
theorem dX11_mark_15 : decode cX11_mark 15 = .ok (.invokevirtual 22, 3) := dk_182 0 22 (dk_at dksX11_mark_0 15 rfl rfl)
theorem dX11_mark_18 : decode cX11_mark 18 = .ok (.isub, 1) := dk_100 (dk_at dksX11_mark_0 18 rfl rfl)
theorem dX11_mark_19 : decode cX11_mark 19 = .ok (.ireturn, 1) := dk_172 (dk_at dksX11_mark_0 19 rfl rfl)
theorem q86 : (Jvm.Cond.initialized "WindCarver$Hand") ∈ lw_all := lw_g (lw_at lw_m1 27 rfl) rfl
theorem q671 : (Jvm.Cond.instantiable "WindCarver$Hand" (2 : Nat)) ∈ lw_all := lw_g (lw_at lw_m3 132 rfl) rfl
theorem q673 : (Jvm.Cond.instanceMethod ({ cls := "WindCarver$Hand", name := "<init>", desc := "(II)V" } : Jvm.MethodName)) ∈ lw_all := lw_g (lw_at lw_m3 134 rfl) rfl
theorem q674 : (Jvm.Cond.code ({ cls := "WindCarver$Hand", name := "<init>", desc := "(II)V" } : Jvm.MethodName) prog_3_method_1_code (3 : Nat) (Option.none : Option Jvm.ClassFile.FieldType)) ∈ lw_all := lw_g (lw_at lw_m3 135 rfl) rfl
theorem q675 : (Jvm.Cond.methodLink "WindCarver$Hand" (3 : Nat) ({ cls := "WindCarver$Work", name := "<init>", desc := "(II)V" } : Jvm.MethodName)) ∈ lw_all := lw_g (lw_at lw_m3 136 rfl) rfl
theorem q676 : (Jvm.Cond.laysFinal "WindCarver$Hand" "WindCarver$Work" "cell" "I") ∈ lw_all := lw_g (lw_at lw_m3 137 rfl) rfl
theorem q677 : (Jvm.Cond.laysFinal "WindCarver$Hand" "WindCarver$Work" "holds" "I") ∈ lw_all := lw_g (lw_at lw_m3 138 rfl) rfl
theorem q678 : (Jvm.Cond.superclass "WindCarver$Hand" "WindCarver$Work") ∈ lw_all := lw_g (lw_at lw_m3 139 rfl) rfl
theorem q734 : (Jvm.Cond.selects "WindCarver$Hand" ({ cls := "WindCarver$Work", name := "kind", desc := "()I" } : Jvm.MethodName) ({ cls := "WindCarver$Hand", name := "kind", desc := "()I" } : Jvm.MethodName)) ∈ lw_all := lw_g (lw_at lw_m3 195 rfl) rfl
theorem q735 : (Jvm.Cond.instanceMethod ({ cls := "WindCarver$Hand", name := "kind", desc := "()I" } : Jvm.MethodName)) ∈ lw_all := lw_g (lw_at lw_m3 196 rfl) rfl
theorem q736 : (Jvm.Cond.code ({ cls := "WindCarver$Hand", name := "kind", desc := "()I" } : Jvm.MethodName) prog_3_method_2_code (1 : Nat) (Option.some Jvm.ClassFile.FieldType.int)) ∈ lw_all := lw_g (lw_at lw_m3 197 rfl) rfl
theorem q781 : (Jvm.Cond.selects "WindCarver$Hand" ({ cls := "WindCarver$Work", name := "on", desc := "(IZ)I" } : Jvm.MethodName) ({ cls := "WindCarver$Work", name := "on", desc := "(IZ)I" } : Jvm.MethodName)) ∈ lw_all := lw_g (lw_at lw_m4 2 rfl) rfl
theorem q798 : (Jvm.Cond.selects "WindCarver$Hand" ({ cls := "WindCarver$Work", name := "north", desc := "(II)I" } : Jvm.MethodName) ({ cls := "WindCarver$Hand", name := "north", desc := "(II)I" } : Jvm.MethodName)) ∈ lw_all := lw_g (lw_at lw_m4 19 rfl) rfl
theorem q799 : (Jvm.Cond.instanceMethod ({ cls := "WindCarver$Hand", name := "north", desc := "(II)I" } : Jvm.MethodName)) ∈ lw_all := lw_g (lw_at lw_m4 20 rfl) rfl
theorem q800 : (Jvm.Cond.code ({ cls := "WindCarver$Hand", name := "north", desc := "(II)I" } : Jvm.MethodName) prog_3_method_3_code (3 : Nat) (Option.some Jvm.ClassFile.FieldType.int)) ∈ lw_all := lw_g (lw_at lw_m4 21 rfl) rfl
theorem q817 : (Jvm.Cond.selects "WindCarver$Hand" ({ cls := "WindCarver$Work", name := "holds", desc := "()I" } : Jvm.MethodName) ({ cls := "WindCarver$Work", name := "holds", desc := "()I" } : Jvm.MethodName)) ∈ lw_all := lw_g (lw_at lw_m4 38 rfl) rfl
theorem q973 : (Jvm.Cond.selects "WindCarver$Hand" ({ cls := "WindCarver$Work", name := "cell", desc := "()I" } : Jvm.MethodName) ({ cls := "WindCarver$Work", name := "cell", desc := "()I" } : Jvm.MethodName)) ∈ lw_all := lw_g (lw_at lw_m4 194 rfl) rfl
theorem q998 : (Jvm.Cond.selects "WindCarver$Hand" ({ cls := "WindCarver$Marked", name := "size", desc := "(LWindCarver$Trail;LWindCarver$Held;)I" } : Jvm.MethodName) ({ cls := "WindCarver$Hand", name := "size", desc := "(LWindCarver$Trail;LWindCarver$Held;)I" } : Jvm.MethodName)) ∈ lw_all := lw_g (lw_at lw_m4 219 rfl) rfl
theorem q999 : (Jvm.Cond.instanceMethod ({ cls := "WindCarver$Hand", name := "size", desc := "(LWindCarver$Trail;LWindCarver$Held;)I" } : Jvm.MethodName)) ∈ lw_all := lw_g (lw_at lw_m4 220 rfl) rfl
theorem q1000 : (Jvm.Cond.code ({ cls := "WindCarver$Hand", name := "size", desc := "(LWindCarver$Trail;LWindCarver$Held;)I" } : Jvm.MethodName) prog_3_method_4_code (3 : Nat) (Option.some Jvm.ClassFile.FieldType.int)) ∈ lw_all := lw_g (lw_at lw_m4 221 rfl) rfl
theorem q1001 : (Jvm.Cond.methodLink "WindCarver$Hand" (9 : Nat) ({ cls := "WindCarver$Trail", name := "begins", desc := "(I)V" } : Jvm.MethodName)) ∈ lw_all := lw_g (lw_at lw_m4 222 rfl) rfl
theorem q1012 : (Jvm.Cond.castable "WindCarver$Hand" "WindCarver$Marked") ∈ lw_tbl := lw_at lw_m4 233 rfl
theorem q1013 : (Jvm.Cond.selects "WindCarver$Hand" ({ cls := "WindCarver$Marked", name := "holds", desc := "()I" } : Jvm.MethodName) ({ cls := "WindCarver$Work", name := "holds", desc := "()I" } : Jvm.MethodName)) ∈ lw_all := lw_g (lw_at lw_m4 234 rfl) rfl
theorem q1014 : (Jvm.Cond.unhidden "WindCarver$Hand" "holds" "()I") ∈ lw_tbl := lw_at lw_m4 235 rfl
theorem q1057 : (Jvm.Cond.selects "WindCarver$Hand" ({ cls := "WindCarver$Marked", name := "cell", desc := "()I" } : Jvm.MethodName) ({ cls := "WindCarver$Work", name := "cell", desc := "()I" } : Jvm.MethodName)) ∈ lw_all := lw_g (lw_at lw_m5 38 rfl) rfl
theorem q1058 : (Jvm.Cond.unhidden "WindCarver$Hand" "cell" "()I") ∈ lw_tbl := lw_at lw_m5 39 rfl
theorem q1086 : (Jvm.Cond.selects "WindCarver$Hand" ({ cls := "WindCarver$Marked", name := "mark", desc := "(LWindCarver$Trail;LWindCarver$Held;)I" } : Jvm.MethodName) ({ cls := "WindCarver$Hand", name := "mark", desc := "(LWindCarver$Trail;LWindCarver$Held;)I" } : Jvm.MethodName)) ∈ lw_all := lw_g (lw_at lw_m5 67 rfl) rfl
theorem q1087 : (Jvm.Cond.instanceMethod ({ cls := "WindCarver$Hand", name := "mark", desc := "(LWindCarver$Trail;LWindCarver$Held;)I" } : Jvm.MethodName)) ∈ lw_all := lw_g (lw_at lw_m5 68 rfl) rfl
theorem q1088 : (Jvm.Cond.code ({ cls := "WindCarver$Hand", name := "mark", desc := "(LWindCarver$Trail;LWindCarver$Held;)I" } : Jvm.MethodName) prog_3_method_5_code (3 : Nat) (Option.some Jvm.ClassFile.FieldType.int)) ∈ lw_all := lw_g (lw_at lw_m5 69 rfl) rfl
theorem q1089 : (Jvm.Cond.methodLink "WindCarver$Hand" (22 : Nat) ({ cls := "WindCarver$Hand", name := "size", desc := "(LWindCarver$Trail;LWindCarver$Held;)I" } : Jvm.MethodName)) ∈ lw_all := lw_g (lw_at lw_m5 70 rfl) rfl
theorem q1498 : (Jvm.Cond.sameMethod "WindCarver$Hand" "WindCarver$Hand" "north" "(II)I") ∈ lw_all := lw_g (lw_at lw_m6 239 rfl) rfl
theorem q1500 : (Jvm.Cond.sameMethod "WindCarver$Hand" "WindCarver$Hand" "size" "(LWindCarver$Trail;LWindCarver$Held;)I") ∈ lw_all := lw_g (lw_at lw_m7 1 rfl) rfl
theorem q1501 : (Jvm.Cond.selects "WindCarver$Hand" ({ cls := "WindCarver$Hand", name := "size", desc := "(LWindCarver$Trail;LWindCarver$Held;)I" } : Jvm.MethodName) ({ cls := "WindCarver$Hand", name := "size", desc := "(LWindCarver$Trail;LWindCarver$Held;)I" } : Jvm.MethodName)) ∈ lw_all := lw_g (lw_at lw_m7 2 rfl) rfl
theorem q1504 : (Jvm.Cond.castable "WindCarver$Hand" "WindCarver$Work") ∈ lw_tbl := lw_at lw_m7 5 rfl
theorem in_X11 : ∀ w ∈ wsX110, w ∈ lw_all := lw_in wsX110 [676, 677] (by decide +kernel) (by decide +kernel)
/-! WindCarver$Vane -/
set_option maxRecDepth 100000
def RX12 : String := "WindCarver$Vane"
def TX12 : u_T := fun k => match k with
  | 0 => ("WindCarver$Work", "cell", "I", true)
  | _ => ("WindCarver$Work", "holds", "I", true)
def tyX12 : Nat → FieldType := fun k => match k with
  | 0 => .int
  | _ => .int
abbrev wsX120 : List Cond := u_ws RX12 TX12 2
theorem nmX12 : ∀ a, a < 2 → ∀ b, b < 2 → a ≠ b → (TX12 a).2.1 ≠ (TX12 b).2.1 := by decide +kernel
theorem tyX12_ok : ∀ k, k < 2 → parseFieldDescriptor (TX12 k).2.2.1 = some (tyX12 k) := by decide +kernel
abbrev cX12_init : ByteArray := prog_13_method_1_code
def yX12_init : MethodName := ⟨RX12, "<init>", "(II)V"⟩
def dkwX12_init_0 : List UInt8 := [42, 27, 28, 183, 0, 3, 177]
abbrev dktX12_init_0 : List UInt8 := dkwX12_init_0 ++ []
theorem dksX12_init_0 : cX12_init.data.toList.drop 0 = dktX12_init_0 := by decide +kernel
theorem dX12_init_0 : decode cX12_init 0 = .ok (.aload_n 0, 1) := dk_42 (dk_at dksX12_init_0 0 rfl rfl)
theorem dX12_init_1 : decode cX12_init 1 = .ok (.iload_n 1, 1) := dk_27 (dk_at dksX12_init_0 1 rfl rfl)
theorem dX12_init_2 : decode cX12_init 2 = .ok (.iload_n 2, 1) := dk_28 (dk_at dksX12_init_0 2 rfl rfl)
theorem dX12_init_3 : decode cX12_init 3 = .ok (.invokespecial 3, 3) := dk_183 0 3 (dk_at dksX12_init_0 3 rfl rfl)
theorem dX12_init_6 : decode cX12_init 6 = .ok (.return_, 1) := dk_177 (dk_at dksX12_init_0 6 rfl rfl)
abbrev cX12_kind : ByteArray := prog_13_method_2_code
def yX12_kind : MethodName := ⟨RX12, "kind", "()I"⟩
theorem dX12_kind_0 : decode cX12_kind 0 = .ok (.iconst 5, 1) := by decide +kernel
theorem dX12_kind_1 : decode cX12_kind 1 = .ok (.ireturn, 1) := by decide +kernel
abbrev cX12_north : ByteArray := prog_13_method_3_code
def yX12_north : MethodName := ⟨RX12, "north", "(II)I"⟩
def dkwX12_north_0 : List UInt8 := [28, 5, 112, 4, 160, 0, 7, 3, 167, 0, 9, 42, 27, 28, 183, 0, 9, 172]
abbrev dktX12_north_0 : List UInt8 := dkwX12_north_0 ++ []
theorem dksX12_north_0 : cX12_north.data.toList.drop 0 = dktX12_north_0 := by decide +kernel
theorem dX12_north_0 : decode cX12_north 0 = .ok (.iload_n 2, 1) := dk_28 (dk_at dksX12_north_0 0 rfl rfl)
theorem dX12_north_1 : decode cX12_north 1 = .ok (.iconst 2, 1) := dk_5 (dk_at dksX12_north_0 1 rfl rfl)
theorem dX12_north_2 : decode cX12_north 2 = .ok (.irem, 1) := dk_112 (dk_at dksX12_north_0 2 rfl rfl)
theorem dX12_north_3 : decode cX12_north 3 = .ok (.iconst 1, 1) := dk_4 (dk_at dksX12_north_0 3 rfl rfl)
theorem dX12_north_4 : decode cX12_north 4 = .ok (.if_icmp .ne 7, 3) := dk_160 0 7 (dk_at dksX12_north_0 4 rfl rfl)
theorem dX12_north_7 : decode cX12_north 7 = .ok (.iconst 0, 1) := dk_3 (dk_at dksX12_north_0 7 rfl rfl)
theorem dX12_north_8 : decode cX12_north 8 = .ok (.goto 9, 3) := dk_167 0 9 (dk_at dksX12_north_0 8 rfl rfl)
theorem dX12_north_11 : decode cX12_north 11 = .ok (.aload_n 0, 1) := dk_42 (dk_at dksX12_north_0 11 rfl rfl)
theorem dX12_north_12 : decode cX12_north 12 = .ok (.iload_n 1, 1) := dk_27 (dk_at dksX12_north_0 12 rfl rfl)
theorem dX12_north_13 : decode cX12_north 13 = .ok (.iload_n 2, 1) := dk_28 (dk_at dksX12_north_0 13 rfl rfl)
theorem dX12_north_14 : decode cX12_north 14 = .ok (.invokespecial 9, 3) := dk_183 0 9 (dk_at dksX12_north_0 14 rfl rfl)
theorem dX12_north_17 : decode cX12_north 17 = .ok (.ireturn, 1) := dk_172 (dk_at dksX12_north_0 17 rfl rfl)
abbrev cX12_size : ByteArray := prog_13_method_4_code
def yX12_size : MethodName := ⟨RX12, "size", "(LWindCarver$Trail;LWindCarver$Held;)I"⟩
def dkwX12_size_0 : List UInt8 := [43, 16, 14, 182, 0, 13, 5, 42, 43, 44, 183, 0, 19, 104, 172]
abbrev dktX12_size_0 : List UInt8 := dkwX12_size_0 ++ []
theorem dksX12_size_0 : cX12_size.data.toList.drop 0 = dktX12_size_0 := by decide +kernel
theorem dX12_size_0 : decode cX12_size 0 = .ok (.aload_n 1, 1) := dk_43 (dk_at dksX12_size_0 0 rfl rfl)
theorem dX12_size_1 : decode cX12_size 1 = .ok (.bipush 14, 2) := dk_16 14 (dk_at dksX12_size_0 1 rfl rfl)
theorem dX12_size_3 : decode cX12_size 3 = .ok (.invokevirtual 13, 3) := dk_182 0 13 (dk_at dksX12_size_0 3 rfl rfl)
theorem dX12_size_6 : decode cX12_size 6 = .ok (.iconst 2, 1) := dk_5 (dk_at dksX12_size_0 6 rfl rfl)
theorem dX12_size_7 : decode cX12_size 7 = .ok (.aload_n 0, 1) := dk_42 (dk_at dksX12_size_0 7 rfl rfl)
theorem dX12_size_8 : decode cX12_size 8 = .ok (.aload_n 1, 1) := dk_43 (dk_at dksX12_size_0 8 rfl rfl)
theorem dX12_size_9 : decode cX12_size 9 = .ok (.aload_n 2, 1) := dk_44 (dk_at dksX12_size_0 9 rfl rfl)
theorem dX12_size_10 : decode cX12_size 10 = .ok (.invokespecial 19, 3) := dk_183 0 19 (dk_at dksX12_size_0 10 rfl rfl)
theorem dX12_size_13 : decode cX12_size 13 = .ok (.imul, 1) := dk_104 (dk_at dksX12_size_0 13 rfl rfl)
theorem dX12_size_14 : decode cX12_size 14 = .ok (.ireturn, 1) := dk_172 (dk_at dksX12_size_0 14 rfl rfl)
theorem q87 : (Jvm.Cond.initialized "WindCarver$Vane") ∈ lw_all := lw_g (lw_at lw_m1 28 rfl) rfl
theorem q680 : (Jvm.Cond.instantiable "WindCarver$Vane" (2 : Nat)) ∈ lw_all := lw_g (lw_at lw_m3 141 rfl) rfl
theorem q682 : (Jvm.Cond.instanceMethod ({ cls := "WindCarver$Vane", name := "<init>", desc := "(II)V" } : Jvm.MethodName)) ∈ lw_all := lw_g (lw_at lw_m3 143 rfl) rfl
theorem q683 : (Jvm.Cond.code ({ cls := "WindCarver$Vane", name := "<init>", desc := "(II)V" } : Jvm.MethodName) prog_13_method_1_code (3 : Nat) (Option.none : Option Jvm.ClassFile.FieldType)) ∈ lw_all := lw_g (lw_at lw_m3 144 rfl) rfl
theorem q684 : (Jvm.Cond.methodLink "WindCarver$Vane" (3 : Nat) ({ cls := "WindCarver$Hand", name := "<init>", desc := "(II)V" } : Jvm.MethodName)) ∈ lw_all := lw_g (lw_at lw_m3 145 rfl) rfl
theorem q685 : (Jvm.Cond.laysFinal "WindCarver$Vane" "WindCarver$Work" "cell" "I") ∈ lw_all := lw_g (lw_at lw_m3 146 rfl) rfl
theorem q686 : (Jvm.Cond.laysFinal "WindCarver$Vane" "WindCarver$Work" "holds" "I") ∈ lw_all := lw_g (lw_at lw_m3 147 rfl) rfl
theorem q687 : (Jvm.Cond.superclass "WindCarver$Vane" "WindCarver$Hand") ∈ lw_all := lw_g (lw_at lw_m3 148 rfl) rfl
theorem q743 : (Jvm.Cond.selects "WindCarver$Vane" ({ cls := "WindCarver$Work", name := "kind", desc := "()I" } : Jvm.MethodName) ({ cls := "WindCarver$Vane", name := "kind", desc := "()I" } : Jvm.MethodName)) ∈ lw_all := lw_g (lw_at lw_m3 204 rfl) rfl
theorem q744 : (Jvm.Cond.instanceMethod ({ cls := "WindCarver$Vane", name := "kind", desc := "()I" } : Jvm.MethodName)) ∈ lw_all := lw_g (lw_at lw_m3 205 rfl) rfl
theorem q745 : (Jvm.Cond.code ({ cls := "WindCarver$Vane", name := "kind", desc := "()I" } : Jvm.MethodName) prog_13_method_2_code (1 : Nat) (Option.some Jvm.ClassFile.FieldType.int)) ∈ lw_all := lw_g (lw_at lw_m3 206 rfl) rfl
theorem q792 : (Jvm.Cond.selects "WindCarver$Vane" ({ cls := "WindCarver$Work", name := "on", desc := "(IZ)I" } : Jvm.MethodName) ({ cls := "WindCarver$Work", name := "on", desc := "(IZ)I" } : Jvm.MethodName)) ∈ lw_all := lw_g (lw_at lw_m4 13 rfl) rfl
theorem q805 : (Jvm.Cond.selects "WindCarver$Vane" ({ cls := "WindCarver$Work", name := "north", desc := "(II)I" } : Jvm.MethodName) ({ cls := "WindCarver$Vane", name := "north", desc := "(II)I" } : Jvm.MethodName)) ∈ lw_all := lw_g (lw_at lw_m4 26 rfl) rfl
theorem q806 : (Jvm.Cond.instanceMethod ({ cls := "WindCarver$Vane", name := "north", desc := "(II)I" } : Jvm.MethodName)) ∈ lw_all := lw_g (lw_at lw_m4 27 rfl) rfl
theorem q807 : (Jvm.Cond.code ({ cls := "WindCarver$Vane", name := "north", desc := "(II)I" } : Jvm.MethodName) prog_13_method_3_code (3 : Nat) (Option.some Jvm.ClassFile.FieldType.int)) ∈ lw_all := lw_g (lw_at lw_m4 28 rfl) rfl
theorem q808 : (Jvm.Cond.methodLink "WindCarver$Vane" (9 : Nat) ({ cls := "WindCarver$Hand", name := "north", desc := "(II)I" } : Jvm.MethodName)) ∈ lw_all := lw_g (lw_at lw_m4 29 rfl) rfl
theorem q820 : (Jvm.Cond.selects "WindCarver$Vane" ({ cls := "WindCarver$Work", name := "holds", desc := "()I" } : Jvm.MethodName) ({ cls := "WindCarver$Work", name := "holds", desc := "()I" } : Jvm.MethodName)) ∈ lw_all := lw_g (lw_at lw_m4 41 rfl) rfl
theorem q976 : (Jvm.Cond.selects "WindCarver$Vane" ({ cls := "WindCarver$Work", name := "cell", desc := "()I" } : Jvm.MethodName) ({ cls := "WindCarver$Work", name := "cell", desc := "()I" } : Jvm.MethodName)) ∈ lw_all := lw_g (lw_at lw_m4 197 rfl) rfl
theorem q1022 : (Jvm.Cond.castable "WindCarver$Vane" "WindCarver$Marked") ∈ lw_tbl := lw_at lw_m5 3 rfl
theorem q1023 : (Jvm.Cond.selects "WindCarver$Vane" ({ cls := "WindCarver$Marked", name := "holds", desc := "()I" } : Jvm.MethodName) ({ cls := "WindCarver$Work", name := "holds", desc := "()I" } : Jvm.MethodName)) ∈ lw_all := lw_g (lw_at lw_m5 4 rfl) rfl
theorem q1024 : (Jvm.Cond.unhidden "WindCarver$Vane" "holds" "()I") ∈ lw_tbl := lw_at lw_m5 5 rfl
theorem q1064 : (Jvm.Cond.selects "WindCarver$Vane" ({ cls := "WindCarver$Marked", name := "cell", desc := "()I" } : Jvm.MethodName) ({ cls := "WindCarver$Work", name := "cell", desc := "()I" } : Jvm.MethodName)) ∈ lw_all := lw_g (lw_at lw_m5 45 rfl) rfl
theorem q1065 : (Jvm.Cond.unhidden "WindCarver$Vane" "cell" "()I") ∈ lw_tbl := lw_at lw_m5 46 rfl
theorem q1080 : (Jvm.Cond.selects "WindCarver$Vane" ({ cls := "WindCarver$Marked", name := "size", desc := "(LWindCarver$Trail;LWindCarver$Held;)I" } : Jvm.MethodName) ({ cls := "WindCarver$Vane", name := "size", desc := "(LWindCarver$Trail;LWindCarver$Held;)I" } : Jvm.MethodName)) ∈ lw_all := lw_g (lw_at lw_m5 61 rfl) rfl
theorem q1081 : (Jvm.Cond.instanceMethod ({ cls := "WindCarver$Vane", name := "size", desc := "(LWindCarver$Trail;LWindCarver$Held;)I" } : Jvm.MethodName)) ∈ lw_all := lw_g (lw_at lw_m5 62 rfl) rfl
theorem q1082 : (Jvm.Cond.code ({ cls := "WindCarver$Vane", name := "size", desc := "(LWindCarver$Trail;LWindCarver$Held;)I" } : Jvm.MethodName) prog_13_method_4_code (3 : Nat) (Option.some Jvm.ClassFile.FieldType.int)) ∈ lw_all := lw_g (lw_at lw_m5 63 rfl) rfl
theorem q1083 : (Jvm.Cond.methodLink "WindCarver$Vane" (13 : Nat) ({ cls := "WindCarver$Trail", name := "begins", desc := "(I)V" } : Jvm.MethodName)) ∈ lw_all := lw_g (lw_at lw_m5 64 rfl) rfl
theorem q1084 : (Jvm.Cond.methodLink "WindCarver$Vane" (19 : Nat) ({ cls := "WindCarver$Hand", name := "size", desc := "(LWindCarver$Trail;LWindCarver$Held;)I" } : Jvm.MethodName)) ∈ lw_all := lw_g (lw_at lw_m5 65 rfl) rfl
theorem q1092 : (Jvm.Cond.selects "WindCarver$Vane" ({ cls := "WindCarver$Marked", name := "mark", desc := "(LWindCarver$Trail;LWindCarver$Held;)I" } : Jvm.MethodName) ({ cls := "WindCarver$Hand", name := "mark", desc := "(LWindCarver$Trail;LWindCarver$Held;)I" } : Jvm.MethodName)) ∈ lw_all := lw_g (lw_at lw_m5 73 rfl) rfl
theorem q1502 : (Jvm.Cond.selects "WindCarver$Vane" ({ cls := "WindCarver$Hand", name := "size", desc := "(LWindCarver$Trail;LWindCarver$Held;)I" } : Jvm.MethodName) ({ cls := "WindCarver$Vane", name := "size", desc := "(LWindCarver$Trail;LWindCarver$Held;)I" } : Jvm.MethodName)) ∈ lw_all := lw_g (lw_at lw_m7 3 rfl) rfl
theorem q1507 : (Jvm.Cond.castable "WindCarver$Vane" "WindCarver$Work") ∈ lw_tbl := lw_at lw_m7 8 rfl
theorem q1511 : (Jvm.Cond.castable "WindCarver$Vane" "WindCarver$Hand") ∈ lw_tbl := lw_at lw_m7 12 rfl
theorem in_X12 : ∀ w ∈ wsX120, w ∈ lw_all := lw_in wsX120 [685, 686] (by decide +kernel) (by decide +kernel)
/-! WindCarver$Has -/
set_option maxRecDepth 100000
def RX13 : String := "WindCarver$Has"
def TX13 : u_T := fun k => match k with
  | 0 => ("WindCarver$Has", "cell", "I", true)
  | _ => ("WindCarver$Has", "this$0", "LWindCarver;", true)
def tyX13 : Nat → FieldType := fun k => match k with
  | 0 => .int
  | _ => .object "WindCarver"
abbrev wsX130 : List Cond := u_ws RX13 TX13 2
theorem nmX13 : ∀ a, a < 2 → ∀ b, b < 2 → a ≠ b → (TX13 a).2.1 ≠ (TX13 b).2.1 := by decide +kernel
theorem tyX13_ok : ∀ k, k < 2 → parseFieldDescriptor (TX13 k).2.2.1 = some (tyX13 k) := by decide +kernel
abbrev cX13_init : ByteArray := prog_4_method_1_code
def yX13_init : MethodName := ⟨RX13, "<init>", "(LWindCarver;I)V"⟩
def dkwX13_init_0 : List UInt8 := [42, 43, 181, 0, 1, 42, 183, 0, 7, 42, 28, 181, 0, 13, 177]
abbrev dktX13_init_0 : List UInt8 := dkwX13_init_0 ++ []
theorem dksX13_init_0 : cX13_init.data.toList.drop 0 = dktX13_init_0 := by decide +kernel
theorem dX13_init_0 : decode cX13_init 0 = .ok (.aload_n 0, 1) := dk_42 (dk_at dksX13_init_0 0 rfl rfl)
theorem dX13_init_1 : decode cX13_init 1 = .ok (.aload_n 1, 1) := dk_43 (dk_at dksX13_init_0 1 rfl rfl)
theorem dX13_init_2 : decode cX13_init 2 = .ok (.putfield 1, 3) := dk_181 0 1 (dk_at dksX13_init_0 2 rfl rfl)
theorem dX13_init_5 : decode cX13_init 5 = .ok (.aload_n 0, 1) := dk_42 (dk_at dksX13_init_0 5 rfl rfl)
theorem dX13_init_6 : decode cX13_init 6 = .ok (.invokespecial 7, 3) := dk_183 0 7 (dk_at dksX13_init_0 6 rfl rfl)
theorem dX13_init_9 : decode cX13_init 9 = .ok (.aload_n 0, 1) := dk_42 (dk_at dksX13_init_0 9 rfl rfl)
theorem dX13_init_10 : decode cX13_init 10 = .ok (.iload_n 2, 1) := dk_28 (dk_at dksX13_init_0 10 rfl rfl)
theorem dX13_init_11 : decode cX13_init 11 = .ok (.putfield 13, 3) := dk_181 0 13 (dk_at dksX13_init_0 11 rfl rfl)
theorem dX13_init_14 : decode cX13_init 14 = .ok (.return_, 1) := dk_177 (dk_at dksX13_init_0 14 rfl rfl)
abbrev cX13_felt : ByteArray := prog_4_method_2_code
def yX13_felt : MethodName := ⟨RX13, "felt", "()I"⟩
def dkwX13_felt_0 : List UInt8 := [42, 180, 0, 1, 182, 0, 17, 180, 0, 23, 42, 180, 0, 13, 46, 172]
abbrev dktX13_felt_0 : List UInt8 := dkwX13_felt_0 ++ []
theorem dksX13_felt_0 : cX13_felt.data.toList.drop 0 = dktX13_felt_0 := by decide +kernel
theorem dX13_felt_0 : decode cX13_felt 0 = .ok (.aload_n 0, 1) := dk_42 (dk_at dksX13_felt_0 0 rfl rfl)
theorem dX13_felt_1 : decode cX13_felt 1 = .ok (.getfield 1, 3) := dk_180 0 1 (dk_at dksX13_felt_0 1 rfl rfl)
theorem dX13_felt_4 : decode cX13_felt 4 = .ok (.invokevirtual 17, 3) := dk_182 0 17 (dk_at dksX13_felt_0 4 rfl rfl)
theorem dX13_felt_7 : decode cX13_felt 7 = .ok (.getfield 23, 3) := dk_180 0 23 (dk_at dksX13_felt_0 7 rfl rfl)
theorem dX13_felt_10 : decode cX13_felt 10 = .ok (.aload_n 0, 1) := dk_42 (dk_at dksX13_felt_0 10 rfl rfl)
theorem dX13_felt_11 : decode cX13_felt 11 = .ok (.getfield 13, 3) := dk_180 0 13 (dk_at dksX13_felt_0 11 rfl rfl)
theorem dX13_felt_14 : decode cX13_felt 14 = .ok (.iaload, 1) := dk_46 (dk_at dksX13_felt_0 14 rfl rfl)
theorem dX13_felt_15 : decode cX13_felt 15 = .ok (.ireturn, 1) := dk_172 (dk_at dksX13_felt_0 15 rfl rfl)
theorem q90 : (Jvm.Cond.initialized "WindCarver$Has") ∈ lw_all := lw_g (lw_at lw_m1 31 rfl) rfl
theorem q139 : (Jvm.Cond.fieldLink "WindCarver$Has" (23 : Nat) "WindCarver$Pass" "felt" "[I") ∈ lw_all := lw_g (lw_at lw_m1 80 rfl) rfl
theorem q984 : (Jvm.Cond.instantiable "WindCarver$Has" (2 : Nat)) ∈ lw_all := lw_g (lw_at lw_m4 205 rfl) rfl
theorem q986 : (Jvm.Cond.instanceMethod ({ cls := "WindCarver$Has", name := "<init>", desc := "(LWindCarver;I)V" } : Jvm.MethodName)) ∈ lw_all := lw_g (lw_at lw_m4 207 rfl) rfl
theorem q987 : (Jvm.Cond.code ({ cls := "WindCarver$Has", name := "<init>", desc := "(LWindCarver;I)V" } : Jvm.MethodName) prog_4_method_1_code (3 : Nat) (Option.none : Option Jvm.ClassFile.FieldType)) ∈ lw_all := lw_g (lw_at lw_m4 208 rfl) rfl
theorem q988 : (Jvm.Cond.methodLink "WindCarver$Has" (7 : Nat) ({ cls := "java/lang/Object", name := "<init>", desc := "()V" } : Jvm.MethodName)) ∈ lw_all := lw_g (lw_at lw_m4 209 rfl) rfl
theorem q989 : (Jvm.Cond.fieldLink "WindCarver$Has" (13 : Nat) "WindCarver$Has" "cell" "I") ∈ lw_all := lw_g (lw_at lw_m4 210 rfl) rfl
theorem q990 : (Jvm.Cond.fieldLink "WindCarver$Has" (1 : Nat) "WindCarver$Has" "this$0" "LWindCarver;") ∈ lw_all := lw_g (lw_at lw_m4 211 rfl) rfl
theorem q991 : (Jvm.Cond.laysFinal "WindCarver$Has" "WindCarver$Has" "cell" "I") ∈ lw_all := lw_g (lw_at lw_m4 212 rfl) rfl
theorem q992 : (Jvm.Cond.soleField "WindCarver$Has" "cell") ∈ lw_all := lw_g (lw_at lw_m4 213 rfl) rfl
theorem q993 : (Jvm.Cond.laysFinal "WindCarver$Has" "WindCarver$Has" "this$0" "LWindCarver;") ∈ lw_all := lw_g (lw_at lw_m4 214 rfl) rfl
theorem q994 : (Jvm.Cond.soleField "WindCarver$Has" "this$0") ∈ lw_all := lw_g (lw_at lw_m4 215 rfl) rfl
theorem q995 : (Jvm.Cond.superclass "WindCarver$Has" "java/lang/Object") ∈ lw_all := lw_g (lw_at lw_m4 216 rfl) rfl
theorem q1072 : (Jvm.Cond.castable "WindCarver$Has" "WindCarver$Held") ∈ lw_tbl := lw_at lw_m5 53 rfl
theorem q1073 : (Jvm.Cond.selects "WindCarver$Has" ({ cls := "WindCarver$Held", name := "felt", desc := "()I" } : Jvm.MethodName) ({ cls := "WindCarver$Has", name := "felt", desc := "()I" } : Jvm.MethodName)) ∈ lw_all := lw_g (lw_at lw_m5 54 rfl) rfl
theorem q1074 : (Jvm.Cond.unhidden "WindCarver$Has" "felt" "()I") ∈ lw_tbl := lw_at lw_m5 55 rfl
theorem q1075 : (Jvm.Cond.instanceMethod ({ cls := "WindCarver$Has", name := "felt", desc := "()I" } : Jvm.MethodName)) ∈ lw_all := lw_g (lw_at lw_m5 56 rfl) rfl
theorem q1076 : (Jvm.Cond.publicMethod ({ cls := "WindCarver$Has", name := "felt", desc := "()I" } : Jvm.MethodName)) ∈ lw_tbl := lw_at lw_m5 57 rfl
theorem q1077 : (Jvm.Cond.code ({ cls := "WindCarver$Has", name := "felt", desc := "()I" } : Jvm.MethodName) prog_4_method_2_code (1 : Nat) (Option.some Jvm.ClassFile.FieldType.int)) ∈ lw_all := lw_g (lw_at lw_m5 58 rfl) rfl
theorem q1078 : (Jvm.Cond.methodLinkNest "WindCarver$Has" (17 : Nat) ({ cls := "WindCarver", name := "blown", desc := "()LWindCarver$Pass;" } : Jvm.MethodName) "WindCarver") ∈ lw_tbl := lw_at lw_m5 59 rfl
theorem in_X13 : ∀ w ∈ wsX130, w ∈ lw_all := lw_in wsX130 [991, 993] (by decide +kernel) (by decide +kernel)
/-! WindCarver$Marked -/
set_option maxRecDepth 100000
def RX14 : String := "WindCarver$Marked"
abbrev cX14_size : ByteArray := prog_6_method_3_code
def yX14_size : MethodName := ⟨RX14, "size", "(LWindCarver$Trail;LWindCarver$Held;)I"⟩
def dkwX14_size_0 : List UInt8 := [43, 16, 10, 182, 0, 1, 42, 185, 0, 7, 1, 0, 172]
abbrev dktX14_size_0 : List UInt8 := dkwX14_size_0 ++ []
theorem dksX14_size_0 : cX14_size.data.toList.drop 0 = dktX14_size_0 := by decide +kernel
theorem dX14_size_0 : decode cX14_size 0 = .ok (.aload_n 1, 1) := dk_43 (dk_at dksX14_size_0 0 rfl rfl)
theorem dX14_size_1 : decode cX14_size 1 = .ok (.bipush 10, 2) := dk_16 10 (dk_at dksX14_size_0 1 rfl rfl)
theorem dX14_size_3 : decode cX14_size 3 = .ok (.invokevirtual 1, 3) := dk_182 0 1 (dk_at dksX14_size_0 3 rfl rfl)
theorem dX14_size_6 : decode cX14_size 6 = .ok (.aload_n 0, 1) := dk_42 (dk_at dksX14_size_0 6 rfl rfl)
theorem dX14_size_7 : decode cX14_size 7 = .ok (.invokeinterface 7 1, 5) := by decide +kernel
theorem dX14_size_12 : decode cX14_size 12 = .ok (.ireturn, 1) := dk_172 (dk_at dksX14_size_0 12 rfl rfl)
abbrev cX14_mark : ByteArray := prog_6_method_4_code
def yX14_mark : MethodName := ⟨RX14, "mark", "(LWindCarver$Trail;LWindCarver$Held;)I"⟩
def dkwX14_mark_0 : List UInt8 := [43, 16, 20, 182, 0, 1, 42, 185, 0, 13, 1, 0, 172]
abbrev dktX14_mark_0 : List UInt8 := dkwX14_mark_0 ++ []
theorem dksX14_mark_0 : cX14_mark.data.toList.drop 0 = dktX14_mark_0 := by decide +kernel
theorem dX14_mark_0 : decode cX14_mark 0 = .ok (.aload_n 1, 1) := dk_43 (dk_at dksX14_mark_0 0 rfl rfl)
theorem dX14_mark_1 : decode cX14_mark 1 = .ok (.bipush 20, 2) := dk_16 20 (dk_at dksX14_mark_0 1 rfl rfl)
theorem dX14_mark_3 : decode cX14_mark 3 = .ok (.invokevirtual 1, 3) := dk_182 0 1 (dk_at dksX14_mark_0 3 rfl rfl)
theorem dX14_mark_6 : decode cX14_mark 6 = .ok (.aload_n 0, 1) := dk_42 (dk_at dksX14_mark_0 6 rfl rfl)
theorem dX14_mark_7 : decode cX14_mark 7 = .ok (.invokeinterface 13 1, 5) := by decide +kernel
theorem dX14_mark_12 : decode cX14_mark 12 = .ok (.ireturn, 1) := dk_172 (dk_at dksX14_mark_0 12 rfl rfl)
theorem q997 : (Jvm.Cond.declares ({ cls := "WindCarver$Marked", name := "size", desc := "(LWindCarver$Trail;LWindCarver$Held;)I" } : Jvm.MethodName)) ∈ lw_tbl := lw_at lw_m4 218 rfl
theorem q1005 : (Jvm.Cond.instanceMethod ({ cls := "WindCarver$Marked", name := "size", desc := "(LWindCarver$Trail;LWindCarver$Held;)I" } : Jvm.MethodName)) ∈ lw_all := lw_g (lw_at lw_m4 226 rfl) rfl
theorem q1006 : (Jvm.Cond.code ({ cls := "WindCarver$Marked", name := "size", desc := "(LWindCarver$Trail;LWindCarver$Held;)I" } : Jvm.MethodName) prog_6_method_3_code (3 : Nat) (Option.some Jvm.ClassFile.FieldType.int)) ∈ lw_all := lw_g (lw_at lw_m4 227 rfl) rfl
theorem q1007 : (Jvm.Cond.methodLink "WindCarver$Marked" (1 : Nat) ({ cls := "WindCarver$Trail", name := "begins", desc := "(I)V" } : Jvm.MethodName)) ∈ lw_all := lw_g (lw_at lw_m4 228 rfl) rfl
theorem q1008 : (Jvm.Cond.interfaceEntry "WindCarver$Marked" (7 : Nat)) ∈ lw_tbl := lw_at lw_m4 229 rfl
theorem q1009 : (Jvm.Cond.methodLink "WindCarver$Marked" (7 : Nat) ({ cls := "WindCarver$Marked", name := "holds", desc := "()I" } : Jvm.MethodName)) ∈ lw_all := lw_g (lw_at lw_m4 230 rfl) rfl
theorem q1010 : (Jvm.Cond.interfaceMethod "WindCarver$Marked" "WindCarver$Marked" "holds" "()I") ∈ lw_tbl := lw_at lw_m4 231 rfl
theorem q1011 : (Jvm.Cond.declares ({ cls := "WindCarver$Marked", name := "holds", desc := "()I" } : Jvm.MethodName)) ∈ lw_tbl := lw_at lw_m4 232 rfl
theorem q1050 : (Jvm.Cond.declares ({ cls := "WindCarver$Marked", name := "mark", desc := "(LWindCarver$Trail;LWindCarver$Held;)I" } : Jvm.MethodName)) ∈ lw_tbl := lw_at lw_m5 31 rfl
theorem q1051 : (Jvm.Cond.instanceMethod ({ cls := "WindCarver$Marked", name := "mark", desc := "(LWindCarver$Trail;LWindCarver$Held;)I" } : Jvm.MethodName)) ∈ lw_all := lw_g (lw_at lw_m5 32 rfl) rfl
theorem q1052 : (Jvm.Cond.code ({ cls := "WindCarver$Marked", name := "mark", desc := "(LWindCarver$Trail;LWindCarver$Held;)I" } : Jvm.MethodName) prog_6_method_4_code (3 : Nat) (Option.some Jvm.ClassFile.FieldType.int)) ∈ lw_all := lw_g (lw_at lw_m5 33 rfl) rfl
theorem q1053 : (Jvm.Cond.interfaceEntry "WindCarver$Marked" (13 : Nat)) ∈ lw_tbl := lw_at lw_m5 34 rfl
theorem q1054 : (Jvm.Cond.methodLink "WindCarver$Marked" (13 : Nat) ({ cls := "WindCarver$Marked", name := "cell", desc := "()I" } : Jvm.MethodName)) ∈ lw_all := lw_g (lw_at lw_m5 35 rfl) rfl
theorem q1055 : (Jvm.Cond.interfaceMethod "WindCarver$Marked" "WindCarver$Marked" "cell" "()I") ∈ lw_tbl := lw_at lw_m5 36 rfl
theorem q1056 : (Jvm.Cond.declares ({ cls := "WindCarver$Marked", name := "cell", desc := "()I" } : Jvm.MethodName)) ∈ lw_tbl := lw_at lw_m5 37 rfl
