theorem q103 : (Jvm.Cond.arrayOver (Jvm.ClassFile.FieldType.object "WindCarver$Shelf")) ∈ lw_tbl := lw_at lw_m1 44 rfl
set_option maxRecDepth 100000
theorem q121 : (Jvm.Cond.arrayOver (Jvm.ClassFile.FieldType.object "WindCarver$Work")) ∈ lw_tbl := lw_at lw_m1 62 rfl
theorem q164 : (Jvm.Cond.arrayClass Jvm.ClassFile.FieldType.byte) ∈ lw_all := lw_g (lw_at lw_m1 105 rfl) rfl
theorem q165 : (Jvm.Cond.arrayClass Jvm.ClassFile.FieldType.int) ∈ lw_all := lw_g (lw_at lw_m1 106 rfl) rfl
theorem q166 : (Jvm.Cond.arrayOver (Jvm.ClassFile.FieldType.object "WindCarver$Pass")) ∈ lw_tbl := lw_at lw_m1 107 rfl
theorem q350 : (Jvm.Cond.arrayClass Jvm.ClassFile.FieldType.short) ∈ lw_all := lw_g (lw_at lw_m2 51 rfl) rfl
theorem q1201 : (Jvm.Cond.arrayClass Jvm.ClassFile.FieldType.boolean) ∈ lw_all := lw_g (lw_at lw_m5 182 rfl) rfl
/-! java/lang/Object -/
set_option maxRecDepth 100000
def RJ16 : String := "java/lang/Object"
abbrev cJ16_init : ByteArray := object_method_1_code
def yJ16_init : MethodName := ⟨RJ16, "<init>", "()V"⟩
theorem dJ16_init_0 : decode cJ16_init 0 = .ok (.return_, 1) := by decide +kernel
theorem q97 : (Jvm.Cond.instanceMethod ({ cls := "java/lang/Object", name := "<init>", desc := "()V" } : Jvm.MethodName)) ∈ lw_all := lw_g (lw_at lw_m1 38 rfl) rfl
theorem q98 : (Jvm.Cond.code ({ cls := "java/lang/Object", name := "<init>", desc := "()V" } : Jvm.MethodName) object_method_1_code (1 : Nat) (Option.none : Option Jvm.ClassFile.FieldType)) ∈ lw_all := lw_g (lw_at lw_m1 39 rfl) rfl
