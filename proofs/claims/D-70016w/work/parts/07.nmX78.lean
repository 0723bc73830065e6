/-! WindCarver$Reader -/
set_option maxRecDepth 100000
def RX7 : String := "WindCarver$Reader"
def TX7 : u_T := fun k => match k with
  | 0 => ("WindCarver$Reader", "text", "[B", true)
  | 1 => ("WindCarver$Reader", "size", "I", true)
  | 2 => ("WindCarver$Reader", "at", "I", false)
  | 3 => ("WindCarver$Reader", "token", "I", false)
  | 4 => ("WindCarver$Reader", "from", "I", false)
  | 5 => ("WindCarver$Reader", "value", "I", false)
  | _ => ("WindCarver$Reader", "made", "LWindCarver$Pass;", true)
def tyX7 : Nat → FieldType := fun k => match k with
  | 0 => .array .byte
  | 1 => .int
  | 2 => .int
  | 3 => .int
  | 4 => .int
  | 5 => .int
  | _ => .object "WindCarver$Pass"
abbrev wsX70 : List Cond := u_ws RX7 TX7 7
theorem nmX7 : ∀ a, a < 7 → ∀ b, b < 7 → a ≠ b → (TX7 a).2.1 ≠ (TX7 b).2.1 := by decide +kernel
theorem tyX7_ok : ∀ k, k < 7 → parseFieldDescriptor (TX7 k).2.2.1 = some (tyX7 k) := by decide +kernel
abbrev cX7_init : ByteArray := prog_9_method_1_code
def yX7_init : MethodName := ⟨RX7, "<init>", "([BI)V"⟩
def dkwX7_init_1 : List UInt8 := [181, 0, 22, 177]
abbrev dktX7_init_1 : List UInt8 := dkwX7_init_1 ++ []
def dkwX7_init_0 : List UInt8 := [42, 183, 0, 3, 42, 187, 0, 9, 89, 183, 0, 11, 181, 0, 12, 42, 43, 181, 0, 18, 42, 28]
abbrev dktX7_init_0 : List UInt8 := dkwX7_init_0 ++ dktX7_init_1
theorem dksX7_init_0 : cX7_init.data.toList.drop 0 = dktX7_init_0 := by decide +kernel
theorem dksX7_init_1 : cX7_init.data.toList.drop 22 = dktX7_init_1 := dk_seg dksX7_init_0 22 rfl rfl
theorem dX7_init_0 : decode cX7_init 0 = .ok (.aload_n 0, 1) := dk_42 (dk_at dksX7_init_0 0 rfl rfl)
theorem dX7_init_1 : decode cX7_init 1 = .ok (.invokespecial 3, 3) := dk_183 0 3 (dk_at dksX7_init_0 1 rfl rfl)
theorem dX7_init_4 : decode cX7_init 4 = .ok (.aload_n 0, 1) := dk_42 (dk_at dksX7_init_0 4 rfl rfl)
theorem dX7_init_5 : decode cX7_init 5 = .ok (.new 9, 3) := dk_187 0 9 (dk_at dksX7_init_0 5 rfl rfl)
theorem dX7_init_8 : decode cX7_init 8 = .ok (.dup, 1) := dk_89 (dk_at dksX7_init_0 8 rfl rfl)
theorem dX7_init_9 : decode cX7_init 9 = .ok (.invokespecial 11, 3) := dk_183 0 11 (dk_at dksX7_init_0 9 rfl rfl)
theorem dX7_init_12 : decode cX7_init 12 = .ok (.putfield 12, 3) := dk_181 0 12 (dk_at dksX7_init_0 12 rfl rfl)
theorem dX7_init_15 : decode cX7_init 15 = .ok (.aload_n 0, 1) := dk_42 (dk_at dksX7_init_0 15 rfl rfl)
theorem dX7_init_16 : decode cX7_init 16 = .ok (.aload_n 1, 1) := dk_43 (dk_at dksX7_init_0 16 rfl rfl)
theorem dX7_init_17 : decode cX7_init 17 = .ok (.putfield 18, 3) := dk_181 0 18 (dk_at dksX7_init_0 17 rfl rfl)
theorem dX7_init_20 : decode cX7_init 20 = .ok (.aload_n 0, 1) := dk_42 (dk_at dksX7_init_0 20 rfl rfl)
theorem dX7_init_21 : decode cX7_init 21 = .ok (.iload_n 2, 1) := dk_28 (dk_at dksX7_init_0 21 rfl rfl)
theorem dX7_init_22 : decode cX7_init 22 = .ok (.putfield 22, 3) := dk_181 0 22 (dk_at dksX7_init_1 0 rfl rfl)
theorem dX7_init_25 : decode cX7_init 25 = .ok (.return_, 1) := dk_177 (dk_at dksX7_init_1 3 rfl rfl)
abbrev cX7_all : ByteArray := prog_9_method_8_code
def yX7_all : MethodName := ⟨RX7, "all", "()V"⟩
def dkwX7_all_3 : List UInt8 := [182, 0, 60, 42, 180, 0, 12, 4, 181, 0, 93, 177]
abbrev dktX7_all_3 : List UInt8 := dkwX7_all_3 ++ []
def dkwX7_all_2 : List UInt8 := [155, 0, 10, 42, 182, 0, 90, 167, 255, 232, 42, 42, 180, 0, 52, 154, 0, 7, 4, 167, 0, 4, 3, 4]
abbrev dktX7_all_2 : List UInt8 := dkwX7_all_2 ++ dktX7_all_3
def dkwX7_all_1 : List UInt8 := [180, 0, 79, 182, 0, 75, 42, 180, 0, 52, 4, 160, 0, 22, 18, 82, 42, 180, 0, 37, 182, 0, 84]
abbrev dktX7_all_1 : List UInt8 := dkwX7_all_1 ++ dktX7_all_2
def dkwX7_all_0 : List UInt8 := [42, 182, 0, 64, 42, 16, 97, 42, 180, 0, 12, 180, 0, 71, 182, 0, 75, 42, 16, 98, 42, 180, 0, 12]
abbrev dktX7_all_0 : List UInt8 := dkwX7_all_0 ++ dktX7_all_1
theorem dksX7_all_0 : cX7_all.data.toList.drop 0 = dktX7_all_0 := by decide +kernel
theorem dksX7_all_1 : cX7_all.data.toList.drop 24 = dktX7_all_1 := dk_seg dksX7_all_0 24 rfl rfl
theorem dksX7_all_2 : cX7_all.data.toList.drop 47 = dktX7_all_2 := dk_seg dksX7_all_1 23 rfl rfl
theorem dksX7_all_3 : cX7_all.data.toList.drop 71 = dktX7_all_3 := dk_seg dksX7_all_2 24 rfl rfl
theorem dX7_all_0 : decode cX7_all 0 = .ok (.aload_n 0, 1) := dk_42 (dk_at dksX7_all_0 0 rfl rfl)
theorem dX7_all_1 : decode cX7_all 1 = .ok (.invokevirtual 64, 3) := dk_182 0 64 (dk_at dksX7_all_0 1 rfl rfl)
theorem dX7_all_4 : decode cX7_all 4 = .ok (.aload_n 0, 1) := dk_42 (dk_at dksX7_all_0 4 rfl rfl)
theorem dX7_all_5 : decode cX7_all 5 = .ok (.bipush 97, 2) := dk_16 97 (dk_at dksX7_all_0 5 rfl rfl)
theorem dX7_all_7 : decode cX7_all 7 = .ok (.aload_n 0, 1) := dk_42 (dk_at dksX7_all_0 7 rfl rfl)
theorem dX7_all_8 : decode cX7_all 8 = .ok (.getfield 12, 3) := dk_180 0 12 (dk_at dksX7_all_0 8 rfl rfl)
theorem dX7_all_11 : decode cX7_all 11 = .ok (.getfield 71, 3) := dk_180 0 71 (dk_at dksX7_all_0 11 rfl rfl)
theorem dX7_all_14 : decode cX7_all 14 = .ok (.invokevirtual 75, 3) := dk_182 0 75 (dk_at dksX7_all_0 14 rfl rfl)
theorem dX7_all_17 : decode cX7_all 17 = .ok (.aload_n 0, 1) := dk_42 (dk_at dksX7_all_0 17 rfl rfl)
theorem dX7_all_18 : decode cX7_all 18 = .ok (.bipush 98, 2) := dk_16 98 (dk_at dksX7_all_0 18 rfl rfl)
theorem dX7_all_20 : decode cX7_all 20 = .ok (.aload_n 0, 1) := dk_42 (dk_at dksX7_all_0 20 rfl rfl)
theorem dX7_all_21 : decode cX7_all 21 = .ok (.getfield 12, 3) := dk_180 0 12 (dk_at dksX7_all_0 21 rfl rfl)
theorem dX7_all_24 : decode cX7_all 24 = .ok (.getfield 79, 3) := dk_180 0 79 (dk_at dksX7_all_1 0 rfl rfl)
theorem dX7_all_27 : decode cX7_all 27 = .ok (.invokevirtual 75, 3) := dk_182 0 75 (dk_at dksX7_all_1 3 rfl rfl)
theorem dX7_all_30 : decode cX7_all 30 = .ok (.aload_n 0, 1) := dk_42 (dk_at dksX7_all_1 6 rfl rfl)
theorem dX7_all_31 : decode cX7_all 31 = .ok (.getfield 52, 3) := dk_180 0 52 (dk_at dksX7_all_1 7 rfl rfl)
theorem dX7_all_34 : decode cX7_all 34 = .ok (.iconst 1, 1) := dk_4 (dk_at dksX7_all_1 10 rfl rfl)
theorem dX7_all_35 : decode cX7_all 35 = .ok (.if_icmp .ne 22, 3) := dk_160 0 22 (dk_at dksX7_all_1 11 rfl rfl)
theorem dX7_all_38 : decode cX7_all 38 = .ok (.ldc 82, 2) := dk_18 82 (dk_at dksX7_all_1 14 rfl rfl)
theorem dX7_all_40 : decode cX7_all 40 = .ok (.aload_n 0, 1) := dk_42 (dk_at dksX7_all_1 16 rfl rfl)
theorem dX7_all_41 : decode cX7_all 41 = .ok (.getfield 37, 3) := dk_180 0 37 (dk_at dksX7_all_1 17 rfl rfl)
theorem dX7_all_44 : decode cX7_all 44 = .ok (.invokevirtual 84, 3) := dk_182 0 84 (dk_at dksX7_all_1 20 rfl rfl)
theorem dX7_all_47 : decode cX7_all 47 = .ok (.ifCond .lt 10, 3) := dk_155 0 10 (dk_at dksX7_all_2 0 rfl rfl)
theorem dX7_all_50 : decode cX7_all 50 = .ok (.aload_n 0, 1) := dk_42 (dk_at dksX7_all_2 3 rfl rfl)
theorem dX7_all_51 : decode cX7_all 51 = .ok (.invokevirtual 90, 3) := dk_182 0 90 (dk_at dksX7_all_2 4 rfl rfl)
theorem dX7_all_54 : decode cX7_all 54 = .ok (.goto (-24), 3) := dk_167 255 232 (dk_at dksX7_all_2 7 rfl rfl)
theorem dX7_all_57 : decode cX7_all 57 = .ok (.aload_n 0, 1) := dk_42 (dk_at dksX7_all_2 10 rfl rfl)
theorem dX7_all_58 : decode cX7_all 58 = .ok (.aload_n 0, 1) := dk_42 (dk_at dksX7_all_2 11 rfl rfl)
theorem dX7_all_59 : decode cX7_all 59 = .ok (.getfield 52, 3) := dk_180 0 52 (dk_at dksX7_all_2 12 rfl rfl)
theorem dX7_all_62 : decode cX7_all 62 = .ok (.ifCond .ne 7, 3) := dk_154 0 7 (dk_at dksX7_all_2 15 rfl rfl)
theorem dX7_all_65 : decode cX7_all 65 = .ok (.iconst 1, 1) := dk_4 (dk_at dksX7_all_2 18 rfl rfl)
theorem dX7_all_66 : decode cX7_all 66 = .ok (.goto 4, 3) := dk_167 0 4 (dk_at dksX7_all_2 19 rfl rfl)
theorem dX7_all_69 : decode cX7_all 69 = .ok (.iconst 0, 1) := dk_3 (dk_at dksX7_all_2 22 rfl rfl)
theorem dX7_all_70 : decode cX7_all 70 = .ok (.iconst 1, 1) := dk_4 (dk_at dksX7_all_2 23 rfl rfl)
theorem dX7_all_71 : decode cX7_all 71 = .ok (.invokevirtual 60, 3) := dk_182 0 60 (dk_at dksX7_all_3 0 rfl rfl)
theorem dX7_all_74 : decode cX7_all 74 = .ok (.aload_n 0, 1) := dk_42 (dk_at dksX7_all_3 3 rfl rfl)
theorem dX7_all_75 : decode cX7_all 75 = .ok (.getfield 12, 3) := dk_180 0 12 (dk_at dksX7_all_3 4 rfl rfl)
theorem dX7_all_78 : decode cX7_all 78 = .ok (.iconst 1, 1) := dk_4 (dk_at dksX7_all_3 7 rfl rfl)
theorem dX7_all_79 : decode cX7_all 79 = .ok (.putfield 93, 3) := dk_181 0 93 (dk_at dksX7_all_3 8 rfl rfl)
theorem dX7_all_82 : decode cX7_all 82 = .ok (.return_, 1) := dk_177 (dk_at dksX7_all_3 11 rfl rfl)
abbrev cX7_next : ByteArray := prog_9_method_3_code
def yX7_next : MethodName := ⟨RX7, "next", "()V"⟩
def dkwX7_next_9 : List UInt8 := [181, 0, 52, 177]
abbrev dktX7_next_9 : List UInt8 := dkwX7_next_9 ++ []
def dkwX7_next_8 : List UInt8 := [167, 255, 190, 42, 42, 180, 0, 26, 42, 180, 0, 30, 100, 5, 164, 0, 7, 7, 167, 0, 4, 5]
abbrev dktX7_next_8 : List UInt8 := dkwX7_next_8 ++ dktX7_next_9
def dkwX7_next_7 : List UInt8 := [96, 16, 48, 100, 167, 0, 7, 42, 180, 0, 37, 181, 0, 37, 42, 89, 180, 0, 26, 4, 96, 181, 0, 26]
abbrev dktX7_next_7 : List UInt8 := dkwX7_next_7 ++ dktX7_next_8
def dkwX7_next_6 : List UInt8 := [42, 180, 0, 26, 42, 180, 0, 30, 4, 96, 160, 0, 21, 16, 10, 42, 180, 0, 37, 104, 42, 182, 0, 33]
abbrev dktX7_next_6 : List UInt8 := dkwX7_next_6 ++ dktX7_next_7
def dkwX7_next_5 : List UInt8 := [16, 48, 100, 181, 0, 37, 42, 182, 0, 33, 133, 20, 0, 48, 20, 0, 50, 184, 0, 44, 153, 0, 55, 42]
abbrev dktX7_next_5 : List UInt8 := dkwX7_next_5 ++ dktX7_next_6
def dkwX7_next_4 : List UInt8 := [16, 59, 160, 0, 7, 6, 167, 0, 4, 7, 181, 0, 52, 42, 180, 0, 52, 5, 159, 0, 4, 177, 42, 27]
abbrev dktX7_next_4 : List UInt8 := dkwX7_next_4 ++ dktX7_next_5
def dkwX7_next_3 : List UInt8 := [20, 0, 48, 20, 0, 50, 184, 0, 44, 153, 0, 7, 5, 167, 0, 20, 27, 16, 44, 159, 0, 9, 27]
abbrev dktX7_next_3 : List UInt8 := dkwX7_next_3 ++ dktX7_next_4
def dkwX7_next_2 : List UInt8 := [167, 0, 56, 27, 133, 20, 0, 40, 20, 0, 42, 184, 0, 44, 153, 0, 7, 4, 167, 0, 38, 27, 133]
abbrev dktX7_next_2 : List UInt8 := dkwX7_next_2 ++ dktX7_next_3
def dkwX7_next_1 : List UInt8 := [18, 29, 160, 0, 7, 3, 167, 0, 4, 4, 96, 181, 0, 26, 42, 27, 18, 29, 160, 0, 7, 3]
abbrev dktX7_next_1 : List UInt8 := dkwX7_next_1 ++ dktX7_next_2
def dkwX7_next_0 : List UInt8 := [42, 42, 180, 0, 26, 181, 0, 30, 42, 182, 0, 33, 60, 42, 27, 181, 0, 37, 42, 89, 180, 0, 26, 27]
abbrev dktX7_next_0 : List UInt8 := dkwX7_next_0 ++ dktX7_next_1
theorem dksX7_next_0 : cX7_next.data.toList.drop 0 = dktX7_next_0 := by decide +kernel
theorem dksX7_next_1 : cX7_next.data.toList.drop 24 = dktX7_next_1 := dk_seg dksX7_next_0 24 rfl rfl
theorem dksX7_next_2 : cX7_next.data.toList.drop 46 = dktX7_next_2 := dk_seg dksX7_next_1 22 rfl rfl
theorem dksX7_next_3 : cX7_next.data.toList.drop 69 = dktX7_next_3 := dk_seg dksX7_next_2 23 rfl rfl
theorem dksX7_next_4 : cX7_next.data.toList.drop 92 = dktX7_next_4 := dk_seg dksX7_next_3 23 rfl rfl
theorem dksX7_next_5 : cX7_next.data.toList.drop 116 = dktX7_next_5 := dk_seg dksX7_next_4 24 rfl rfl
theorem dksX7_next_6 : cX7_next.data.toList.drop 140 = dktX7_next_6 := dk_seg dksX7_next_5 24 rfl rfl
theorem dksX7_next_7 : cX7_next.data.toList.drop 164 = dktX7_next_7 := dk_seg dksX7_next_6 24 rfl rfl
theorem dksX7_next_8 : cX7_next.data.toList.drop 188 = dktX7_next_8 := dk_seg dksX7_next_7 24 rfl rfl
theorem dksX7_next_9 : cX7_next.data.toList.drop 210 = dktX7_next_9 := dk_seg dksX7_next_8 22 rfl rfl
theorem dX7_next_0 : decode cX7_next 0 = .ok (.aload_n 0, 1) := dk_42 (dk_at dksX7_next_0 0 rfl rfl)
theorem dX7_next_1 : decode cX7_next 1 = .ok (.aload_n 0, 1) := dk_42 (dk_at dksX7_next_0 1 rfl rfl)
theorem dX7_next_2 : decode cX7_next 2 = .ok (.getfield 26, 3) := dk_180 0 26 (dk_at dksX7_next_0 2 rfl rfl)
theorem dX7_next_5 : decode cX7_next 5 = .ok (.putfield 30, 3) := dk_181 0 30 (dk_at dksX7_next_0 5 rfl rfl)
theorem dX7_next_8 : decode cX7_next 8 = .ok (.aload_n 0, 1) := dk_42 (dk_at dksX7_next_0 8 rfl rfl)
theorem dX7_next_9 : decode cX7_next 9 = .ok (.invokevirtual 33, 3) := dk_182 0 33 (dk_at dksX7_next_0 9 rfl rfl)
theorem dX7_next_12 : decode cX7_next 12 = .ok (.istore_n 1, 1) := dk_60 (dk_at dksX7_next_0 12 rfl rfl)
theorem dX7_next_13 : decode cX7_next 13 = .ok (.aload_n 0, 1) := dk_42 (dk_at dksX7_next_0 13 rfl rfl)
theorem dX7_next_14 : decode cX7_next 14 = .ok (.iload_n 1, 1) := dk_27 (dk_at dksX7_next_0 14 rfl rfl)
theorem dX7_next_15 : decode cX7_next 15 = .ok (.putfield 37, 3) := dk_181 0 37 (dk_at dksX7_next_0 15 rfl rfl)
theorem dX7_next_18 : decode cX7_next 18 = .ok (.aload_n 0, 1) := dk_42 (dk_at dksX7_next_0 18 rfl rfl)
theorem dX7_next_19 : decode cX7_next 19 = .ok (.dup, 1) := dk_89 (dk_at dksX7_next_0 19 rfl rfl)
theorem dX7_next_20 : decode cX7_next 20 = .ok (.getfield 26, 3) := dk_180 0 26 (dk_at dksX7_next_0 20 rfl rfl)
theorem dX7_next_23 : decode cX7_next 23 = .ok (.iload_n 1, 1) := dk_27 (dk_at dksX7_next_0 23 rfl rfl)
theorem dX7_next_24 : decode cX7_next 24 = .ok (.ldc 29, 2) := dk_18 29 (dk_at dksX7_next_1 0 rfl rfl)
theorem dX7_next_26 : decode cX7_next 26 = .ok (.if_icmp .ne 7, 3) := dk_160 0 7 (dk_at dksX7_next_1 2 rfl rfl)
theorem dX7_next_29 : decode cX7_next 29 = .ok (.iconst 0, 1) := dk_3 (dk_at dksX7_next_1 5 rfl rfl)
theorem dX7_next_30 : decode cX7_next 30 = .ok (.goto 4, 3) := dk_167 0 4 (dk_at dksX7_next_1 6 rfl rfl)
theorem dX7_next_33 : decode cX7_next 33 = .ok (.iconst 1, 1) := dk_4 (dk_at dksX7_next_1 9 rfl rfl)
theorem dX7_next_34 : decode cX7_next 34 = .ok (.iadd, 1) := dk_96 (dk_at dksX7_next_1 10 rfl rfl)
theorem dX7_next_35 : decode cX7_next 35 = .ok (.putfield 26, 3) := dk_181 0 26 (dk_at dksX7_next_1 11 rfl rfl)
theorem dX7_next_38 : decode cX7_next 38 = .ok (.aload_n 0, 1) := dk_42 (dk_at dksX7_next_1 14 rfl rfl)
theorem dX7_next_39 : decode cX7_next 39 = .ok (.iload_n 1, 1) := dk_27 (dk_at dksX7_next_1 15 rfl rfl)
theorem dX7_next_40 : decode cX7_next 40 = .ok (.ldc 29, 2) := dk_18 29 (dk_at dksX7_next_1 16 rfl rfl)
theorem dX7_next_42 : decode cX7_next 42 = .ok (.if_icmp .ne 7, 3) := dk_160 0 7 (dk_at dksX7_next_1 18 rfl rfl)
theorem dX7_next_45 : decode cX7_next 45 = .ok (.iconst 0, 1) := dk_3 (dk_at dksX7_next_1 21 rfl rfl)
theorem dX7_next_46 : decode cX7_next 46 = .ok (.goto 56, 3) := dk_167 0 56 (dk_at dksX7_next_2 0 rfl rfl)
theorem dX7_next_49 : decode cX7_next 49 = .ok (.iload_n 1, 1) := dk_27 (dk_at dksX7_next_2 3 rfl rfl)
theorem dX7_next_50 : decode cX7_next 50 = .ok (.i2l, 1) := dk_133 (dk_at dksX7_next_2 4 rfl rfl)
theorem dX7_next_51 : decode cX7_next 51 = .ok (.ldc2_w 40, 3) := dk_20 0 40 (dk_at dksX7_next_2 5 rfl rfl)
theorem dX7_next_54 : decode cX7_next 54 = .ok (.ldc2_w 42, 3) := dk_20 0 42 (dk_at dksX7_next_2 8 rfl rfl)
theorem dX7_next_57 : decode cX7_next 57 = .ok (.invokestatic 44, 3) := dk_184 0 44 (dk_at dksX7_next_2 11 rfl rfl)
theorem dX7_next_60 : decode cX7_next 60 = .ok (.ifCond .eq 7, 3) := dk_153 0 7 (dk_at dksX7_next_2 14 rfl rfl)
theorem dX7_next_63 : decode cX7_next 63 = .ok (.iconst 1, 1) := dk_4 (dk_at dksX7_next_2 17 rfl rfl)
theorem dX7_next_64 : decode cX7_next 64 = .ok (.goto 38, 3) := dk_167 0 38 (dk_at dksX7_next_2 18 rfl rfl)
theorem dX7_next_67 : decode cX7_next 67 = .ok (.iload_n 1, 1) := dk_27 (dk_at dksX7_next_2 21 rfl rfl)
theorem dX7_next_68 : decode cX7_next 68 = .ok (.i2l, 1) := dk_133 (dk_at dksX7_next_2 22 rfl rfl)
theorem dX7_next_69 : decode cX7_next 69 = .ok (.ldc2_w 48, 3) := dk_20 0 48 (dk_at dksX7_next_3 0 rfl rfl)
theorem dX7_next_72 : decode cX7_next 72 = .ok (.ldc2_w 50, 3) := dk_20 0 50 (dk_at dksX7_next_3 3 rfl rfl)
theorem dX7_next_75 : decode cX7_next 75 = .ok (.invokestatic 44, 3) := dk_184 0 44 (dk_at dksX7_next_3 6 rfl rfl)
theorem dX7_next_78 : decode cX7_next 78 = .ok (.ifCond .eq 7, 3) := dk_153 0 7 (dk_at dksX7_next_3 9 rfl rfl)
theorem dX7_next_81 : decode cX7_next 81 = .ok (.iconst 2, 1) := dk_5 (dk_at dksX7_next_3 12 rfl rfl)
theorem dX7_next_82 : decode cX7_next 82 = .ok (.goto 20, 3) := dk_167 0 20 (dk_at dksX7_next_3 13 rfl rfl)
theorem dX7_next_85 : decode cX7_next 85 = .ok (.iload_n 1, 1) := dk_27 (dk_at dksX7_next_3 16 rfl rfl)
theorem dX7_next_86 : decode cX7_next 86 = .ok (.bipush 44, 2) := dk_16 44 (dk_at dksX7_next_3 17 rfl rfl)
theorem dX7_next_88 : decode cX7_next 88 = .ok (.if_icmp .eq 9, 3) := dk_159 0 9 (dk_at dksX7_next_3 19 rfl rfl)
theorem dX7_next_91 : decode cX7_next 91 = .ok (.iload_n 1, 1) := dk_27 (dk_at dksX7_next_3 22 rfl rfl)
theorem dX7_next_92 : decode cX7_next 92 = .ok (.bipush 59, 2) := dk_16 59 (dk_at dksX7_next_4 0 rfl rfl)
theorem dX7_next_94 : decode cX7_next 94 = .ok (.if_icmp .ne 7, 3) := dk_160 0 7 (dk_at dksX7_next_4 2 rfl rfl)
theorem dX7_next_97 : decode cX7_next 97 = .ok (.iconst 3, 1) := dk_6 (dk_at dksX7_next_4 5 rfl rfl)
theorem dX7_next_98 : decode cX7_next 98 = .ok (.goto 4, 3) := dk_167 0 4 (dk_at dksX7_next_4 6 rfl rfl)
theorem dX7_next_101 : decode cX7_next 101 = .ok (.iconst 4, 1) := dk_7 (dk_at dksX7_next_4 9 rfl rfl)
theorem dX7_next_102 : decode cX7_next 102 = .ok (.putfield 52, 3) := dk_181 0 52 (dk_at dksX7_next_4 10 rfl rfl)
theorem dX7_next_105 : decode cX7_next 105 = .ok (.aload_n 0, 1) := dk_42 (dk_at dksX7_next_4 13 rfl rfl)
theorem dX7_next_106 : decode cX7_next 106 = .ok (.getfield 52, 3) := dk_180 0 52 (dk_at dksX7_next_4 14 rfl rfl)
theorem dX7_next_109 : decode cX7_next 109 = .ok (.iconst 2, 1) := dk_5 (dk_at dksX7_next_4 17 rfl rfl)
theorem dX7_next_110 : decode cX7_next 110 = .ok (.if_icmp .eq 4, 3) := dk_159 0 4 (dk_at dksX7_next_4 18 rfl rfl)
theorem dX7_next_113 : decode cX7_next 113 = .ok (.return_, 1) := dk_177 (dk_at dksX7_next_4 21 rfl rfl)
theorem dX7_next_114 : decode cX7_next 114 = .ok (.aload_n 0, 1) := dk_42 (dk_at dksX7_next_4 22 rfl rfl)
theorem dX7_next_115 : decode cX7_next 115 = .ok (.iload_n 1, 1) := dk_27 (dk_at dksX7_next_4 23 rfl rfl)
theorem dX7_next_116 : decode cX7_next 116 = .ok (.bipush 48, 2) := dk_16 48 (dk_at dksX7_next_5 0 rfl rfl)
theorem dX7_next_118 : decode cX7_next 118 = .ok (.isub, 1) := dk_100 (dk_at dksX7_next_5 2 rfl rfl)
theorem dX7_next_119 : decode cX7_next 119 = .ok (.putfield 37, 3) := dk_181 0 37 (dk_at dksX7_next_5 3 rfl rfl)
theorem dX7_next_122 : decode cX7_next 122 = .ok (.aload_n 0, 1) := dk_42 (dk_at dksX7_next_5 6 rfl rfl)
theorem dX7_next_123 : decode cX7_next 123 = .ok (.invokevirtual 33, 3) := dk_182 0 33 (dk_at dksX7_next_5 7 rfl rfl)
theorem dX7_next_126 : decode cX7_next 126 = .ok (.i2l, 1) := dk_133 (dk_at dksX7_next_5 10 rfl rfl)
theorem dX7_next_127 : decode cX7_next 127 = .ok (.ldc2_w 48, 3) := dk_20 0 48 (dk_at dksX7_next_5 11 rfl rfl)
theorem dX7_next_130 : decode cX7_next 130 = .ok (.ldc2_w 50, 3) := dk_20 0 50 (dk_at dksX7_next_5 14 rfl rfl)
theorem dX7_next_133 : decode cX7_next 133 = .ok (.invokestatic 44, 3) := dk_184 0 44 (dk_at dksX7_next_5 17 rfl rfl)
theorem dX7_next_136 : decode cX7_next 136 = .ok (.ifCond .eq 55, 3) := dk_153 0 55 (dk_at dksX7_next_5 20 rfl rfl)
theorem dX7_next_139 : decode cX7_next 139 = .ok (.aload_n 0, 1) := dk_42 (dk_at dksX7_next_5 23 rfl rfl)
theorem dX7_next_140 : decode cX7_next 140 = .ok (.aload_n 0, 1) := dk_42 (dk_at dksX7_next_6 0 rfl rfl)
theorem dX7_next_141 : decode cX7_next 141 = .ok (.getfield 26, 3) := dk_180 0 26 (dk_at dksX7_next_6 1 rfl rfl)
theorem dX7_next_144 : decode cX7_next 144 = .ok (.aload_n 0, 1) := dk_42 (dk_at dksX7_next_6 4 rfl rfl)
theorem dX7_next_145 : decode cX7_next 145 = .ok (.getfield 30, 3) := dk_180 0 30 (dk_at dksX7_next_6 5 rfl rfl)
theorem dX7_next_148 : decode cX7_next 148 = .ok (.iconst 1, 1) := dk_4 (dk_at dksX7_next_6 8 rfl rfl)
theorem dX7_next_149 : decode cX7_next 149 = .ok (.iadd, 1) := dk_96 (dk_at dksX7_next_6 9 rfl rfl)
theorem dX7_next_150 : decode cX7_next 150 = .ok (.if_icmp .ne 21, 3) := dk_160 0 21 (dk_at dksX7_next_6 10 rfl rfl)
theorem dX7_next_153 : decode cX7_next 153 = .ok (.bipush 10, 2) := dk_16 10 (dk_at dksX7_next_6 13 rfl rfl)
theorem dX7_next_155 : decode cX7_next 155 = .ok (.aload_n 0, 1) := dk_42 (dk_at dksX7_next_6 15 rfl rfl)
theorem dX7_next_156 : decode cX7_next 156 = .ok (.getfield 37, 3) := dk_180 0 37 (dk_at dksX7_next_6 16 rfl rfl)
theorem dX7_next_159 : decode cX7_next 159 = .ok (.imul, 1) := dk_104 (dk_at dksX7_next_6 19 rfl rfl)
theorem dX7_next_160 : decode cX7_next 160 = .ok (.aload_n 0, 1) := dk_42 (dk_at dksX7_next_6 20 rfl rfl)
theorem dX7_next_161 : decode cX7_next 161 = .ok (.invokevirtual 33, 3) := dk_182 0 33 (dk_at dksX7_next_6 21 rfl rfl)
theorem dX7_next_164 : decode cX7_next 164 = .ok (.iadd, 1) := dk_96 (dk_at dksX7_next_7 0 rfl rfl)
theorem dX7_next_165 : decode cX7_next 165 = .ok (.bipush 48, 2) := dk_16 48 (dk_at dksX7_next_7 1 rfl rfl)
theorem dX7_next_167 : decode cX7_next 167 = .ok (.isub, 1) := dk_100 (dk_at dksX7_next_7 3 rfl rfl)
theorem dX7_next_168 : decode cX7_next 168 = .ok (.goto 7, 3) := dk_167 0 7 (dk_at dksX7_next_7 4 rfl rfl)
theorem dX7_next_171 : decode cX7_next 171 = .ok (.aload_n 0, 1) := dk_42 (dk_at dksX7_next_7 7 rfl rfl)
theorem dX7_next_172 : decode cX7_next 172 = .ok (.getfield 37, 3) := dk_180 0 37 (dk_at dksX7_next_7 8 rfl rfl)
theorem dX7_next_175 : decode cX7_next 175 = .ok (.putfield 37, 3) := dk_181 0 37 (dk_at dksX7_next_7 11 rfl rfl)
theorem dX7_next_178 : decode cX7_next 178 = .ok (.aload_n 0, 1) := dk_42 (dk_at dksX7_next_7 14 rfl rfl)
theorem dX7_next_179 : decode cX7_next 179 = .ok (.dup, 1) := dk_89 (dk_at dksX7_next_7 15 rfl rfl)
theorem dX7_next_180 : decode cX7_next 180 = .ok (.getfield 26, 3) := dk_180 0 26 (dk_at dksX7_next_7 16 rfl rfl)
theorem dX7_next_183 : decode cX7_next 183 = .ok (.iconst 1, 1) := dk_4 (dk_at dksX7_next_7 19 rfl rfl)
theorem dX7_next_184 : decode cX7_next 184 = .ok (.iadd, 1) := dk_96 (dk_at dksX7_next_7 20 rfl rfl)
theorem dX7_next_185 : decode cX7_next 185 = .ok (.putfield 26, 3) := dk_181 0 26 (dk_at dksX7_next_7 21 rfl rfl)
theorem dX7_next_188 : decode cX7_next 188 = .ok (.goto (-66), 3) := dk_167 255 190 (dk_at dksX7_next_8 0 rfl rfl)
theorem dX7_next_191 : decode cX7_next 191 = .ok (.aload_n 0, 1) := dk_42 (dk_at dksX7_next_8 3 rfl rfl)
theorem dX7_next_192 : decode cX7_next 192 = .ok (.aload_n 0, 1) := dk_42 (dk_at dksX7_next_8 4 rfl rfl)
theorem dX7_next_193 : decode cX7_next 193 = .ok (.getfield 26, 3) := dk_180 0 26 (dk_at dksX7_next_8 5 rfl rfl)
theorem dX7_next_196 : decode cX7_next 196 = .ok (.aload_n 0, 1) := dk_42 (dk_at dksX7_next_8 8 rfl rfl)
theorem dX7_next_197 : decode cX7_next 197 = .ok (.getfield 30, 3) := dk_180 0 30 (dk_at dksX7_next_8 9 rfl rfl)
theorem dX7_next_200 : decode cX7_next 200 = .ok (.isub, 1) := dk_100 (dk_at dksX7_next_8 12 rfl rfl)
theorem dX7_next_201 : decode cX7_next 201 = .ok (.iconst 2, 1) := dk_5 (dk_at dksX7_next_8 13 rfl rfl)
theorem dX7_next_202 : decode cX7_next 202 = .ok (.if_icmp .le 7, 3) := dk_164 0 7 (dk_at dksX7_next_8 14 rfl rfl)
theorem dX7_next_205 : decode cX7_next 205 = .ok (.iconst 4, 1) := dk_7 (dk_at dksX7_next_8 17 rfl rfl)
theorem dX7_next_206 : decode cX7_next 206 = .ok (.goto 4, 3) := dk_167 0 4 (dk_at dksX7_next_8 18 rfl rfl)
theorem dX7_next_209 : decode cX7_next 209 = .ok (.iconst 2, 1) := dk_5 (dk_at dksX7_next_8 21 rfl rfl)
theorem dX7_next_210 : decode cX7_next 210 = .ok (.putfield 52, 3) := dk_181 0 52 (dk_at dksX7_next_9 0 rfl rfl)
theorem dX7_next_213 : decode cX7_next 213 = .ok (.return_, 1) := dk_177 (dk_at dksX7_next_9 3 rfl rfl)
abbrev cX7_look : ByteArray := prog_9_method_2_code
def yX7_look : MethodName := ⟨RX7, "look", "()I"⟩
def dkwX7_look_1 : List UInt8 := [167, 0, 5, 18, 29, 172]
abbrev dktX7_look_1 : List UInt8 := dkwX7_look_1 ++ []
def dkwX7_look_0 : List UInt8 := [42, 180, 0, 26, 42, 180, 0, 22, 162, 0, 19, 42, 180, 0, 18, 42, 180, 0, 26, 51, 17, 0, 255, 126]
abbrev dktX7_look_0 : List UInt8 := dkwX7_look_0 ++ dktX7_look_1
theorem dksX7_look_0 : cX7_look.data.toList.drop 0 = dktX7_look_0 := by decide +kernel
theorem dksX7_look_1 : cX7_look.data.toList.drop 24 = dktX7_look_1 := dk_seg dksX7_look_0 24 rfl rfl
theorem dX7_look_0 : decode cX7_look 0 = .ok (.aload_n 0, 1) := dk_42 (dk_at dksX7_look_0 0 rfl rfl)
theorem dX7_look_1 : decode cX7_look 1 = .ok (.getfield 26, 3) := dk_180 0 26 (dk_at dksX7_look_0 1 rfl rfl)
theorem dX7_look_4 : decode cX7_look 4 = .ok (.aload_n 0, 1) := dk_42 (dk_at dksX7_look_0 4 rfl rfl)
theorem dX7_look_5 : decode cX7_look 5 = .ok (.getfield 22, 3) := dk_180 0 22 (dk_at dksX7_look_0 5 rfl rfl)
theorem dX7_look_8 : decode cX7_look 8 = .ok (.if_icmp .ge 19, 3) := dk_162 0 19 (dk_at dksX7_look_0 8 rfl rfl)
theorem dX7_look_11 : decode cX7_look 11 = .ok (.aload_n 0, 1) := dk_42 (dk_at dksX7_look_0 11 rfl rfl)
theorem dX7_look_12 : decode cX7_look 12 = .ok (.getfield 18, 3) := dk_180 0 18 (dk_at dksX7_look_0 12 rfl rfl)
theorem dX7_look_15 : decode cX7_look 15 = .ok (.aload_n 0, 1) := dk_42 (dk_at dksX7_look_0 15 rfl rfl)
theorem dX7_look_16 : decode cX7_look 16 = .ok (.getfield 26, 3) := dk_180 0 26 (dk_at dksX7_look_0 16 rfl rfl)
theorem dX7_look_19 : decode cX7_look 19 = .ok (.baload, 1) := dk_51 (dk_at dksX7_look_0 19 rfl rfl)
theorem dX7_look_20 : decode cX7_look 20 = .ok (.sipush 255, 3) := dk_17 0 255 (dk_at dksX7_look_0 20 rfl rfl)
theorem dX7_look_23 : decode cX7_look 23 = .ok (.iand, 1) := dk_126 (dk_at dksX7_look_0 23 rfl rfl)
theorem dX7_look_24 : decode cX7_look 24 = .ok (.goto 5, 3) := dk_167 0 5 (dk_at dksX7_look_1 0 rfl rfl)
theorem dX7_look_27 : decode cX7_look 27 = .ok (.ldc 29, 2) := dk_18 29 (dk_at dksX7_look_1 3 rfl rfl)
theorem dX7_look_29 : decode cX7_look 29 = .ok (.ireturn, 1) := dk_172 (dk_at dksX7_look_1 5 rfl rfl)
abbrev cX7_four : ByteArray := prog_9_method_9_code
def yX7_four : MethodName := ⟨RX7, "four", "(C[I)V"⟩
def dkwX7_four_2 : List UInt8 := [132, 3, 1, 167, 255, 222, 177]
abbrev dktX7_four_2 : List UInt8 := dkwX7_four_2 ++ []
def dkwX7_four_1 : List UInt8 := [42, 3, 16, 31, 182, 0, 97, 79, 42, 29, 6, 162, 0, 8, 16, 44, 167, 0, 5, 16, 59, 182, 0, 101]
abbrev dktX7_four_1 : List UInt8 := dkwX7_four_1 ++ dktX7_four_2
def dkwX7_four_0 : List UInt8 := [42, 42, 4, 27, 182, 0, 67, 4, 182, 0, 60, 42, 182, 0, 64, 3, 62, 29, 7, 162, 0, 35, 44, 29]
abbrev dktX7_four_0 : List UInt8 := dkwX7_four_0 ++ dktX7_four_1
theorem dksX7_four_0 : cX7_four.data.toList.drop 0 = dktX7_four_0 := by decide +kernel
theorem dksX7_four_1 : cX7_four.data.toList.drop 24 = dktX7_four_1 := dk_seg dksX7_four_0 24 rfl rfl
theorem dksX7_four_2 : cX7_four.data.toList.drop 48 = dktX7_four_2 := dk_seg dksX7_four_1 24 rfl rfl
theorem dX7_four_0 : decode cX7_four 0 = .ok (.aload_n 0, 1) := dk_42 (dk_at dksX7_four_0 0 rfl rfl)
theorem dX7_four_1 : decode cX7_four 1 = .ok (.aload_n 0, 1) := dk_42 (dk_at dksX7_four_0 1 rfl rfl)
theorem dX7_four_2 : decode cX7_four 2 = .ok (.iconst 1, 1) := dk_4 (dk_at dksX7_four_0 2 rfl rfl)
theorem dX7_four_3 : decode cX7_four 3 = .ok (.iload_n 1, 1) := dk_27 (dk_at dksX7_four_0 3 rfl rfl)
theorem dX7_four_4 : decode cX7_four 4 = .ok (.invokevirtual 67, 3) := dk_182 0 67 (dk_at dksX7_four_0 4 rfl rfl)
theorem dX7_four_7 : decode cX7_four 7 = .ok (.iconst 1, 1) := dk_4 (dk_at dksX7_four_0 7 rfl rfl)
theorem dX7_four_8 : decode cX7_four 8 = .ok (.invokevirtual 60, 3) := dk_182 0 60 (dk_at dksX7_four_0 8 rfl rfl)
theorem dX7_four_11 : decode cX7_four 11 = .ok (.aload_n 0, 1) := dk_42 (dk_at dksX7_four_0 11 rfl rfl)
theorem dX7_four_12 : decode cX7_four 12 = .ok (.invokevirtual 64, 3) := dk_182 0 64 (dk_at dksX7_four_0 12 rfl rfl)
theorem dX7_four_15 : decode cX7_four 15 = .ok (.iconst 0, 1) := dk_3 (dk_at dksX7_four_0 15 rfl rfl)
theorem dX7_four_16 : decode cX7_four 16 = .ok (.istore_n 3, 1) := dk_62 (dk_at dksX7_four_0 16 rfl rfl)
theorem dX7_four_17 : decode cX7_four 17 = .ok (.iload_n 3, 1) := dk_29 (dk_at dksX7_four_0 17 rfl rfl)
theorem dX7_four_18 : decode cX7_four 18 = .ok (.iconst 4, 1) := dk_7 (dk_at dksX7_four_0 18 rfl rfl)
theorem dX7_four_19 : decode cX7_four 19 = .ok (.if_icmp .ge 35, 3) := dk_162 0 35 (dk_at dksX7_four_0 19 rfl rfl)
theorem dX7_four_22 : decode cX7_four 22 = .ok (.aload_n 2, 1) := dk_44 (dk_at dksX7_four_0 22 rfl rfl)
theorem dX7_four_23 : decode cX7_four 23 = .ok (.iload_n 3, 1) := dk_29 (dk_at dksX7_four_0 23 rfl rfl)
theorem dX7_four_24 : decode cX7_four 24 = .ok (.aload_n 0, 1) := dk_42 (dk_at dksX7_four_1 0 rfl rfl)
theorem dX7_four_25 : decode cX7_four 25 = .ok (.iconst 0, 1) := dk_3 (dk_at dksX7_four_1 1 rfl rfl)
theorem dX7_four_26 : decode cX7_four 26 = .ok (.bipush 31, 2) := dk_16 31 (dk_at dksX7_four_1 2 rfl rfl)
theorem dX7_four_28 : decode cX7_four 28 = .ok (.invokevirtual 97, 3) := dk_182 0 97 (dk_at dksX7_four_1 4 rfl rfl)
theorem dX7_four_31 : decode cX7_four 31 = .ok (.iastore, 1) := dk_79 (dk_at dksX7_four_1 7 rfl rfl)
theorem dX7_four_32 : decode cX7_four 32 = .ok (.aload_n 0, 1) := dk_42 (dk_at dksX7_four_1 8 rfl rfl)
theorem dX7_four_33 : decode cX7_four 33 = .ok (.iload_n 3, 1) := dk_29 (dk_at dksX7_four_1 9 rfl rfl)
theorem dX7_four_34 : decode cX7_four 34 = .ok (.iconst 3, 1) := dk_6 (dk_at dksX7_four_1 10 rfl rfl)
theorem dX7_four_35 : decode cX7_four 35 = .ok (.if_icmp .ge 8, 3) := dk_162 0 8 (dk_at dksX7_four_1 11 rfl rfl)
theorem dX7_four_38 : decode cX7_four 38 = .ok (.bipush 44, 2) := dk_16 44 (dk_at dksX7_four_1 14 rfl rfl)
theorem dX7_four_40 : decode cX7_four 40 = .ok (.goto 5, 3) := dk_167 0 5 (dk_at dksX7_four_1 16 rfl rfl)
theorem dX7_four_43 : decode cX7_four 43 = .ok (.bipush 59, 2) := dk_16 59 (dk_at dksX7_four_1 19 rfl rfl)
theorem dX7_four_45 : decode cX7_four 45 = .ok (.invokevirtual 101, 3) := dk_182 0 101 (dk_at dksX7_four_1 21 rfl rfl)
theorem dX7_four_48 : decode cX7_four 48 = .ok (.iinc 3 1, 3) := dk_132 3 1 (dk_at dksX7_four_2 0 rfl rfl)
theorem dX7_four_51 : decode cX7_four 51 = .ok (.goto (-34), 3) := dk_167 255 222 (dk_at dksX7_four_2 3 rfl rfl)
theorem dX7_four_54 : decode cX7_four 54 = .ok (.return_, 1) := dk_177 (dk_at dksX7_four_2 6 rfl rfl)
abbrev cX7_is : ByteArray := prog_9_method_5_code
def yX7_is : MethodName := ⟨RX7, "is", "(II)Z"⟩
def dkwX7_is_0 : List UInt8 := [42, 180, 0, 52, 27, 160, 0, 15, 42, 180, 0, 37, 28, 160, 0, 7, 4, 167, 0, 4, 3, 172]
abbrev dktX7_is_0 : List UInt8 := dkwX7_is_0 ++ []
theorem dksX7_is_0 : cX7_is.data.toList.drop 0 = dktX7_is_0 := by decide +kernel
theorem dX7_is_0 : decode cX7_is 0 = .ok (.aload_n 0, 1) := dk_42 (dk_at dksX7_is_0 0 rfl rfl)
theorem dX7_is_1 : decode cX7_is 1 = .ok (.getfield 52, 3) := dk_180 0 52 (dk_at dksX7_is_0 1 rfl rfl)
theorem dX7_is_4 : decode cX7_is 4 = .ok (.iload_n 1, 1) := dk_27 (dk_at dksX7_is_0 4 rfl rfl)
theorem dX7_is_5 : decode cX7_is 5 = .ok (.if_icmp .ne 15, 3) := dk_160 0 15 (dk_at dksX7_is_0 5 rfl rfl)
theorem dX7_is_8 : decode cX7_is 8 = .ok (.aload_n 0, 1) := dk_42 (dk_at dksX7_is_0 8 rfl rfl)
theorem dX7_is_9 : decode cX7_is 9 = .ok (.getfield 37, 3) := dk_180 0 37 (dk_at dksX7_is_0 9 rfl rfl)
theorem dX7_is_12 : decode cX7_is 12 = .ok (.iload_n 2, 1) := dk_28 (dk_at dksX7_is_0 12 rfl rfl)
theorem dX7_is_13 : decode cX7_is 13 = .ok (.if_icmp .ne 7, 3) := dk_160 0 7 (dk_at dksX7_is_0 13 rfl rfl)
theorem dX7_is_16 : decode cX7_is 16 = .ok (.iconst 1, 1) := dk_4 (dk_at dksX7_is_0 16 rfl rfl)
theorem dX7_is_17 : decode cX7_is 17 = .ok (.goto 4, 3) := dk_167 0 4 (dk_at dksX7_is_0 17 rfl rfl)
theorem dX7_is_20 : decode cX7_is 20 = .ok (.iconst 0, 1) := dk_3 (dk_at dksX7_is_0 20 rfl rfl)
theorem dX7_is_21 : decode cX7_is 21 = .ok (.ireturn, 1) := dk_172 (dk_at dksX7_is_0 21 rfl rfl)
abbrev cX7_must : ByteArray := prog_9_method_4_code
def yX7_must : MethodName := ⟨RX7, "must", "(ZI)V"⟩
def dkwX7_must_0 : List UInt8 := [27, 154, 0, 16, 187, 0, 55, 89, 28, 42, 180, 0, 30, 183, 0, 57, 191, 177]
abbrev dktX7_must_0 : List UInt8 := dkwX7_must_0 ++ []
theorem dksX7_must_0 : cX7_must.data.toList.drop 0 = dktX7_must_0 := by decide +kernel
theorem dX7_must_0 : decode cX7_must 0 = .ok (.iload_n 1, 1) := dk_27 (dk_at dksX7_must_0 0 rfl rfl)
theorem dX7_must_1 : decode cX7_must 1 = .ok (.ifCond .ne 16, 3) := dk_154 0 16 (dk_at dksX7_must_0 1 rfl rfl)
theorem dX7_must_4 : decode cX7_must 4 = .ok (.new 55, 3) := dk_187 0 55 (dk_at dksX7_must_0 4 rfl rfl)
theorem dX7_must_7 : decode cX7_must 7 = .ok (.dup, 1) := dk_89 (dk_at dksX7_must_0 7 rfl rfl)
theorem dX7_must_8 : decode cX7_must 8 = .ok (.iload_n 2, 1) := dk_28 (dk_at dksX7_must_0 8 rfl rfl)
theorem dX7_must_9 : decode cX7_must 9 = .ok (.aload_n 0, 1) := dk_42 (dk_at dksX7_must_0 9 rfl rfl)
theorem dX7_must_10 : decode cX7_must 10 = .ok (.getfield 30, 3) := dk_180 0 30 (dk_at dksX7_must_0 10 rfl rfl)
theorem dX7_must_13 : decode cX7_must 13 = .ok (.invokespecial 57, 3) := dk_183 0 57 (dk_at dksX7_must_0 13 rfl rfl)
theorem dX7_must_16 : decode cX7_must 16 = .ok (.athrow, 1) := dk_191 (dk_at dksX7_must_0 16 rfl rfl)
theorem dX7_must_17 : decode cX7_must 17 = .ok (.return_, 1) := dk_177 (dk_at dksX7_must_0 17 rfl rfl)
abbrev cX7_figure : ByteArray := prog_9_method_6_code
def yX7_figure : MethodName := ⟨RX7, "figure", "(II)I"⟩
def dkwX7_figure_1 : List UInt8 := [27, 133, 28, 133, 184, 0, 44, 5, 182, 0, 60, 42, 180, 0, 37, 62, 42, 182, 0, 64, 29, 172]
abbrev dktX7_figure_1 : List UInt8 := dkwX7_figure_1 ++ []
def dkwX7_figure_0 : List UInt8 := [42, 42, 180, 0, 52, 5, 160, 0, 7, 4, 167, 0, 4, 3, 4, 182, 0, 60, 42, 42, 180, 0, 37, 133]
abbrev dktX7_figure_0 : List UInt8 := dkwX7_figure_0 ++ dktX7_figure_1
theorem dksX7_figure_0 : cX7_figure.data.toList.drop 0 = dktX7_figure_0 := by decide +kernel
theorem dksX7_figure_1 : cX7_figure.data.toList.drop 24 = dktX7_figure_1 := dk_seg dksX7_figure_0 24 rfl rfl
theorem dX7_figure_0 : decode cX7_figure 0 = .ok (.aload_n 0, 1) := dk_42 (dk_at dksX7_figure_0 0 rfl rfl)
theorem dX7_figure_1 : decode cX7_figure 1 = .ok (.aload_n 0, 1) := dk_42 (dk_at dksX7_figure_0 1 rfl rfl)
theorem dX7_figure_2 : decode cX7_figure 2 = .ok (.getfield 52, 3) := dk_180 0 52 (dk_at dksX7_figure_0 2 rfl rfl)
theorem dX7_figure_5 : decode cX7_figure 5 = .ok (.iconst 2, 1) := dk_5 (dk_at dksX7_figure_0 5 rfl rfl)
theorem dX7_figure_6 : decode cX7_figure 6 = .ok (.if_icmp .ne 7, 3) := dk_160 0 7 (dk_at dksX7_figure_0 6 rfl rfl)
theorem dX7_figure_9 : decode cX7_figure 9 = .ok (.iconst 1, 1) := dk_4 (dk_at dksX7_figure_0 9 rfl rfl)
theorem dX7_figure_10 : decode cX7_figure 10 = .ok (.goto 4, 3) := dk_167 0 4 (dk_at dksX7_figure_0 10 rfl rfl)
theorem dX7_figure_13 : decode cX7_figure 13 = .ok (.iconst 0, 1) := dk_3 (dk_at dksX7_figure_0 13 rfl rfl)
theorem dX7_figure_14 : decode cX7_figure 14 = .ok (.iconst 1, 1) := dk_4 (dk_at dksX7_figure_0 14 rfl rfl)
theorem dX7_figure_15 : decode cX7_figure 15 = .ok (.invokevirtual 60, 3) := dk_182 0 60 (dk_at dksX7_figure_0 15 rfl rfl)
theorem dX7_figure_18 : decode cX7_figure 18 = .ok (.aload_n 0, 1) := dk_42 (dk_at dksX7_figure_0 18 rfl rfl)
theorem dX7_figure_19 : decode cX7_figure 19 = .ok (.aload_n 0, 1) := dk_42 (dk_at dksX7_figure_0 19 rfl rfl)
theorem dX7_figure_20 : decode cX7_figure 20 = .ok (.getfield 37, 3) := dk_180 0 37 (dk_at dksX7_figure_0 20 rfl rfl)
theorem dX7_figure_23 : decode cX7_figure 23 = .ok (.i2l, 1) := dk_133 (dk_at dksX7_figure_0 23 rfl rfl)
theorem dX7_figure_24 : decode cX7_figure 24 = .ok (.iload_n 1, 1) := dk_27 (dk_at dksX7_figure_1 0 rfl rfl)
theorem dX7_figure_25 : decode cX7_figure 25 = .ok (.i2l, 1) := dk_133 (dk_at dksX7_figure_1 1 rfl rfl)
theorem dX7_figure_26 : decode cX7_figure 26 = .ok (.iload_n 2, 1) := dk_28 (dk_at dksX7_figure_1 2 rfl rfl)
theorem dX7_figure_27 : decode cX7_figure 27 = .ok (.i2l, 1) := dk_133 (dk_at dksX7_figure_1 3 rfl rfl)
theorem dX7_figure_28 : decode cX7_figure 28 = .ok (.invokestatic 44, 3) := dk_184 0 44 (dk_at dksX7_figure_1 4 rfl rfl)
theorem dX7_figure_31 : decode cX7_figure 31 = .ok (.iconst 2, 1) := dk_5 (dk_at dksX7_figure_1 7 rfl rfl)
theorem dX7_figure_32 : decode cX7_figure 32 = .ok (.invokevirtual 60, 3) := dk_182 0 60 (dk_at dksX7_figure_1 8 rfl rfl)
theorem dX7_figure_35 : decode cX7_figure 35 = .ok (.aload_n 0, 1) := dk_42 (dk_at dksX7_figure_1 11 rfl rfl)
theorem dX7_figure_36 : decode cX7_figure 36 = .ok (.getfield 37, 3) := dk_180 0 37 (dk_at dksX7_figure_1 12 rfl rfl)
theorem dX7_figure_39 : decode cX7_figure 39 = .ok (.istore_n 3, 1) := dk_62 (dk_at dksX7_figure_1 15 rfl rfl)
theorem dX7_figure_40 : decode cX7_figure 40 = .ok (.aload_n 0, 1) := dk_42 (dk_at dksX7_figure_1 16 rfl rfl)
theorem dX7_figure_41 : decode cX7_figure 41 = .ok (.invokevirtual 64, 3) := dk_182 0 64 (dk_at dksX7_figure_1 17 rfl rfl)
theorem dX7_figure_44 : decode cX7_figure 44 = .ok (.iload_n 3, 1) := dk_29 (dk_at dksX7_figure_1 20 rfl rfl)
theorem dX7_figure_45 : decode cX7_figure 45 = .ok (.ireturn, 1) := dk_172 (dk_at dksX7_figure_1 21 rfl rfl)
abbrev cX7_sign : ByteArray := prog_9_method_7_code
def yX7_sign : MethodName := ⟨RX7, "sign", "(I)V"⟩
def dkwX7_sign_0 : List UInt8 := [42, 42, 6, 27, 182, 0, 67, 4, 182, 0, 60, 42, 182, 0, 64, 177]
abbrev dktX7_sign_0 : List UInt8 := dkwX7_sign_0 ++ []
theorem dksX7_sign_0 : cX7_sign.data.toList.drop 0 = dktX7_sign_0 := by decide +kernel
theorem dX7_sign_0 : decode cX7_sign 0 = .ok (.aload_n 0, 1) := dk_42 (dk_at dksX7_sign_0 0 rfl rfl)
theorem dX7_sign_1 : decode cX7_sign 1 = .ok (.aload_n 0, 1) := dk_42 (dk_at dksX7_sign_0 1 rfl rfl)
theorem dX7_sign_2 : decode cX7_sign 2 = .ok (.iconst 3, 1) := dk_6 (dk_at dksX7_sign_0 2 rfl rfl)
theorem dX7_sign_3 : decode cX7_sign 3 = .ok (.iload_n 1, 1) := dk_27 (dk_at dksX7_sign_0 3 rfl rfl)
theorem dX7_sign_4 : decode cX7_sign 4 = .ok (.invokevirtual 67, 3) := dk_182 0 67 (dk_at dksX7_sign_0 4 rfl rfl)
theorem dX7_sign_7 : decode cX7_sign 7 = .ok (.iconst 1, 1) := dk_4 (dk_at dksX7_sign_0 7 rfl rfl)
theorem dX7_sign_8 : decode cX7_sign 8 = .ok (.invokevirtual 60, 3) := dk_182 0 60 (dk_at dksX7_sign_0 8 rfl rfl)
theorem dX7_sign_11 : decode cX7_sign 11 = .ok (.aload_n 0, 1) := dk_42 (dk_at dksX7_sign_0 11 rfl rfl)
theorem dX7_sign_12 : decode cX7_sign 12 = .ok (.invokevirtual 64, 3) := dk_182 0 64 (dk_at dksX7_sign_0 12 rfl rfl)
theorem dX7_sign_15 : decode cX7_sign 15 = .ok (.return_, 1) := dk_177 (dk_at dksX7_sign_0 15 rfl rfl)
abbrev cX7_work : ByteArray := prog_9_method_10_code
def yX7_work : MethodName := ⟨RX7, "work", "()V"⟩
def dkwX7_work_6 : List UInt8 := [182, 0, 101, 42, 180, 0, 12, 180, 0, 114, 29, 27, 29, 21, 4, 184, 0, 118, 83, 177]
abbrev dktX7_work_6 : List UInt8 := dkwX7_work_6 ++ []
def dkwX7_work_5 : List UInt8 := [6, 182, 0, 97, 96, 62, 42, 16, 44, 182, 0, 101, 42, 3, 16, 99, 182, 0, 97, 54, 4, 42, 16, 59]
abbrev dktX7_work_5 : List UInt8 := dkwX7_work_5 ++ dktX7_work_6
def dkwX7_work_4 : List UInt8 := [180, 0, 37, 96, 182, 0, 110, 154, 0, 7, 4, 167, 0, 4, 3, 5, 182, 0, 60, 7, 28, 104, 42, 3]
abbrev dktX7_work_4 : List UInt8 := dkwX7_work_4 ++ dktX7_work_5
def dkwX7_work_3 : List UInt8 := [42, 180, 0, 37, 133, 9, 20, 0, 108, 184, 0, 44, 153, 0, 25, 42, 180, 0, 12, 7, 28, 104, 42]
abbrev dktX7_work_3 : List UInt8 := dkwX7_work_3 ++ dktX7_work_4
def dkwX7_work_2 : List UInt8 := [16, 44, 182, 0, 101, 42, 42, 180, 0, 52, 5, 160, 0, 7, 4, 167, 0, 4, 3, 4, 182, 0, 60, 42]
abbrev dktX7_work_2 : List UInt8 := dkwX7_work_2 ++ dktX7_work_3
def dkwX7_work_1 : List UInt8 := [18, 82, 42, 180, 0, 37, 182, 0, 84, 96, 60, 42, 182, 0, 64, 42, 3, 6, 182, 0, 97, 61, 42]
abbrev dktX7_work_1 : List UInt8 := dkwX7_work_1 ++ dktX7_work_2
def dkwX7_work_0 : List UInt8 := [42, 42, 180, 0, 12, 182, 0, 105, 16, 6, 162, 0, 7, 4, 167, 0, 4, 3, 6, 182, 0, 60, 4]
abbrev dktX7_work_0 : List UInt8 := dkwX7_work_0 ++ dktX7_work_1
theorem dksX7_work_0 : cX7_work.data.toList.drop 0 = dktX7_work_0 := by decide +kernel
theorem dksX7_work_1 : cX7_work.data.toList.drop 23 = dktX7_work_1 := dk_seg dksX7_work_0 23 rfl rfl
theorem dksX7_work_2 : cX7_work.data.toList.drop 46 = dktX7_work_2 := dk_seg dksX7_work_1 23 rfl rfl
theorem dksX7_work_3 : cX7_work.data.toList.drop 70 = dktX7_work_3 := dk_seg dksX7_work_2 24 rfl rfl
theorem dksX7_work_4 : cX7_work.data.toList.drop 93 = dktX7_work_4 := dk_seg dksX7_work_3 23 rfl rfl
theorem dksX7_work_5 : cX7_work.data.toList.drop 117 = dktX7_work_5 := dk_seg dksX7_work_4 24 rfl rfl
theorem dksX7_work_6 : cX7_work.data.toList.drop 141 = dktX7_work_6 := dk_seg dksX7_work_5 24 rfl rfl
theorem dX7_work_0 : decode cX7_work 0 = .ok (.aload_n 0, 1) := dk_42 (dk_at dksX7_work_0 0 rfl rfl)
theorem dX7_work_1 : decode cX7_work 1 = .ok (.aload_n 0, 1) := dk_42 (dk_at dksX7_work_0 1 rfl rfl)
theorem dX7_work_2 : decode cX7_work 2 = .ok (.getfield 12, 3) := dk_180 0 12 (dk_at dksX7_work_0 2 rfl rfl)
theorem dX7_work_5 : decode cX7_work 5 = .ok (.invokevirtual 105, 3) := dk_182 0 105 (dk_at dksX7_work_0 5 rfl rfl)
theorem dX7_work_8 : decode cX7_work 8 = .ok (.bipush 6, 2) := dk_16 6 (dk_at dksX7_work_0 8 rfl rfl)
theorem dX7_work_10 : decode cX7_work 10 = .ok (.if_icmp .ge 7, 3) := dk_162 0 7 (dk_at dksX7_work_0 10 rfl rfl)
theorem dX7_work_13 : decode cX7_work 13 = .ok (.iconst 1, 1) := dk_4 (dk_at dksX7_work_0 13 rfl rfl)
theorem dX7_work_14 : decode cX7_work 14 = .ok (.goto 4, 3) := dk_167 0 4 (dk_at dksX7_work_0 14 rfl rfl)
theorem dX7_work_17 : decode cX7_work 17 = .ok (.iconst 0, 1) := dk_3 (dk_at dksX7_work_0 17 rfl rfl)
theorem dX7_work_18 : decode cX7_work 18 = .ok (.iconst 3, 1) := dk_6 (dk_at dksX7_work_0 18 rfl rfl)
theorem dX7_work_19 : decode cX7_work 19 = .ok (.invokevirtual 60, 3) := dk_182 0 60 (dk_at dksX7_work_0 19 rfl rfl)
theorem dX7_work_22 : decode cX7_work 22 = .ok (.iconst 1, 1) := dk_4 (dk_at dksX7_work_0 22 rfl rfl)
theorem dX7_work_23 : decode cX7_work 23 = .ok (.ldc 82, 2) := dk_18 82 (dk_at dksX7_work_1 0 rfl rfl)
theorem dX7_work_25 : decode cX7_work 25 = .ok (.aload_n 0, 1) := dk_42 (dk_at dksX7_work_1 2 rfl rfl)
theorem dX7_work_26 : decode cX7_work 26 = .ok (.getfield 37, 3) := dk_180 0 37 (dk_at dksX7_work_1 3 rfl rfl)
theorem dX7_work_29 : decode cX7_work 29 = .ok (.invokevirtual 84, 3) := dk_182 0 84 (dk_at dksX7_work_1 6 rfl rfl)
theorem dX7_work_32 : decode cX7_work 32 = .ok (.iadd, 1) := dk_96 (dk_at dksX7_work_1 9 rfl rfl)
theorem dX7_work_33 : decode cX7_work 33 = .ok (.istore_n 1, 1) := dk_60 (dk_at dksX7_work_1 10 rfl rfl)
theorem dX7_work_34 : decode cX7_work 34 = .ok (.aload_n 0, 1) := dk_42 (dk_at dksX7_work_1 11 rfl rfl)
theorem dX7_work_35 : decode cX7_work 35 = .ok (.invokevirtual 64, 3) := dk_182 0 64 (dk_at dksX7_work_1 12 rfl rfl)
theorem dX7_work_38 : decode cX7_work 38 = .ok (.aload_n 0, 1) := dk_42 (dk_at dksX7_work_1 15 rfl rfl)
theorem dX7_work_39 : decode cX7_work 39 = .ok (.iconst 0, 1) := dk_3 (dk_at dksX7_work_1 16 rfl rfl)
theorem dX7_work_40 : decode cX7_work 40 = .ok (.iconst 3, 1) := dk_6 (dk_at dksX7_work_1 17 rfl rfl)
theorem dX7_work_41 : decode cX7_work 41 = .ok (.invokevirtual 97, 3) := dk_182 0 97 (dk_at dksX7_work_1 18 rfl rfl)
theorem dX7_work_44 : decode cX7_work 44 = .ok (.istore_n 2, 1) := dk_61 (dk_at dksX7_work_1 21 rfl rfl)
theorem dX7_work_45 : decode cX7_work 45 = .ok (.aload_n 0, 1) := dk_42 (dk_at dksX7_work_1 22 rfl rfl)
theorem dX7_work_46 : decode cX7_work 46 = .ok (.bipush 44, 2) := dk_16 44 (dk_at dksX7_work_2 0 rfl rfl)
theorem dX7_work_48 : decode cX7_work 48 = .ok (.invokevirtual 101, 3) := dk_182 0 101 (dk_at dksX7_work_2 2 rfl rfl)
theorem dX7_work_51 : decode cX7_work 51 = .ok (.aload_n 0, 1) := dk_42 (dk_at dksX7_work_2 5 rfl rfl)
theorem dX7_work_52 : decode cX7_work 52 = .ok (.aload_n 0, 1) := dk_42 (dk_at dksX7_work_2 6 rfl rfl)
theorem dX7_work_53 : decode cX7_work 53 = .ok (.getfield 52, 3) := dk_180 0 52 (dk_at dksX7_work_2 7 rfl rfl)
theorem dX7_work_56 : decode cX7_work 56 = .ok (.iconst 2, 1) := dk_5 (dk_at dksX7_work_2 10 rfl rfl)
theorem dX7_work_57 : decode cX7_work 57 = .ok (.if_icmp .ne 7, 3) := dk_160 0 7 (dk_at dksX7_work_2 11 rfl rfl)
theorem dX7_work_60 : decode cX7_work 60 = .ok (.iconst 1, 1) := dk_4 (dk_at dksX7_work_2 14 rfl rfl)
theorem dX7_work_61 : decode cX7_work 61 = .ok (.goto 4, 3) := dk_167 0 4 (dk_at dksX7_work_2 15 rfl rfl)
theorem dX7_work_64 : decode cX7_work 64 = .ok (.iconst 0, 1) := dk_3 (dk_at dksX7_work_2 18 rfl rfl)
theorem dX7_work_65 : decode cX7_work 65 = .ok (.iconst 1, 1) := dk_4 (dk_at dksX7_work_2 19 rfl rfl)
theorem dX7_work_66 : decode cX7_work 66 = .ok (.invokevirtual 60, 3) := dk_182 0 60 (dk_at dksX7_work_2 20 rfl rfl)
theorem dX7_work_69 : decode cX7_work 69 = .ok (.aload_n 0, 1) := dk_42 (dk_at dksX7_work_2 23 rfl rfl)
theorem dX7_work_70 : decode cX7_work 70 = .ok (.aload_n 0, 1) := dk_42 (dk_at dksX7_work_3 0 rfl rfl)
theorem dX7_work_71 : decode cX7_work 71 = .ok (.getfield 37, 3) := dk_180 0 37 (dk_at dksX7_work_3 1 rfl rfl)
theorem dX7_work_74 : decode cX7_work 74 = .ok (.i2l, 1) := dk_133 (dk_at dksX7_work_3 4 rfl rfl)
theorem dX7_work_75 : decode cX7_work 75 = .ok (.lconst 0, 1) := dk_9 (dk_at dksX7_work_3 5 rfl rfl)
theorem dX7_work_76 : decode cX7_work 76 = .ok (.ldc2_w 108, 3) := dk_20 0 108 (dk_at dksX7_work_3 6 rfl rfl)
theorem dX7_work_79 : decode cX7_work 79 = .ok (.invokestatic 44, 3) := dk_184 0 44 (dk_at dksX7_work_3 9 rfl rfl)
theorem dX7_work_82 : decode cX7_work 82 = .ok (.ifCond .eq 25, 3) := dk_153 0 25 (dk_at dksX7_work_3 12 rfl rfl)
theorem dX7_work_85 : decode cX7_work 85 = .ok (.aload_n 0, 1) := dk_42 (dk_at dksX7_work_3 15 rfl rfl)
theorem dX7_work_86 : decode cX7_work 86 = .ok (.getfield 12, 3) := dk_180 0 12 (dk_at dksX7_work_3 16 rfl rfl)
theorem dX7_work_89 : decode cX7_work 89 = .ok (.iconst 4, 1) := dk_7 (dk_at dksX7_work_3 19 rfl rfl)
theorem dX7_work_90 : decode cX7_work 90 = .ok (.iload_n 2, 1) := dk_28 (dk_at dksX7_work_3 20 rfl rfl)
theorem dX7_work_91 : decode cX7_work 91 = .ok (.imul, 1) := dk_104 (dk_at dksX7_work_3 21 rfl rfl)
theorem dX7_work_92 : decode cX7_work 92 = .ok (.aload_n 0, 1) := dk_42 (dk_at dksX7_work_3 22 rfl rfl)
theorem dX7_work_93 : decode cX7_work 93 = .ok (.getfield 37, 3) := dk_180 0 37 (dk_at dksX7_work_4 0 rfl rfl)
theorem dX7_work_96 : decode cX7_work 96 = .ok (.iadd, 1) := dk_96 (dk_at dksX7_work_4 3 rfl rfl)
theorem dX7_work_97 : decode cX7_work 97 = .ok (.invokevirtual 110, 3) := dk_182 0 110 (dk_at dksX7_work_4 4 rfl rfl)
theorem dX7_work_100 : decode cX7_work 100 = .ok (.ifCond .ne 7, 3) := dk_154 0 7 (dk_at dksX7_work_4 7 rfl rfl)
theorem dX7_work_103 : decode cX7_work 103 = .ok (.iconst 1, 1) := dk_4 (dk_at dksX7_work_4 10 rfl rfl)
theorem dX7_work_104 : decode cX7_work 104 = .ok (.goto 4, 3) := dk_167 0 4 (dk_at dksX7_work_4 11 rfl rfl)
theorem dX7_work_107 : decode cX7_work 107 = .ok (.iconst 0, 1) := dk_3 (dk_at dksX7_work_4 14 rfl rfl)
theorem dX7_work_108 : decode cX7_work 108 = .ok (.iconst 2, 1) := dk_5 (dk_at dksX7_work_4 15 rfl rfl)
theorem dX7_work_109 : decode cX7_work 109 = .ok (.invokevirtual 60, 3) := dk_182 0 60 (dk_at dksX7_work_4 16 rfl rfl)
theorem dX7_work_112 : decode cX7_work 112 = .ok (.iconst 4, 1) := dk_7 (dk_at dksX7_work_4 19 rfl rfl)
theorem dX7_work_113 : decode cX7_work 113 = .ok (.iload_n 2, 1) := dk_28 (dk_at dksX7_work_4 20 rfl rfl)
theorem dX7_work_114 : decode cX7_work 114 = .ok (.imul, 1) := dk_104 (dk_at dksX7_work_4 21 rfl rfl)
theorem dX7_work_115 : decode cX7_work 115 = .ok (.aload_n 0, 1) := dk_42 (dk_at dksX7_work_4 22 rfl rfl)
theorem dX7_work_116 : decode cX7_work 116 = .ok (.iconst 0, 1) := dk_3 (dk_at dksX7_work_4 23 rfl rfl)
theorem dX7_work_117 : decode cX7_work 117 = .ok (.iconst 3, 1) := dk_6 (dk_at dksX7_work_5 0 rfl rfl)
theorem dX7_work_118 : decode cX7_work 118 = .ok (.invokevirtual 97, 3) := dk_182 0 97 (dk_at dksX7_work_5 1 rfl rfl)
theorem dX7_work_121 : decode cX7_work 121 = .ok (.iadd, 1) := dk_96 (dk_at dksX7_work_5 4 rfl rfl)
theorem dX7_work_122 : decode cX7_work 122 = .ok (.istore_n 3, 1) := dk_62 (dk_at dksX7_work_5 5 rfl rfl)
theorem dX7_work_123 : decode cX7_work 123 = .ok (.aload_n 0, 1) := dk_42 (dk_at dksX7_work_5 6 rfl rfl)
theorem dX7_work_124 : decode cX7_work 124 = .ok (.bipush 44, 2) := dk_16 44 (dk_at dksX7_work_5 7 rfl rfl)
theorem dX7_work_126 : decode cX7_work 126 = .ok (.invokevirtual 101, 3) := dk_182 0 101 (dk_at dksX7_work_5 9 rfl rfl)
theorem dX7_work_129 : decode cX7_work 129 = .ok (.aload_n 0, 1) := dk_42 (dk_at dksX7_work_5 12 rfl rfl)
theorem dX7_work_130 : decode cX7_work 130 = .ok (.iconst 0, 1) := dk_3 (dk_at dksX7_work_5 13 rfl rfl)
theorem dX7_work_131 : decode cX7_work 131 = .ok (.bipush 99, 2) := dk_16 99 (dk_at dksX7_work_5 14 rfl rfl)
theorem dX7_work_133 : decode cX7_work 133 = .ok (.invokevirtual 97, 3) := dk_182 0 97 (dk_at dksX7_work_5 16 rfl rfl)
theorem dX7_work_136 : decode cX7_work 136 = .ok (.istore 4, 2) := dk_54 4 (dk_at dksX7_work_5 19 rfl rfl)
theorem dX7_work_138 : decode cX7_work 138 = .ok (.aload_n 0, 1) := dk_42 (dk_at dksX7_work_5 21 rfl rfl)
theorem dX7_work_139 : decode cX7_work 139 = .ok (.bipush 59, 2) := dk_16 59 (dk_at dksX7_work_5 22 rfl rfl)
theorem dX7_work_141 : decode cX7_work 141 = .ok (.invokevirtual 101, 3) := dk_182 0 101 (dk_at dksX7_work_6 0 rfl rfl)
theorem dX7_work_144 : decode cX7_work 144 = .ok (.aload_n 0, 1) := dk_42 (dk_at dksX7_work_6 3 rfl rfl)
theorem dX7_work_145 : decode cX7_work 145 = .ok (.getfield 12, 3) := dk_180 0 12 (dk_at dksX7_work_6 4 rfl rfl)
theorem dX7_work_148 : decode cX7_work 148 = .ok (.getfield 114, 3) := dk_180 0 114 (dk_at dksX7_work_6 7 rfl rfl)
theorem dX7_work_151 : decode cX7_work 151 = .ok (.iload_n 3, 1) := dk_29 (dk_at dksX7_work_6 10 rfl rfl)
theorem dX7_work_152 : decode cX7_work 152 = .ok (.iload_n 1, 1) := dk_27 (dk_at dksX7_work_6 11 rfl rfl)
theorem dX7_work_153 : decode cX7_work 153 = .ok (.iload_n 3, 1) := dk_29 (dk_at dksX7_work_6 12 rfl rfl)
theorem dX7_work_154 : decode cX7_work 154 = .ok (.iload 4, 2) := dk_21 4 (dk_at dksX7_work_6 13 rfl rfl)
theorem dX7_work_156 : decode cX7_work 156 = .ok (.invokestatic 118, 3) := dk_184 0 118 (dk_at dksX7_work_6 15 rfl rfl)
theorem dX7_work_159 : decode cX7_work 159 = .ok (.aastore, 1) := dk_83 (dk_at dksX7_work_6 18 rfl rfl)
theorem dX7_work_160 : decode cX7_work 160 = .ok (.return_, 1) := dk_177 (dk_at dksX7_work_6 19 rfl rfl)
theorem q77 : (Jvm.Cond.initialized "WindCarver$Reader") ∈ lw_all := lw_g (lw_at lw_m1 18 rfl) rfl
theorem q123 : (Jvm.Cond.fieldLink "WindCarver$Reader" (93 : Nat) "WindCarver$Pass" "isTold" "Z") ∈ lw_all := lw_g (lw_at lw_m1 64 rfl) rfl
theorem q128 : (Jvm.Cond.fieldLink "WindCarver$Reader" (71 : Nat) "WindCarver$Pass" "gusts" "[I") ∈ lw_all := lw_g (lw_at lw_m1 69 rfl) rfl
theorem q131 : (Jvm.Cond.fieldLink "WindCarver$Reader" (79 : Nat) "WindCarver$Pass" "rises" "[I") ∈ lw_all := lw_g (lw_at lw_m1 72 rfl) rfl
theorem q134 : (Jvm.Cond.fieldLink "WindCarver$Reader" (114 : Nat) "WindCarver$Pass" "works" "[LWindCarver$Work;") ∈ lw_all := lw_g (lw_at lw_m1 75 rfl) rfl
theorem q452 : (Jvm.Cond.instantiable "WindCarver$Reader" (7 : Nat)) ∈ lw_all := lw_g (lw_at lw_m2 153 rfl) rfl
theorem q454 : (Jvm.Cond.instanceMethod ({ cls := "WindCarver$Reader", name := "<init>", desc := "([BI)V" } : Jvm.MethodName)) ∈ lw_all := lw_g (lw_at lw_m2 155 rfl) rfl
theorem q455 : (Jvm.Cond.code ({ cls := "WindCarver$Reader", name := "<init>", desc := "([BI)V" } : Jvm.MethodName) prog_9_method_1_code (3 : Nat) (Option.none : Option Jvm.ClassFile.FieldType)) ∈ lw_all := lw_g (lw_at lw_m2 156 rfl) rfl
theorem q456 : (Jvm.Cond.methodLink "WindCarver$Reader" (3 : Nat) ({ cls := "java/lang/Object", name := "<init>", desc := "()V" } : Jvm.MethodName)) ∈ lw_all := lw_g (lw_at lw_m2 157 rfl) rfl
theorem q457 : (Jvm.Cond.classLink "WindCarver$Reader" (9 : Nat) "WindCarver$Pass") ∈ lw_all := lw_g (lw_at lw_m2 158 rfl) rfl
theorem q458 : (Jvm.Cond.methodLinkNest "WindCarver$Reader" (11 : Nat) ({ cls := "WindCarver$Pass", name := "<init>", desc := "()V" } : Jvm.MethodName) "WindCarver") ∈ lw_tbl := lw_at lw_m2 159 rfl
theorem q459 : (Jvm.Cond.fieldLink "WindCarver$Reader" (18 : Nat) "WindCarver$Reader" "text" "[B") ∈ lw_all := lw_g (lw_at lw_m2 160 rfl) rfl
theorem q460 : (Jvm.Cond.fieldLink "WindCarver$Reader" (22 : Nat) "WindCarver$Reader" "size" "I") ∈ lw_all := lw_g (lw_at lw_m2 161 rfl) rfl
theorem q461 : (Jvm.Cond.fieldLink "WindCarver$Reader" (26 : Nat) "WindCarver$Reader" "at" "I") ∈ lw_all := lw_g (lw_at lw_m2 162 rfl) rfl
theorem q462 : (Jvm.Cond.fieldLink "WindCarver$Reader" (52 : Nat) "WindCarver$Reader" "token" "I") ∈ lw_all := lw_g (lw_at lw_m2 163 rfl) rfl
theorem q463 : (Jvm.Cond.fieldLink "WindCarver$Reader" (30 : Nat) "WindCarver$Reader" "from" "I") ∈ lw_all := lw_g (lw_at lw_m2 164 rfl) rfl
theorem q464 : (Jvm.Cond.fieldLink "WindCarver$Reader" (37 : Nat) "WindCarver$Reader" "value" "I") ∈ lw_all := lw_g (lw_at lw_m2 165 rfl) rfl
theorem q465 : (Jvm.Cond.fieldLink "WindCarver$Reader" (12 : Nat) "WindCarver$Reader" "made" "LWindCarver$Pass;") ∈ lw_all := lw_g (lw_at lw_m2 166 rfl) rfl
theorem q467 : (Jvm.Cond.laysFinal "WindCarver$Reader" "WindCarver$Reader" "text" "[B") ∈ lw_all := lw_g (lw_at lw_m2 168 rfl) rfl
theorem q468 : (Jvm.Cond.soleField "WindCarver$Reader" "text") ∈ lw_all := lw_g (lw_at lw_m2 169 rfl) rfl
theorem q469 : (Jvm.Cond.laysFinal "WindCarver$Reader" "WindCarver$Reader" "size" "I") ∈ lw_all := lw_g (lw_at lw_m2 170 rfl) rfl
theorem q470 : (Jvm.Cond.soleField "WindCarver$Reader" "size") ∈ lw_all := lw_g (lw_at lw_m2 171 rfl) rfl
theorem q471 : (Jvm.Cond.lays "WindCarver$Reader" "WindCarver$Reader" "at" "I") ∈ lw_all := lw_g (lw_at lw_m2 172 rfl) rfl
theorem q472 : (Jvm.Cond.soleField "WindCarver$Reader" "at") ∈ lw_all := lw_g (lw_at lw_m2 173 rfl) rfl
theorem q473 : (Jvm.Cond.lays "WindCarver$Reader" "WindCarver$Reader" "token" "I") ∈ lw_all := lw_g (lw_at lw_m2 174 rfl) rfl
theorem q474 : (Jvm.Cond.soleField "WindCarver$Reader" "token") ∈ lw_all := lw_g (lw_at lw_m2 175 rfl) rfl
theorem q475 : (Jvm.Cond.lays "WindCarver$Reader" "WindCarver$Reader" "from" "I") ∈ lw_all := lw_g (lw_at lw_m2 176 rfl) rfl
theorem q476 : (Jvm.Cond.soleField "WindCarver$Reader" "from") ∈ lw_all := lw_g (lw_at lw_m2 177 rfl) rfl
theorem q477 : (Jvm.Cond.lays "WindCarver$Reader" "WindCarver$Reader" "value" "I") ∈ lw_all := lw_g (lw_at lw_m2 178 rfl) rfl
theorem q478 : (Jvm.Cond.soleField "WindCarver$Reader" "value") ∈ lw_all := lw_g (lw_at lw_m2 179 rfl) rfl
theorem q479 : (Jvm.Cond.laysFinal "WindCarver$Reader" "WindCarver$Reader" "made" "LWindCarver$Pass;") ∈ lw_all := lw_g (lw_at lw_m2 180 rfl) rfl
theorem q480 : (Jvm.Cond.soleField "WindCarver$Reader" "made") ∈ lw_all := lw_g (lw_at lw_m2 181 rfl) rfl
theorem q481 : (Jvm.Cond.superclass "WindCarver$Reader" "java/lang/Object") ∈ lw_all := lw_g (lw_at lw_m2 182 rfl) rfl
theorem q483 : (Jvm.Cond.instanceMethod ({ cls := "WindCarver$Reader", name := "all", desc := "()V" } : Jvm.MethodName)) ∈ lw_all := lw_g (lw_at lw_m2 184 rfl) rfl
theorem q484 : (Jvm.Cond.selects "WindCarver$Reader" ({ cls := "WindCarver$Reader", name := "all", desc := "()V" } : Jvm.MethodName) ({ cls := "WindCarver$Reader", name := "all", desc := "()V" } : Jvm.MethodName)) ∈ lw_all := lw_g (lw_at lw_m2 185 rfl) rfl
theorem q485 : (Jvm.Cond.code ({ cls := "WindCarver$Reader", name := "all", desc := "()V" } : Jvm.MethodName) prog_9_method_8_code (1 : Nat) (Option.none : Option Jvm.ClassFile.FieldType)) ∈ lw_all := lw_g (lw_at lw_m2 186 rfl) rfl
theorem q486 : (Jvm.Cond.methodLink "WindCarver$Reader" (64 : Nat) ({ cls := "WindCarver$Reader", name := "next", desc := "()V" } : Jvm.MethodName)) ∈ lw_all := lw_g (lw_at lw_m2 187 rfl) rfl
theorem q487 : (Jvm.Cond.privateMethod ({ cls := "WindCarver$Reader", name := "next", desc := "()V" } : Jvm.MethodName)) ∈ lw_tbl := lw_at lw_m2 188 rfl
theorem q488 : (Jvm.Cond.instanceMethod ({ cls := "WindCarver$Reader", name := "next", desc := "()V" } : Jvm.MethodName)) ∈ lw_all := lw_g (lw_at lw_m2 189 rfl) rfl
theorem q489 : (Jvm.Cond.code ({ cls := "WindCarver$Reader", name := "next", desc := "()V" } : Jvm.MethodName) prog_9_method_3_code (2 : Nat) (Option.none : Option Jvm.ClassFile.FieldType)) ∈ lw_all := lw_g (lw_at lw_m2 190 rfl) rfl
theorem q490 : (Jvm.Cond.methodLink "WindCarver$Reader" (33 : Nat) ({ cls := "WindCarver$Reader", name := "look", desc := "()I" } : Jvm.MethodName)) ∈ lw_all := lw_g (lw_at lw_m2 191 rfl) rfl
theorem q491 : (Jvm.Cond.privateMethod ({ cls := "WindCarver$Reader", name := "look", desc := "()I" } : Jvm.MethodName)) ∈ lw_tbl := lw_at lw_m2 192 rfl
theorem q492 : (Jvm.Cond.instanceMethod ({ cls := "WindCarver$Reader", name := "look", desc := "()I" } : Jvm.MethodName)) ∈ lw_all := lw_g (lw_at lw_m2 193 rfl) rfl
theorem q493 : (Jvm.Cond.code ({ cls := "WindCarver$Reader", name := "look", desc := "()I" } : Jvm.MethodName) prog_9_method_2_code (1 : Nat) (Option.some Jvm.ClassFile.FieldType.int)) ∈ lw_all := lw_g (lw_at lw_m2 194 rfl) rfl
theorem q494 : (Jvm.Cond.constant "WindCarver$Reader" (29 : Nat) (-1000000 : Int32)) ∈ lw_all := lw_g (lw_at lw_m2 195 rfl) rfl
theorem q495 : (Jvm.Cond.constantLong "WindCarver$Reader" (40 : Nat) (97 : Int64)) ∈ lw_all := lw_g (lw_at lw_m2 196 rfl) rfl
theorem q496 : (Jvm.Cond.constantLong "WindCarver$Reader" (42 : Nat) (122 : Int64)) ∈ lw_all := lw_g (lw_at lw_m2 197 rfl) rfl
theorem q497 : (Jvm.Cond.methodLinkNest "WindCarver$Reader" (44 : Nat) ({ cls := "WindCarver", name := "isIn", desc := "(JJJ)Z" } : Jvm.MethodName) "WindCarver") ∈ lw_tbl := lw_at lw_m2 198 rfl
theorem q498 : (Jvm.Cond.constantLong "WindCarver$Reader" (48 : Nat) (48 : Int64)) ∈ lw_all := lw_g (lw_at lw_m2 199 rfl) rfl
theorem q499 : (Jvm.Cond.constantLong "WindCarver$Reader" (50 : Nat) (57 : Int64)) ∈ lw_all := lw_g (lw_at lw_m2 200 rfl) rfl
theorem q500 : (Jvm.Cond.methodLink "WindCarver$Reader" (75 : Nat) ({ cls := "WindCarver$Reader", name := "four", desc := "(C[I)V" } : Jvm.MethodName)) ∈ lw_all := lw_g (lw_at lw_m2 201 rfl) rfl
theorem q501 : (Jvm.Cond.privateMethod ({ cls := "WindCarver$Reader", name := "four", desc := "(C[I)V" } : Jvm.MethodName)) ∈ lw_tbl := lw_at lw_m2 202 rfl
theorem q502 : (Jvm.Cond.instanceMethod ({ cls := "WindCarver$Reader", name := "four", desc := "(C[I)V" } : Jvm.MethodName)) ∈ lw_all := lw_g (lw_at lw_m2 203 rfl) rfl
theorem q503 : (Jvm.Cond.code ({ cls := "WindCarver$Reader", name := "four", desc := "(C[I)V" } : Jvm.MethodName) prog_9_method_9_code (4 : Nat) (Option.none : Option Jvm.ClassFile.FieldType)) ∈ lw_all := lw_g (lw_at lw_m2 204 rfl) rfl
theorem q504 : (Jvm.Cond.methodLink "WindCarver$Reader" (67 : Nat) ({ cls := "WindCarver$Reader", name := "is", desc := "(II)Z" } : Jvm.MethodName)) ∈ lw_all := lw_g (lw_at lw_m2 205 rfl) rfl
theorem q505 : (Jvm.Cond.privateMethod ({ cls := "WindCarver$Reader", name := "is", desc := "(II)Z" } : Jvm.MethodName)) ∈ lw_tbl := lw_at lw_m2 206 rfl
theorem q506 : (Jvm.Cond.instanceMethod ({ cls := "WindCarver$Reader", name := "is", desc := "(II)Z" } : Jvm.MethodName)) ∈ lw_all := lw_g (lw_at lw_m2 207 rfl) rfl
theorem q507 : (Jvm.Cond.code ({ cls := "WindCarver$Reader", name := "is", desc := "(II)Z" } : Jvm.MethodName) prog_9_method_5_code (3 : Nat) (Option.some Jvm.ClassFile.FieldType.boolean)) ∈ lw_all := lw_g (lw_at lw_m2 208 rfl) rfl
theorem q508 : (Jvm.Cond.methodLink "WindCarver$Reader" (60 : Nat) ({ cls := "WindCarver$Reader", name := "must", desc := "(ZI)V" } : Jvm.MethodName)) ∈ lw_all := lw_g (lw_at lw_m2 209 rfl) rfl
theorem q509 : (Jvm.Cond.privateMethod ({ cls := "WindCarver$Reader", name := "must", desc := "(ZI)V" } : Jvm.MethodName)) ∈ lw_tbl := lw_at lw_m2 210 rfl
theorem q510 : (Jvm.Cond.instanceMethod ({ cls := "WindCarver$Reader", name := "must", desc := "(ZI)V" } : Jvm.MethodName)) ∈ lw_all := lw_g (lw_at lw_m2 211 rfl) rfl
theorem q511 : (Jvm.Cond.code ({ cls := "WindCarver$Reader", name := "must", desc := "(ZI)V" } : Jvm.MethodName) prog_9_method_4_code (3 : Nat) (Option.none : Option Jvm.ClassFile.FieldType)) ∈ lw_all := lw_g (lw_at lw_m2 212 rfl) rfl
theorem q512 : (Jvm.Cond.classLink "WindCarver$Reader" (55 : Nat) "WindCarver$Fault") ∈ lw_all := lw_g (lw_at lw_m2 213 rfl) rfl
theorem q521 : (Jvm.Cond.methodLink "WindCarver$Reader" (57 : Nat) ({ cls := "WindCarver$Fault", name := "<init>", desc := "(II)V" } : Jvm.MethodName)) ∈ lw_all := lw_g (lw_at lw_m2 222 rfl) rfl
theorem q540 : (Jvm.Cond.methodLink "WindCarver$Reader" (97 : Nat) ({ cls := "WindCarver$Reader", name := "figure", desc := "(II)I" } : Jvm.MethodName)) ∈ lw_all := lw_g (lw_at lw_m3 1 rfl) rfl
theorem q541 : (Jvm.Cond.privateMethod ({ cls := "WindCarver$Reader", name := "figure", desc := "(II)I" } : Jvm.MethodName)) ∈ lw_tbl := lw_at lw_m3 2 rfl
theorem q542 : (Jvm.Cond.instanceMethod ({ cls := "WindCarver$Reader", name := "figure", desc := "(II)I" } : Jvm.MethodName)) ∈ lw_all := lw_g (lw_at lw_m3 3 rfl) rfl
theorem q543 : (Jvm.Cond.code ({ cls := "WindCarver$Reader", name := "figure", desc := "(II)I" } : Jvm.MethodName) prog_9_method_6_code (4 : Nat) (Option.some Jvm.ClassFile.FieldType.int)) ∈ lw_all := lw_g (lw_at lw_m3 4 rfl) rfl
theorem q544 : (Jvm.Cond.methodLink "WindCarver$Reader" (101 : Nat) ({ cls := "WindCarver$Reader", name := "sign", desc := "(I)V" } : Jvm.MethodName)) ∈ lw_all := lw_g (lw_at lw_m3 5 rfl) rfl
theorem q545 : (Jvm.Cond.privateMethod ({ cls := "WindCarver$Reader", name := "sign", desc := "(I)V" } : Jvm.MethodName)) ∈ lw_tbl := lw_at lw_m3 6 rfl
theorem q546 : (Jvm.Cond.instanceMethod ({ cls := "WindCarver$Reader", name := "sign", desc := "(I)V" } : Jvm.MethodName)) ∈ lw_all := lw_g (lw_at lw_m3 7 rfl) rfl
theorem q547 : (Jvm.Cond.code ({ cls := "WindCarver$Reader", name := "sign", desc := "(I)V" } : Jvm.MethodName) prog_9_method_7_code (2 : Nat) (Option.none : Option Jvm.ClassFile.FieldType)) ∈ lw_all := lw_g (lw_at lw_m3 8 rfl) rfl
theorem q548 : (Jvm.Cond.stringRef "WindCarver$Reader" (82 : Nat) "wnshv") ∈ lw_tbl := lw_at lw_m3 9 rfl
theorem q549 : (Jvm.Cond.methodLink "WindCarver$Reader" (84 : Nat) ({ cls := "java/lang/String", name := "indexOf", desc := "(I)I" } : Jvm.MethodName)) ∈ lw_all := lw_g (lw_at lw_m3 10 rfl) rfl
theorem q635 : (Jvm.Cond.methodLink "WindCarver$Reader" (90 : Nat) ({ cls := "WindCarver$Reader", name := "work", desc := "()V" } : Jvm.MethodName)) ∈ lw_all := lw_g (lw_at lw_m3 96 rfl) rfl
theorem q636 : (Jvm.Cond.privateMethod ({ cls := "WindCarver$Reader", name := "work", desc := "()V" } : Jvm.MethodName)) ∈ lw_tbl := lw_at lw_m3 97 rfl
theorem q637 : (Jvm.Cond.instanceMethod ({ cls := "WindCarver$Reader", name := "work", desc := "()V" } : Jvm.MethodName)) ∈ lw_all := lw_g (lw_at lw_m3 98 rfl) rfl
theorem q638 : (Jvm.Cond.code ({ cls := "WindCarver$Reader", name := "work", desc := "()V" } : Jvm.MethodName) prog_9_method_10_code (5 : Nat) (Option.none : Option Jvm.ClassFile.FieldType)) ∈ lw_all := lw_g (lw_at lw_m3 99 rfl) rfl
theorem q639 : (Jvm.Cond.methodLink "WindCarver$Reader" (105 : Nat) ({ cls := "WindCarver$Pass", name := "many", desc := "()I" } : Jvm.MethodName)) ∈ lw_all := lw_g (lw_at lw_m3 100 rfl) rfl
theorem q647 : (Jvm.Cond.constantLong "WindCarver$Reader" (108 : Nat) (3 : Int64)) ∈ lw_all := lw_g (lw_at lw_m3 108 rfl) rfl
theorem q648 : (Jvm.Cond.methodLink "WindCarver$Reader" (110 : Nat) ({ cls := "WindCarver$Pass", name := "has", desc := "(I)Z" } : Jvm.MethodName)) ∈ lw_all := lw_g (lw_at lw_m3 109 rfl) rfl
theorem q649 : (Jvm.Cond.methodLinkNest "WindCarver$Reader" (118 : Nat) ({ cls := "WindCarver", name := "workBy", desc := "(III)LWindCarver$Work;" } : Jvm.MethodName) "WindCarver") ∈ lw_tbl := lw_at lw_m3 110 rfl
theorem in_X7 : ∀ w ∈ wsX70, w ∈ lw_all := lw_in wsX70 [467, 469, 471, 473, 475, 477, 479] (by decide +kernel) (by decide +kernel)
/-! WindCarver$Fault -/
set_option maxRecDepth 100000
def RX8 : String := "WindCarver$Fault"
def TX8 : u_T := fun k => match k with
  | 0 => ("java/lang/Throwable", "cause", "Ljava/lang/Throwable;", false)
  | 1 => ("java/lang/Throwable", "stackTrace", "[Ljava/lang/StackTraceElement;", false)
  | 2 => ("java/lang/Throwable", "suppressedExceptions", "Ljava/util/List;", false)
  | 3 => ("java/lang/Throwable", "detailMessage", "Ljava/lang/String;", false)
  | 4 => ("java/lang/Throwable", "backtrace", "Ljava/lang/Object;", false)
  | 5 => ("java/lang/Throwable", "depth", "I", false)
  | 6 => ("WindCarver$Fault", "kind", "I", true)
  | _ => ("WindCarver$Fault", "place", "I", true)
def tyX8 : Nat → FieldType := fun k => match k with
  | 0 => .object "java/lang/Throwable"
  | 1 => .array (.object "java/lang/StackTraceElement")
  | 2 => .object "java/util/List"
  | 3 => .object "java/lang/String"
  | 4 => .object "java/lang/Object"
  | 5 => .int
  | 6 => .int
  | _ => .int
abbrev wsX80 : List Cond := u_ws RX8 TX8 8
theorem nmX8 : ∀ a, a < 8 → ∀ b, b < 8 → a ≠ b → (TX8 a).2.1 ≠ (TX8 b).2.1 := by decide +kernel
theorem tyX8_ok : ∀ k, k < 8 → parseFieldDescriptor (TX8 k).2.2.1 = some (tyX8 k) := by decide +kernel
abbrev cX8_init : ByteArray := prog_2_method_1_code
def yX8_init : MethodName := ⟨RX8, "<init>", "(II)V"⟩
def dkwX8_init_0 : List UInt8 := [42, 1, 1, 3, 3, 183, 0, 1, 42, 27, 181, 0, 7, 42, 28, 181, 0, 13, 177]
abbrev dktX8_init_0 : List UInt8 := dkwX8_init_0 ++ []
theorem dksX8_init_0 : cX8_init.data.toList.drop 0 = dktX8_init_0 := by decide +kernel
theorem dX8_init_0 : decode cX8_init 0 = .ok (.aload_n 0, 1) := dk_42 (dk_at dksX8_init_0 0 rfl rfl)
theorem dX8_init_1 : decode cX8_init 1 = .ok (.aconst_null, 1) := dk_1 (dk_at dksX8_init_0 1 rfl rfl)
theorem dX8_init_2 : decode cX8_init 2 = .ok (.aconst_null, 1) := dk_1 (dk_at dksX8_init_0 2 rfl rfl)
theorem dX8_init_3 : decode cX8_init 3 = .ok (.iconst 0, 1) := dk_3 (dk_at dksX8_init_0 3 rfl rfl)
theorem dX8_init_4 : decode cX8_init 4 = .ok (.iconst 0, 1) := dk_3 (dk_at dksX8_init_0 4 rfl rfl)
theorem dX8_init_5 : decode cX8_init 5 = .ok (.invokespecial 1, 3) := dk_183 0 1 (dk_at dksX8_init_0 5 rfl rfl)
theorem dX8_init_8 : decode cX8_init 8 = .ok (.aload_n 0, 1) := dk_42 (dk_at dksX8_init_0 8 rfl rfl)
theorem dX8_init_9 : decode cX8_init 9 = .ok (.iload_n 1, 1) := dk_27 (dk_at dksX8_init_0 9 rfl rfl)
theorem dX8_init_10 : decode cX8_init 10 = .ok (.putfield 7, 3) := dk_181 0 7 (dk_at dksX8_init_0 10 rfl rfl)
theorem dX8_init_13 : decode cX8_init 13 = .ok (.aload_n 0, 1) := dk_42 (dk_at dksX8_init_0 13 rfl rfl)
theorem dX8_init_14 : decode cX8_init 14 = .ok (.iload_n 2, 1) := dk_28 (dk_at dksX8_init_0 14 rfl rfl)
theorem dX8_init_15 : decode cX8_init 15 = .ok (.putfield 13, 3) := dk_181 0 13 (dk_at dksX8_init_0 15 rfl rfl)
theorem dX8_init_18 : decode cX8_init 18 = .ok (.return_, 1) := dk_177 (dk_at dksX8_init_0 18 rfl rfl)
theorem q78 : (Jvm.Cond.initialized "WindCarver$Fault") ∈ lw_all := lw_g (lw_at lw_m1 19 rfl) rfl
theorem q264 : (Jvm.Cond.selects "WindCarver$Fault" ({ cls := "java/lang/Throwable", name := "fillInStackTrace", desc := "()Ljava/lang/Throwable;" } : Jvm.MethodName) ({ cls := "java/lang/Throwable", name := "fillInStackTrace", desc := "()Ljava/lang/Throwable;" } : Jvm.MethodName)) ∈ lw_all := lw_g (lw_at lw_m1 205 rfl) rfl
theorem q513 : (Jvm.Cond.instantiable "WindCarver$Fault" (8 : Nat)) ∈ lw_all := lw_g (lw_at lw_m2 214 rfl) rfl
theorem q514 : (Jvm.Cond.castable "WindCarver$Fault" "WindCarver$Fault") ∈ lw_tbl := lw_at lw_m2 215 rfl
theorem q515 : (Jvm.Cond.selects "WindCarver$Fault" ({ cls := "java/lang/Throwable", name := "fillInStackTrace", desc := "(I)Ljava/lang/Throwable;" } : Jvm.MethodName) ({ cls := "java/lang/Throwable", name := "fillInStackTrace", desc := "(I)Ljava/lang/Throwable;" } : Jvm.MethodName)) ∈ lw_all := lw_g (lw_at lw_m2 216 rfl) rfl
theorem q516 : (Jvm.Cond.lays "WindCarver$Fault" "java/lang/Throwable" "cause" "Ljava/lang/Throwable;") ∈ lw_all := lw_g (lw_at lw_m2 217 rfl) rfl
theorem q517 : (Jvm.Cond.lays "WindCarver$Fault" "java/lang/Throwable" "stackTrace" "[Ljava/lang/StackTraceElement;") ∈ lw_all := lw_g (lw_at lw_m2 218 rfl) rfl
theorem q518 : (Jvm.Cond.lays "WindCarver$Fault" "java/lang/Throwable" "suppressedExceptions" "Ljava/util/List;") ∈ lw_all := lw_g (lw_at lw_m2 219 rfl) rfl
theorem q519 : (Jvm.Cond.lays "WindCarver$Fault" "java/lang/Throwable" "detailMessage" "Ljava/lang/String;") ∈ lw_all := lw_g (lw_at lw_m2 220 rfl) rfl
theorem q520 : (Jvm.Cond.lays "WindCarver$Fault" "java/lang/Throwable" "backtrace" "Ljava/lang/Object;") ∈ lw_all := lw_g (lw_at lw_m2 221 rfl) rfl
theorem q522 : (Jvm.Cond.instanceMethod ({ cls := "WindCarver$Fault", name := "<init>", desc := "(II)V" } : Jvm.MethodName)) ∈ lw_all := lw_g (lw_at lw_m2 223 rfl) rfl
theorem q523 : (Jvm.Cond.code ({ cls := "WindCarver$Fault", name := "<init>", desc := "(II)V" } : Jvm.MethodName) prog_2_method_1_code (3 : Nat) (Option.none : Option Jvm.ClassFile.FieldType)) ∈ lw_all := lw_g (lw_at lw_m2 224 rfl) rfl
theorem q524 : (Jvm.Cond.methodLink "WindCarver$Fault" (1 : Nat) ({ cls := "java/lang/Exception", name := "<init>", desc := "(Ljava/lang/String;Ljava/lang/Throwable;ZZ)V" } : Jvm.MethodName)) ∈ lw_all := lw_g (lw_at lw_m2 225 rfl) rfl
theorem q530 : (Jvm.Cond.fieldLink "WindCarver$Fault" (7 : Nat) "WindCarver$Fault" "kind" "I") ∈ lw_all := lw_g (lw_at lw_m2 231 rfl) rfl
theorem q532 : (Jvm.Cond.fieldLink "WindCarver$Fault" (13 : Nat) "WindCarver$Fault" "place" "I") ∈ lw_all := lw_g (lw_at lw_m2 233 rfl) rfl
theorem q534 : (Jvm.Cond.laysFinal "WindCarver$Fault" "WindCarver$Fault" "kind" "I") ∈ lw_all := lw_g (lw_at lw_m2 235 rfl) rfl
theorem q535 : (Jvm.Cond.soleField "WindCarver$Fault" "kind") ∈ lw_all := lw_g (lw_at lw_m2 236 rfl) rfl
theorem q536 : (Jvm.Cond.laysFinal "WindCarver$Fault" "WindCarver$Fault" "place" "I") ∈ lw_all := lw_g (lw_at lw_m2 237 rfl) rfl
theorem q537 : (Jvm.Cond.soleField "WindCarver$Fault" "place") ∈ lw_all := lw_g (lw_at lw_m2 238 rfl) rfl
theorem q538 : (Jvm.Cond.lays "WindCarver$Fault" "java/lang/Throwable" "depth" "I") ∈ lw_all := lw_g (lw_at lw_m2 239 rfl) rfl
theorem q539 : (Jvm.Cond.superclass "WindCarver$Fault" "java/lang/Exception") ∈ lw_all := lw_g (lw_at lw_m3 0 rfl) rfl
theorem in_X8 : ∀ w ∈ wsX80, w ∈ lw_all := lw_in wsX80 [516, 517, 518, 519, 520, 538, 534, 536] (by decide +kernel) (by decide +kernel)
