/-! WindCarver -/
set_option maxRecDepth 100000
def RX0 : String := "WindCarver"
def TX0 : u_T := fun k => match k with
  | 0 => ("WindCarver", "rows", "[LWindCarver$Shelf;", true)
  | 1 => ("WindCarver", "tape", "[B", true)
  | 2 => ("WindCarver", "taped", "I", false)
  | 3 => ("WindCarver", "faultKind", "I", false)
  | 4 => ("WindCarver", "pass", "LWindCarver$Pass;", true)
  | 5 => ("WindCarver", "then", "LWindCarver$Pass;", true)
  | 6 => ("WindCarver", "past", "[LWindCarver$Pass;", true)
  | 7 => ("WindCarver", "acts", "I", false)
  | 8 => ("WindCarver", "images", "[LWindCarver$Pass;", true)
  | 9 => ("WindCarver", "trail", "LWindCarver$Trail;", false)
  | 10 => ("WindCarver", "status", "I", false)
  | _ => ("WindCarver", "tried", "[LWindCarver$Work;", true)
def tyX0 : Nat → FieldType := fun k => match k with
  | 0 => .array (.object "WindCarver$Shelf")
  | 1 => .array .byte
  | 2 => .int
  | 3 => .int
  | 4 => .object "WindCarver$Pass"
  | 5 => .object "WindCarver$Pass"
  | 6 => .array (.object "WindCarver$Pass")
  | 7 => .int
  | 8 => .array (.object "WindCarver$Pass")
  | 9 => .object "WindCarver$Trail"
  | 10 => .int
  | _ => .array (.object "WindCarver$Work")
abbrev wsX00 : List Cond := u_ws RX0 TX0 12
theorem nmX0 : ∀ a, a < 12 → ∀ b, b < 12 → a ≠ b → (TX0 a).2.1 ≠ (TX0 b).2.1 := by decide +kernel
theorem tyX0_ok : ∀ k, k < 12 → parseFieldDescriptor (TX0 k).2.2.1 = some (tyX0 k) := by decide +kernel
abbrev cX0_init : ByteArray := prog_1_method_6_code
def yX0_init : MethodName := ⟨RX0, "<init>", "()V"⟩
def dkwX0_init_3 : List UInt8 := [184, 0, 67, 181, 0, 71, 177]
abbrev dktX0_init_3 : List UInt8 := dkwX0_init_3 ++ []
def dkwX0_init_2 : List UInt8 := [181, 0, 53, 42, 5, 189, 0, 43, 181, 0, 57, 42, 187, 0, 60, 89, 183, 0, 62, 181, 0, 63, 42]
abbrev dktX0_init_2 : List UInt8 := dkwX0_init_2 ++ dktX0_init_3
def dkwX0_init_1 : List UInt8 := [183, 0, 45, 181, 0, 46, 42, 187, 0, 43, 89, 183, 0, 45, 181, 0, 50, 42, 16, 24, 189, 0, 43]
abbrev dktX0_init_1 : List UInt8 := dkwX0_init_1 ++ dktX0_init_2
def dkwX0_init_0 : List UInt8 := [42, 183, 0, 28, 42, 184, 0, 31, 181, 0, 35, 42, 16, 120, 188, 8, 181, 0, 39, 42, 187, 0, 43, 89]
abbrev dktX0_init_0 : List UInt8 := dkwX0_init_0 ++ dktX0_init_1
theorem dksX0_init_0 : cX0_init.data.toList.drop 0 = dktX0_init_0 := by decide +kernel
theorem dksX0_init_1 : cX0_init.data.toList.drop 24 = dktX0_init_1 := dk_seg dksX0_init_0 24 rfl rfl
theorem dksX0_init_2 : cX0_init.data.toList.drop 47 = dktX0_init_2 := dk_seg dksX0_init_1 23 rfl rfl
theorem dksX0_init_3 : cX0_init.data.toList.drop 70 = dktX0_init_3 := dk_seg dksX0_init_2 23 rfl rfl
theorem dX0_init_0 : decode cX0_init 0 = .ok (.aload_n 0, 1) := dk_42 (dk_at dksX0_init_0 0 rfl rfl)
theorem dX0_init_1 : decode cX0_init 1 = .ok (.invokespecial 28, 3) := dk_183 0 28 (dk_at dksX0_init_0 1 rfl rfl)
theorem dX0_init_4 : decode cX0_init 4 = .ok (.aload_n 0, 1) := dk_42 (dk_at dksX0_init_0 4 rfl rfl)
theorem dX0_init_5 : decode cX0_init 5 = .ok (.invokestatic 31, 3) := dk_184 0 31 (dk_at dksX0_init_0 5 rfl rfl)
theorem dX0_init_8 : decode cX0_init 8 = .ok (.putfield 35, 3) := dk_181 0 35 (dk_at dksX0_init_0 8 rfl rfl)
theorem dX0_init_11 : decode cX0_init 11 = .ok (.aload_n 0, 1) := dk_42 (dk_at dksX0_init_0 11 rfl rfl)
theorem dX0_init_12 : decode cX0_init 12 = .ok (.bipush 120, 2) := dk_16 120 (dk_at dksX0_init_0 12 rfl rfl)
theorem dX0_init_14 : decode cX0_init 14 = .ok (.newarray .byte, 2) := dk_188_8 (dk_at dksX0_init_0 14 rfl rfl)
theorem dX0_init_16 : decode cX0_init 16 = .ok (.putfield 39, 3) := dk_181 0 39 (dk_at dksX0_init_0 16 rfl rfl)
theorem dX0_init_19 : decode cX0_init 19 = .ok (.aload_n 0, 1) := dk_42 (dk_at dksX0_init_0 19 rfl rfl)
theorem dX0_init_20 : decode cX0_init 20 = .ok (.new 43, 3) := dk_187 0 43 (dk_at dksX0_init_0 20 rfl rfl)
theorem dX0_init_23 : decode cX0_init 23 = .ok (.dup, 1) := dk_89 (dk_at dksX0_init_0 23 rfl rfl)
theorem dX0_init_24 : decode cX0_init 24 = .ok (.invokespecial 45, 3) := dk_183 0 45 (dk_at dksX0_init_1 0 rfl rfl)
theorem dX0_init_27 : decode cX0_init 27 = .ok (.putfield 46, 3) := dk_181 0 46 (dk_at dksX0_init_1 3 rfl rfl)
theorem dX0_init_30 : decode cX0_init 30 = .ok (.aload_n 0, 1) := dk_42 (dk_at dksX0_init_1 6 rfl rfl)
theorem dX0_init_31 : decode cX0_init 31 = .ok (.new 43, 3) := dk_187 0 43 (dk_at dksX0_init_1 7 rfl rfl)
theorem dX0_init_34 : decode cX0_init 34 = .ok (.dup, 1) := dk_89 (dk_at dksX0_init_1 10 rfl rfl)
theorem dX0_init_35 : decode cX0_init 35 = .ok (.invokespecial 45, 3) := dk_183 0 45 (dk_at dksX0_init_1 11 rfl rfl)
theorem dX0_init_38 : decode cX0_init 38 = .ok (.putfield 50, 3) := dk_181 0 50 (dk_at dksX0_init_1 14 rfl rfl)
theorem dX0_init_41 : decode cX0_init 41 = .ok (.aload_n 0, 1) := dk_42 (dk_at dksX0_init_1 17 rfl rfl)
theorem dX0_init_42 : decode cX0_init 42 = .ok (.bipush 24, 2) := dk_16 24 (dk_at dksX0_init_1 18 rfl rfl)
theorem dX0_init_44 : decode cX0_init 44 = .ok (.anewarray 43, 3) := dk_189 0 43 (dk_at dksX0_init_1 20 rfl rfl)
theorem dX0_init_47 : decode cX0_init 47 = .ok (.putfield 53, 3) := dk_181 0 53 (dk_at dksX0_init_2 0 rfl rfl)
theorem dX0_init_50 : decode cX0_init 50 = .ok (.aload_n 0, 1) := dk_42 (dk_at dksX0_init_2 3 rfl rfl)
theorem dX0_init_51 : decode cX0_init 51 = .ok (.iconst 2, 1) := dk_5 (dk_at dksX0_init_2 4 rfl rfl)
theorem dX0_init_52 : decode cX0_init 52 = .ok (.anewarray 43, 3) := dk_189 0 43 (dk_at dksX0_init_2 5 rfl rfl)
theorem dX0_init_55 : decode cX0_init 55 = .ok (.putfield 57, 3) := dk_181 0 57 (dk_at dksX0_init_2 8 rfl rfl)
theorem dX0_init_58 : decode cX0_init 58 = .ok (.aload_n 0, 1) := dk_42 (dk_at dksX0_init_2 11 rfl rfl)
theorem dX0_init_59 : decode cX0_init 59 = .ok (.new 60, 3) := dk_187 0 60 (dk_at dksX0_init_2 12 rfl rfl)
theorem dX0_init_62 : decode cX0_init 62 = .ok (.dup, 1) := dk_89 (dk_at dksX0_init_2 15 rfl rfl)
theorem dX0_init_63 : decode cX0_init 63 = .ok (.invokespecial 62, 3) := dk_183 0 62 (dk_at dksX0_init_2 16 rfl rfl)
theorem dX0_init_66 : decode cX0_init 66 = .ok (.putfield 63, 3) := dk_181 0 63 (dk_at dksX0_init_2 19 rfl rfl)
theorem dX0_init_69 : decode cX0_init 69 = .ok (.aload_n 0, 1) := dk_42 (dk_at dksX0_init_2 22 rfl rfl)
theorem dX0_init_70 : decode cX0_init 70 = .ok (.invokestatic 67, 3) := dk_184 0 67 (dk_at dksX0_init_3 0 rfl rfl)
theorem dX0_init_73 : decode cX0_init 73 = .ok (.putfield 71, 3) := dk_181 0 71 (dk_at dksX0_init_3 3 rfl rfl)
theorem dX0_init_76 : decode cX0_init 76 = .ok (.return_, 1) := dk_177 (dk_at dksX0_init_3 6 rfl rfl)
abbrev cX0_shelves : ByteArray := prog_1_method_5_code
def yX0_shelves : MethodName := ⟨RX0, "shelves", "()[LWindCarver$Shelf;"⟩
def dkwX0_shelves_1 : List UInt8 := [132, 1, 1, 167, 255, 237, 42, 176]
abbrev dktX0_shelves_1 : List UInt8 := dkwX0_shelves_1 ++ []
def dkwX0_shelves_0 : List UInt8 := [16, 8, 189, 0, 23, 75, 3, 60, 27, 16, 8, 162, 0, 19, 42, 27, 187, 0, 23, 89, 183, 0, 25, 83]
abbrev dktX0_shelves_0 : List UInt8 := dkwX0_shelves_0 ++ dktX0_shelves_1
theorem dksX0_shelves_0 : cX0_shelves.data.toList.drop 0 = dktX0_shelves_0 := by decide +kernel
theorem dksX0_shelves_1 : cX0_shelves.data.toList.drop 24 = dktX0_shelves_1 := dk_seg dksX0_shelves_0 24 rfl rfl
theorem dX0_shelves_0 : decode cX0_shelves 0 = .ok (.bipush 8, 2) := dk_16 8 (dk_at dksX0_shelves_0 0 rfl rfl)
theorem dX0_shelves_2 : decode cX0_shelves 2 = .ok (.anewarray 23, 3) := dk_189 0 23 (dk_at dksX0_shelves_0 2 rfl rfl)
theorem dX0_shelves_5 : decode cX0_shelves 5 = .ok (.astore_n 0, 1) := dk_75 (dk_at dksX0_shelves_0 5 rfl rfl)
theorem dX0_shelves_6 : decode cX0_shelves 6 = .ok (.iconst 0, 1) := dk_3 (dk_at dksX0_shelves_0 6 rfl rfl)
theorem dX0_shelves_7 : decode cX0_shelves 7 = .ok (.istore_n 1, 1) := dk_60 (dk_at dksX0_shelves_0 7 rfl rfl)
theorem dX0_shelves_8 : decode cX0_shelves 8 = .ok (.iload_n 1, 1) := dk_27 (dk_at dksX0_shelves_0 8 rfl rfl)
theorem dX0_shelves_9 : decode cX0_shelves 9 = .ok (.bipush 8, 2) := dk_16 8 (dk_at dksX0_shelves_0 9 rfl rfl)
theorem dX0_shelves_11 : decode cX0_shelves 11 = .ok (.if_icmp .ge 19, 3) := dk_162 0 19 (dk_at dksX0_shelves_0 11 rfl rfl)
theorem dX0_shelves_14 : decode cX0_shelves 14 = .ok (.aload_n 0, 1) := dk_42 (dk_at dksX0_shelves_0 14 rfl rfl)
theorem dX0_shelves_15 : decode cX0_shelves 15 = .ok (.iload_n 1, 1) := dk_27 (dk_at dksX0_shelves_0 15 rfl rfl)
theorem dX0_shelves_16 : decode cX0_shelves 16 = .ok (.new 23, 3) := dk_187 0 23 (dk_at dksX0_shelves_0 16 rfl rfl)
theorem dX0_shelves_19 : decode cX0_shelves 19 = .ok (.dup, 1) := dk_89 (dk_at dksX0_shelves_0 19 rfl rfl)
theorem dX0_shelves_20 : decode cX0_shelves 20 = .ok (.invokespecial 25, 3) := dk_183 0 25 (dk_at dksX0_shelves_0 20 rfl rfl)
theorem dX0_shelves_23 : decode cX0_shelves 23 = .ok (.aastore, 1) := dk_83 (dk_at dksX0_shelves_0 23 rfl rfl)
theorem dX0_shelves_24 : decode cX0_shelves 24 = .ok (.iinc 1 1, 3) := dk_132 1 1 (dk_at dksX0_shelves_1 0 rfl rfl)
theorem dX0_shelves_27 : decode cX0_shelves 27 = .ok (.goto (-19), 3) := dk_167 255 237 (dk_at dksX0_shelves_1 3 rfl rfl)
theorem dX0_shelves_30 : decode cX0_shelves 30 = .ok (.aload_n 0, 1) := dk_42 (dk_at dksX0_shelves_1 6 rfl rfl)
theorem dX0_shelves_31 : decode cX0_shelves 31 = .ok (.areturn, 1) := dk_176 (dk_at dksX0_shelves_1 7 rfl rfl)
abbrev cX0_walls : ByteArray := prog_1_method_42_code
def yX0_walls : MethodName := ⟨RX0, "walls", "()[LWindCarver$Work;"⟩
def dkwX0_walls_1 : List UInt8 := [183, 0, 3, 83, 132, 1, 1, 167, 255, 234, 42, 176]
abbrev dktX0_walls_1 : List UInt8 := dkwX0_walls_1 ++ []
def dkwX0_walls_0 : List UInt8 := [16, 16, 189, 0, 19, 75, 3, 60, 27, 16, 16, 162, 0, 22, 42, 27, 187, 0, 1, 89, 27, 16, 99]
abbrev dktX0_walls_0 : List UInt8 := dkwX0_walls_0 ++ dktX0_walls_1
theorem dksX0_walls_0 : cX0_walls.data.toList.drop 0 = dktX0_walls_0 := by decide +kernel
theorem dksX0_walls_1 : cX0_walls.data.toList.drop 23 = dktX0_walls_1 := dk_seg dksX0_walls_0 23 rfl rfl
theorem dX0_walls_0 : decode cX0_walls 0 = .ok (.bipush 16, 2) := dk_16 16 (dk_at dksX0_walls_0 0 rfl rfl)
theorem dX0_walls_2 : decode cX0_walls 2 = .ok (.anewarray 19, 3) := dk_189 0 19 (dk_at dksX0_walls_0 2 rfl rfl)
theorem dX0_walls_5 : decode cX0_walls 5 = .ok (.astore_n 0, 1) := dk_75 (dk_at dksX0_walls_0 5 rfl rfl)
theorem dX0_walls_6 : decode cX0_walls 6 = .ok (.iconst 0, 1) := dk_3 (dk_at dksX0_walls_0 6 rfl rfl)
theorem dX0_walls_7 : decode cX0_walls 7 = .ok (.istore_n 1, 1) := dk_60 (dk_at dksX0_walls_0 7 rfl rfl)
theorem dX0_walls_8 : decode cX0_walls 8 = .ok (.iload_n 1, 1) := dk_27 (dk_at dksX0_walls_0 8 rfl rfl)
theorem dX0_walls_9 : decode cX0_walls 9 = .ok (.bipush 16, 2) := dk_16 16 (dk_at dksX0_walls_0 9 rfl rfl)
theorem dX0_walls_11 : decode cX0_walls 11 = .ok (.if_icmp .ge 22, 3) := dk_162 0 22 (dk_at dksX0_walls_0 11 rfl rfl)
theorem dX0_walls_14 : decode cX0_walls 14 = .ok (.aload_n 0, 1) := dk_42 (dk_at dksX0_walls_0 14 rfl rfl)
theorem dX0_walls_15 : decode cX0_walls 15 = .ok (.iload_n 1, 1) := dk_27 (dk_at dksX0_walls_0 15 rfl rfl)
theorem dX0_walls_16 : decode cX0_walls 16 = .ok (.new 1, 3) := dk_187 0 1 (dk_at dksX0_walls_0 16 rfl rfl)
theorem dX0_walls_19 : decode cX0_walls 19 = .ok (.dup, 1) := dk_89 (dk_at dksX0_walls_0 19 rfl rfl)
theorem dX0_walls_20 : decode cX0_walls 20 = .ok (.iload_n 1, 1) := dk_27 (dk_at dksX0_walls_0 20 rfl rfl)
theorem dX0_walls_21 : decode cX0_walls 21 = .ok (.bipush 99, 2) := dk_16 99 (dk_at dksX0_walls_0 21 rfl rfl)
theorem dX0_walls_23 : decode cX0_walls 23 = .ok (.invokespecial 3, 3) := dk_183 0 3 (dk_at dksX0_walls_1 0 rfl rfl)
theorem dX0_walls_26 : decode cX0_walls 26 = .ok (.aastore, 1) := dk_83 (dk_at dksX0_walls_1 3 rfl rfl)
theorem dX0_walls_27 : decode cX0_walls 27 = .ok (.iinc 1 1, 3) := dk_132 1 1 (dk_at dksX0_walls_1 4 rfl rfl)
theorem dX0_walls_30 : decode cX0_walls 30 = .ok (.goto (-22), 3) := dk_167 255 234 (dk_at dksX0_walls_1 7 rfl rfl)
theorem dX0_walls_33 : decode cX0_walls 33 = .ok (.aload_n 0, 1) := dk_42 (dk_at dksX0_walls_1 10 rfl rfl)
theorem dX0_walls_34 : decode cX0_walls 34 = .ok (.areturn, 1) := dk_176 (dk_at dksX0_walls_1 11 rfl rfl)
abbrev cX0_row : ByteArray := prog_1_method_11_code
def yX0_row : MethodName := ⟨RX0, "row", "(III)I"⟩
def dkwX0_row_2 : List UInt8 := [182, 0, 101, 172, 58, 4, 42, 7, 182, 0, 107, 172]
abbrev dktX0_row_2 : List UInt8 := dkwX0_row_2 ++ []
def dkwX0_row_1 : List UInt8 := [164, 0, 6, 18, 92, 172, 42, 180, 0, 35, 27, 50, 28, 29, 184, 0, 93, 181, 0, 97, 42, 29]
abbrev dktX0_row_1 : List UInt8 := dkwX0_row_1 ++ dktX0_row_2
def dkwX0_row_0 : List UInt8 := [27, 184, 0, 86, 153, 0, 21, 28, 133, 9, 20, 0, 90, 184, 0, 82, 153, 0, 9, 29, 16, 40]
abbrev dktX0_row_0 : List UInt8 := dkwX0_row_0 ++ dktX0_row_1
theorem dksX0_row_0 : cX0_row.data.toList.drop 0 = dktX0_row_0 := by decide +kernel
theorem dksX0_row_1 : cX0_row.data.toList.drop 22 = dktX0_row_1 := dk_seg dksX0_row_0 22 rfl rfl
theorem dksX0_row_2 : cX0_row.data.toList.drop 44 = dktX0_row_2 := dk_seg dksX0_row_1 22 rfl rfl
theorem dX0_row_0 : decode cX0_row 0 = .ok (.iload_n 1, 1) := dk_27 (dk_at dksX0_row_0 0 rfl rfl)
theorem dX0_row_1 : decode cX0_row 1 = .ok (.invokestatic 86, 3) := dk_184 0 86 (dk_at dksX0_row_0 1 rfl rfl)
theorem dX0_row_4 : decode cX0_row 4 = .ok (.ifCond .eq 21, 3) := dk_153 0 21 (dk_at dksX0_row_0 4 rfl rfl)
theorem dX0_row_7 : decode cX0_row 7 = .ok (.iload_n 2, 1) := dk_28 (dk_at dksX0_row_0 7 rfl rfl)
theorem dX0_row_8 : decode cX0_row 8 = .ok (.i2l, 1) := dk_133 (dk_at dksX0_row_0 8 rfl rfl)
theorem dX0_row_9 : decode cX0_row 9 = .ok (.lconst 0, 1) := dk_9 (dk_at dksX0_row_0 9 rfl rfl)
theorem dX0_row_10 : decode cX0_row 10 = .ok (.ldc2_w 90, 3) := dk_20 0 90 (dk_at dksX0_row_0 10 rfl rfl)
theorem dX0_row_13 : decode cX0_row 13 = .ok (.invokestatic 82, 3) := dk_184 0 82 (dk_at dksX0_row_0 13 rfl rfl)
theorem dX0_row_16 : decode cX0_row 16 = .ok (.ifCond .eq 9, 3) := dk_153 0 9 (dk_at dksX0_row_0 16 rfl rfl)
theorem dX0_row_19 : decode cX0_row 19 = .ok (.iload_n 3, 1) := dk_29 (dk_at dksX0_row_0 19 rfl rfl)
theorem dX0_row_20 : decode cX0_row 20 = .ok (.bipush 40, 2) := dk_16 40 (dk_at dksX0_row_0 20 rfl rfl)
theorem dX0_row_22 : decode cX0_row 22 = .ok (.if_icmp .le 6, 3) := dk_164 0 6 (dk_at dksX0_row_1 0 rfl rfl)
theorem dX0_row_25 : decode cX0_row 25 = .ok (.ldc 92, 2) := dk_18 92 (dk_at dksX0_row_1 3 rfl rfl)
theorem dX0_row_27 : decode cX0_row 27 = .ok (.ireturn, 1) := dk_172 (dk_at dksX0_row_1 5 rfl rfl)
theorem dX0_row_28 : decode cX0_row 28 = .ok (.aload_n 0, 1) := dk_42 (dk_at dksX0_row_1 6 rfl rfl)
theorem dX0_row_29 : decode cX0_row 29 = .ok (.getfield 35, 3) := dk_180 0 35 (dk_at dksX0_row_1 7 rfl rfl)
theorem dX0_row_32 : decode cX0_row 32 = .ok (.iload_n 1, 1) := dk_27 (dk_at dksX0_row_1 10 rfl rfl)
theorem dX0_row_33 : decode cX0_row 33 = .ok (.aaload, 1) := dk_50 (dk_at dksX0_row_1 11 rfl rfl)
theorem dX0_row_34 : decode cX0_row 34 = .ok (.iload_n 2, 1) := dk_28 (dk_at dksX0_row_1 12 rfl rfl)
theorem dX0_row_35 : decode cX0_row 35 = .ok (.iload_n 3, 1) := dk_29 (dk_at dksX0_row_1 13 rfl rfl)
theorem dX0_row_36 : decode cX0_row 36 = .ok (.invokestatic 93, 3) := dk_184 0 93 (dk_at dksX0_row_1 14 rfl rfl)
theorem dX0_row_39 : decode cX0_row 39 = .ok (.putfield 97, 3) := dk_181 0 97 (dk_at dksX0_row_1 17 rfl rfl)
theorem dX0_row_42 : decode cX0_row 42 = .ok (.aload_n 0, 1) := dk_42 (dk_at dksX0_row_1 20 rfl rfl)
theorem dX0_row_43 : decode cX0_row 43 = .ok (.iload_n 3, 1) := dk_29 (dk_at dksX0_row_1 21 rfl rfl)
theorem dX0_row_44 : decode cX0_row 44 = .ok (.invokevirtual 101, 3) := dk_182 0 101 (dk_at dksX0_row_2 0 rfl rfl)
theorem dX0_row_47 : decode cX0_row 47 = .ok (.ireturn, 1) := dk_172 (dk_at dksX0_row_2 3 rfl rfl)
theorem dX0_row_48 : decode cX0_row 48 = .ok (.astore 4, 2) := dk_58 4 (dk_at dksX0_row_2 4 rfl rfl)
theorem dX0_row_50 : decode cX0_row 50 = .ok (.aload_n 0, 1) := dk_42 (dk_at dksX0_row_2 6 rfl rfl)
theorem dX0_row_51 : decode cX0_row 51 = .ok (.iconst 4, 1) := dk_7 (dk_at dksX0_row_2 7 rfl rfl)
theorem dX0_row_52 : decode cX0_row 52 = .ok (.invokevirtual 107, 3) := dk_182 0 107 (dk_at dksX0_row_2 8 rfl rfl)
theorem dX0_row_55 : decode cX0_row 55 = .ok (.ireturn, 1) := dk_172 (dk_at dksX0_row_2 11 rfl rfl)
abbrev cX0_isRow : ByteArray := prog_1_method_9_code
def yX0_isRow : MethodName := ⟨RX0, "isRow", "(I)Z"⟩
def dkwX0_isRow_0 : List UInt8 := [26, 133, 9, 20, 0, 80, 184, 0, 82, 172]
abbrev dktX0_isRow_0 : List UInt8 := dkwX0_isRow_0 ++ []
theorem dksX0_isRow_0 : cX0_isRow.data.toList.drop 0 = dktX0_isRow_0 := by decide +kernel
theorem dX0_isRow_0 : decode cX0_isRow 0 = .ok (.iload_n 0, 1) := dk_26 (dk_at dksX0_isRow_0 0 rfl rfl)
theorem dX0_isRow_1 : decode cX0_isRow 1 = .ok (.i2l, 1) := dk_133 (dk_at dksX0_isRow_0 1 rfl rfl)
theorem dX0_isRow_2 : decode cX0_isRow 2 = .ok (.lconst 0, 1) := dk_9 (dk_at dksX0_isRow_0 2 rfl rfl)
theorem dX0_isRow_3 : decode cX0_isRow 3 = .ok (.ldc2_w 80, 3) := dk_20 0 80 (dk_at dksX0_isRow_0 3 rfl rfl)
theorem dX0_isRow_6 : decode cX0_isRow 6 = .ok (.invokestatic 82, 3) := dk_184 0 82 (dk_at dksX0_isRow_0 6 rfl rfl)
theorem dX0_isRow_9 : decode cX0_isRow 9 = .ok (.ireturn, 1) := dk_172 (dk_at dksX0_isRow_0 9 rfl rfl)
abbrev cX0_isIn : ByteArray := prog_1_method_1_code
def yX0_isIn : MethodName := ⟨RX0, "isIn", "(JJJ)Z"⟩
def dkwX0_isIn_0 : List UInt8 := [30, 32, 148, 155, 0, 14, 30, 22, 4, 148, 157, 0, 7, 4, 167, 0, 4, 3, 172]
abbrev dktX0_isIn_0 : List UInt8 := dkwX0_isIn_0 ++ []
theorem dksX0_isIn_0 : cX0_isIn.data.toList.drop 0 = dktX0_isIn_0 := by decide +kernel
theorem dX0_isIn_0 : decode cX0_isIn 0 = .ok (.lload_n 0, 1) := dk_30 (dk_at dksX0_isIn_0 0 rfl rfl)
theorem dX0_isIn_1 : decode cX0_isIn 1 = .ok (.lload_n 2, 1) := dk_32 (dk_at dksX0_isIn_0 1 rfl rfl)
theorem dX0_isIn_2 : decode cX0_isIn 2 = .ok (.lcmp, 1) := dk_148 (dk_at dksX0_isIn_0 2 rfl rfl)
theorem dX0_isIn_3 : decode cX0_isIn 3 = .ok (.ifCond .lt 14, 3) := dk_155 0 14 (dk_at dksX0_isIn_0 3 rfl rfl)
theorem dX0_isIn_6 : decode cX0_isIn 6 = .ok (.lload_n 0, 1) := dk_30 (dk_at dksX0_isIn_0 6 rfl rfl)
theorem dX0_isIn_7 : decode cX0_isIn 7 = .ok (.lload 4, 2) := dk_22 4 (dk_at dksX0_isIn_0 7 rfl rfl)
theorem dX0_isIn_9 : decode cX0_isIn 9 = .ok (.lcmp, 1) := dk_148 (dk_at dksX0_isIn_0 9 rfl rfl)
theorem dX0_isIn_10 : decode cX0_isIn 10 = .ok (.ifCond .gt 7, 3) := dk_157 0 7 (dk_at dksX0_isIn_0 10 rfl rfl)
theorem dX0_isIn_13 : decode cX0_isIn 13 = .ok (.iconst 1, 1) := dk_4 (dk_at dksX0_isIn_0 13 rfl rfl)
theorem dX0_isIn_14 : decode cX0_isIn 14 = .ok (.goto 4, 3) := dk_167 0 4 (dk_at dksX0_isIn_0 14 rfl rfl)
theorem dX0_isIn_17 : decode cX0_isIn 17 = .ok (.iconst 0, 1) := dk_3 (dk_at dksX0_isIn_0 17 rfl rfl)
theorem dX0_isIn_18 : decode cX0_isIn 18 = .ok (.ireturn, 1) := dk_172 (dk_at dksX0_isIn_0 18 rfl rfl)
abbrev cX0_newLane : ByteArray := prog_1_method_10_code
def yX0_newLane : MethodName := ⟨RX0, "newLane", "(II)Ljava/lang/Object;"⟩
def dkwX0_newLane_1 : List UInt8 := [176]
abbrev dktX0_newLane_1 : List UInt8 := dkwX0_newLane_1 ++ []
def dkwX0_newLane_0 : List UInt8 := [26, 154, 0, 9, 27, 188, 8, 167, 0, 17, 26, 4, 160, 0, 9, 27, 188, 9, 167, 0, 6, 27, 188, 10]
abbrev dktX0_newLane_0 : List UInt8 := dkwX0_newLane_0 ++ dktX0_newLane_1
theorem dksX0_newLane_0 : cX0_newLane.data.toList.drop 0 = dktX0_newLane_0 := by decide +kernel
theorem dksX0_newLane_1 : cX0_newLane.data.toList.drop 24 = dktX0_newLane_1 := dk_seg dksX0_newLane_0 24 rfl rfl
theorem dX0_newLane_0 : decode cX0_newLane 0 = .ok (.iload_n 0, 1) := dk_26 (dk_at dksX0_newLane_0 0 rfl rfl)
theorem dX0_newLane_1 : decode cX0_newLane 1 = .ok (.ifCond .ne 9, 3) := dk_154 0 9 (dk_at dksX0_newLane_0 1 rfl rfl)
theorem dX0_newLane_4 : decode cX0_newLane 4 = .ok (.iload_n 1, 1) := dk_27 (dk_at dksX0_newLane_0 4 rfl rfl)
theorem dX0_newLane_5 : decode cX0_newLane 5 = .ok (.newarray .byte, 2) := dk_188_8 (dk_at dksX0_newLane_0 5 rfl rfl)
theorem dX0_newLane_7 : decode cX0_newLane 7 = .ok (.goto 17, 3) := dk_167 0 17 (dk_at dksX0_newLane_0 7 rfl rfl)
theorem dX0_newLane_10 : decode cX0_newLane 10 = .ok (.iload_n 0, 1) := dk_26 (dk_at dksX0_newLane_0 10 rfl rfl)
theorem dX0_newLane_11 : decode cX0_newLane 11 = .ok (.iconst 1, 1) := dk_4 (dk_at dksX0_newLane_0 11 rfl rfl)
theorem dX0_newLane_12 : decode cX0_newLane 12 = .ok (.if_icmp .ne 9, 3) := dk_160 0 9 (dk_at dksX0_newLane_0 12 rfl rfl)
theorem dX0_newLane_15 : decode cX0_newLane 15 = .ok (.iload_n 1, 1) := dk_27 (dk_at dksX0_newLane_0 15 rfl rfl)
theorem dX0_newLane_16 : decode cX0_newLane 16 = .ok (.newarray .short, 2) := dk_188_9 (dk_at dksX0_newLane_0 16 rfl rfl)
theorem dX0_newLane_18 : decode cX0_newLane 18 = .ok (.goto 6, 3) := dk_167 0 6 (dk_at dksX0_newLane_0 18 rfl rfl)
theorem dX0_newLane_21 : decode cX0_newLane 21 = .ok (.iload_n 1, 1) := dk_27 (dk_at dksX0_newLane_0 21 rfl rfl)
theorem dX0_newLane_22 : decode cX0_newLane 22 = .ok (.newarray .int, 2) := dk_188_10 (dk_at dksX0_newLane_0 22 rfl rfl)
theorem dX0_newLane_24 : decode cX0_newLane 24 = .ok (.areturn, 1) := dk_176 (dk_at dksX0_newLane_1 0 rfl rfl)
abbrev cX0_well : ByteArray := prog_1_method_8_code
def yX0_well : MethodName := ⟨RX0, "well", "(I)I"⟩
def dkwX0_well_0 : List UInt8 := [42, 3, 181, 0, 75, 27, 172]
abbrev dktX0_well_0 : List UInt8 := dkwX0_well_0 ++ []
theorem dksX0_well_0 : cX0_well.data.toList.drop 0 = dktX0_well_0 := by decide +kernel
theorem dX0_well_0 : decode cX0_well 0 = .ok (.aload_n 0, 1) := dk_42 (dk_at dksX0_well_0 0 rfl rfl)
theorem dX0_well_1 : decode cX0_well 1 = .ok (.iconst 0, 1) := dk_3 (dk_at dksX0_well_0 1 rfl rfl)
theorem dX0_well_2 : decode cX0_well 2 = .ok (.putfield 75, 3) := dk_181 0 75 (dk_at dksX0_well_0 2 rfl rfl)
theorem dX0_well_5 : decode cX0_well 5 = .ok (.iload_n 1, 1) := dk_27 (dk_at dksX0_well_0 5 rfl rfl)
theorem dX0_well_6 : decode cX0_well 6 = .ok (.ireturn, 1) := dk_172 (dk_at dksX0_well_0 6 rfl rfl)
abbrev cX0_found : ByteArray := prog_1_method_7_code
def yX0_found : MethodName := ⟨RX0, "found", "(I)I"⟩
def dkwX0_found_0 : List UInt8 := [42, 27, 181, 0, 75, 18, 79, 27, 100, 172]
abbrev dktX0_found_0 : List UInt8 := dkwX0_found_0 ++ []
theorem dksX0_found_0 : cX0_found.data.toList.drop 0 = dktX0_found_0 := by decide +kernel
theorem dX0_found_0 : decode cX0_found 0 = .ok (.aload_n 0, 1) := dk_42 (dk_at dksX0_found_0 0 rfl rfl)
theorem dX0_found_1 : decode cX0_found 1 = .ok (.iload_n 1, 1) := dk_27 (dk_at dksX0_found_0 1 rfl rfl)
theorem dX0_found_2 : decode cX0_found 2 = .ok (.putfield 75, 3) := dk_181 0 75 (dk_at dksX0_found_0 2 rfl rfl)
theorem dX0_found_5 : decode cX0_found 5 = .ok (.ldc 79, 2) := dk_18 79 (dk_at dksX0_found_0 5 rfl rfl)
theorem dX0_found_7 : decode cX0_found 7 = .ok (.iload_n 1, 1) := dk_27 (dk_at dksX0_found_0 7 rfl rfl)
theorem dX0_found_8 : decode cX0_found 8 = .ok (.isub, 1) := dk_100 (dk_at dksX0_found_0 8 rfl rfl)
theorem dX0_found_9 : decode cX0_found 9 = .ok (.ireturn, 1) := dk_172 (dk_at dksX0_found_0 9 rfl rfl)
abbrev cX0_set : ByteArray := prog_1_method_12_code
def yX0_set : MethodName := ⟨RX0, "set", "(III)I"⟩
def dkwX0_set_1 : List UInt8 := [182, 0, 101, 172, 58, 4, 42, 4, 182, 0, 107, 172, 58, 4, 42, 5, 182, 0, 107, 172]
abbrev dktX0_set_1 : List UInt8 := dkwX0_set_1 ++ []
def dkwX0_set_0 : List UInt8 := [27, 184, 0, 86, 154, 0, 6, 18, 92, 172, 42, 42, 180, 0, 35, 27, 50, 28, 29, 182, 0, 110]
abbrev dktX0_set_0 : List UInt8 := dkwX0_set_0 ++ dktX0_set_1
theorem dksX0_set_0 : cX0_set.data.toList.drop 0 = dktX0_set_0 := by decide +kernel
theorem dksX0_set_1 : cX0_set.data.toList.drop 22 = dktX0_set_1 := dk_seg dksX0_set_0 22 rfl rfl
theorem dX0_set_0 : decode cX0_set 0 = .ok (.iload_n 1, 1) := dk_27 (dk_at dksX0_set_0 0 rfl rfl)
theorem dX0_set_1 : decode cX0_set 1 = .ok (.invokestatic 86, 3) := dk_184 0 86 (dk_at dksX0_set_0 1 rfl rfl)
theorem dX0_set_4 : decode cX0_set 4 = .ok (.ifCond .ne 6, 3) := dk_154 0 6 (dk_at dksX0_set_0 4 rfl rfl)
theorem dX0_set_7 : decode cX0_set 7 = .ok (.ldc 92, 2) := dk_18 92 (dk_at dksX0_set_0 7 rfl rfl)
theorem dX0_set_9 : decode cX0_set 9 = .ok (.ireturn, 1) := dk_172 (dk_at dksX0_set_0 9 rfl rfl)
theorem dX0_set_10 : decode cX0_set 10 = .ok (.aload_n 0, 1) := dk_42 (dk_at dksX0_set_0 10 rfl rfl)
theorem dX0_set_11 : decode cX0_set 11 = .ok (.aload_n 0, 1) := dk_42 (dk_at dksX0_set_0 11 rfl rfl)
theorem dX0_set_12 : decode cX0_set 12 = .ok (.getfield 35, 3) := dk_180 0 35 (dk_at dksX0_set_0 12 rfl rfl)
theorem dX0_set_15 : decode cX0_set 15 = .ok (.iload_n 1, 1) := dk_27 (dk_at dksX0_set_0 15 rfl rfl)
theorem dX0_set_16 : decode cX0_set 16 = .ok (.aaload, 1) := dk_50 (dk_at dksX0_set_0 16 rfl rfl)
theorem dX0_set_17 : decode cX0_set 17 = .ok (.iload_n 2, 1) := dk_28 (dk_at dksX0_set_0 17 rfl rfl)
theorem dX0_set_18 : decode cX0_set 18 = .ok (.iload_n 3, 1) := dk_29 (dk_at dksX0_set_0 18 rfl rfl)
theorem dX0_set_19 : decode cX0_set 19 = .ok (.invokevirtual 110, 3) := dk_182 0 110 (dk_at dksX0_set_0 19 rfl rfl)
theorem dX0_set_22 : decode cX0_set 22 = .ok (.invokevirtual 101, 3) := dk_182 0 101 (dk_at dksX0_set_1 0 rfl rfl)
theorem dX0_set_25 : decode cX0_set 25 = .ok (.ireturn, 1) := dk_172 (dk_at dksX0_set_1 3 rfl rfl)
theorem dX0_set_26 : decode cX0_set 26 = .ok (.astore 4, 2) := dk_58 4 (dk_at dksX0_set_1 4 rfl rfl)
theorem dX0_set_28 : decode cX0_set 28 = .ok (.aload_n 0, 1) := dk_42 (dk_at dksX0_set_1 6 rfl rfl)
theorem dX0_set_29 : decode cX0_set 29 = .ok (.iconst 1, 1) := dk_4 (dk_at dksX0_set_1 7 rfl rfl)
theorem dX0_set_30 : decode cX0_set 30 = .ok (.invokevirtual 107, 3) := dk_182 0 107 (dk_at dksX0_set_1 8 rfl rfl)
theorem dX0_set_33 : decode cX0_set 33 = .ok (.ireturn, 1) := dk_172 (dk_at dksX0_set_1 11 rfl rfl)
theorem dX0_set_34 : decode cX0_set 34 = .ok (.astore 4, 2) := dk_58 4 (dk_at dksX0_set_1 12 rfl rfl)
theorem dX0_set_36 : decode cX0_set 36 = .ok (.aload_n 0, 1) := dk_42 (dk_at dksX0_set_1 14 rfl rfl)
theorem dX0_set_37 : decode cX0_set 37 = .ok (.iconst 2, 1) := dk_5 (dk_at dksX0_set_1 15 rfl rfl)
theorem dX0_set_38 : decode cX0_set 38 = .ok (.invokevirtual 107, 3) := dk_182 0 107 (dk_at dksX0_set_1 16 rfl rfl)
theorem dX0_set_41 : decode cX0_set 41 = .ok (.ireturn, 1) := dk_172 (dk_at dksX0_set_1 19 rfl rfl)
abbrev cX0_copy : ByteArray := prog_1_method_13_code
def yX0_copy : MethodName := ⟨RX0, "copy", "(IIIII)I"⟩
def dkwX0_copy_3 : List UInt8 := [182, 0, 107, 172]
abbrev dktX0_copy_3 : List UInt8 := dkwX0_copy_3 ++ []
def dkwX0_copy_2 : List UInt8 := [182, 0, 101, 172, 58, 6, 42, 4, 182, 0, 107, 172, 58, 6, 42, 8, 182, 0, 107, 172, 58, 6, 42, 5]
abbrev dktX0_copy_2 : List UInt8 := dkwX0_copy_2 ++ dktX0_copy_3
def dkwX0_copy_1 : List UInt8 := [180, 0, 97, 28, 42, 180, 0, 35, 29, 50, 180, 0, 97, 21, 4, 21, 5, 184, 0, 118, 42, 21, 5]
abbrev dktX0_copy_1 : List UInt8 := dkwX0_copy_1 ++ dktX0_copy_2
def dkwX0_copy_0 : List UInt8 := [27, 184, 0, 86, 153, 0, 10, 29, 184, 0, 86, 154, 0, 6, 18, 92, 172, 42, 180, 0, 35, 27, 50]
abbrev dktX0_copy_0 : List UInt8 := dkwX0_copy_0 ++ dktX0_copy_1
theorem dksX0_copy_0 : cX0_copy.data.toList.drop 0 = dktX0_copy_0 := by decide +kernel
theorem dksX0_copy_1 : cX0_copy.data.toList.drop 23 = dktX0_copy_1 := dk_seg dksX0_copy_0 23 rfl rfl
theorem dksX0_copy_2 : cX0_copy.data.toList.drop 46 = dktX0_copy_2 := dk_seg dksX0_copy_1 23 rfl rfl
theorem dksX0_copy_3 : cX0_copy.data.toList.drop 70 = dktX0_copy_3 := dk_seg dksX0_copy_2 24 rfl rfl
theorem dX0_copy_0 : decode cX0_copy 0 = .ok (.iload_n 1, 1) := dk_27 (dk_at dksX0_copy_0 0 rfl rfl)
theorem dX0_copy_1 : decode cX0_copy 1 = .ok (.invokestatic 86, 3) := dk_184 0 86 (dk_at dksX0_copy_0 1 rfl rfl)
theorem dX0_copy_4 : decode cX0_copy 4 = .ok (.ifCond .eq 10, 3) := dk_153 0 10 (dk_at dksX0_copy_0 4 rfl rfl)
theorem dX0_copy_7 : decode cX0_copy 7 = .ok (.iload_n 3, 1) := dk_29 (dk_at dksX0_copy_0 7 rfl rfl)
theorem dX0_copy_8 : decode cX0_copy 8 = .ok (.invokestatic 86, 3) := dk_184 0 86 (dk_at dksX0_copy_0 8 rfl rfl)
theorem dX0_copy_11 : decode cX0_copy 11 = .ok (.ifCond .ne 6, 3) := dk_154 0 6 (dk_at dksX0_copy_0 11 rfl rfl)
theorem dX0_copy_14 : decode cX0_copy 14 = .ok (.ldc 92, 2) := dk_18 92 (dk_at dksX0_copy_0 14 rfl rfl)
theorem dX0_copy_16 : decode cX0_copy 16 = .ok (.ireturn, 1) := dk_172 (dk_at dksX0_copy_0 16 rfl rfl)
theorem dX0_copy_17 : decode cX0_copy 17 = .ok (.aload_n 0, 1) := dk_42 (dk_at dksX0_copy_0 17 rfl rfl)
theorem dX0_copy_18 : decode cX0_copy 18 = .ok (.getfield 35, 3) := dk_180 0 35 (dk_at dksX0_copy_0 18 rfl rfl)
theorem dX0_copy_21 : decode cX0_copy 21 = .ok (.iload_n 1, 1) := dk_27 (dk_at dksX0_copy_0 21 rfl rfl)
theorem dX0_copy_22 : decode cX0_copy 22 = .ok (.aaload, 1) := dk_50 (dk_at dksX0_copy_0 22 rfl rfl)
theorem dX0_copy_23 : decode cX0_copy 23 = .ok (.getfield 97, 3) := dk_180 0 97 (dk_at dksX0_copy_1 0 rfl rfl)
theorem dX0_copy_26 : decode cX0_copy 26 = .ok (.iload_n 2, 1) := dk_28 (dk_at dksX0_copy_1 3 rfl rfl)
theorem dX0_copy_27 : decode cX0_copy 27 = .ok (.aload_n 0, 1) := dk_42 (dk_at dksX0_copy_1 4 rfl rfl)
theorem dX0_copy_28 : decode cX0_copy 28 = .ok (.getfield 35, 3) := dk_180 0 35 (dk_at dksX0_copy_1 5 rfl rfl)
theorem dX0_copy_31 : decode cX0_copy 31 = .ok (.iload_n 3, 1) := dk_29 (dk_at dksX0_copy_1 8 rfl rfl)
theorem dX0_copy_32 : decode cX0_copy 32 = .ok (.aaload, 1) := dk_50 (dk_at dksX0_copy_1 9 rfl rfl)
theorem dX0_copy_33 : decode cX0_copy 33 = .ok (.getfield 97, 3) := dk_180 0 97 (dk_at dksX0_copy_1 10 rfl rfl)
theorem dX0_copy_36 : decode cX0_copy 36 = .ok (.iload 4, 2) := dk_21 4 (dk_at dksX0_copy_1 13 rfl rfl)
theorem dX0_copy_38 : decode cX0_copy 38 = .ok (.iload 5, 2) := dk_21 5 (dk_at dksX0_copy_1 15 rfl rfl)
theorem dX0_copy_40 : decode cX0_copy 40 = .ok (.invokestatic 118, 3) := dk_184 0 118 (dk_at dksX0_copy_1 17 rfl rfl)
theorem dX0_copy_43 : decode cX0_copy 43 = .ok (.aload_n 0, 1) := dk_42 (dk_at dksX0_copy_1 20 rfl rfl)
theorem dX0_copy_44 : decode cX0_copy 44 = .ok (.iload 5, 2) := dk_21 5 (dk_at dksX0_copy_1 21 rfl rfl)
theorem dX0_copy_46 : decode cX0_copy 46 = .ok (.invokevirtual 101, 3) := dk_182 0 101 (dk_at dksX0_copy_2 0 rfl rfl)
theorem dX0_copy_49 : decode cX0_copy 49 = .ok (.ireturn, 1) := dk_172 (dk_at dksX0_copy_2 3 rfl rfl)
theorem dX0_copy_50 : decode cX0_copy 50 = .ok (.astore 6, 2) := dk_58 6 (dk_at dksX0_copy_2 4 rfl rfl)
theorem dX0_copy_52 : decode cX0_copy 52 = .ok (.aload_n 0, 1) := dk_42 (dk_at dksX0_copy_2 6 rfl rfl)
theorem dX0_copy_53 : decode cX0_copy 53 = .ok (.iconst 1, 1) := dk_4 (dk_at dksX0_copy_2 7 rfl rfl)
theorem dX0_copy_54 : decode cX0_copy 54 = .ok (.invokevirtual 107, 3) := dk_182 0 107 (dk_at dksX0_copy_2 8 rfl rfl)
theorem dX0_copy_57 : decode cX0_copy 57 = .ok (.ireturn, 1) := dk_172 (dk_at dksX0_copy_2 11 rfl rfl)
theorem dX0_copy_58 : decode cX0_copy 58 = .ok (.astore 6, 2) := dk_58 6 (dk_at dksX0_copy_2 12 rfl rfl)
theorem dX0_copy_60 : decode cX0_copy 60 = .ok (.aload_n 0, 1) := dk_42 (dk_at dksX0_copy_2 14 rfl rfl)
theorem dX0_copy_61 : decode cX0_copy 61 = .ok (.iconst 5, 1) := dk_8 (dk_at dksX0_copy_2 15 rfl rfl)
theorem dX0_copy_62 : decode cX0_copy 62 = .ok (.invokevirtual 107, 3) := dk_182 0 107 (dk_at dksX0_copy_2 16 rfl rfl)
theorem dX0_copy_65 : decode cX0_copy 65 = .ok (.ireturn, 1) := dk_172 (dk_at dksX0_copy_2 19 rfl rfl)
theorem dX0_copy_66 : decode cX0_copy 66 = .ok (.astore 6, 2) := dk_58 6 (dk_at dksX0_copy_2 20 rfl rfl)
theorem dX0_copy_68 : decode cX0_copy 68 = .ok (.aload_n 0, 1) := dk_42 (dk_at dksX0_copy_2 22 rfl rfl)
theorem dX0_copy_69 : decode cX0_copy 69 = .ok (.iconst 2, 1) := dk_5 (dk_at dksX0_copy_2 23 rfl rfl)
theorem dX0_copy_70 : decode cX0_copy 70 = .ok (.invokevirtual 107, 3) := dk_182 0 107 (dk_at dksX0_copy_3 0 rfl rfl)
theorem dX0_copy_73 : decode cX0_copy 73 = .ok (.ireturn, 1) := dk_172 (dk_at dksX0_copy_3 3 rfl rfl)
abbrev cX0_drop : ByteArray := prog_1_method_14_code
def yX0_drop : MethodName := ⟨RX0, "drop", "(I)I"⟩
def dkwX0_drop_2 : List UInt8 := [50, 1, 181, 0, 97, 29, 172, 58, 4, 42, 180, 0, 35, 27, 50, 1, 181, 0, 97, 25, 4, 191]
abbrev dktX0_drop_2 : List UInt8 := dkwX0_drop_2 ++ []
def dkwX0_drop_1 : List UInt8 := [42, 180, 0, 35, 27, 50, 1, 181, 0, 97, 28, 172, 77, 42, 4, 182, 0, 107, 62, 42, 180, 0, 35, 27]
abbrev dktX0_drop_1 : List UInt8 := dkwX0_drop_1 ++ dktX0_drop_2
def dkwX0_drop_0 : List UInt8 := [27, 184, 0, 86, 154, 0, 6, 18, 92, 172, 42, 42, 180, 0, 35, 27, 50, 182, 0, 128, 182, 0, 101, 61]
abbrev dktX0_drop_0 : List UInt8 := dkwX0_drop_0 ++ dktX0_drop_1
theorem dksX0_drop_0 : cX0_drop.data.toList.drop 0 = dktX0_drop_0 := by decide +kernel
theorem dksX0_drop_1 : cX0_drop.data.toList.drop 24 = dktX0_drop_1 := dk_seg dksX0_drop_0 24 rfl rfl
theorem dksX0_drop_2 : cX0_drop.data.toList.drop 48 = dktX0_drop_2 := dk_seg dksX0_drop_1 24 rfl rfl
theorem dX0_drop_0 : decode cX0_drop 0 = .ok (.iload_n 1, 1) := dk_27 (dk_at dksX0_drop_0 0 rfl rfl)
theorem dX0_drop_1 : decode cX0_drop 1 = .ok (.invokestatic 86, 3) := dk_184 0 86 (dk_at dksX0_drop_0 1 rfl rfl)
theorem dX0_drop_4 : decode cX0_drop 4 = .ok (.ifCond .ne 6, 3) := dk_154 0 6 (dk_at dksX0_drop_0 4 rfl rfl)
theorem dX0_drop_7 : decode cX0_drop 7 = .ok (.ldc 92, 2) := dk_18 92 (dk_at dksX0_drop_0 7 rfl rfl)
theorem dX0_drop_9 : decode cX0_drop 9 = .ok (.ireturn, 1) := dk_172 (dk_at dksX0_drop_0 9 rfl rfl)
theorem dX0_drop_10 : decode cX0_drop 10 = .ok (.aload_n 0, 1) := dk_42 (dk_at dksX0_drop_0 10 rfl rfl)
theorem dX0_drop_11 : decode cX0_drop 11 = .ok (.aload_n 0, 1) := dk_42 (dk_at dksX0_drop_0 11 rfl rfl)
theorem dX0_drop_12 : decode cX0_drop 12 = .ok (.getfield 35, 3) := dk_180 0 35 (dk_at dksX0_drop_0 12 rfl rfl)
theorem dX0_drop_15 : decode cX0_drop 15 = .ok (.iload_n 1, 1) := dk_27 (dk_at dksX0_drop_0 15 rfl rfl)
theorem dX0_drop_16 : decode cX0_drop 16 = .ok (.aaload, 1) := dk_50 (dk_at dksX0_drop_0 16 rfl rfl)
theorem dX0_drop_17 : decode cX0_drop 17 = .ok (.invokevirtual 128, 3) := dk_182 0 128 (dk_at dksX0_drop_0 17 rfl rfl)
theorem dX0_drop_20 : decode cX0_drop 20 = .ok (.invokevirtual 101, 3) := dk_182 0 101 (dk_at dksX0_drop_0 20 rfl rfl)
theorem dX0_drop_23 : decode cX0_drop 23 = .ok (.istore_n 2, 1) := dk_61 (dk_at dksX0_drop_0 23 rfl rfl)
theorem dX0_drop_24 : decode cX0_drop 24 = .ok (.aload_n 0, 1) := dk_42 (dk_at dksX0_drop_1 0 rfl rfl)
theorem dX0_drop_25 : decode cX0_drop 25 = .ok (.getfield 35, 3) := dk_180 0 35 (dk_at dksX0_drop_1 1 rfl rfl)
theorem dX0_drop_28 : decode cX0_drop 28 = .ok (.iload_n 1, 1) := dk_27 (dk_at dksX0_drop_1 4 rfl rfl)
theorem dX0_drop_29 : decode cX0_drop 29 = .ok (.aaload, 1) := dk_50 (dk_at dksX0_drop_1 5 rfl rfl)
theorem dX0_drop_30 : decode cX0_drop 30 = .ok (.aconst_null, 1) := dk_1 (dk_at dksX0_drop_1 6 rfl rfl)
theorem dX0_drop_31 : decode cX0_drop 31 = .ok (.putfield 97, 3) := dk_181 0 97 (dk_at dksX0_drop_1 7 rfl rfl)
theorem dX0_drop_34 : decode cX0_drop 34 = .ok (.iload_n 2, 1) := dk_28 (dk_at dksX0_drop_1 10 rfl rfl)
theorem dX0_drop_35 : decode cX0_drop 35 = .ok (.ireturn, 1) := dk_172 (dk_at dksX0_drop_1 11 rfl rfl)
theorem dX0_drop_36 : decode cX0_drop 36 = .ok (.astore_n 2, 1) := dk_77 (dk_at dksX0_drop_1 12 rfl rfl)
theorem dX0_drop_37 : decode cX0_drop 37 = .ok (.aload_n 0, 1) := dk_42 (dk_at dksX0_drop_1 13 rfl rfl)
theorem dX0_drop_38 : decode cX0_drop 38 = .ok (.iconst 1, 1) := dk_4 (dk_at dksX0_drop_1 14 rfl rfl)
theorem dX0_drop_39 : decode cX0_drop 39 = .ok (.invokevirtual 107, 3) := dk_182 0 107 (dk_at dksX0_drop_1 15 rfl rfl)
theorem dX0_drop_42 : decode cX0_drop 42 = .ok (.istore_n 3, 1) := dk_62 (dk_at dksX0_drop_1 18 rfl rfl)
theorem dX0_drop_43 : decode cX0_drop 43 = .ok (.aload_n 0, 1) := dk_42 (dk_at dksX0_drop_1 19 rfl rfl)
theorem dX0_drop_44 : decode cX0_drop 44 = .ok (.getfield 35, 3) := dk_180 0 35 (dk_at dksX0_drop_1 20 rfl rfl)
theorem dX0_drop_47 : decode cX0_drop 47 = .ok (.iload_n 1, 1) := dk_27 (dk_at dksX0_drop_1 23 rfl rfl)
theorem dX0_drop_48 : decode cX0_drop 48 = .ok (.aaload, 1) := dk_50 (dk_at dksX0_drop_2 0 rfl rfl)
theorem dX0_drop_49 : decode cX0_drop 49 = .ok (.aconst_null, 1) := dk_1 (dk_at dksX0_drop_2 1 rfl rfl)
theorem dX0_drop_50 : decode cX0_drop 50 = .ok (.putfield 97, 3) := dk_181 0 97 (dk_at dksX0_drop_2 2 rfl rfl)
theorem dX0_drop_53 : decode cX0_drop 53 = .ok (.iload_n 3, 1) := dk_29 (dk_at dksX0_drop_2 5 rfl rfl)
theorem dX0_drop_54 : decode cX0_drop 54 = .ok (.ireturn, 1) := dk_172 (dk_at dksX0_drop_2 6 rfl rfl)
theorem dX0_drop_55 : decode cX0_drop 55 = .ok (.astore 4, 2) := dk_58 4 (dk_at dksX0_drop_2 7 rfl rfl)
theorem dX0_drop_57 : decode cX0_drop 57 = .ok (.aload_n 0, 1) := dk_42 (dk_at dksX0_drop_2 9 rfl rfl)
theorem dX0_drop_58 : decode cX0_drop 58 = .ok (.getfield 35, 3) := dk_180 0 35 (dk_at dksX0_drop_2 10 rfl rfl)
theorem dX0_drop_61 : decode cX0_drop 61 = .ok (.iload_n 1, 1) := dk_27 (dk_at dksX0_drop_2 13 rfl rfl)
theorem dX0_drop_62 : decode cX0_drop 62 = .ok (.aaload, 1) := dk_50 (dk_at dksX0_drop_2 14 rfl rfl)
theorem dX0_drop_63 : decode cX0_drop 63 = .ok (.aconst_null, 1) := dk_1 (dk_at dksX0_drop_2 15 rfl rfl)
theorem dX0_drop_64 : decode cX0_drop 64 = .ok (.putfield 97, 3) := dk_181 0 97 (dk_at dksX0_drop_2 16 rfl rfl)
theorem dX0_drop_67 : decode cX0_drop 67 = .ok (.aload 4, 2) := dk_25 4 (dk_at dksX0_drop_2 19 rfl rfl)
theorem dX0_drop_69 : decode cX0_drop 69 = .ok (.athrow, 1) := dk_191 (dk_at dksX0_drop_2 21 rfl rfl)
abbrev cX0_feed : ByteArray := prog_1_method_16_code
def yX0_feed : MethodName := ⟨RX0, "feed", "(I)I"⟩
def dkwX0_feed_2 : List UInt8 := [180, 0, 138, 172]
abbrev dktX0_feed_2 : List UInt8 := dkwX0_feed_2 ++ []
def dkwX0_feed_1 : List UInt8 := [18, 141, 172, 42, 180, 0, 39, 42, 89, 180, 0, 138, 90, 4, 96, 181, 0, 138, 27, 145, 84, 42]
abbrev dktX0_feed_1 : List UInt8 := dkwX0_feed_1 ++ dktX0_feed_2
def dkwX0_feed_0 : List UInt8 := [27, 133, 9, 20, 0, 136, 184, 0, 82, 154, 0, 6, 18, 92, 172, 42, 180, 0, 138, 16, 120, 160, 0, 6]
abbrev dktX0_feed_0 : List UInt8 := dkwX0_feed_0 ++ dktX0_feed_1
theorem dksX0_feed_0 : cX0_feed.data.toList.drop 0 = dktX0_feed_0 := by decide +kernel
theorem dksX0_feed_1 : cX0_feed.data.toList.drop 24 = dktX0_feed_1 := dk_seg dksX0_feed_0 24 rfl rfl
theorem dksX0_feed_2 : cX0_feed.data.toList.drop 46 = dktX0_feed_2 := dk_seg dksX0_feed_1 22 rfl rfl
theorem dX0_feed_0 : decode cX0_feed 0 = .ok (.iload_n 1, 1) := dk_27 (dk_at dksX0_feed_0 0 rfl rfl)
theorem dX0_feed_1 : decode cX0_feed 1 = .ok (.i2l, 1) := dk_133 (dk_at dksX0_feed_0 1 rfl rfl)
theorem dX0_feed_2 : decode cX0_feed 2 = .ok (.lconst 0, 1) := dk_9 (dk_at dksX0_feed_0 2 rfl rfl)
theorem dX0_feed_3 : decode cX0_feed 3 = .ok (.ldc2_w 136, 3) := dk_20 0 136 (dk_at dksX0_feed_0 3 rfl rfl)
theorem dX0_feed_6 : decode cX0_feed 6 = .ok (.invokestatic 82, 3) := dk_184 0 82 (dk_at dksX0_feed_0 6 rfl rfl)
theorem dX0_feed_9 : decode cX0_feed 9 = .ok (.ifCond .ne 6, 3) := dk_154 0 6 (dk_at dksX0_feed_0 9 rfl rfl)
theorem dX0_feed_12 : decode cX0_feed 12 = .ok (.ldc 92, 2) := dk_18 92 (dk_at dksX0_feed_0 12 rfl rfl)
theorem dX0_feed_14 : decode cX0_feed 14 = .ok (.ireturn, 1) := dk_172 (dk_at dksX0_feed_0 14 rfl rfl)
theorem dX0_feed_15 : decode cX0_feed 15 = .ok (.aload_n 0, 1) := dk_42 (dk_at dksX0_feed_0 15 rfl rfl)
theorem dX0_feed_16 : decode cX0_feed 16 = .ok (.getfield 138, 3) := dk_180 0 138 (dk_at dksX0_feed_0 16 rfl rfl)
theorem dX0_feed_19 : decode cX0_feed 19 = .ok (.bipush 120, 2) := dk_16 120 (dk_at dksX0_feed_0 19 rfl rfl)
theorem dX0_feed_21 : decode cX0_feed 21 = .ok (.if_icmp .ne 6, 3) := dk_160 0 6 (dk_at dksX0_feed_0 21 rfl rfl)
theorem dX0_feed_24 : decode cX0_feed 24 = .ok (.ldc 141, 2) := dk_18 141 (dk_at dksX0_feed_1 0 rfl rfl)
theorem dX0_feed_26 : decode cX0_feed 26 = .ok (.ireturn, 1) := dk_172 (dk_at dksX0_feed_1 2 rfl rfl)
theorem dX0_feed_27 : decode cX0_feed 27 = .ok (.aload_n 0, 1) := dk_42 (dk_at dksX0_feed_1 3 rfl rfl)
theorem dX0_feed_28 : decode cX0_feed 28 = .ok (.getfield 39, 3) := dk_180 0 39 (dk_at dksX0_feed_1 4 rfl rfl)
theorem dX0_feed_31 : decode cX0_feed 31 = .ok (.aload_n 0, 1) := dk_42 (dk_at dksX0_feed_1 7 rfl rfl)
theorem dX0_feed_32 : decode cX0_feed 32 = .ok (.dup, 1) := dk_89 (dk_at dksX0_feed_1 8 rfl rfl)
theorem dX0_feed_33 : decode cX0_feed 33 = .ok (.getfield 138, 3) := dk_180 0 138 (dk_at dksX0_feed_1 9 rfl rfl)
theorem dX0_feed_36 : decode cX0_feed 36 = .ok (.dup_x1, 1) := dk_90 (dk_at dksX0_feed_1 12 rfl rfl)
theorem dX0_feed_37 : decode cX0_feed 37 = .ok (.iconst 1, 1) := dk_4 (dk_at dksX0_feed_1 13 rfl rfl)
theorem dX0_feed_38 : decode cX0_feed 38 = .ok (.iadd, 1) := dk_96 (dk_at dksX0_feed_1 14 rfl rfl)
theorem dX0_feed_39 : decode cX0_feed 39 = .ok (.putfield 138, 3) := dk_181 0 138 (dk_at dksX0_feed_1 15 rfl rfl)
theorem dX0_feed_42 : decode cX0_feed 42 = .ok (.iload_n 1, 1) := dk_27 (dk_at dksX0_feed_1 18 rfl rfl)
theorem dX0_feed_43 : decode cX0_feed 43 = .ok (.i2b, 1) := dk_145 (dk_at dksX0_feed_1 19 rfl rfl)
theorem dX0_feed_44 : decode cX0_feed 44 = .ok (.bastore, 1) := dk_84 (dk_at dksX0_feed_1 20 rfl rfl)
theorem dX0_feed_45 : decode cX0_feed 45 = .ok (.aload_n 0, 1) := dk_42 (dk_at dksX0_feed_1 21 rfl rfl)
theorem dX0_feed_46 : decode cX0_feed 46 = .ok (.getfield 138, 3) := dk_180 0 138 (dk_at dksX0_feed_2 0 rfl rfl)
theorem dX0_feed_49 : decode cX0_feed 49 = .ok (.ireturn, 1) := dk_172 (dk_at dksX0_feed_2 3 rfl rfl)
abbrev cX0_pass : ByteArray := prog_1_method_17_code
def yX0_pass : MethodName := ⟨RX0, "pass", "()I"⟩
def dkwX0_pass_3 : List UInt8 := [182, 0, 165, 42, 3, 181, 0, 169, 42, 180, 0, 46, 182, 0, 172, 172]
abbrev dktX0_pass_3 : List UInt8 := dkwX0_pass_3 ++ []
def dkwX0_pass_2 : List UInt8 := [3, 181, 0, 138, 29, 172, 58, 4, 42, 3, 181, 0, 138, 25, 4, 191, 42, 180, 0, 46, 43, 180, 0, 162]
abbrev dktX0_pass_2 : List UInt8 := dkwX0_pass_2 ++ dktX0_pass_3
def dkwX0_pass_1 : List UInt8 := [181, 0, 138, 167, 0, 37, 77, 42, 44, 180, 0, 152, 181, 0, 155, 18, 158, 44, 180, 0, 159, 100, 62, 42]
abbrev dktX0_pass_1 : List UInt8 := dkwX0_pass_1 ++ dktX0_pass_2
def dkwX0_pass_0 : List UInt8 := [187, 0, 142, 89, 42, 180, 0, 39, 42, 180, 0, 138, 183, 0, 144, 76, 43, 182, 0, 147, 42, 3]
abbrev dktX0_pass_0 : List UInt8 := dkwX0_pass_0 ++ dktX0_pass_1
theorem dksX0_pass_0 : cX0_pass.data.toList.drop 0 = dktX0_pass_0 := by decide +kernel
theorem dksX0_pass_1 : cX0_pass.data.toList.drop 22 = dktX0_pass_1 := dk_seg dksX0_pass_0 22 rfl rfl
theorem dksX0_pass_2 : cX0_pass.data.toList.drop 46 = dktX0_pass_2 := dk_seg dksX0_pass_1 24 rfl rfl
theorem dksX0_pass_3 : cX0_pass.data.toList.drop 70 = dktX0_pass_3 := dk_seg dksX0_pass_2 24 rfl rfl
theorem dX0_pass_0 : decode cX0_pass 0 = .ok (.new 142, 3) := dk_187 0 142 (dk_at dksX0_pass_0 0 rfl rfl)
theorem dX0_pass_3 : decode cX0_pass 3 = .ok (.dup, 1) := dk_89 (dk_at dksX0_pass_0 3 rfl rfl)
theorem dX0_pass_4 : decode cX0_pass 4 = .ok (.aload_n 0, 1) := dk_42 (dk_at dksX0_pass_0 4 rfl rfl)
theorem dX0_pass_5 : decode cX0_pass 5 = .ok (.getfield 39, 3) := dk_180 0 39 (dk_at dksX0_pass_0 5 rfl rfl)
theorem dX0_pass_8 : decode cX0_pass 8 = .ok (.aload_n 0, 1) := dk_42 (dk_at dksX0_pass_0 8 rfl rfl)
theorem dX0_pass_9 : decode cX0_pass 9 = .ok (.getfield 138, 3) := dk_180 0 138 (dk_at dksX0_pass_0 9 rfl rfl)
theorem dX0_pass_12 : decode cX0_pass 12 = .ok (.invokespecial 144, 3) := dk_183 0 144 (dk_at dksX0_pass_0 12 rfl rfl)
theorem dX0_pass_15 : decode cX0_pass 15 = .ok (.astore_n 1, 1) := dk_76 (dk_at dksX0_pass_0 15 rfl rfl)
theorem dX0_pass_16 : decode cX0_pass 16 = .ok (.aload_n 1, 1) := dk_43 (dk_at dksX0_pass_0 16 rfl rfl)
theorem dX0_pass_17 : decode cX0_pass 17 = .ok (.invokevirtual 147, 3) := dk_182 0 147 (dk_at dksX0_pass_0 17 rfl rfl)
theorem dX0_pass_20 : decode cX0_pass 20 = .ok (.aload_n 0, 1) := dk_42 (dk_at dksX0_pass_0 20 rfl rfl)
theorem dX0_pass_21 : decode cX0_pass 21 = .ok (.iconst 0, 1) := dk_3 (dk_at dksX0_pass_0 21 rfl rfl)
theorem dX0_pass_22 : decode cX0_pass 22 = .ok (.putfield 138, 3) := dk_181 0 138 (dk_at dksX0_pass_1 0 rfl rfl)
theorem dX0_pass_25 : decode cX0_pass 25 = .ok (.goto 37, 3) := dk_167 0 37 (dk_at dksX0_pass_1 3 rfl rfl)
theorem dX0_pass_28 : decode cX0_pass 28 = .ok (.astore_n 2, 1) := dk_77 (dk_at dksX0_pass_1 6 rfl rfl)
theorem dX0_pass_29 : decode cX0_pass 29 = .ok (.aload_n 0, 1) := dk_42 (dk_at dksX0_pass_1 7 rfl rfl)
theorem dX0_pass_30 : decode cX0_pass 30 = .ok (.aload_n 2, 1) := dk_44 (dk_at dksX0_pass_1 8 rfl rfl)
theorem dX0_pass_31 : decode cX0_pass 31 = .ok (.getfield 152, 3) := dk_180 0 152 (dk_at dksX0_pass_1 9 rfl rfl)
theorem dX0_pass_34 : decode cX0_pass 34 = .ok (.putfield 155, 3) := dk_181 0 155 (dk_at dksX0_pass_1 12 rfl rfl)
theorem dX0_pass_37 : decode cX0_pass 37 = .ok (.ldc 158, 2) := dk_18 158 (dk_at dksX0_pass_1 15 rfl rfl)
theorem dX0_pass_39 : decode cX0_pass 39 = .ok (.aload_n 2, 1) := dk_44 (dk_at dksX0_pass_1 17 rfl rfl)
theorem dX0_pass_40 : decode cX0_pass 40 = .ok (.getfield 159, 3) := dk_180 0 159 (dk_at dksX0_pass_1 18 rfl rfl)
theorem dX0_pass_43 : decode cX0_pass 43 = .ok (.isub, 1) := dk_100 (dk_at dksX0_pass_1 21 rfl rfl)
theorem dX0_pass_44 : decode cX0_pass 44 = .ok (.istore_n 3, 1) := dk_62 (dk_at dksX0_pass_1 22 rfl rfl)
theorem dX0_pass_45 : decode cX0_pass 45 = .ok (.aload_n 0, 1) := dk_42 (dk_at dksX0_pass_1 23 rfl rfl)
theorem dX0_pass_46 : decode cX0_pass 46 = .ok (.iconst 0, 1) := dk_3 (dk_at dksX0_pass_2 0 rfl rfl)
theorem dX0_pass_47 : decode cX0_pass 47 = .ok (.putfield 138, 3) := dk_181 0 138 (dk_at dksX0_pass_2 1 rfl rfl)
theorem dX0_pass_50 : decode cX0_pass 50 = .ok (.iload_n 3, 1) := dk_29 (dk_at dksX0_pass_2 4 rfl rfl)
theorem dX0_pass_51 : decode cX0_pass 51 = .ok (.ireturn, 1) := dk_172 (dk_at dksX0_pass_2 5 rfl rfl)
theorem dX0_pass_52 : decode cX0_pass 52 = .ok (.astore 4, 2) := dk_58 4 (dk_at dksX0_pass_2 6 rfl rfl)
theorem dX0_pass_54 : decode cX0_pass 54 = .ok (.aload_n 0, 1) := dk_42 (dk_at dksX0_pass_2 8 rfl rfl)
theorem dX0_pass_55 : decode cX0_pass 55 = .ok (.iconst 0, 1) := dk_3 (dk_at dksX0_pass_2 9 rfl rfl)
theorem dX0_pass_56 : decode cX0_pass 56 = .ok (.putfield 138, 3) := dk_181 0 138 (dk_at dksX0_pass_2 10 rfl rfl)
theorem dX0_pass_59 : decode cX0_pass 59 = .ok (.aload 4, 2) := dk_25 4 (dk_at dksX0_pass_2 13 rfl rfl)
theorem dX0_pass_61 : decode cX0_pass 61 = .ok (.athrow, 1) := dk_191 (dk_at dksX0_pass_2 15 rfl rfl)
theorem dX0_pass_62 : decode cX0_pass 62 = .ok (.aload_n 0, 1) := dk_42 (dk_at dksX0_pass_2 16 rfl rfl)
theorem dX0_pass_63 : decode cX0_pass 63 = .ok (.getfield 46, 3) := dk_180 0 46 (dk_at dksX0_pass_2 17 rfl rfl)
theorem dX0_pass_66 : decode cX0_pass 66 = .ok (.aload_n 1, 1) := dk_43 (dk_at dksX0_pass_2 20 rfl rfl)
theorem dX0_pass_67 : decode cX0_pass 67 = .ok (.getfield 162, 3) := dk_180 0 162 (dk_at dksX0_pass_2 21 rfl rfl)
theorem dX0_pass_70 : decode cX0_pass 70 = .ok (.invokevirtual 165, 3) := dk_182 0 165 (dk_at dksX0_pass_3 0 rfl rfl)
theorem dX0_pass_73 : decode cX0_pass 73 = .ok (.aload_n 0, 1) := dk_42 (dk_at dksX0_pass_3 3 rfl rfl)
theorem dX0_pass_74 : decode cX0_pass 74 = .ok (.iconst 0, 1) := dk_3 (dk_at dksX0_pass_3 4 rfl rfl)
theorem dX0_pass_75 : decode cX0_pass 75 = .ok (.putfield 169, 3) := dk_181 0 169 (dk_at dksX0_pass_3 5 rfl rfl)
theorem dX0_pass_78 : decode cX0_pass 78 = .ok (.aload_n 0, 1) := dk_42 (dk_at dksX0_pass_3 8 rfl rfl)
theorem dX0_pass_79 : decode cX0_pass 79 = .ok (.getfield 46, 3) := dk_180 0 46 (dk_at dksX0_pass_3 9 rfl rfl)
theorem dX0_pass_82 : decode cX0_pass 82 = .ok (.invokevirtual 172, 3) := dk_182 0 172 (dk_at dksX0_pass_3 12 rfl rfl)
theorem dX0_pass_85 : decode cX0_pass 85 = .ok (.ireturn, 1) := dk_172 (dk_at dksX0_pass_3 15 rfl rfl)
abbrev cX0_workBy : ByteArray := prog_1_method_3_code
def yX0_workBy : MethodName := ⟨RX0, "workBy", "(III)LWindCarver$Work;"⟩
def dkwX0_workBy_4 : List UInt8 := [183, 0, 18, 176]
abbrev dktX0_workBy_4 : List UInt8 := dkwX0_workBy_4 ++ []
def dkwX0_workBy_3 : List UInt8 := [27, 28, 183, 0, 12, 176, 187, 0, 13, 89, 27, 28, 183, 0, 15, 176, 187, 0, 16, 89, 27, 28]
abbrev dktX0_workBy_3 : List UInt8 := dkwX0_workBy_3 ++ dktX0_workBy_4
def dkwX0_workBy_2 : List UInt8 := [187, 0, 1, 89, 27, 28, 183, 0, 3, 176, 187, 0, 7, 89, 27, 28, 183, 0, 9, 176, 187, 0, 10, 89]
abbrev dktX0_workBy_2 : List UInt8 := dkwX0_workBy_2 ++ dktX0_workBy_3
def dkwX0_workBy_1 : List UInt8 := [170, 0, 0, 0, 0, 0, 71, 0, 0, 0, 1, 0, 0, 0, 4, 0, 0, 0, 31, 0, 0, 0, 41, 0, 0, 0, 51, 0, 0, 0, 61]
abbrev dktX0_workBy_1 : List UInt8 := dkwX0_workBy_1 ++ dktX0_workBy_2
def dkwX0_workBy_0 : List UInt8 := [26]
abbrev dktX0_workBy_0 : List UInt8 := dkwX0_workBy_0 ++ dktX0_workBy_1
theorem dksX0_workBy_0 : cX0_workBy.data.toList.drop 0 = dktX0_workBy_0 := by decide +kernel
theorem dksX0_workBy_1 : cX0_workBy.data.toList.drop 1 = dktX0_workBy_1 := dk_seg dksX0_workBy_0 1 rfl rfl
theorem dksX0_workBy_2 : cX0_workBy.data.toList.drop 32 = dktX0_workBy_2 := dk_seg dksX0_workBy_1 31 rfl rfl
theorem dksX0_workBy_3 : cX0_workBy.data.toList.drop 56 = dktX0_workBy_3 := dk_seg dksX0_workBy_2 24 rfl rfl
theorem dksX0_workBy_4 : cX0_workBy.data.toList.drop 78 = dktX0_workBy_4 := dk_seg dksX0_workBy_3 22 rfl rfl
theorem dX0_workBy_0 : decode cX0_workBy 0 = .ok (.iload_n 0, 1) := dk_26 (dk_at dksX0_workBy_0 0 rfl rfl)
theorem dX0_workBy_1 : decode cX0_workBy 1 = .ok (.tableswitch 71 1 4 #[31, 41, 51, 61], 31) := by decide +kernel
theorem dX0_workBy_32 : decode cX0_workBy 32 = .ok (.new 1, 3) := dk_187 0 1 (dk_at dksX0_workBy_2 0 rfl rfl)
theorem dX0_workBy_35 : decode cX0_workBy 35 = .ok (.dup, 1) := dk_89 (dk_at dksX0_workBy_2 3 rfl rfl)
theorem dX0_workBy_36 : decode cX0_workBy 36 = .ok (.iload_n 1, 1) := dk_27 (dk_at dksX0_workBy_2 4 rfl rfl)
theorem dX0_workBy_37 : decode cX0_workBy 37 = .ok (.iload_n 2, 1) := dk_28 (dk_at dksX0_workBy_2 5 rfl rfl)
theorem dX0_workBy_38 : decode cX0_workBy 38 = .ok (.invokespecial 3, 3) := dk_183 0 3 (dk_at dksX0_workBy_2 6 rfl rfl)
theorem dX0_workBy_41 : decode cX0_workBy 41 = .ok (.areturn, 1) := dk_176 (dk_at dksX0_workBy_2 9 rfl rfl)
theorem dX0_workBy_42 : decode cX0_workBy 42 = .ok (.new 7, 3) := dk_187 0 7 (dk_at dksX0_workBy_2 10 rfl rfl)
theorem dX0_workBy_45 : decode cX0_workBy 45 = .ok (.dup, 1) := dk_89 (dk_at dksX0_workBy_2 13 rfl rfl)
theorem dX0_workBy_46 : decode cX0_workBy 46 = .ok (.iload_n 1, 1) := dk_27 (dk_at dksX0_workBy_2 14 rfl rfl)
theorem dX0_workBy_47 : decode cX0_workBy 47 = .ok (.iload_n 2, 1) := dk_28 (dk_at dksX0_workBy_2 15 rfl rfl)
theorem dX0_workBy_48 : decode cX0_workBy 48 = .ok (.invokespecial 9, 3) := dk_183 0 9 (dk_at dksX0_workBy_2 16 rfl rfl)
theorem dX0_workBy_51 : decode cX0_workBy 51 = .ok (.areturn, 1) := dk_176 (dk_at dksX0_workBy_2 19 rfl rfl)
theorem dX0_workBy_52 : decode cX0_workBy 52 = .ok (.new 10, 3) := dk_187 0 10 (dk_at dksX0_workBy_2 20 rfl rfl)
theorem dX0_workBy_55 : decode cX0_workBy 55 = .ok (.dup, 1) := dk_89 (dk_at dksX0_workBy_2 23 rfl rfl)
theorem dX0_workBy_56 : decode cX0_workBy 56 = .ok (.iload_n 1, 1) := dk_27 (dk_at dksX0_workBy_3 0 rfl rfl)
theorem dX0_workBy_57 : decode cX0_workBy 57 = .ok (.iload_n 2, 1) := dk_28 (dk_at dksX0_workBy_3 1 rfl rfl)
theorem dX0_workBy_58 : decode cX0_workBy 58 = .ok (.invokespecial 12, 3) := dk_183 0 12 (dk_at dksX0_workBy_3 2 rfl rfl)
theorem dX0_workBy_61 : decode cX0_workBy 61 = .ok (.areturn, 1) := dk_176 (dk_at dksX0_workBy_3 5 rfl rfl)
theorem dX0_workBy_62 : decode cX0_workBy 62 = .ok (.new 13, 3) := dk_187 0 13 (dk_at dksX0_workBy_3 6 rfl rfl)
theorem dX0_workBy_65 : decode cX0_workBy 65 = .ok (.dup, 1) := dk_89 (dk_at dksX0_workBy_3 9 rfl rfl)
theorem dX0_workBy_66 : decode cX0_workBy 66 = .ok (.iload_n 1, 1) := dk_27 (dk_at dksX0_workBy_3 10 rfl rfl)
theorem dX0_workBy_67 : decode cX0_workBy 67 = .ok (.iload_n 2, 1) := dk_28 (dk_at dksX0_workBy_3 11 rfl rfl)
theorem dX0_workBy_68 : decode cX0_workBy 68 = .ok (.invokespecial 15, 3) := dk_183 0 15 (dk_at dksX0_workBy_3 12 rfl rfl)
theorem dX0_workBy_71 : decode cX0_workBy 71 = .ok (.areturn, 1) := dk_176 (dk_at dksX0_workBy_3 15 rfl rfl)
theorem dX0_workBy_72 : decode cX0_workBy 72 = .ok (.new 16, 3) := dk_187 0 16 (dk_at dksX0_workBy_3 16 rfl rfl)
theorem dX0_workBy_75 : decode cX0_workBy 75 = .ok (.dup, 1) := dk_89 (dk_at dksX0_workBy_3 19 rfl rfl)
theorem dX0_workBy_76 : decode cX0_workBy 76 = .ok (.iload_n 1, 1) := dk_27 (dk_at dksX0_workBy_3 20 rfl rfl)
theorem dX0_workBy_77 : decode cX0_workBy 77 = .ok (.iload_n 2, 1) := dk_28 (dk_at dksX0_workBy_3 21 rfl rfl)
theorem dX0_workBy_78 : decode cX0_workBy 78 = .ok (.invokespecial 18, 3) := dk_183 0 18 (dk_at dksX0_workBy_4 0 rfl rfl)
theorem dX0_workBy_81 : decode cX0_workBy 81 = .ok (.areturn, 1) := dk_176 (dk_at dksX0_workBy_4 3 rfl rfl)
abbrev cX0_fault : ByteArray := prog_1_method_18_code
def yX0_fault : MethodName := ⟨RX0, "fault", "()I"⟩
theorem dX0_fault_0 : decode cX0_fault 0 = .ok (.aload_n 0, 1) := by decide +kernel
theorem dX0_fault_1 : decode cX0_fault 1 = .ok (.getfield 155, 3) := by decide +kernel
theorem dX0_fault_4 : decode cX0_fault 4 = .ok (.ireturn, 1) := by decide +kernel
abbrev cX0_setUp : ByteArray := prog_1_method_25_code
def yX0_setUp : MethodName := ⟨RX0, "setUp", "(III)I"⟩
def dkwX0_setUp_4 : List UInt8 := [182, 0, 172, 172]
abbrev dktX0_setUp_4 : List UInt8 := dkwX0_setUp_4 ++ []
def dkwX0_setUp_3 : List UInt8 := [42, 182, 0, 197, 42, 180, 0, 46, 180, 0, 200, 27, 28, 27, 29, 184, 0, 203, 83, 42, 180, 0, 46]
abbrev dktX0_setUp_3 : List UInt8 := dkwX0_setUp_3 ++ dktX0_setUp_4
def dkwX0_setUp_2 : List UInt8 := [182, 0, 194, 153, 0, 6, 18, 185, 172, 42, 180, 0, 46, 182, 0, 172, 16, 6, 160, 0, 6, 18, 141, 172]
abbrev dktX0_setUp_2 : List UInt8 := dkwX0_setUp_2 ++ dktX0_setUp_3
def dkwX0_setUp_1 : List UInt8 := [153, 0, 15, 29, 133, 9, 20, 0, 192, 184, 0, 82, 154, 0, 6, 18, 92, 172, 42, 180, 0, 46, 27]
abbrev dktX0_setUp_1 : List UInt8 := dkwX0_setUp_1 ++ dktX0_setUp_2
def dkwX0_setUp_0 : List UInt8 := [42, 180, 0, 46, 180, 0, 181, 154, 0, 6, 18, 185, 172, 27, 184, 0, 186, 153, 0, 22, 28, 184, 0, 189]
abbrev dktX0_setUp_0 : List UInt8 := dkwX0_setUp_0 ++ dktX0_setUp_1
theorem dksX0_setUp_0 : cX0_setUp.data.toList.drop 0 = dktX0_setUp_0 := by decide +kernel
theorem dksX0_setUp_1 : cX0_setUp.data.toList.drop 24 = dktX0_setUp_1 := dk_seg dksX0_setUp_0 24 rfl rfl
theorem dksX0_setUp_2 : cX0_setUp.data.toList.drop 47 = dktX0_setUp_2 := dk_seg dksX0_setUp_1 23 rfl rfl
theorem dksX0_setUp_3 : cX0_setUp.data.toList.drop 71 = dktX0_setUp_3 := dk_seg dksX0_setUp_2 24 rfl rfl
theorem dksX0_setUp_4 : cX0_setUp.data.toList.drop 94 = dktX0_setUp_4 := dk_seg dksX0_setUp_3 23 rfl rfl
theorem dX0_setUp_0 : decode cX0_setUp 0 = .ok (.aload_n 0, 1) := dk_42 (dk_at dksX0_setUp_0 0 rfl rfl)
theorem dX0_setUp_1 : decode cX0_setUp 1 = .ok (.getfield 46, 3) := dk_180 0 46 (dk_at dksX0_setUp_0 1 rfl rfl)
theorem dX0_setUp_4 : decode cX0_setUp 4 = .ok (.getfield 181, 3) := dk_180 0 181 (dk_at dksX0_setUp_0 4 rfl rfl)
theorem dX0_setUp_7 : decode cX0_setUp 7 = .ok (.ifCond .ne 6, 3) := dk_154 0 6 (dk_at dksX0_setUp_0 7 rfl rfl)
theorem dX0_setUp_10 : decode cX0_setUp 10 = .ok (.ldc 185, 2) := dk_18 185 (dk_at dksX0_setUp_0 10 rfl rfl)
theorem dX0_setUp_12 : decode cX0_setUp 12 = .ok (.ireturn, 1) := dk_172 (dk_at dksX0_setUp_0 12 rfl rfl)
theorem dX0_setUp_13 : decode cX0_setUp 13 = .ok (.iload_n 1, 1) := dk_27 (dk_at dksX0_setUp_0 13 rfl rfl)
theorem dX0_setUp_14 : decode cX0_setUp 14 = .ok (.invokestatic 186, 3) := dk_184 0 186 (dk_at dksX0_setUp_0 14 rfl rfl)
theorem dX0_setUp_17 : decode cX0_setUp 17 = .ok (.ifCond .eq 22, 3) := dk_153 0 22 (dk_at dksX0_setUp_0 17 rfl rfl)
theorem dX0_setUp_20 : decode cX0_setUp 20 = .ok (.iload_n 2, 1) := dk_28 (dk_at dksX0_setUp_0 20 rfl rfl)
theorem dX0_setUp_21 : decode cX0_setUp 21 = .ok (.invokestatic 189, 3) := dk_184 0 189 (dk_at dksX0_setUp_0 21 rfl rfl)
theorem dX0_setUp_24 : decode cX0_setUp 24 = .ok (.ifCond .eq 15, 3) := dk_153 0 15 (dk_at dksX0_setUp_1 0 rfl rfl)
theorem dX0_setUp_27 : decode cX0_setUp 27 = .ok (.iload_n 3, 1) := dk_29 (dk_at dksX0_setUp_1 3 rfl rfl)
theorem dX0_setUp_28 : decode cX0_setUp 28 = .ok (.i2l, 1) := dk_133 (dk_at dksX0_setUp_1 4 rfl rfl)
theorem dX0_setUp_29 : decode cX0_setUp 29 = .ok (.lconst 0, 1) := dk_9 (dk_at dksX0_setUp_1 5 rfl rfl)
theorem dX0_setUp_30 : decode cX0_setUp 30 = .ok (.ldc2_w 192, 3) := dk_20 0 192 (dk_at dksX0_setUp_1 6 rfl rfl)
theorem dX0_setUp_33 : decode cX0_setUp 33 = .ok (.invokestatic 82, 3) := dk_184 0 82 (dk_at dksX0_setUp_1 9 rfl rfl)
theorem dX0_setUp_36 : decode cX0_setUp 36 = .ok (.ifCond .ne 6, 3) := dk_154 0 6 (dk_at dksX0_setUp_1 12 rfl rfl)
theorem dX0_setUp_39 : decode cX0_setUp 39 = .ok (.ldc 92, 2) := dk_18 92 (dk_at dksX0_setUp_1 15 rfl rfl)
theorem dX0_setUp_41 : decode cX0_setUp 41 = .ok (.ireturn, 1) := dk_172 (dk_at dksX0_setUp_1 17 rfl rfl)
theorem dX0_setUp_42 : decode cX0_setUp 42 = .ok (.aload_n 0, 1) := dk_42 (dk_at dksX0_setUp_1 18 rfl rfl)
theorem dX0_setUp_43 : decode cX0_setUp 43 = .ok (.getfield 46, 3) := dk_180 0 46 (dk_at dksX0_setUp_1 19 rfl rfl)
theorem dX0_setUp_46 : decode cX0_setUp 46 = .ok (.iload_n 1, 1) := dk_27 (dk_at dksX0_setUp_1 22 rfl rfl)
theorem dX0_setUp_47 : decode cX0_setUp 47 = .ok (.invokevirtual 194, 3) := dk_182 0 194 (dk_at dksX0_setUp_2 0 rfl rfl)
theorem dX0_setUp_50 : decode cX0_setUp 50 = .ok (.ifCond .eq 6, 3) := dk_153 0 6 (dk_at dksX0_setUp_2 3 rfl rfl)
theorem dX0_setUp_53 : decode cX0_setUp 53 = .ok (.ldc 185, 2) := dk_18 185 (dk_at dksX0_setUp_2 6 rfl rfl)
theorem dX0_setUp_55 : decode cX0_setUp 55 = .ok (.ireturn, 1) := dk_172 (dk_at dksX0_setUp_2 8 rfl rfl)
theorem dX0_setUp_56 : decode cX0_setUp 56 = .ok (.aload_n 0, 1) := dk_42 (dk_at dksX0_setUp_2 9 rfl rfl)
theorem dX0_setUp_57 : decode cX0_setUp 57 = .ok (.getfield 46, 3) := dk_180 0 46 (dk_at dksX0_setUp_2 10 rfl rfl)
theorem dX0_setUp_60 : decode cX0_setUp 60 = .ok (.invokevirtual 172, 3) := dk_182 0 172 (dk_at dksX0_setUp_2 13 rfl rfl)
theorem dX0_setUp_63 : decode cX0_setUp 63 = .ok (.bipush 6, 2) := dk_16 6 (dk_at dksX0_setUp_2 16 rfl rfl)
theorem dX0_setUp_65 : decode cX0_setUp 65 = .ok (.if_icmp .ne 6, 3) := dk_160 0 6 (dk_at dksX0_setUp_2 18 rfl rfl)
theorem dX0_setUp_68 : decode cX0_setUp 68 = .ok (.ldc 141, 2) := dk_18 141 (dk_at dksX0_setUp_2 21 rfl rfl)
theorem dX0_setUp_70 : decode cX0_setUp 70 = .ok (.ireturn, 1) := dk_172 (dk_at dksX0_setUp_2 23 rfl rfl)
theorem dX0_setUp_71 : decode cX0_setUp 71 = .ok (.aload_n 0, 1) := dk_42 (dk_at dksX0_setUp_3 0 rfl rfl)
theorem dX0_setUp_72 : decode cX0_setUp 72 = .ok (.invokevirtual 197, 3) := dk_182 0 197 (dk_at dksX0_setUp_3 1 rfl rfl)
theorem dX0_setUp_75 : decode cX0_setUp 75 = .ok (.aload_n 0, 1) := dk_42 (dk_at dksX0_setUp_3 4 rfl rfl)
theorem dX0_setUp_76 : decode cX0_setUp 76 = .ok (.getfield 46, 3) := dk_180 0 46 (dk_at dksX0_setUp_3 5 rfl rfl)
theorem dX0_setUp_79 : decode cX0_setUp 79 = .ok (.getfield 200, 3) := dk_180 0 200 (dk_at dksX0_setUp_3 8 rfl rfl)
theorem dX0_setUp_82 : decode cX0_setUp 82 = .ok (.iload_n 1, 1) := dk_27 (dk_at dksX0_setUp_3 11 rfl rfl)
theorem dX0_setUp_83 : decode cX0_setUp 83 = .ok (.iload_n 2, 1) := dk_28 (dk_at dksX0_setUp_3 12 rfl rfl)
theorem dX0_setUp_84 : decode cX0_setUp 84 = .ok (.iload_n 1, 1) := dk_27 (dk_at dksX0_setUp_3 13 rfl rfl)
theorem dX0_setUp_85 : decode cX0_setUp 85 = .ok (.iload_n 3, 1) := dk_29 (dk_at dksX0_setUp_3 14 rfl rfl)
theorem dX0_setUp_86 : decode cX0_setUp 86 = .ok (.invokestatic 203, 3) := dk_184 0 203 (dk_at dksX0_setUp_3 15 rfl rfl)
theorem dX0_setUp_89 : decode cX0_setUp 89 = .ok (.aastore, 1) := dk_83 (dk_at dksX0_setUp_3 18 rfl rfl)
theorem dX0_setUp_90 : decode cX0_setUp 90 = .ok (.aload_n 0, 1) := dk_42 (dk_at dksX0_setUp_3 19 rfl rfl)
theorem dX0_setUp_91 : decode cX0_setUp 91 = .ok (.getfield 46, 3) := dk_180 0 46 (dk_at dksX0_setUp_3 20 rfl rfl)
theorem dX0_setUp_94 : decode cX0_setUp 94 = .ok (.invokevirtual 172, 3) := dk_182 0 172 (dk_at dksX0_setUp_4 0 rfl rfl)
theorem dX0_setUp_97 : decode cX0_setUp 97 = .ok (.ireturn, 1) := dk_172 (dk_at dksX0_setUp_4 3 rfl rfl)
abbrev cX0_isCell : ByteArray := prog_1_method_19_code
def yX0_isCell : MethodName := ⟨RX0, "isCell", "(I)Z"⟩
def dkwX0_isCell_0 : List UInt8 := [26, 133, 9, 20, 0, 173, 184, 0, 82, 172]
abbrev dktX0_isCell_0 : List UInt8 := dkwX0_isCell_0 ++ []
theorem dksX0_isCell_0 : cX0_isCell.data.toList.drop 0 = dktX0_isCell_0 := by decide +kernel
theorem dX0_isCell_0 : decode cX0_isCell 0 = .ok (.iload_n 0, 1) := dk_26 (dk_at dksX0_isCell_0 0 rfl rfl)
theorem dX0_isCell_1 : decode cX0_isCell 1 = .ok (.i2l, 1) := dk_133 (dk_at dksX0_isCell_0 1 rfl rfl)
theorem dX0_isCell_2 : decode cX0_isCell 2 = .ok (.lconst 0, 1) := dk_9 (dk_at dksX0_isCell_0 2 rfl rfl)
theorem dX0_isCell_3 : decode cX0_isCell 3 = .ok (.ldc2_w 173, 3) := dk_20 0 173 (dk_at dksX0_isCell_0 3 rfl rfl)
theorem dX0_isCell_6 : decode cX0_isCell 6 = .ok (.invokestatic 82, 3) := dk_184 0 82 (dk_at dksX0_isCell_0 6 rfl rfl)
theorem dX0_isCell_9 : decode cX0_isCell 9 = .ok (.ireturn, 1) := dk_172 (dk_at dksX0_isCell_0 9 rfl rfl)
abbrev cX0_isKind : ByteArray := prog_1_method_21_code
def yX0_isKind : MethodName := ⟨RX0, "isKind", "(I)Z"⟩
def dkwX0_isKind_0 : List UInt8 := [26, 133, 10, 20, 0, 177, 184, 0, 82, 172]
abbrev dktX0_isKind_0 : List UInt8 := dkwX0_isKind_0 ++ []
theorem dksX0_isKind_0 : cX0_isKind.data.toList.drop 0 = dktX0_isKind_0 := by decide +kernel
theorem dX0_isKind_0 : decode cX0_isKind 0 = .ok (.iload_n 0, 1) := dk_26 (dk_at dksX0_isKind_0 0 rfl rfl)
theorem dX0_isKind_1 : decode cX0_isKind 1 = .ok (.i2l, 1) := dk_133 (dk_at dksX0_isKind_0 1 rfl rfl)
theorem dX0_isKind_2 : decode cX0_isKind 2 = .ok (.lconst 1, 1) := dk_10 (dk_at dksX0_isKind_0 2 rfl rfl)
theorem dX0_isKind_3 : decode cX0_isKind 3 = .ok (.ldc2_w 177, 3) := dk_20 0 177 (dk_at dksX0_isKind_0 3 rfl rfl)
theorem dX0_isKind_6 : decode cX0_isKind 6 = .ok (.invokestatic 82, 3) := dk_184 0 82 (dk_at dksX0_isKind_0 6 rfl rfl)
theorem dX0_isKind_9 : decode cX0_isKind 9 = .ok (.ireturn, 1) := dk_172 (dk_at dksX0_isKind_0 9 rfl rfl)
abbrev cX0_keep : ByteArray := prog_1_method_24_code
def yX0_keep : MethodName := ⟨RX0, "keep", "()V"⟩
def dkwX0_keep_4 : List UInt8 := [180, 0, 169, 50, 42, 180, 0, 46, 182, 0, 165, 42, 89, 180, 0, 169, 4, 96, 181, 0, 169, 177]
abbrev dktX0_keep_4 : List UInt8 := dkwX0_keep_4 ++ []
def dkwX0_keep_3 : List UInt8 := [199, 0, 19, 42, 180, 0, 53, 42, 180, 0, 169, 187, 0, 43, 89, 183, 0, 45, 83, 42, 180, 0, 53, 42]
abbrev dktX0_keep_3 : List UInt8 := dkwX0_keep_3 ++ dktX0_keep_4
def dkwX0_keep_2 : List UInt8 := [16, 23, 43, 83, 42, 89, 180, 0, 169, 4, 100, 181, 0, 169, 42, 180, 0, 53, 42, 180, 0, 169, 50]
abbrev dktX0_keep_2 : List UInt8 := dkwX0_keep_2 ++ dktX0_keep_3
def dkwX0_keep_1 : List UInt8 := [42, 180, 0, 53, 28, 4, 100, 42, 180, 0, 53, 28, 50, 83, 132, 2, 1, 167, 255, 233, 42, 180, 0, 53]
abbrev dktX0_keep_1 : List UInt8 := dkwX0_keep_1 ++ dktX0_keep_2
def dkwX0_keep_0 : List UInt8 := [42, 180, 0, 169, 16, 24, 160, 0, 56, 42, 180, 0, 53, 3, 50, 76, 4, 61, 28, 16, 24, 162, 0, 23]
abbrev dktX0_keep_0 : List UInt8 := dkwX0_keep_0 ++ dktX0_keep_1
theorem dksX0_keep_0 : cX0_keep.data.toList.drop 0 = dktX0_keep_0 := by decide +kernel
theorem dksX0_keep_1 : cX0_keep.data.toList.drop 24 = dktX0_keep_1 := dk_seg dksX0_keep_0 24 rfl rfl
theorem dksX0_keep_2 : cX0_keep.data.toList.drop 48 = dktX0_keep_2 := dk_seg dksX0_keep_1 24 rfl rfl
theorem dksX0_keep_3 : cX0_keep.data.toList.drop 71 = dktX0_keep_3 := dk_seg dksX0_keep_2 23 rfl rfl
theorem dksX0_keep_4 : cX0_keep.data.toList.drop 95 = dktX0_keep_4 := dk_seg dksX0_keep_3 24 rfl rfl
theorem dX0_keep_0 : decode cX0_keep 0 = .ok (.aload_n 0, 1) := dk_42 (dk_at dksX0_keep_0 0 rfl rfl)
theorem dX0_keep_1 : decode cX0_keep 1 = .ok (.getfield 169, 3) := dk_180 0 169 (dk_at dksX0_keep_0 1 rfl rfl)
theorem dX0_keep_4 : decode cX0_keep 4 = .ok (.bipush 24, 2) := dk_16 24 (dk_at dksX0_keep_0 4 rfl rfl)
theorem dX0_keep_6 : decode cX0_keep 6 = .ok (.if_icmp .ne 56, 3) := dk_160 0 56 (dk_at dksX0_keep_0 6 rfl rfl)
theorem dX0_keep_9 : decode cX0_keep 9 = .ok (.aload_n 0, 1) := dk_42 (dk_at dksX0_keep_0 9 rfl rfl)
theorem dX0_keep_10 : decode cX0_keep 10 = .ok (.getfield 53, 3) := dk_180 0 53 (dk_at dksX0_keep_0 10 rfl rfl)
theorem dX0_keep_13 : decode cX0_keep 13 = .ok (.iconst 0, 1) := dk_3 (dk_at dksX0_keep_0 13 rfl rfl)
theorem dX0_keep_14 : decode cX0_keep 14 = .ok (.aaload, 1) := dk_50 (dk_at dksX0_keep_0 14 rfl rfl)
theorem dX0_keep_15 : decode cX0_keep 15 = .ok (.astore_n 1, 1) := dk_76 (dk_at dksX0_keep_0 15 rfl rfl)
theorem dX0_keep_16 : decode cX0_keep 16 = .ok (.iconst 1, 1) := dk_4 (dk_at dksX0_keep_0 16 rfl rfl)
theorem dX0_keep_17 : decode cX0_keep 17 = .ok (.istore_n 2, 1) := dk_61 (dk_at dksX0_keep_0 17 rfl rfl)
theorem dX0_keep_18 : decode cX0_keep 18 = .ok (.iload_n 2, 1) := dk_28 (dk_at dksX0_keep_0 18 rfl rfl)
theorem dX0_keep_19 : decode cX0_keep 19 = .ok (.bipush 24, 2) := dk_16 24 (dk_at dksX0_keep_0 19 rfl rfl)
theorem dX0_keep_21 : decode cX0_keep 21 = .ok (.if_icmp .ge 23, 3) := dk_162 0 23 (dk_at dksX0_keep_0 21 rfl rfl)
theorem dX0_keep_24 : decode cX0_keep 24 = .ok (.aload_n 0, 1) := dk_42 (dk_at dksX0_keep_1 0 rfl rfl)
theorem dX0_keep_25 : decode cX0_keep 25 = .ok (.getfield 53, 3) := dk_180 0 53 (dk_at dksX0_keep_1 1 rfl rfl)
theorem dX0_keep_28 : decode cX0_keep 28 = .ok (.iload_n 2, 1) := dk_28 (dk_at dksX0_keep_1 4 rfl rfl)
theorem dX0_keep_29 : decode cX0_keep 29 = .ok (.iconst 1, 1) := dk_4 (dk_at dksX0_keep_1 5 rfl rfl)
theorem dX0_keep_30 : decode cX0_keep 30 = .ok (.isub, 1) := dk_100 (dk_at dksX0_keep_1 6 rfl rfl)
theorem dX0_keep_31 : decode cX0_keep 31 = .ok (.aload_n 0, 1) := dk_42 (dk_at dksX0_keep_1 7 rfl rfl)
theorem dX0_keep_32 : decode cX0_keep 32 = .ok (.getfield 53, 3) := dk_180 0 53 (dk_at dksX0_keep_1 8 rfl rfl)
theorem dX0_keep_35 : decode cX0_keep 35 = .ok (.iload_n 2, 1) := dk_28 (dk_at dksX0_keep_1 11 rfl rfl)
theorem dX0_keep_36 : decode cX0_keep 36 = .ok (.aaload, 1) := dk_50 (dk_at dksX0_keep_1 12 rfl rfl)
theorem dX0_keep_37 : decode cX0_keep 37 = .ok (.aastore, 1) := dk_83 (dk_at dksX0_keep_1 13 rfl rfl)
theorem dX0_keep_38 : decode cX0_keep 38 = .ok (.iinc 2 1, 3) := dk_132 2 1 (dk_at dksX0_keep_1 14 rfl rfl)
theorem dX0_keep_41 : decode cX0_keep 41 = .ok (.goto (-23), 3) := dk_167 255 233 (dk_at dksX0_keep_1 17 rfl rfl)
theorem dX0_keep_44 : decode cX0_keep 44 = .ok (.aload_n 0, 1) := dk_42 (dk_at dksX0_keep_1 20 rfl rfl)
theorem dX0_keep_45 : decode cX0_keep 45 = .ok (.getfield 53, 3) := dk_180 0 53 (dk_at dksX0_keep_1 21 rfl rfl)
theorem dX0_keep_48 : decode cX0_keep 48 = .ok (.bipush 23, 2) := dk_16 23 (dk_at dksX0_keep_2 0 rfl rfl)
theorem dX0_keep_50 : decode cX0_keep 50 = .ok (.aload_n 1, 1) := dk_43 (dk_at dksX0_keep_2 2 rfl rfl)
theorem dX0_keep_51 : decode cX0_keep 51 = .ok (.aastore, 1) := dk_83 (dk_at dksX0_keep_2 3 rfl rfl)
theorem dX0_keep_52 : decode cX0_keep 52 = .ok (.aload_n 0, 1) := dk_42 (dk_at dksX0_keep_2 4 rfl rfl)
theorem dX0_keep_53 : decode cX0_keep 53 = .ok (.dup, 1) := dk_89 (dk_at dksX0_keep_2 5 rfl rfl)
theorem dX0_keep_54 : decode cX0_keep 54 = .ok (.getfield 169, 3) := dk_180 0 169 (dk_at dksX0_keep_2 6 rfl rfl)
theorem dX0_keep_57 : decode cX0_keep 57 = .ok (.iconst 1, 1) := dk_4 (dk_at dksX0_keep_2 9 rfl rfl)
theorem dX0_keep_58 : decode cX0_keep 58 = .ok (.isub, 1) := dk_100 (dk_at dksX0_keep_2 10 rfl rfl)
theorem dX0_keep_59 : decode cX0_keep 59 = .ok (.putfield 169, 3) := dk_181 0 169 (dk_at dksX0_keep_2 11 rfl rfl)
theorem dX0_keep_62 : decode cX0_keep 62 = .ok (.aload_n 0, 1) := dk_42 (dk_at dksX0_keep_2 14 rfl rfl)
theorem dX0_keep_63 : decode cX0_keep 63 = .ok (.getfield 53, 3) := dk_180 0 53 (dk_at dksX0_keep_2 15 rfl rfl)
theorem dX0_keep_66 : decode cX0_keep 66 = .ok (.aload_n 0, 1) := dk_42 (dk_at dksX0_keep_2 18 rfl rfl)
theorem dX0_keep_67 : decode cX0_keep 67 = .ok (.getfield 169, 3) := dk_180 0 169 (dk_at dksX0_keep_2 19 rfl rfl)
theorem dX0_keep_70 : decode cX0_keep 70 = .ok (.aaload, 1) := dk_50 (dk_at dksX0_keep_2 22 rfl rfl)
theorem dX0_keep_71 : decode cX0_keep 71 = .ok (.ifnonnull 19, 3) := dk_199 0 19 (dk_at dksX0_keep_3 0 rfl rfl)
theorem dX0_keep_74 : decode cX0_keep 74 = .ok (.aload_n 0, 1) := dk_42 (dk_at dksX0_keep_3 3 rfl rfl)
theorem dX0_keep_75 : decode cX0_keep 75 = .ok (.getfield 53, 3) := dk_180 0 53 (dk_at dksX0_keep_3 4 rfl rfl)
theorem dX0_keep_78 : decode cX0_keep 78 = .ok (.aload_n 0, 1) := dk_42 (dk_at dksX0_keep_3 7 rfl rfl)
theorem dX0_keep_79 : decode cX0_keep 79 = .ok (.getfield 169, 3) := dk_180 0 169 (dk_at dksX0_keep_3 8 rfl rfl)
theorem dX0_keep_82 : decode cX0_keep 82 = .ok (.new 43, 3) := dk_187 0 43 (dk_at dksX0_keep_3 11 rfl rfl)
theorem dX0_keep_85 : decode cX0_keep 85 = .ok (.dup, 1) := dk_89 (dk_at dksX0_keep_3 14 rfl rfl)
theorem dX0_keep_86 : decode cX0_keep 86 = .ok (.invokespecial 45, 3) := dk_183 0 45 (dk_at dksX0_keep_3 15 rfl rfl)
theorem dX0_keep_89 : decode cX0_keep 89 = .ok (.aastore, 1) := dk_83 (dk_at dksX0_keep_3 18 rfl rfl)
theorem dX0_keep_90 : decode cX0_keep 90 = .ok (.aload_n 0, 1) := dk_42 (dk_at dksX0_keep_3 19 rfl rfl)
theorem dX0_keep_91 : decode cX0_keep 91 = .ok (.getfield 53, 3) := dk_180 0 53 (dk_at dksX0_keep_3 20 rfl rfl)
theorem dX0_keep_94 : decode cX0_keep 94 = .ok (.aload_n 0, 1) := dk_42 (dk_at dksX0_keep_3 23 rfl rfl)
theorem dX0_keep_95 : decode cX0_keep 95 = .ok (.getfield 169, 3) := dk_180 0 169 (dk_at dksX0_keep_4 0 rfl rfl)
theorem dX0_keep_98 : decode cX0_keep 98 = .ok (.aaload, 1) := dk_50 (dk_at dksX0_keep_4 3 rfl rfl)
theorem dX0_keep_99 : decode cX0_keep 99 = .ok (.aload_n 0, 1) := dk_42 (dk_at dksX0_keep_4 4 rfl rfl)
theorem dX0_keep_100 : decode cX0_keep 100 = .ok (.getfield 46, 3) := dk_180 0 46 (dk_at dksX0_keep_4 5 rfl rfl)
theorem dX0_keep_103 : decode cX0_keep 103 = .ok (.invokevirtual 165, 3) := dk_182 0 165 (dk_at dksX0_keep_4 8 rfl rfl)
theorem dX0_keep_106 : decode cX0_keep 106 = .ok (.aload_n 0, 1) := dk_42 (dk_at dksX0_keep_4 11 rfl rfl)
theorem dX0_keep_107 : decode cX0_keep 107 = .ok (.dup, 1) := dk_89 (dk_at dksX0_keep_4 12 rfl rfl)
theorem dX0_keep_108 : decode cX0_keep 108 = .ok (.getfield 169, 3) := dk_180 0 169 (dk_at dksX0_keep_4 13 rfl rfl)
theorem dX0_keep_111 : decode cX0_keep 111 = .ok (.iconst 1, 1) := dk_4 (dk_at dksX0_keep_4 16 rfl rfl)
theorem dX0_keep_112 : decode cX0_keep 112 = .ok (.iadd, 1) := dk_96 (dk_at dksX0_keep_4 17 rfl rfl)
theorem dX0_keep_113 : decode cX0_keep 113 = .ok (.putfield 169, 3) := dk_181 0 169 (dk_at dksX0_keep_4 18 rfl rfl)
theorem dX0_keep_116 : decode cX0_keep 116 = .ok (.return_, 1) := dk_177 (dk_at dksX0_keep_4 21 rfl rfl)
abbrev cX0_take : ByteArray := prog_1_method_26_code
def yX0_take : MethodName := ⟨RX0, "take", "(I)I"⟩
def dkwX0_take_2 : List UInt8 := [182, 0, 207, 42, 180, 0, 46, 182, 0, 172, 172]
abbrev dktX0_take_2 : List UInt8 := dkwX0_take_2 ++ []
def dkwX0_take_1 : List UInt8 := [180, 0, 46, 27, 182, 0, 194, 154, 0, 6, 18, 185, 172, 42, 182, 0, 197, 42, 180, 0, 46, 27]
abbrev dktX0_take_1 : List UInt8 := dkwX0_take_1 ++ dktX0_take_2
def dkwX0_take_0 : List UInt8 := [42, 180, 0, 46, 180, 0, 181, 154, 0, 6, 18, 185, 172, 27, 184, 0, 186, 154, 0, 6, 18, 92, 172, 42]
abbrev dktX0_take_0 : List UInt8 := dkwX0_take_0 ++ dktX0_take_1
theorem dksX0_take_0 : cX0_take.data.toList.drop 0 = dktX0_take_0 := by decide +kernel
theorem dksX0_take_1 : cX0_take.data.toList.drop 24 = dktX0_take_1 := dk_seg dksX0_take_0 24 rfl rfl
theorem dksX0_take_2 : cX0_take.data.toList.drop 46 = dktX0_take_2 := dk_seg dksX0_take_1 22 rfl rfl
theorem dX0_take_0 : decode cX0_take 0 = .ok (.aload_n 0, 1) := dk_42 (dk_at dksX0_take_0 0 rfl rfl)
theorem dX0_take_1 : decode cX0_take 1 = .ok (.getfield 46, 3) := dk_180 0 46 (dk_at dksX0_take_0 1 rfl rfl)
theorem dX0_take_4 : decode cX0_take 4 = .ok (.getfield 181, 3) := dk_180 0 181 (dk_at dksX0_take_0 4 rfl rfl)
theorem dX0_take_7 : decode cX0_take 7 = .ok (.ifCond .ne 6, 3) := dk_154 0 6 (dk_at dksX0_take_0 7 rfl rfl)
theorem dX0_take_10 : decode cX0_take 10 = .ok (.ldc 185, 2) := dk_18 185 (dk_at dksX0_take_0 10 rfl rfl)
theorem dX0_take_12 : decode cX0_take 12 = .ok (.ireturn, 1) := dk_172 (dk_at dksX0_take_0 12 rfl rfl)
theorem dX0_take_13 : decode cX0_take 13 = .ok (.iload_n 1, 1) := dk_27 (dk_at dksX0_take_0 13 rfl rfl)
theorem dX0_take_14 : decode cX0_take 14 = .ok (.invokestatic 186, 3) := dk_184 0 186 (dk_at dksX0_take_0 14 rfl rfl)
theorem dX0_take_17 : decode cX0_take 17 = .ok (.ifCond .ne 6, 3) := dk_154 0 6 (dk_at dksX0_take_0 17 rfl rfl)
theorem dX0_take_20 : decode cX0_take 20 = .ok (.ldc 92, 2) := dk_18 92 (dk_at dksX0_take_0 20 rfl rfl)
theorem dX0_take_22 : decode cX0_take 22 = .ok (.ireturn, 1) := dk_172 (dk_at dksX0_take_0 22 rfl rfl)
theorem dX0_take_23 : decode cX0_take 23 = .ok (.aload_n 0, 1) := dk_42 (dk_at dksX0_take_0 23 rfl rfl)
theorem dX0_take_24 : decode cX0_take 24 = .ok (.getfield 46, 3) := dk_180 0 46 (dk_at dksX0_take_1 0 rfl rfl)
theorem dX0_take_27 : decode cX0_take 27 = .ok (.iload_n 1, 1) := dk_27 (dk_at dksX0_take_1 3 rfl rfl)
theorem dX0_take_28 : decode cX0_take 28 = .ok (.invokevirtual 194, 3) := dk_182 0 194 (dk_at dksX0_take_1 4 rfl rfl)
theorem dX0_take_31 : decode cX0_take 31 = .ok (.ifCond .ne 6, 3) := dk_154 0 6 (dk_at dksX0_take_1 7 rfl rfl)
theorem dX0_take_34 : decode cX0_take 34 = .ok (.ldc 185, 2) := dk_18 185 (dk_at dksX0_take_1 10 rfl rfl)
theorem dX0_take_36 : decode cX0_take 36 = .ok (.ireturn, 1) := dk_172 (dk_at dksX0_take_1 12 rfl rfl)
theorem dX0_take_37 : decode cX0_take 37 = .ok (.aload_n 0, 1) := dk_42 (dk_at dksX0_take_1 13 rfl rfl)
theorem dX0_take_38 : decode cX0_take 38 = .ok (.invokevirtual 197, 3) := dk_182 0 197 (dk_at dksX0_take_1 14 rfl rfl)
theorem dX0_take_41 : decode cX0_take 41 = .ok (.aload_n 0, 1) := dk_42 (dk_at dksX0_take_1 17 rfl rfl)
theorem dX0_take_42 : decode cX0_take 42 = .ok (.getfield 46, 3) := dk_180 0 46 (dk_at dksX0_take_1 18 rfl rfl)
theorem dX0_take_45 : decode cX0_take 45 = .ok (.iload_n 1, 1) := dk_27 (dk_at dksX0_take_1 21 rfl rfl)
theorem dX0_take_46 : decode cX0_take 46 = .ok (.invokevirtual 207, 3) := dk_182 0 207 (dk_at dksX0_take_2 0 rfl rfl)
theorem dX0_take_49 : decode cX0_take 49 = .ok (.aload_n 0, 1) := dk_42 (dk_at dksX0_take_2 3 rfl rfl)
theorem dX0_take_50 : decode cX0_take 50 = .ok (.getfield 46, 3) := dk_180 0 46 (dk_at dksX0_take_2 4 rfl rfl)
theorem dX0_take_53 : decode cX0_take 53 = .ok (.invokevirtual 172, 3) := dk_182 0 172 (dk_at dksX0_take_2 7 rfl rfl)
theorem dX0_take_56 : decode cX0_take 56 = .ok (.ireturn, 1) := dk_172 (dk_at dksX0_take_2 10 rfl rfl)
abbrev cX0_turn : ByteArray := prog_1_method_27_code
def yX0_turn : MethodName := ⟨RX0, "turn", "(I)I"⟩
def dkwX0_turn_3 : List UInt8 := [181, 0, 213, 42, 180, 0, 46, 180, 0, 213, 27, 122, 4, 126, 172]
abbrev dktX0_turn_3 : List UInt8 := dkwX0_turn_3 ++ []
def dkwX0_turn_2 : List UInt8 := [159, 0, 6, 18, 185, 172, 42, 182, 0, 197, 42, 180, 0, 46, 89, 180, 0, 213, 4, 27, 120, 130]
abbrev dktX0_turn_2 : List UInt8 := dkwX0_turn_2 ++ dktX0_turn_3
def dkwX0_turn_1 : List UInt8 := [180, 0, 46, 27, 182, 0, 194, 153, 0, 19, 42, 180, 0, 46, 180, 0, 200, 27, 50, 182, 0, 211, 6]
abbrev dktX0_turn_1 : List UInt8 := dkwX0_turn_1 ++ dktX0_turn_2
def dkwX0_turn_0 : List UInt8 := [42, 180, 0, 46, 180, 0, 181, 154, 0, 6, 18, 185, 172, 27, 184, 0, 186, 154, 0, 6, 18, 92, 172, 42]
abbrev dktX0_turn_0 : List UInt8 := dkwX0_turn_0 ++ dktX0_turn_1
theorem dksX0_turn_0 : cX0_turn.data.toList.drop 0 = dktX0_turn_0 := by decide +kernel
theorem dksX0_turn_1 : cX0_turn.data.toList.drop 24 = dktX0_turn_1 := dk_seg dksX0_turn_0 24 rfl rfl
theorem dksX0_turn_2 : cX0_turn.data.toList.drop 47 = dktX0_turn_2 := dk_seg dksX0_turn_1 23 rfl rfl
theorem dksX0_turn_3 : cX0_turn.data.toList.drop 69 = dktX0_turn_3 := dk_seg dksX0_turn_2 22 rfl rfl
theorem dX0_turn_0 : decode cX0_turn 0 = .ok (.aload_n 0, 1) := dk_42 (dk_at dksX0_turn_0 0 rfl rfl)
theorem dX0_turn_1 : decode cX0_turn 1 = .ok (.getfield 46, 3) := dk_180 0 46 (dk_at dksX0_turn_0 1 rfl rfl)
theorem dX0_turn_4 : decode cX0_turn 4 = .ok (.getfield 181, 3) := dk_180 0 181 (dk_at dksX0_turn_0 4 rfl rfl)
theorem dX0_turn_7 : decode cX0_turn 7 = .ok (.ifCond .ne 6, 3) := dk_154 0 6 (dk_at dksX0_turn_0 7 rfl rfl)
theorem dX0_turn_10 : decode cX0_turn 10 = .ok (.ldc 185, 2) := dk_18 185 (dk_at dksX0_turn_0 10 rfl rfl)
theorem dX0_turn_12 : decode cX0_turn 12 = .ok (.ireturn, 1) := dk_172 (dk_at dksX0_turn_0 12 rfl rfl)
theorem dX0_turn_13 : decode cX0_turn 13 = .ok (.iload_n 1, 1) := dk_27 (dk_at dksX0_turn_0 13 rfl rfl)
theorem dX0_turn_14 : decode cX0_turn 14 = .ok (.invokestatic 186, 3) := dk_184 0 186 (dk_at dksX0_turn_0 14 rfl rfl)
theorem dX0_turn_17 : decode cX0_turn 17 = .ok (.ifCond .ne 6, 3) := dk_154 0 6 (dk_at dksX0_turn_0 17 rfl rfl)
theorem dX0_turn_20 : decode cX0_turn 20 = .ok (.ldc 92, 2) := dk_18 92 (dk_at dksX0_turn_0 20 rfl rfl)
theorem dX0_turn_22 : decode cX0_turn 22 = .ok (.ireturn, 1) := dk_172 (dk_at dksX0_turn_0 22 rfl rfl)
theorem dX0_turn_23 : decode cX0_turn 23 = .ok (.aload_n 0, 1) := dk_42 (dk_at dksX0_turn_0 23 rfl rfl)
theorem dX0_turn_24 : decode cX0_turn 24 = .ok (.getfield 46, 3) := dk_180 0 46 (dk_at dksX0_turn_1 0 rfl rfl)
theorem dX0_turn_27 : decode cX0_turn 27 = .ok (.iload_n 1, 1) := dk_27 (dk_at dksX0_turn_1 3 rfl rfl)
theorem dX0_turn_28 : decode cX0_turn 28 = .ok (.invokevirtual 194, 3) := dk_182 0 194 (dk_at dksX0_turn_1 4 rfl rfl)
theorem dX0_turn_31 : decode cX0_turn 31 = .ok (.ifCond .eq 19, 3) := dk_153 0 19 (dk_at dksX0_turn_1 7 rfl rfl)
theorem dX0_turn_34 : decode cX0_turn 34 = .ok (.aload_n 0, 1) := dk_42 (dk_at dksX0_turn_1 10 rfl rfl)
theorem dX0_turn_35 : decode cX0_turn 35 = .ok (.getfield 46, 3) := dk_180 0 46 (dk_at dksX0_turn_1 11 rfl rfl)
theorem dX0_turn_38 : decode cX0_turn 38 = .ok (.getfield 200, 3) := dk_180 0 200 (dk_at dksX0_turn_1 14 rfl rfl)
theorem dX0_turn_41 : decode cX0_turn 41 = .ok (.iload_n 1, 1) := dk_27 (dk_at dksX0_turn_1 17 rfl rfl)
theorem dX0_turn_42 : decode cX0_turn 42 = .ok (.aaload, 1) := dk_50 (dk_at dksX0_turn_1 18 rfl rfl)
theorem dX0_turn_43 : decode cX0_turn 43 = .ok (.invokevirtual 211, 3) := dk_182 0 211 (dk_at dksX0_turn_1 19 rfl rfl)
theorem dX0_turn_46 : decode cX0_turn 46 = .ok (.iconst 3, 1) := dk_6 (dk_at dksX0_turn_1 22 rfl rfl)
theorem dX0_turn_47 : decode cX0_turn 47 = .ok (.if_icmp .eq 6, 3) := dk_159 0 6 (dk_at dksX0_turn_2 0 rfl rfl)
theorem dX0_turn_50 : decode cX0_turn 50 = .ok (.ldc 185, 2) := dk_18 185 (dk_at dksX0_turn_2 3 rfl rfl)
theorem dX0_turn_52 : decode cX0_turn 52 = .ok (.ireturn, 1) := dk_172 (dk_at dksX0_turn_2 5 rfl rfl)
theorem dX0_turn_53 : decode cX0_turn 53 = .ok (.aload_n 0, 1) := dk_42 (dk_at dksX0_turn_2 6 rfl rfl)
theorem dX0_turn_54 : decode cX0_turn 54 = .ok (.invokevirtual 197, 3) := dk_182 0 197 (dk_at dksX0_turn_2 7 rfl rfl)
theorem dX0_turn_57 : decode cX0_turn 57 = .ok (.aload_n 0, 1) := dk_42 (dk_at dksX0_turn_2 10 rfl rfl)
theorem dX0_turn_58 : decode cX0_turn 58 = .ok (.getfield 46, 3) := dk_180 0 46 (dk_at dksX0_turn_2 11 rfl rfl)
theorem dX0_turn_61 : decode cX0_turn 61 = .ok (.dup, 1) := dk_89 (dk_at dksX0_turn_2 14 rfl rfl)
theorem dX0_turn_62 : decode cX0_turn 62 = .ok (.getfield 213, 3) := dk_180 0 213 (dk_at dksX0_turn_2 15 rfl rfl)
theorem dX0_turn_65 : decode cX0_turn 65 = .ok (.iconst 1, 1) := dk_4 (dk_at dksX0_turn_2 18 rfl rfl)
theorem dX0_turn_66 : decode cX0_turn 66 = .ok (.iload_n 1, 1) := dk_27 (dk_at dksX0_turn_2 19 rfl rfl)
theorem dX0_turn_67 : decode cX0_turn 67 = .ok (.ishl, 1) := dk_120 (dk_at dksX0_turn_2 20 rfl rfl)
theorem dX0_turn_68 : decode cX0_turn 68 = .ok (.ixor, 1) := dk_130 (dk_at dksX0_turn_2 21 rfl rfl)
theorem dX0_turn_69 : decode cX0_turn 69 = .ok (.putfield 213, 3) := dk_181 0 213 (dk_at dksX0_turn_3 0 rfl rfl)
theorem dX0_turn_72 : decode cX0_turn 72 = .ok (.aload_n 0, 1) := dk_42 (dk_at dksX0_turn_3 3 rfl rfl)
theorem dX0_turn_73 : decode cX0_turn 73 = .ok (.getfield 46, 3) := dk_180 0 46 (dk_at dksX0_turn_3 4 rfl rfl)
theorem dX0_turn_76 : decode cX0_turn 76 = .ok (.getfield 213, 3) := dk_180 0 213 (dk_at dksX0_turn_3 7 rfl rfl)
theorem dX0_turn_79 : decode cX0_turn 79 = .ok (.iload_n 1, 1) := dk_27 (dk_at dksX0_turn_3 10 rfl rfl)
theorem dX0_turn_80 : decode cX0_turn 80 = .ok (.ishr, 1) := dk_122 (dk_at dksX0_turn_3 11 rfl rfl)
theorem dX0_turn_81 : decode cX0_turn 81 = .ok (.iconst 1, 1) := dk_4 (dk_at dksX0_turn_3 12 rfl rfl)
theorem dX0_turn_82 : decode cX0_turn 82 = .ok (.iand, 1) := dk_126 (dk_at dksX0_turn_3 13 rfl rfl)
theorem dX0_turn_83 : decode cX0_turn 83 = .ok (.ireturn, 1) := dk_172 (dk_at dksX0_turn_3 14 rfl rfl)
abbrev cX0_gust : ByteArray := prog_1_method_28_code
def yX0_gust : MethodName := ⟨RX0, "gust", "(II)I"⟩
def dkwX0_gust_2 : List UInt8 := [46, 62, 42, 180, 0, 46, 180, 0, 221, 27, 28, 79, 29, 172]
abbrev dktX0_gust_2 : List UInt8 := dkwX0_gust_2 ++ []
def dkwX0_gust_1 : List UInt8 := [20, 0, 219, 184, 0, 82, 154, 0, 6, 18, 92, 172, 42, 182, 0, 197, 42, 180, 0, 46, 180, 0, 221, 27]
abbrev dktX0_gust_1 : List UInt8 := dkwX0_gust_1 ++ dktX0_gust_2
def dkwX0_gust_0 : List UInt8 := [42, 180, 0, 46, 180, 0, 181, 154, 0, 6, 18, 185, 172, 27, 184, 0, 216, 153, 0, 15, 28, 133, 9]
abbrev dktX0_gust_0 : List UInt8 := dkwX0_gust_0 ++ dktX0_gust_1
theorem dksX0_gust_0 : cX0_gust.data.toList.drop 0 = dktX0_gust_0 := by decide +kernel
theorem dksX0_gust_1 : cX0_gust.data.toList.drop 23 = dktX0_gust_1 := dk_seg dksX0_gust_0 23 rfl rfl
theorem dksX0_gust_2 : cX0_gust.data.toList.drop 47 = dktX0_gust_2 := dk_seg dksX0_gust_1 24 rfl rfl
theorem dX0_gust_0 : decode cX0_gust 0 = .ok (.aload_n 0, 1) := dk_42 (dk_at dksX0_gust_0 0 rfl rfl)
theorem dX0_gust_1 : decode cX0_gust 1 = .ok (.getfield 46, 3) := dk_180 0 46 (dk_at dksX0_gust_0 1 rfl rfl)
theorem dX0_gust_4 : decode cX0_gust 4 = .ok (.getfield 181, 3) := dk_180 0 181 (dk_at dksX0_gust_0 4 rfl rfl)
theorem dX0_gust_7 : decode cX0_gust 7 = .ok (.ifCond .ne 6, 3) := dk_154 0 6 (dk_at dksX0_gust_0 7 rfl rfl)
theorem dX0_gust_10 : decode cX0_gust 10 = .ok (.ldc 185, 2) := dk_18 185 (dk_at dksX0_gust_0 10 rfl rfl)
theorem dX0_gust_12 : decode cX0_gust 12 = .ok (.ireturn, 1) := dk_172 (dk_at dksX0_gust_0 12 rfl rfl)
theorem dX0_gust_13 : decode cX0_gust 13 = .ok (.iload_n 1, 1) := dk_27 (dk_at dksX0_gust_0 13 rfl rfl)
theorem dX0_gust_14 : decode cX0_gust 14 = .ok (.invokestatic 216, 3) := dk_184 0 216 (dk_at dksX0_gust_0 14 rfl rfl)
theorem dX0_gust_17 : decode cX0_gust 17 = .ok (.ifCond .eq 15, 3) := dk_153 0 15 (dk_at dksX0_gust_0 17 rfl rfl)
theorem dX0_gust_20 : decode cX0_gust 20 = .ok (.iload_n 2, 1) := dk_28 (dk_at dksX0_gust_0 20 rfl rfl)
theorem dX0_gust_21 : decode cX0_gust 21 = .ok (.i2l, 1) := dk_133 (dk_at dksX0_gust_0 21 rfl rfl)
theorem dX0_gust_22 : decode cX0_gust 22 = .ok (.lconst 0, 1) := dk_9 (dk_at dksX0_gust_0 22 rfl rfl)
theorem dX0_gust_23 : decode cX0_gust 23 = .ok (.ldc2_w 219, 3) := dk_20 0 219 (dk_at dksX0_gust_1 0 rfl rfl)
theorem dX0_gust_26 : decode cX0_gust 26 = .ok (.invokestatic 82, 3) := dk_184 0 82 (dk_at dksX0_gust_1 3 rfl rfl)
theorem dX0_gust_29 : decode cX0_gust 29 = .ok (.ifCond .ne 6, 3) := dk_154 0 6 (dk_at dksX0_gust_1 6 rfl rfl)
theorem dX0_gust_32 : decode cX0_gust 32 = .ok (.ldc 92, 2) := dk_18 92 (dk_at dksX0_gust_1 9 rfl rfl)
theorem dX0_gust_34 : decode cX0_gust 34 = .ok (.ireturn, 1) := dk_172 (dk_at dksX0_gust_1 11 rfl rfl)
theorem dX0_gust_35 : decode cX0_gust 35 = .ok (.aload_n 0, 1) := dk_42 (dk_at dksX0_gust_1 12 rfl rfl)
theorem dX0_gust_36 : decode cX0_gust 36 = .ok (.invokevirtual 197, 3) := dk_182 0 197 (dk_at dksX0_gust_1 13 rfl rfl)
theorem dX0_gust_39 : decode cX0_gust 39 = .ok (.aload_n 0, 1) := dk_42 (dk_at dksX0_gust_1 16 rfl rfl)
theorem dX0_gust_40 : decode cX0_gust 40 = .ok (.getfield 46, 3) := dk_180 0 46 (dk_at dksX0_gust_1 17 rfl rfl)
theorem dX0_gust_43 : decode cX0_gust 43 = .ok (.getfield 221, 3) := dk_180 0 221 (dk_at dksX0_gust_1 20 rfl rfl)
theorem dX0_gust_46 : decode cX0_gust 46 = .ok (.iload_n 1, 1) := dk_27 (dk_at dksX0_gust_1 23 rfl rfl)
theorem dX0_gust_47 : decode cX0_gust 47 = .ok (.iaload, 1) := dk_46 (dk_at dksX0_gust_2 0 rfl rfl)
theorem dX0_gust_48 : decode cX0_gust 48 = .ok (.istore_n 3, 1) := dk_62 (dk_at dksX0_gust_2 1 rfl rfl)
theorem dX0_gust_49 : decode cX0_gust 49 = .ok (.aload_n 0, 1) := dk_42 (dk_at dksX0_gust_2 2 rfl rfl)
theorem dX0_gust_50 : decode cX0_gust 50 = .ok (.getfield 46, 3) := dk_180 0 46 (dk_at dksX0_gust_2 3 rfl rfl)
theorem dX0_gust_53 : decode cX0_gust 53 = .ok (.getfield 221, 3) := dk_180 0 221 (dk_at dksX0_gust_2 6 rfl rfl)
theorem dX0_gust_56 : decode cX0_gust 56 = .ok (.iload_n 1, 1) := dk_27 (dk_at dksX0_gust_2 9 rfl rfl)
theorem dX0_gust_57 : decode cX0_gust 57 = .ok (.iload_n 2, 1) := dk_28 (dk_at dksX0_gust_2 10 rfl rfl)
theorem dX0_gust_58 : decode cX0_gust 58 = .ok (.iastore, 1) := dk_79 (dk_at dksX0_gust_2 11 rfl rfl)
theorem dX0_gust_59 : decode cX0_gust 59 = .ok (.iload_n 3, 1) := dk_29 (dk_at dksX0_gust_2 12 rfl rfl)
theorem dX0_gust_60 : decode cX0_gust 60 = .ok (.ireturn, 1) := dk_172 (dk_at dksX0_gust_2 13 rfl rfl)
abbrev cX0_isSide : ByteArray := prog_1_method_20_code
def yX0_isSide : MethodName := ⟨RX0, "isSide", "(I)Z"⟩
def dkwX0_isSide_0 : List UInt8 := [26, 133, 9, 20, 0, 175, 184, 0, 82, 172]
abbrev dktX0_isSide_0 : List UInt8 := dkwX0_isSide_0 ++ []
theorem dksX0_isSide_0 : cX0_isSide.data.toList.drop 0 = dktX0_isSide_0 := by decide +kernel
theorem dX0_isSide_0 : decode cX0_isSide 0 = .ok (.iload_n 0, 1) := dk_26 (dk_at dksX0_isSide_0 0 rfl rfl)
theorem dX0_isSide_1 : decode cX0_isSide 1 = .ok (.i2l, 1) := dk_133 (dk_at dksX0_isSide_0 1 rfl rfl)
theorem dX0_isSide_2 : decode cX0_isSide 2 = .ok (.lconst 0, 1) := dk_9 (dk_at dksX0_isSide_0 2 rfl rfl)
theorem dX0_isSide_3 : decode cX0_isSide 3 = .ok (.ldc2_w 175, 3) := dk_20 0 175 (dk_at dksX0_isSide_0 3 rfl rfl)
theorem dX0_isSide_6 : decode cX0_isSide 6 = .ok (.invokestatic 82, 3) := dk_184 0 82 (dk_at dksX0_isSide_0 6 rfl rfl)
theorem dX0_isSide_9 : decode cX0_isSide 9 = .ok (.ireturn, 1) := dk_172 (dk_at dksX0_isSide_0 9 rfl rfl)
abbrev cX0_hours : ByteArray := prog_1_method_29_code
def yX0_hours : MethodName := ⟨RX0, "hours", "(I)I"⟩
def dkwX0_hours_3 : List UInt8 := [167, 255, 236, 42, 180, 0, 46, 182, 0, 172, 172]
abbrev dktX0_hours_3 : List UInt8 := dkwX0_hours_3 ++ []
def dkwX0_hours_2 : List UInt8 := [3, 61, 28, 27, 162, 0, 21, 42, 182, 0, 197, 42, 180, 0, 46, 182, 0, 230, 87, 132, 2, 1]
abbrev dktX0_hours_2 : List UInt8 := dkwX0_hours_2 ++ dktX0_hours_3
def dkwX0_hours_1 : List UInt8 := [154, 0, 6, 18, 92, 172, 42, 180, 0, 46, 180, 0, 227, 27, 96, 17, 3, 231, 164, 0, 6, 18, 141, 172]
abbrev dktX0_hours_1 : List UInt8 := dkwX0_hours_1 ++ dktX0_hours_2
def dkwX0_hours_0 : List UInt8 := [42, 180, 0, 46, 180, 0, 181, 154, 0, 6, 18, 185, 172, 27, 133, 10, 20, 0, 225, 184, 0, 82]
abbrev dktX0_hours_0 : List UInt8 := dkwX0_hours_0 ++ dktX0_hours_1
theorem dksX0_hours_0 : cX0_hours.data.toList.drop 0 = dktX0_hours_0 := by decide +kernel
theorem dksX0_hours_1 : cX0_hours.data.toList.drop 22 = dktX0_hours_1 := dk_seg dksX0_hours_0 22 rfl rfl
theorem dksX0_hours_2 : cX0_hours.data.toList.drop 46 = dktX0_hours_2 := dk_seg dksX0_hours_1 24 rfl rfl
theorem dksX0_hours_3 : cX0_hours.data.toList.drop 68 = dktX0_hours_3 := dk_seg dksX0_hours_2 22 rfl rfl
theorem dX0_hours_0 : decode cX0_hours 0 = .ok (.aload_n 0, 1) := dk_42 (dk_at dksX0_hours_0 0 rfl rfl)
theorem dX0_hours_1 : decode cX0_hours 1 = .ok (.getfield 46, 3) := dk_180 0 46 (dk_at dksX0_hours_0 1 rfl rfl)
theorem dX0_hours_4 : decode cX0_hours 4 = .ok (.getfield 181, 3) := dk_180 0 181 (dk_at dksX0_hours_0 4 rfl rfl)
theorem dX0_hours_7 : decode cX0_hours 7 = .ok (.ifCond .ne 6, 3) := dk_154 0 6 (dk_at dksX0_hours_0 7 rfl rfl)
theorem dX0_hours_10 : decode cX0_hours 10 = .ok (.ldc 185, 2) := dk_18 185 (dk_at dksX0_hours_0 10 rfl rfl)
theorem dX0_hours_12 : decode cX0_hours 12 = .ok (.ireturn, 1) := dk_172 (dk_at dksX0_hours_0 12 rfl rfl)
theorem dX0_hours_13 : decode cX0_hours 13 = .ok (.iload_n 1, 1) := dk_27 (dk_at dksX0_hours_0 13 rfl rfl)
theorem dX0_hours_14 : decode cX0_hours 14 = .ok (.i2l, 1) := dk_133 (dk_at dksX0_hours_0 14 rfl rfl)
theorem dX0_hours_15 : decode cX0_hours 15 = .ok (.lconst 1, 1) := dk_10 (dk_at dksX0_hours_0 15 rfl rfl)
theorem dX0_hours_16 : decode cX0_hours 16 = .ok (.ldc2_w 225, 3) := dk_20 0 225 (dk_at dksX0_hours_0 16 rfl rfl)
theorem dX0_hours_19 : decode cX0_hours 19 = .ok (.invokestatic 82, 3) := dk_184 0 82 (dk_at dksX0_hours_0 19 rfl rfl)
theorem dX0_hours_22 : decode cX0_hours 22 = .ok (.ifCond .ne 6, 3) := dk_154 0 6 (dk_at dksX0_hours_1 0 rfl rfl)
theorem dX0_hours_25 : decode cX0_hours 25 = .ok (.ldc 92, 2) := dk_18 92 (dk_at dksX0_hours_1 3 rfl rfl)
theorem dX0_hours_27 : decode cX0_hours 27 = .ok (.ireturn, 1) := dk_172 (dk_at dksX0_hours_1 5 rfl rfl)
theorem dX0_hours_28 : decode cX0_hours 28 = .ok (.aload_n 0, 1) := dk_42 (dk_at dksX0_hours_1 6 rfl rfl)
theorem dX0_hours_29 : decode cX0_hours 29 = .ok (.getfield 46, 3) := dk_180 0 46 (dk_at dksX0_hours_1 7 rfl rfl)
theorem dX0_hours_32 : decode cX0_hours 32 = .ok (.getfield 227, 3) := dk_180 0 227 (dk_at dksX0_hours_1 10 rfl rfl)
theorem dX0_hours_35 : decode cX0_hours 35 = .ok (.iload_n 1, 1) := dk_27 (dk_at dksX0_hours_1 13 rfl rfl)
theorem dX0_hours_36 : decode cX0_hours 36 = .ok (.iadd, 1) := dk_96 (dk_at dksX0_hours_1 14 rfl rfl)
theorem dX0_hours_37 : decode cX0_hours 37 = .ok (.sipush 999, 3) := dk_17 3 231 (dk_at dksX0_hours_1 15 rfl rfl)
theorem dX0_hours_40 : decode cX0_hours 40 = .ok (.if_icmp .le 6, 3) := dk_164 0 6 (dk_at dksX0_hours_1 18 rfl rfl)
theorem dX0_hours_43 : decode cX0_hours 43 = .ok (.ldc 141, 2) := dk_18 141 (dk_at dksX0_hours_1 21 rfl rfl)
theorem dX0_hours_45 : decode cX0_hours 45 = .ok (.ireturn, 1) := dk_172 (dk_at dksX0_hours_1 23 rfl rfl)
theorem dX0_hours_46 : decode cX0_hours 46 = .ok (.iconst 0, 1) := dk_3 (dk_at dksX0_hours_2 0 rfl rfl)
theorem dX0_hours_47 : decode cX0_hours 47 = .ok (.istore_n 2, 1) := dk_61 (dk_at dksX0_hours_2 1 rfl rfl)
theorem dX0_hours_48 : decode cX0_hours 48 = .ok (.iload_n 2, 1) := dk_28 (dk_at dksX0_hours_2 2 rfl rfl)
theorem dX0_hours_49 : decode cX0_hours 49 = .ok (.iload_n 1, 1) := dk_27 (dk_at dksX0_hours_2 3 rfl rfl)
theorem dX0_hours_50 : decode cX0_hours 50 = .ok (.if_icmp .ge 21, 3) := dk_162 0 21 (dk_at dksX0_hours_2 4 rfl rfl)
theorem dX0_hours_53 : decode cX0_hours 53 = .ok (.aload_n 0, 1) := dk_42 (dk_at dksX0_hours_2 7 rfl rfl)
theorem dX0_hours_54 : decode cX0_hours 54 = .ok (.invokevirtual 197, 3) := dk_182 0 197 (dk_at dksX0_hours_2 8 rfl rfl)
theorem dX0_hours_57 : decode cX0_hours 57 = .ok (.aload_n 0, 1) := dk_42 (dk_at dksX0_hours_2 11 rfl rfl)
theorem dX0_hours_58 : decode cX0_hours 58 = .ok (.getfield 46, 3) := dk_180 0 46 (dk_at dksX0_hours_2 12 rfl rfl)
theorem dX0_hours_61 : decode cX0_hours 61 = .ok (.invokevirtual 230, 3) := dk_182 0 230 (dk_at dksX0_hours_2 15 rfl rfl)
theorem dX0_hours_64 : decode cX0_hours 64 = .ok (.pop, 1) := dk_87 (dk_at dksX0_hours_2 18 rfl rfl)
theorem dX0_hours_65 : decode cX0_hours 65 = .ok (.iinc 2 1, 3) := dk_132 2 1 (dk_at dksX0_hours_2 19 rfl rfl)
theorem dX0_hours_68 : decode cX0_hours 68 = .ok (.goto (-20), 3) := dk_167 255 236 (dk_at dksX0_hours_3 0 rfl rfl)
theorem dX0_hours_71 : decode cX0_hours 71 = .ok (.aload_n 0, 1) := dk_42 (dk_at dksX0_hours_3 3 rfl rfl)
theorem dX0_hours_72 : decode cX0_hours 72 = .ok (.getfield 46, 3) := dk_180 0 46 (dk_at dksX0_hours_3 4 rfl rfl)
theorem dX0_hours_75 : decode cX0_hours 75 = .ok (.invokevirtual 172, 3) := dk_182 0 172 (dk_at dksX0_hours_3 7 rfl rfl)
theorem dX0_hours_78 : decode cX0_hours 78 = .ok (.ireturn, 1) := dk_172 (dk_at dksX0_hours_3 10 rfl rfl)
abbrev cX0_has : ByteArray := prog_1_method_2_code
def yX0_has : MethodName := ⟨RX0, "has", "(II)Z"⟩
def dkwX0_has_0 : List UInt8 := [26, 27, 122, 4, 126, 4, 160, 0, 7, 4, 167, 0, 4, 3, 172]
abbrev dktX0_has_0 : List UInt8 := dkwX0_has_0 ++ []
theorem dksX0_has_0 : cX0_has.data.toList.drop 0 = dktX0_has_0 := by decide +kernel
theorem dX0_has_0 : decode cX0_has 0 = .ok (.iload_n 0, 1) := dk_26 (dk_at dksX0_has_0 0 rfl rfl)
theorem dX0_has_1 : decode cX0_has 1 = .ok (.iload_n 1, 1) := dk_27 (dk_at dksX0_has_0 1 rfl rfl)
theorem dX0_has_2 : decode cX0_has 2 = .ok (.ishr, 1) := dk_122 (dk_at dksX0_has_0 2 rfl rfl)
theorem dX0_has_3 : decode cX0_has 3 = .ok (.iconst 1, 1) := dk_4 (dk_at dksX0_has_0 3 rfl rfl)
theorem dX0_has_4 : decode cX0_has 4 = .ok (.iand, 1) := dk_126 (dk_at dksX0_has_0 4 rfl rfl)
theorem dX0_has_5 : decode cX0_has 5 = .ok (.iconst 1, 1) := dk_4 (dk_at dksX0_has_0 5 rfl rfl)
theorem dX0_has_6 : decode cX0_has 6 = .ok (.if_icmp .ne 7, 3) := dk_160 0 7 (dk_at dksX0_has_0 6 rfl rfl)
theorem dX0_has_9 : decode cX0_has 9 = .ok (.iconst 1, 1) := dk_4 (dk_at dksX0_has_0 9 rfl rfl)
theorem dX0_has_10 : decode cX0_has 10 = .ok (.goto 4, 3) := dk_167 0 4 (dk_at dksX0_has_0 10 rfl rfl)
theorem dX0_has_13 : decode cX0_has 13 = .ok (.iconst 0, 1) := dk_3 (dk_at dksX0_has_0 13 rfl rfl)
theorem dX0_has_14 : decode cX0_has 14 = .ok (.ireturn, 1) := dk_172 (dk_at dksX0_has_0 14 rfl rfl)
abbrev cX0_undo : ByteArray := prog_1_method_30_code
def yX0_undo : MethodName := ⟨RX0, "undo", "()I"⟩
def dkwX0_undo_1 : List UInt8 := [42, 180, 0, 53, 42, 180, 0, 169, 50, 182, 0, 165, 42, 180, 0, 169, 172]
abbrev dktX0_undo_1 : List UInt8 := dkwX0_undo_1 ++ []
def dkwX0_undo_0 : List UInt8 := [42, 180, 0, 169, 154, 0, 6, 18, 185, 172, 42, 89, 180, 0, 169, 4, 100, 181, 0, 169, 42, 180, 0, 46]
abbrev dktX0_undo_0 : List UInt8 := dkwX0_undo_0 ++ dktX0_undo_1
theorem dksX0_undo_0 : cX0_undo.data.toList.drop 0 = dktX0_undo_0 := by decide +kernel
theorem dksX0_undo_1 : cX0_undo.data.toList.drop 24 = dktX0_undo_1 := dk_seg dksX0_undo_0 24 rfl rfl
theorem dX0_undo_0 : decode cX0_undo 0 = .ok (.aload_n 0, 1) := dk_42 (dk_at dksX0_undo_0 0 rfl rfl)
theorem dX0_undo_1 : decode cX0_undo 1 = .ok (.getfield 169, 3) := dk_180 0 169 (dk_at dksX0_undo_0 1 rfl rfl)
theorem dX0_undo_4 : decode cX0_undo 4 = .ok (.ifCond .ne 6, 3) := dk_154 0 6 (dk_at dksX0_undo_0 4 rfl rfl)
theorem dX0_undo_7 : decode cX0_undo 7 = .ok (.ldc 185, 2) := dk_18 185 (dk_at dksX0_undo_0 7 rfl rfl)
theorem dX0_undo_9 : decode cX0_undo 9 = .ok (.ireturn, 1) := dk_172 (dk_at dksX0_undo_0 9 rfl rfl)
theorem dX0_undo_10 : decode cX0_undo 10 = .ok (.aload_n 0, 1) := dk_42 (dk_at dksX0_undo_0 10 rfl rfl)
theorem dX0_undo_11 : decode cX0_undo 11 = .ok (.dup, 1) := dk_89 (dk_at dksX0_undo_0 11 rfl rfl)
theorem dX0_undo_12 : decode cX0_undo 12 = .ok (.getfield 169, 3) := dk_180 0 169 (dk_at dksX0_undo_0 12 rfl rfl)
theorem dX0_undo_15 : decode cX0_undo 15 = .ok (.iconst 1, 1) := dk_4 (dk_at dksX0_undo_0 15 rfl rfl)
theorem dX0_undo_16 : decode cX0_undo 16 = .ok (.isub, 1) := dk_100 (dk_at dksX0_undo_0 16 rfl rfl)
theorem dX0_undo_17 : decode cX0_undo 17 = .ok (.putfield 169, 3) := dk_181 0 169 (dk_at dksX0_undo_0 17 rfl rfl)
theorem dX0_undo_20 : decode cX0_undo 20 = .ok (.aload_n 0, 1) := dk_42 (dk_at dksX0_undo_0 20 rfl rfl)
theorem dX0_undo_21 : decode cX0_undo 21 = .ok (.getfield 46, 3) := dk_180 0 46 (dk_at dksX0_undo_0 21 rfl rfl)
theorem dX0_undo_24 : decode cX0_undo 24 = .ok (.aload_n 0, 1) := dk_42 (dk_at dksX0_undo_1 0 rfl rfl)
theorem dX0_undo_25 : decode cX0_undo 25 = .ok (.getfield 53, 3) := dk_180 0 53 (dk_at dksX0_undo_1 1 rfl rfl)
theorem dX0_undo_28 : decode cX0_undo 28 = .ok (.aload_n 0, 1) := dk_42 (dk_at dksX0_undo_1 4 rfl rfl)
theorem dX0_undo_29 : decode cX0_undo 29 = .ok (.getfield 169, 3) := dk_180 0 169 (dk_at dksX0_undo_1 5 rfl rfl)
theorem dX0_undo_32 : decode cX0_undo 32 = .ok (.aaload, 1) := dk_50 (dk_at dksX0_undo_1 8 rfl rfl)
theorem dX0_undo_33 : decode cX0_undo 33 = .ok (.invokevirtual 165, 3) := dk_182 0 165 (dk_at dksX0_undo_1 9 rfl rfl)
theorem dX0_undo_36 : decode cX0_undo 36 = .ok (.aload_n 0, 1) := dk_42 (dk_at dksX0_undo_1 12 rfl rfl)
theorem dX0_undo_37 : decode cX0_undo 37 = .ok (.getfield 169, 3) := dk_180 0 169 (dk_at dksX0_undo_1 13 rfl rfl)
theorem dX0_undo_40 : decode cX0_undo 40 = .ok (.ireturn, 1) := dk_172 (dk_at dksX0_undo_1 16 rfl rfl)
abbrev cX0_cell : ByteArray := prog_1_method_31_code
def yX0_cell : MethodName := ⟨RX0, "cell", "(II)I"⟩
def dkwX0_cell_4 : List UInt8 := [180, 0, 200, 27, 50, 182, 0, 241, 167, 0, 14, 42, 180, 0, 46, 180, 0, 213, 27, 122, 4, 126, 172]
abbrev dktX0_cell_4 : List UInt8 := dkwX0_cell_4 ++ []
def dkwX0_cell_3 : List UInt8 := [180, 0, 46, 180, 0, 200, 27, 50, 182, 0, 211, 167, 0, 34, 28, 5, 160, 0, 18, 42, 180, 0, 46]
abbrev dktX0_cell_3 : List UInt8 := dkwX0_cell_3 ++ dktX0_cell_4
def dkwX0_cell_2 : List UInt8 := [46, 172, 42, 180, 0, 46, 27, 182, 0, 194, 154, 0, 6, 18, 240, 172, 28, 4, 160, 0, 18, 42]
abbrev dktX0_cell_2 : List UInt8 := dkwX0_cell_2 ++ dktX0_cell_3
def dkwX0_cell_1 : List UInt8 := [20, 0, 175, 184, 0, 82, 154, 0, 6, 18, 92, 172, 28, 154, 0, 13, 42, 182, 0, 233, 180, 0, 237, 27]
abbrev dktX0_cell_1 : List UInt8 := dkwX0_cell_1 ++ dktX0_cell_2
def dkwX0_cell_0 : List UInt8 := [42, 180, 0, 46, 180, 0, 181, 154, 0, 6, 18, 185, 172, 27, 184, 0, 186, 153, 0, 15, 28, 133, 9]
abbrev dktX0_cell_0 : List UInt8 := dkwX0_cell_0 ++ dktX0_cell_1
theorem dksX0_cell_0 : cX0_cell.data.toList.drop 0 = dktX0_cell_0 := by decide +kernel
theorem dksX0_cell_1 : cX0_cell.data.toList.drop 23 = dktX0_cell_1 := dk_seg dksX0_cell_0 23 rfl rfl
theorem dksX0_cell_2 : cX0_cell.data.toList.drop 47 = dktX0_cell_2 := dk_seg dksX0_cell_1 24 rfl rfl
theorem dksX0_cell_3 : cX0_cell.data.toList.drop 69 = dktX0_cell_3 := dk_seg dksX0_cell_2 22 rfl rfl
theorem dksX0_cell_4 : cX0_cell.data.toList.drop 92 = dktX0_cell_4 := dk_seg dksX0_cell_3 23 rfl rfl
theorem dX0_cell_0 : decode cX0_cell 0 = .ok (.aload_n 0, 1) := dk_42 (dk_at dksX0_cell_0 0 rfl rfl)
theorem dX0_cell_1 : decode cX0_cell 1 = .ok (.getfield 46, 3) := dk_180 0 46 (dk_at dksX0_cell_0 1 rfl rfl)
theorem dX0_cell_4 : decode cX0_cell 4 = .ok (.getfield 181, 3) := dk_180 0 181 (dk_at dksX0_cell_0 4 rfl rfl)
theorem dX0_cell_7 : decode cX0_cell 7 = .ok (.ifCond .ne 6, 3) := dk_154 0 6 (dk_at dksX0_cell_0 7 rfl rfl)
theorem dX0_cell_10 : decode cX0_cell 10 = .ok (.ldc 185, 2) := dk_18 185 (dk_at dksX0_cell_0 10 rfl rfl)
theorem dX0_cell_12 : decode cX0_cell 12 = .ok (.ireturn, 1) := dk_172 (dk_at dksX0_cell_0 12 rfl rfl)
theorem dX0_cell_13 : decode cX0_cell 13 = .ok (.iload_n 1, 1) := dk_27 (dk_at dksX0_cell_0 13 rfl rfl)
theorem dX0_cell_14 : decode cX0_cell 14 = .ok (.invokestatic 186, 3) := dk_184 0 186 (dk_at dksX0_cell_0 14 rfl rfl)
theorem dX0_cell_17 : decode cX0_cell 17 = .ok (.ifCond .eq 15, 3) := dk_153 0 15 (dk_at dksX0_cell_0 17 rfl rfl)
theorem dX0_cell_20 : decode cX0_cell 20 = .ok (.iload_n 2, 1) := dk_28 (dk_at dksX0_cell_0 20 rfl rfl)
theorem dX0_cell_21 : decode cX0_cell 21 = .ok (.i2l, 1) := dk_133 (dk_at dksX0_cell_0 21 rfl rfl)
theorem dX0_cell_22 : decode cX0_cell 22 = .ok (.lconst 0, 1) := dk_9 (dk_at dksX0_cell_0 22 rfl rfl)
theorem dX0_cell_23 : decode cX0_cell 23 = .ok (.ldc2_w 175, 3) := dk_20 0 175 (dk_at dksX0_cell_1 0 rfl rfl)
theorem dX0_cell_26 : decode cX0_cell 26 = .ok (.invokestatic 82, 3) := dk_184 0 82 (dk_at dksX0_cell_1 3 rfl rfl)
theorem dX0_cell_29 : decode cX0_cell 29 = .ok (.ifCond .ne 6, 3) := dk_154 0 6 (dk_at dksX0_cell_1 6 rfl rfl)
theorem dX0_cell_32 : decode cX0_cell 32 = .ok (.ldc 92, 2) := dk_18 92 (dk_at dksX0_cell_1 9 rfl rfl)
theorem dX0_cell_34 : decode cX0_cell 34 = .ok (.ireturn, 1) := dk_172 (dk_at dksX0_cell_1 11 rfl rfl)
theorem dX0_cell_35 : decode cX0_cell 35 = .ok (.iload_n 2, 1) := dk_28 (dk_at dksX0_cell_1 12 rfl rfl)
theorem dX0_cell_36 : decode cX0_cell 36 = .ok (.ifCond .ne 13, 3) := dk_154 0 13 (dk_at dksX0_cell_1 13 rfl rfl)
theorem dX0_cell_39 : decode cX0_cell 39 = .ok (.aload_n 0, 1) := dk_42 (dk_at dksX0_cell_1 16 rfl rfl)
theorem dX0_cell_40 : decode cX0_cell 40 = .ok (.invokevirtual 233, 3) := dk_182 0 233 (dk_at dksX0_cell_1 17 rfl rfl)
theorem dX0_cell_43 : decode cX0_cell 43 = .ok (.getfield 237, 3) := dk_180 0 237 (dk_at dksX0_cell_1 20 rfl rfl)
theorem dX0_cell_46 : decode cX0_cell 46 = .ok (.iload_n 1, 1) := dk_27 (dk_at dksX0_cell_1 23 rfl rfl)
theorem dX0_cell_47 : decode cX0_cell 47 = .ok (.iaload, 1) := dk_46 (dk_at dksX0_cell_2 0 rfl rfl)
theorem dX0_cell_48 : decode cX0_cell 48 = .ok (.ireturn, 1) := dk_172 (dk_at dksX0_cell_2 1 rfl rfl)
theorem dX0_cell_49 : decode cX0_cell 49 = .ok (.aload_n 0, 1) := dk_42 (dk_at dksX0_cell_2 2 rfl rfl)
theorem dX0_cell_50 : decode cX0_cell 50 = .ok (.getfield 46, 3) := dk_180 0 46 (dk_at dksX0_cell_2 3 rfl rfl)
theorem dX0_cell_53 : decode cX0_cell 53 = .ok (.iload_n 1, 1) := dk_27 (dk_at dksX0_cell_2 6 rfl rfl)
theorem dX0_cell_54 : decode cX0_cell 54 = .ok (.invokevirtual 194, 3) := dk_182 0 194 (dk_at dksX0_cell_2 7 rfl rfl)
theorem dX0_cell_57 : decode cX0_cell 57 = .ok (.ifCond .ne 6, 3) := dk_154 0 6 (dk_at dksX0_cell_2 10 rfl rfl)
theorem dX0_cell_60 : decode cX0_cell 60 = .ok (.ldc 240, 2) := dk_18 240 (dk_at dksX0_cell_2 13 rfl rfl)
theorem dX0_cell_62 : decode cX0_cell 62 = .ok (.ireturn, 1) := dk_172 (dk_at dksX0_cell_2 15 rfl rfl)
theorem dX0_cell_63 : decode cX0_cell 63 = .ok (.iload_n 2, 1) := dk_28 (dk_at dksX0_cell_2 16 rfl rfl)
theorem dX0_cell_64 : decode cX0_cell 64 = .ok (.iconst 1, 1) := dk_4 (dk_at dksX0_cell_2 17 rfl rfl)
theorem dX0_cell_65 : decode cX0_cell 65 = .ok (.if_icmp .ne 18, 3) := dk_160 0 18 (dk_at dksX0_cell_2 18 rfl rfl)
theorem dX0_cell_68 : decode cX0_cell 68 = .ok (.aload_n 0, 1) := dk_42 (dk_at dksX0_cell_2 21 rfl rfl)
theorem dX0_cell_69 : decode cX0_cell 69 = .ok (.getfield 46, 3) := dk_180 0 46 (dk_at dksX0_cell_3 0 rfl rfl)
theorem dX0_cell_72 : decode cX0_cell 72 = .ok (.getfield 200, 3) := dk_180 0 200 (dk_at dksX0_cell_3 3 rfl rfl)
theorem dX0_cell_75 : decode cX0_cell 75 = .ok (.iload_n 1, 1) := dk_27 (dk_at dksX0_cell_3 6 rfl rfl)
theorem dX0_cell_76 : decode cX0_cell 76 = .ok (.aaload, 1) := dk_50 (dk_at dksX0_cell_3 7 rfl rfl)
theorem dX0_cell_77 : decode cX0_cell 77 = .ok (.invokevirtual 211, 3) := dk_182 0 211 (dk_at dksX0_cell_3 8 rfl rfl)
theorem dX0_cell_80 : decode cX0_cell 80 = .ok (.goto 34, 3) := dk_167 0 34 (dk_at dksX0_cell_3 11 rfl rfl)
theorem dX0_cell_83 : decode cX0_cell 83 = .ok (.iload_n 2, 1) := dk_28 (dk_at dksX0_cell_3 14 rfl rfl)
theorem dX0_cell_84 : decode cX0_cell 84 = .ok (.iconst 2, 1) := dk_5 (dk_at dksX0_cell_3 15 rfl rfl)
theorem dX0_cell_85 : decode cX0_cell 85 = .ok (.if_icmp .ne 18, 3) := dk_160 0 18 (dk_at dksX0_cell_3 16 rfl rfl)
theorem dX0_cell_88 : decode cX0_cell 88 = .ok (.aload_n 0, 1) := dk_42 (dk_at dksX0_cell_3 19 rfl rfl)
theorem dX0_cell_89 : decode cX0_cell 89 = .ok (.getfield 46, 3) := dk_180 0 46 (dk_at dksX0_cell_3 20 rfl rfl)
theorem dX0_cell_92 : decode cX0_cell 92 = .ok (.getfield 200, 3) := dk_180 0 200 (dk_at dksX0_cell_4 0 rfl rfl)
theorem dX0_cell_95 : decode cX0_cell 95 = .ok (.iload_n 1, 1) := dk_27 (dk_at dksX0_cell_4 3 rfl rfl)
theorem dX0_cell_96 : decode cX0_cell 96 = .ok (.aaload, 1) := dk_50 (dk_at dksX0_cell_4 4 rfl rfl)
theorem dX0_cell_97 : decode cX0_cell 97 = .ok (.invokevirtual 241, 3) := dk_182 0 241 (dk_at dksX0_cell_4 5 rfl rfl)
theorem dX0_cell_100 : decode cX0_cell 100 = .ok (.goto 14, 3) := dk_167 0 14 (dk_at dksX0_cell_4 8 rfl rfl)
theorem dX0_cell_103 : decode cX0_cell 103 = .ok (.aload_n 0, 1) := dk_42 (dk_at dksX0_cell_4 11 rfl rfl)
theorem dX0_cell_104 : decode cX0_cell 104 = .ok (.getfield 46, 3) := dk_180 0 46 (dk_at dksX0_cell_4 12 rfl rfl)
theorem dX0_cell_107 : decode cX0_cell 107 = .ok (.getfield 213, 3) := dk_180 0 213 (dk_at dksX0_cell_4 15 rfl rfl)
theorem dX0_cell_110 : decode cX0_cell 110 = .ok (.iload_n 1, 1) := dk_27 (dk_at dksX0_cell_4 18 rfl rfl)
theorem dX0_cell_111 : decode cX0_cell 111 = .ok (.ishr, 1) := dk_122 (dk_at dksX0_cell_4 19 rfl rfl)
theorem dX0_cell_112 : decode cX0_cell 112 = .ok (.iconst 1, 1) := dk_4 (dk_at dksX0_cell_4 20 rfl rfl)
theorem dX0_cell_113 : decode cX0_cell 113 = .ok (.iand, 1) := dk_126 (dk_at dksX0_cell_4 21 rfl rfl)
theorem dX0_cell_114 : decode cX0_cell 114 = .ok (.ireturn, 1) := dk_172 (dk_at dksX0_cell_4 22 rfl rfl)
abbrev cX0_blown : ByteArray := prog_1_method_34_code
def yX0_blown : MethodName := ⟨RX0, "blown", "()LWindCarver$Pass;"⟩
def dkwX0_blown_0 : List UInt8 := [42, 182, 0, 250, 76, 43, 182, 0, 253, 43, 176]
abbrev dktX0_blown_0 : List UInt8 := dkwX0_blown_0 ++ []
theorem dksX0_blown_0 : cX0_blown.data.toList.drop 0 = dktX0_blown_0 := by decide +kernel
theorem dX0_blown_0 : decode cX0_blown 0 = .ok (.aload_n 0, 1) := dk_42 (dk_at dksX0_blown_0 0 rfl rfl)
theorem dX0_blown_1 : decode cX0_blown 1 = .ok (.invokevirtual 250, 3) := dk_182 0 250 (dk_at dksX0_blown_0 1 rfl rfl)
theorem dX0_blown_4 : decode cX0_blown 4 = .ok (.astore_n 1, 1) := dk_76 (dk_at dksX0_blown_0 4 rfl rfl)
theorem dX0_blown_5 : decode cX0_blown 5 = .ok (.aload_n 1, 1) := dk_43 (dk_at dksX0_blown_0 5 rfl rfl)
theorem dX0_blown_6 : decode cX0_blown 6 = .ok (.invokevirtual 253, 3) := dk_182 0 253 (dk_at dksX0_blown_0 6 rfl rfl)
theorem dX0_blown_9 : decode cX0_blown 9 = .ok (.aload_n 1, 1) := dk_43 (dk_at dksX0_blown_0 9 rfl rfl)
theorem dX0_blown_10 : decode cX0_blown 10 = .ok (.areturn, 1) := dk_176 (dk_at dksX0_blown_0 10 rfl rfl)
abbrev cX0_asNow : ByteArray := prog_1_method_33_code
def yX0_asNow : MethodName := ⟨RX0, "asNow", "()LWindCarver$Pass;"⟩
def dkwX0_asNow_0 : List UInt8 := [42, 180, 0, 50, 42, 180, 0, 46, 182, 0, 165, 42, 180, 0, 50, 176]
abbrev dktX0_asNow_0 : List UInt8 := dkwX0_asNow_0 ++ []
theorem dksX0_asNow_0 : cX0_asNow.data.toList.drop 0 = dktX0_asNow_0 := by decide +kernel
theorem dX0_asNow_0 : decode cX0_asNow 0 = .ok (.aload_n 0, 1) := dk_42 (dk_at dksX0_asNow_0 0 rfl rfl)
theorem dX0_asNow_1 : decode cX0_asNow 1 = .ok (.getfield 50, 3) := dk_180 0 50 (dk_at dksX0_asNow_0 1 rfl rfl)
theorem dX0_asNow_4 : decode cX0_asNow 4 = .ok (.aload_n 0, 1) := dk_42 (dk_at dksX0_asNow_0 4 rfl rfl)
theorem dX0_asNow_5 : decode cX0_asNow 5 = .ok (.getfield 46, 3) := dk_180 0 46 (dk_at dksX0_asNow_0 5 rfl rfl)
theorem dX0_asNow_8 : decode cX0_asNow 8 = .ok (.invokevirtual 165, 3) := dk_182 0 165 (dk_at dksX0_asNow_0 8 rfl rfl)
theorem dX0_asNow_11 : decode cX0_asNow 11 = .ok (.aload_n 0, 1) := dk_42 (dk_at dksX0_asNow_0 11 rfl rfl)
theorem dX0_asNow_12 : decode cX0_asNow 12 = .ok (.getfield 50, 3) := dk_180 0 50 (dk_at dksX0_asNow_0 12 rfl rfl)
theorem dX0_asNow_15 : decode cX0_asNow 15 = .ok (.areturn, 1) := dk_176 (dk_at dksX0_asNow_0 15 rfl rfl)
abbrev cX0_wind : ByteArray := prog_1_method_32_code
def yX0_wind : MethodName := ⟨RX0, "wind", "(II)I"⟩
def dkwX0_wind_2 : List UInt8 := [180, 0, 46, 180, 0, 247, 27, 46, 172]
abbrev dktX0_wind_2 : List UInt8 := dkwX0_wind_2 ++ []
def dkwX0_wind_1 : List UInt8 := [154, 0, 6, 18, 92, 172, 28, 154, 0, 15, 42, 180, 0, 46, 180, 0, 221, 27, 46, 167, 0, 12, 42]
abbrev dktX0_wind_1 : List UInt8 := dkwX0_wind_1 ++ dktX0_wind_2
def dkwX0_wind_0 : List UInt8 := [42, 180, 0, 46, 180, 0, 181, 154, 0, 6, 18, 185, 172, 27, 184, 0, 216, 153, 0, 10, 28, 184, 0, 244]
abbrev dktX0_wind_0 : List UInt8 := dkwX0_wind_0 ++ dktX0_wind_1
theorem dksX0_wind_0 : cX0_wind.data.toList.drop 0 = dktX0_wind_0 := by decide +kernel
theorem dksX0_wind_1 : cX0_wind.data.toList.drop 24 = dktX0_wind_1 := dk_seg dksX0_wind_0 24 rfl rfl
theorem dksX0_wind_2 : cX0_wind.data.toList.drop 47 = dktX0_wind_2 := dk_seg dksX0_wind_1 23 rfl rfl
theorem dX0_wind_0 : decode cX0_wind 0 = .ok (.aload_n 0, 1) := dk_42 (dk_at dksX0_wind_0 0 rfl rfl)
theorem dX0_wind_1 : decode cX0_wind 1 = .ok (.getfield 46, 3) := dk_180 0 46 (dk_at dksX0_wind_0 1 rfl rfl)
theorem dX0_wind_4 : decode cX0_wind 4 = .ok (.getfield 181, 3) := dk_180 0 181 (dk_at dksX0_wind_0 4 rfl rfl)
theorem dX0_wind_7 : decode cX0_wind 7 = .ok (.ifCond .ne 6, 3) := dk_154 0 6 (dk_at dksX0_wind_0 7 rfl rfl)
theorem dX0_wind_10 : decode cX0_wind 10 = .ok (.ldc 185, 2) := dk_18 185 (dk_at dksX0_wind_0 10 rfl rfl)
theorem dX0_wind_12 : decode cX0_wind 12 = .ok (.ireturn, 1) := dk_172 (dk_at dksX0_wind_0 12 rfl rfl)
theorem dX0_wind_13 : decode cX0_wind 13 = .ok (.iload_n 1, 1) := dk_27 (dk_at dksX0_wind_0 13 rfl rfl)
theorem dX0_wind_14 : decode cX0_wind 14 = .ok (.invokestatic 216, 3) := dk_184 0 216 (dk_at dksX0_wind_0 14 rfl rfl)
theorem dX0_wind_17 : decode cX0_wind 17 = .ok (.ifCond .eq 10, 3) := dk_153 0 10 (dk_at dksX0_wind_0 17 rfl rfl)
theorem dX0_wind_20 : decode cX0_wind 20 = .ok (.iload_n 2, 1) := dk_28 (dk_at dksX0_wind_0 20 rfl rfl)
theorem dX0_wind_21 : decode cX0_wind 21 = .ok (.invokestatic 244, 3) := dk_184 0 244 (dk_at dksX0_wind_0 21 rfl rfl)
theorem dX0_wind_24 : decode cX0_wind 24 = .ok (.ifCond .ne 6, 3) := dk_154 0 6 (dk_at dksX0_wind_1 0 rfl rfl)
theorem dX0_wind_27 : decode cX0_wind 27 = .ok (.ldc 92, 2) := dk_18 92 (dk_at dksX0_wind_1 3 rfl rfl)
theorem dX0_wind_29 : decode cX0_wind 29 = .ok (.ireturn, 1) := dk_172 (dk_at dksX0_wind_1 5 rfl rfl)
theorem dX0_wind_30 : decode cX0_wind 30 = .ok (.iload_n 2, 1) := dk_28 (dk_at dksX0_wind_1 6 rfl rfl)
theorem dX0_wind_31 : decode cX0_wind 31 = .ok (.ifCond .ne 15, 3) := dk_154 0 15 (dk_at dksX0_wind_1 7 rfl rfl)
theorem dX0_wind_34 : decode cX0_wind 34 = .ok (.aload_n 0, 1) := dk_42 (dk_at dksX0_wind_1 10 rfl rfl)
theorem dX0_wind_35 : decode cX0_wind 35 = .ok (.getfield 46, 3) := dk_180 0 46 (dk_at dksX0_wind_1 11 rfl rfl)
theorem dX0_wind_38 : decode cX0_wind 38 = .ok (.getfield 221, 3) := dk_180 0 221 (dk_at dksX0_wind_1 14 rfl rfl)
theorem dX0_wind_41 : decode cX0_wind 41 = .ok (.iload_n 1, 1) := dk_27 (dk_at dksX0_wind_1 17 rfl rfl)
theorem dX0_wind_42 : decode cX0_wind 42 = .ok (.iaload, 1) := dk_46 (dk_at dksX0_wind_1 18 rfl rfl)
theorem dX0_wind_43 : decode cX0_wind 43 = .ok (.goto 12, 3) := dk_167 0 12 (dk_at dksX0_wind_1 19 rfl rfl)
theorem dX0_wind_46 : decode cX0_wind 46 = .ok (.aload_n 0, 1) := dk_42 (dk_at dksX0_wind_1 22 rfl rfl)
theorem dX0_wind_47 : decode cX0_wind 47 = .ok (.getfield 46, 3) := dk_180 0 46 (dk_at dksX0_wind_2 0 rfl rfl)
theorem dX0_wind_50 : decode cX0_wind 50 = .ok (.getfield 247, 3) := dk_180 0 247 (dk_at dksX0_wind_2 3 rfl rfl)
theorem dX0_wind_53 : decode cX0_wind 53 = .ok (.iload_n 1, 1) := dk_27 (dk_at dksX0_wind_2 6 rfl rfl)
theorem dX0_wind_54 : decode cX0_wind 54 = .ok (.iaload, 1) := dk_46 (dk_at dksX0_wind_2 7 rfl rfl)
theorem dX0_wind_55 : decode cX0_wind 55 = .ok (.ireturn, 1) := dk_172 (dk_at dksX0_wind_2 8 rfl rfl)
abbrev cX0_isHalf : ByteArray := prog_1_method_23_code
def yX0_isHalf : MethodName := ⟨RX0, "isHalf", "(I)Z"⟩
def dkwX0_isHalf_0 : List UInt8 := [26, 133, 9, 10, 184, 0, 82, 172]
abbrev dktX0_isHalf_0 : List UInt8 := dkwX0_isHalf_0 ++ []
theorem dksX0_isHalf_0 : cX0_isHalf.data.toList.drop 0 = dktX0_isHalf_0 := by decide +kernel
theorem dX0_isHalf_0 : decode cX0_isHalf 0 = .ok (.iload_n 0, 1) := dk_26 (dk_at dksX0_isHalf_0 0 rfl rfl)
theorem dX0_isHalf_1 : decode cX0_isHalf 1 = .ok (.i2l, 1) := dk_133 (dk_at dksX0_isHalf_0 1 rfl rfl)
theorem dX0_isHalf_2 : decode cX0_isHalf 2 = .ok (.lconst 0, 1) := dk_9 (dk_at dksX0_isHalf_0 2 rfl rfl)
theorem dX0_isHalf_3 : decode cX0_isHalf 3 = .ok (.lconst 1, 1) := dk_10 (dk_at dksX0_isHalf_0 3 rfl rfl)
theorem dX0_isHalf_4 : decode cX0_isHalf 4 = .ok (.invokestatic 82, 3) := dk_184 0 82 (dk_at dksX0_isHalf_0 4 rfl rfl)
theorem dX0_isHalf_7 : decode cX0_isHalf 7 = .ok (.ireturn, 1) := dk_172 (dk_at dksX0_isHalf_0 7 rfl rfl)
abbrev cX0_felt : ByteArray := prog_1_method_36_code
def yX0_felt : MethodName := ⟨RX0, "felt", "(II)I"⟩
def dkwX0_felt_1 : List UInt8 := [153, 0, 16, 42, 28, 182, 1, 3, 180, 0, 237, 27, 46, 167, 0, 5, 18, 92, 172]
abbrev dktX0_felt_1 : List UInt8 := dkwX0_felt_1 ++ []
def dkwX0_felt_0 : List UInt8 := [42, 180, 0, 46, 180, 0, 181, 154, 0, 6, 18, 185, 172, 27, 184, 0, 186, 153, 0, 23, 28, 184, 1, 0]
abbrev dktX0_felt_0 : List UInt8 := dkwX0_felt_0 ++ dktX0_felt_1
theorem dksX0_felt_0 : cX0_felt.data.toList.drop 0 = dktX0_felt_0 := by decide +kernel
theorem dksX0_felt_1 : cX0_felt.data.toList.drop 24 = dktX0_felt_1 := dk_seg dksX0_felt_0 24 rfl rfl
theorem dX0_felt_0 : decode cX0_felt 0 = .ok (.aload_n 0, 1) := dk_42 (dk_at dksX0_felt_0 0 rfl rfl)
theorem dX0_felt_1 : decode cX0_felt 1 = .ok (.getfield 46, 3) := dk_180 0 46 (dk_at dksX0_felt_0 1 rfl rfl)
theorem dX0_felt_4 : decode cX0_felt 4 = .ok (.getfield 181, 3) := dk_180 0 181 (dk_at dksX0_felt_0 4 rfl rfl)
theorem dX0_felt_7 : decode cX0_felt 7 = .ok (.ifCond .ne 6, 3) := dk_154 0 6 (dk_at dksX0_felt_0 7 rfl rfl)
theorem dX0_felt_10 : decode cX0_felt 10 = .ok (.ldc 185, 2) := dk_18 185 (dk_at dksX0_felt_0 10 rfl rfl)
theorem dX0_felt_12 : decode cX0_felt 12 = .ok (.ireturn, 1) := dk_172 (dk_at dksX0_felt_0 12 rfl rfl)
theorem dX0_felt_13 : decode cX0_felt 13 = .ok (.iload_n 1, 1) := dk_27 (dk_at dksX0_felt_0 13 rfl rfl)
theorem dX0_felt_14 : decode cX0_felt 14 = .ok (.invokestatic 186, 3) := dk_184 0 186 (dk_at dksX0_felt_0 14 rfl rfl)
theorem dX0_felt_17 : decode cX0_felt 17 = .ok (.ifCond .eq 23, 3) := dk_153 0 23 (dk_at dksX0_felt_0 17 rfl rfl)
theorem dX0_felt_20 : decode cX0_felt 20 = .ok (.iload_n 2, 1) := dk_28 (dk_at dksX0_felt_0 20 rfl rfl)
theorem dX0_felt_21 : decode cX0_felt 21 = .ok (.invokestatic 256, 3) := dk_184 1 0 (dk_at dksX0_felt_0 21 rfl rfl)
theorem dX0_felt_24 : decode cX0_felt 24 = .ok (.ifCond .eq 16, 3) := dk_153 0 16 (dk_at dksX0_felt_1 0 rfl rfl)
theorem dX0_felt_27 : decode cX0_felt 27 = .ok (.aload_n 0, 1) := dk_42 (dk_at dksX0_felt_1 3 rfl rfl)
theorem dX0_felt_28 : decode cX0_felt 28 = .ok (.iload_n 2, 1) := dk_28 (dk_at dksX0_felt_1 4 rfl rfl)
theorem dX0_felt_29 : decode cX0_felt 29 = .ok (.invokevirtual 259, 3) := dk_182 1 3 (dk_at dksX0_felt_1 5 rfl rfl)
theorem dX0_felt_32 : decode cX0_felt 32 = .ok (.getfield 237, 3) := dk_180 0 237 (dk_at dksX0_felt_1 8 rfl rfl)
theorem dX0_felt_35 : decode cX0_felt 35 = .ok (.iload_n 1, 1) := dk_27 (dk_at dksX0_felt_1 11 rfl rfl)
theorem dX0_felt_36 : decode cX0_felt 36 = .ok (.iaload, 1) := dk_46 (dk_at dksX0_felt_1 12 rfl rfl)
theorem dX0_felt_37 : decode cX0_felt 37 = .ok (.goto 5, 3) := dk_167 0 5 (dk_at dksX0_felt_1 13 rfl rfl)
theorem dX0_felt_40 : decode cX0_felt 40 = .ok (.ldc 92, 2) := dk_18 92 (dk_at dksX0_felt_1 16 rfl rfl)
theorem dX0_felt_42 : decode cX0_felt 42 = .ok (.ireturn, 1) := dk_172 (dk_at dksX0_felt_1 18 rfl rfl)
abbrev cX0_isFar : ByteArray := prog_1_method_22_code
def yX0_isFar : MethodName := ⟨RX0, "isFar", "(I)Z"⟩
def dkwX0_isFar_0 : List UInt8 := [26, 133, 9, 20, 0, 179, 184, 0, 82, 172]
abbrev dktX0_isFar_0 : List UInt8 := dkwX0_isFar_0 ++ []
theorem dksX0_isFar_0 : cX0_isFar.data.toList.drop 0 = dktX0_isFar_0 := by decide +kernel
theorem dX0_isFar_0 : decode cX0_isFar 0 = .ok (.iload_n 0, 1) := dk_26 (dk_at dksX0_isFar_0 0 rfl rfl)
theorem dX0_isFar_1 : decode cX0_isFar 1 = .ok (.i2l, 1) := dk_133 (dk_at dksX0_isFar_0 1 rfl rfl)
theorem dX0_isFar_2 : decode cX0_isFar 2 = .ok (.lconst 0, 1) := dk_9 (dk_at dksX0_isFar_0 2 rfl rfl)
theorem dX0_isFar_3 : decode cX0_isFar 3 = .ok (.ldc2_w 179, 3) := dk_20 0 179 (dk_at dksX0_isFar_0 3 rfl rfl)
theorem dX0_isFar_6 : decode cX0_isFar 6 = .ok (.invokestatic 82, 3) := dk_184 0 82 (dk_at dksX0_isFar_0 6 rfl rfl)
theorem dX0_isFar_9 : decode cX0_isFar 9 = .ok (.ireturn, 1) := dk_172 (dk_at dksX0_isFar_0 9 rfl rfl)
abbrev cX0_in : ByteArray := prog_1_method_35_code
def yX0_in : MethodName := ⟨RX0, "in", "(I)LWindCarver$Pass;"⟩
def dkwX0_in_1 : List UInt8 := [182, 0, 253, 44, 176]
abbrev dktX0_in_1 : List UInt8 := dkwX0_in_1 ++ []
def dkwX0_in_0 : List UInt8 := [42, 182, 0, 250, 77, 3, 62, 29, 27, 162, 0, 14, 44, 182, 0, 230, 87, 132, 3, 1, 167, 255, 243, 44]
abbrev dktX0_in_0 : List UInt8 := dkwX0_in_0 ++ dktX0_in_1
theorem dksX0_in_0 : cX0_in.data.toList.drop 0 = dktX0_in_0 := by decide +kernel
theorem dksX0_in_1 : cX0_in.data.toList.drop 24 = dktX0_in_1 := dk_seg dksX0_in_0 24 rfl rfl
theorem dX0_in_0 : decode cX0_in 0 = .ok (.aload_n 0, 1) := dk_42 (dk_at dksX0_in_0 0 rfl rfl)
theorem dX0_in_1 : decode cX0_in 1 = .ok (.invokevirtual 250, 3) := dk_182 0 250 (dk_at dksX0_in_0 1 rfl rfl)
theorem dX0_in_4 : decode cX0_in 4 = .ok (.astore_n 2, 1) := dk_77 (dk_at dksX0_in_0 4 rfl rfl)
theorem dX0_in_5 : decode cX0_in 5 = .ok (.iconst 0, 1) := dk_3 (dk_at dksX0_in_0 5 rfl rfl)
theorem dX0_in_6 : decode cX0_in 6 = .ok (.istore_n 3, 1) := dk_62 (dk_at dksX0_in_0 6 rfl rfl)
theorem dX0_in_7 : decode cX0_in 7 = .ok (.iload_n 3, 1) := dk_29 (dk_at dksX0_in_0 7 rfl rfl)
theorem dX0_in_8 : decode cX0_in 8 = .ok (.iload_n 1, 1) := dk_27 (dk_at dksX0_in_0 8 rfl rfl)
theorem dX0_in_9 : decode cX0_in 9 = .ok (.if_icmp .ge 14, 3) := dk_162 0 14 (dk_at dksX0_in_0 9 rfl rfl)
theorem dX0_in_12 : decode cX0_in 12 = .ok (.aload_n 2, 1) := dk_44 (dk_at dksX0_in_0 12 rfl rfl)
theorem dX0_in_13 : decode cX0_in 13 = .ok (.invokevirtual 230, 3) := dk_182 0 230 (dk_at dksX0_in_0 13 rfl rfl)
theorem dX0_in_16 : decode cX0_in 16 = .ok (.pop, 1) := dk_87 (dk_at dksX0_in_0 16 rfl rfl)
theorem dX0_in_17 : decode cX0_in 17 = .ok (.iinc 3 1, 3) := dk_132 3 1 (dk_at dksX0_in_0 17 rfl rfl)
theorem dX0_in_20 : decode cX0_in 20 = .ok (.goto (-13), 3) := dk_167 255 243 (dk_at dksX0_in_0 20 rfl rfl)
theorem dX0_in_23 : decode cX0_in 23 = .ok (.aload_n 2, 1) := dk_44 (dk_at dksX0_in_0 23 rfl rfl)
theorem dX0_in_24 : decode cX0_in 24 = .ok (.invokevirtual 253, 3) := dk_182 0 253 (dk_at dksX0_in_1 0 rfl rfl)
theorem dX0_in_27 : decode cX0_in 27 = .ok (.aload_n 2, 1) := dk_44 (dk_at dksX0_in_1 3 rfl rfl)
theorem dX0_in_28 : decode cX0_in 28 = .ok (.areturn, 1) := dk_176 (dk_at dksX0_in_1 4 rfl rfl)
abbrev cX0_lost : ByteArray := prog_1_method_37_code
def yX0_lost : MethodName := ⟨RX0, "lost", "(I)I"⟩
def dkwX0_lost_1 : List UInt8 := [182, 1, 3, 180, 1, 7, 167, 0, 5, 18, 92, 172]
abbrev dktX0_lost_1 : List UInt8 := dkwX0_lost_1 ++ []
def dkwX0_lost_0 : List UInt8 := [42, 180, 0, 46, 180, 0, 181, 154, 0, 6, 18, 185, 172, 27, 184, 1, 0, 153, 0, 14, 42, 27]
abbrev dktX0_lost_0 : List UInt8 := dkwX0_lost_0 ++ dktX0_lost_1
theorem dksX0_lost_0 : cX0_lost.data.toList.drop 0 = dktX0_lost_0 := by decide +kernel
theorem dksX0_lost_1 : cX0_lost.data.toList.drop 22 = dktX0_lost_1 := dk_seg dksX0_lost_0 22 rfl rfl
theorem dX0_lost_0 : decode cX0_lost 0 = .ok (.aload_n 0, 1) := dk_42 (dk_at dksX0_lost_0 0 rfl rfl)
theorem dX0_lost_1 : decode cX0_lost 1 = .ok (.getfield 46, 3) := dk_180 0 46 (dk_at dksX0_lost_0 1 rfl rfl)
theorem dX0_lost_4 : decode cX0_lost 4 = .ok (.getfield 181, 3) := dk_180 0 181 (dk_at dksX0_lost_0 4 rfl rfl)
theorem dX0_lost_7 : decode cX0_lost 7 = .ok (.ifCond .ne 6, 3) := dk_154 0 6 (dk_at dksX0_lost_0 7 rfl rfl)
theorem dX0_lost_10 : decode cX0_lost 10 = .ok (.ldc 185, 2) := dk_18 185 (dk_at dksX0_lost_0 10 rfl rfl)
theorem dX0_lost_12 : decode cX0_lost 12 = .ok (.ireturn, 1) := dk_172 (dk_at dksX0_lost_0 12 rfl rfl)
theorem dX0_lost_13 : decode cX0_lost 13 = .ok (.iload_n 1, 1) := dk_27 (dk_at dksX0_lost_0 13 rfl rfl)
theorem dX0_lost_14 : decode cX0_lost 14 = .ok (.invokestatic 256, 3) := dk_184 1 0 (dk_at dksX0_lost_0 14 rfl rfl)
theorem dX0_lost_17 : decode cX0_lost 17 = .ok (.ifCond .eq 14, 3) := dk_153 0 14 (dk_at dksX0_lost_0 17 rfl rfl)
theorem dX0_lost_20 : decode cX0_lost 20 = .ok (.aload_n 0, 1) := dk_42 (dk_at dksX0_lost_0 20 rfl rfl)
theorem dX0_lost_21 : decode cX0_lost 21 = .ok (.iload_n 1, 1) := dk_27 (dk_at dksX0_lost_0 21 rfl rfl)
theorem dX0_lost_22 : decode cX0_lost 22 = .ok (.invokevirtual 259, 3) := dk_182 1 3 (dk_at dksX0_lost_1 0 rfl rfl)
theorem dX0_lost_25 : decode cX0_lost 25 = .ok (.getfield 263, 3) := dk_180 1 7 (dk_at dksX0_lost_1 3 rfl rfl)
theorem dX0_lost_28 : decode cX0_lost 28 = .ok (.goto 5, 3) := dk_167 0 5 (dk_at dksX0_lost_1 6 rfl rfl)
theorem dX0_lost_31 : decode cX0_lost 31 = .ok (.ldc 92, 2) := dk_18 92 (dk_at dksX0_lost_1 9 rfl rfl)
theorem dX0_lost_33 : decode cX0_lost 33 = .ok (.ireturn, 1) := dk_172 (dk_at dksX0_lost_1 11 rfl rfl)
abbrev cX0_leaves : ByteArray := prog_1_method_38_code
def yX0_leaves : MethodName := ⟨RX0, "leaves", "(II)I"⟩
def dkwX0_leaves_1 : List UInt8 := [153, 0, 16, 42, 28, 182, 1, 3, 180, 1, 10, 27, 46, 167, 0, 5, 18, 92, 172]
abbrev dktX0_leaves_1 : List UInt8 := dkwX0_leaves_1 ++ []
def dkwX0_leaves_0 : List UInt8 := [42, 180, 0, 46, 180, 0, 181, 154, 0, 6, 18, 185, 172, 27, 184, 0, 216, 153, 0, 23, 28, 184, 1, 0]
abbrev dktX0_leaves_0 : List UInt8 := dkwX0_leaves_0 ++ dktX0_leaves_1
theorem dksX0_leaves_0 : cX0_leaves.data.toList.drop 0 = dktX0_leaves_0 := by decide +kernel
theorem dksX0_leaves_1 : cX0_leaves.data.toList.drop 24 = dktX0_leaves_1 := dk_seg dksX0_leaves_0 24 rfl rfl
theorem dX0_leaves_0 : decode cX0_leaves 0 = .ok (.aload_n 0, 1) := dk_42 (dk_at dksX0_leaves_0 0 rfl rfl)
theorem dX0_leaves_1 : decode cX0_leaves 1 = .ok (.getfield 46, 3) := dk_180 0 46 (dk_at dksX0_leaves_0 1 rfl rfl)
theorem dX0_leaves_4 : decode cX0_leaves 4 = .ok (.getfield 181, 3) := dk_180 0 181 (dk_at dksX0_leaves_0 4 rfl rfl)
theorem dX0_leaves_7 : decode cX0_leaves 7 = .ok (.ifCond .ne 6, 3) := dk_154 0 6 (dk_at dksX0_leaves_0 7 rfl rfl)
theorem dX0_leaves_10 : decode cX0_leaves 10 = .ok (.ldc 185, 2) := dk_18 185 (dk_at dksX0_leaves_0 10 rfl rfl)
theorem dX0_leaves_12 : decode cX0_leaves 12 = .ok (.ireturn, 1) := dk_172 (dk_at dksX0_leaves_0 12 rfl rfl)
theorem dX0_leaves_13 : decode cX0_leaves 13 = .ok (.iload_n 1, 1) := dk_27 (dk_at dksX0_leaves_0 13 rfl rfl)
theorem dX0_leaves_14 : decode cX0_leaves 14 = .ok (.invokestatic 216, 3) := dk_184 0 216 (dk_at dksX0_leaves_0 14 rfl rfl)
theorem dX0_leaves_17 : decode cX0_leaves 17 = .ok (.ifCond .eq 23, 3) := dk_153 0 23 (dk_at dksX0_leaves_0 17 rfl rfl)
theorem dX0_leaves_20 : decode cX0_leaves 20 = .ok (.iload_n 2, 1) := dk_28 (dk_at dksX0_leaves_0 20 rfl rfl)
theorem dX0_leaves_21 : decode cX0_leaves 21 = .ok (.invokestatic 256, 3) := dk_184 1 0 (dk_at dksX0_leaves_0 21 rfl rfl)
theorem dX0_leaves_24 : decode cX0_leaves 24 = .ok (.ifCond .eq 16, 3) := dk_153 0 16 (dk_at dksX0_leaves_1 0 rfl rfl)
theorem dX0_leaves_27 : decode cX0_leaves 27 = .ok (.aload_n 0, 1) := dk_42 (dk_at dksX0_leaves_1 3 rfl rfl)
theorem dX0_leaves_28 : decode cX0_leaves 28 = .ok (.iload_n 2, 1) := dk_28 (dk_at dksX0_leaves_1 4 rfl rfl)
theorem dX0_leaves_29 : decode cX0_leaves 29 = .ok (.invokevirtual 259, 3) := dk_182 1 3 (dk_at dksX0_leaves_1 5 rfl rfl)
theorem dX0_leaves_32 : decode cX0_leaves 32 = .ok (.getfield 266, 3) := dk_180 1 10 (dk_at dksX0_leaves_1 8 rfl rfl)
theorem dX0_leaves_35 : decode cX0_leaves 35 = .ok (.iload_n 1, 1) := dk_27 (dk_at dksX0_leaves_1 11 rfl rfl)
theorem dX0_leaves_36 : decode cX0_leaves 36 = .ok (.iaload, 1) := dk_46 (dk_at dksX0_leaves_1 12 rfl rfl)
theorem dX0_leaves_37 : decode cX0_leaves 37 = .ok (.goto 5, 3) := dk_167 0 5 (dk_at dksX0_leaves_1 13 rfl rfl)
theorem dX0_leaves_40 : decode cX0_leaves 40 = .ok (.ldc 92, 2) := dk_18 92 (dk_at dksX0_leaves_1 16 rfl rfl)
theorem dX0_leaves_42 : decode cX0_leaves 42 = .ok (.ireturn, 1) := dk_172 (dk_at dksX0_leaves_1 18 rfl rfl)
abbrev cX0_breaks : ByteArray := prog_1_method_39_code
def yX0_breaks : MethodName := ⟨RX0, "breaks", "(I)I"⟩
def dkwX0_breaks_2 : List UInt8 := [154, 0, 7, 29, 167, 0, 8, 21, 4, 184, 1, 13, 172, 132, 3, 1, 167, 255, 222, 18, 240, 172]
abbrev dktX0_breaks_2 : List UInt8 := dkwX0_breaks_2 ++ []
def dkwX0_breaks_1 : List UInt8 := [182, 0, 250, 77, 4, 62, 29, 16, 40, 163, 0, 34, 44, 182, 0, 230, 54, 4, 21, 4, 153, 0, 17, 27]
abbrev dktX0_breaks_1 : List UInt8 := dkwX0_breaks_1 ++ dktX0_breaks_2
def dkwX0_breaks_0 : List UInt8 := [42, 180, 0, 46, 180, 0, 181, 154, 0, 6, 18, 185, 172, 27, 184, 0, 244, 154, 0, 6, 18, 92, 172, 42]
abbrev dktX0_breaks_0 : List UInt8 := dkwX0_breaks_0 ++ dktX0_breaks_1
theorem dksX0_breaks_0 : cX0_breaks.data.toList.drop 0 = dktX0_breaks_0 := by decide +kernel
theorem dksX0_breaks_1 : cX0_breaks.data.toList.drop 24 = dktX0_breaks_1 := dk_seg dksX0_breaks_0 24 rfl rfl
theorem dksX0_breaks_2 : cX0_breaks.data.toList.drop 48 = dktX0_breaks_2 := dk_seg dksX0_breaks_1 24 rfl rfl
theorem dX0_breaks_0 : decode cX0_breaks 0 = .ok (.aload_n 0, 1) := dk_42 (dk_at dksX0_breaks_0 0 rfl rfl)
theorem dX0_breaks_1 : decode cX0_breaks 1 = .ok (.getfield 46, 3) := dk_180 0 46 (dk_at dksX0_breaks_0 1 rfl rfl)
theorem dX0_breaks_4 : decode cX0_breaks 4 = .ok (.getfield 181, 3) := dk_180 0 181 (dk_at dksX0_breaks_0 4 rfl rfl)
theorem dX0_breaks_7 : decode cX0_breaks 7 = .ok (.ifCond .ne 6, 3) := dk_154 0 6 (dk_at dksX0_breaks_0 7 rfl rfl)
theorem dX0_breaks_10 : decode cX0_breaks 10 = .ok (.ldc 185, 2) := dk_18 185 (dk_at dksX0_breaks_0 10 rfl rfl)
theorem dX0_breaks_12 : decode cX0_breaks 12 = .ok (.ireturn, 1) := dk_172 (dk_at dksX0_breaks_0 12 rfl rfl)
theorem dX0_breaks_13 : decode cX0_breaks 13 = .ok (.iload_n 1, 1) := dk_27 (dk_at dksX0_breaks_0 13 rfl rfl)
theorem dX0_breaks_14 : decode cX0_breaks 14 = .ok (.invokestatic 244, 3) := dk_184 0 244 (dk_at dksX0_breaks_0 14 rfl rfl)
theorem dX0_breaks_17 : decode cX0_breaks 17 = .ok (.ifCond .ne 6, 3) := dk_154 0 6 (dk_at dksX0_breaks_0 17 rfl rfl)
theorem dX0_breaks_20 : decode cX0_breaks 20 = .ok (.ldc 92, 2) := dk_18 92 (dk_at dksX0_breaks_0 20 rfl rfl)
theorem dX0_breaks_22 : decode cX0_breaks 22 = .ok (.ireturn, 1) := dk_172 (dk_at dksX0_breaks_0 22 rfl rfl)
theorem dX0_breaks_23 : decode cX0_breaks 23 = .ok (.aload_n 0, 1) := dk_42 (dk_at dksX0_breaks_0 23 rfl rfl)
theorem dX0_breaks_24 : decode cX0_breaks 24 = .ok (.invokevirtual 250, 3) := dk_182 0 250 (dk_at dksX0_breaks_1 0 rfl rfl)
theorem dX0_breaks_27 : decode cX0_breaks 27 = .ok (.astore_n 2, 1) := dk_77 (dk_at dksX0_breaks_1 3 rfl rfl)
theorem dX0_breaks_28 : decode cX0_breaks 28 = .ok (.iconst 1, 1) := dk_4 (dk_at dksX0_breaks_1 4 rfl rfl)
theorem dX0_breaks_29 : decode cX0_breaks 29 = .ok (.istore_n 3, 1) := dk_62 (dk_at dksX0_breaks_1 5 rfl rfl)
theorem dX0_breaks_30 : decode cX0_breaks 30 = .ok (.iload_n 3, 1) := dk_29 (dk_at dksX0_breaks_1 6 rfl rfl)
theorem dX0_breaks_31 : decode cX0_breaks 31 = .ok (.bipush 40, 2) := dk_16 40 (dk_at dksX0_breaks_1 7 rfl rfl)
theorem dX0_breaks_33 : decode cX0_breaks 33 = .ok (.if_icmp .gt 34, 3) := dk_163 0 34 (dk_at dksX0_breaks_1 9 rfl rfl)
theorem dX0_breaks_36 : decode cX0_breaks 36 = .ok (.aload_n 2, 1) := dk_44 (dk_at dksX0_breaks_1 12 rfl rfl)
theorem dX0_breaks_37 : decode cX0_breaks 37 = .ok (.invokevirtual 230, 3) := dk_182 0 230 (dk_at dksX0_breaks_1 13 rfl rfl)
theorem dX0_breaks_40 : decode cX0_breaks 40 = .ok (.istore 4, 2) := dk_54 4 (dk_at dksX0_breaks_1 16 rfl rfl)
theorem dX0_breaks_42 : decode cX0_breaks 42 = .ok (.iload 4, 2) := dk_21 4 (dk_at dksX0_breaks_1 18 rfl rfl)
theorem dX0_breaks_44 : decode cX0_breaks 44 = .ok (.ifCond .eq 17, 3) := dk_153 0 17 (dk_at dksX0_breaks_1 20 rfl rfl)
theorem dX0_breaks_47 : decode cX0_breaks 47 = .ok (.iload_n 1, 1) := dk_27 (dk_at dksX0_breaks_1 23 rfl rfl)
theorem dX0_breaks_48 : decode cX0_breaks 48 = .ok (.ifCond .ne 7, 3) := dk_154 0 7 (dk_at dksX0_breaks_2 0 rfl rfl)
theorem dX0_breaks_51 : decode cX0_breaks 51 = .ok (.iload_n 3, 1) := dk_29 (dk_at dksX0_breaks_2 3 rfl rfl)
theorem dX0_breaks_52 : decode cX0_breaks 52 = .ok (.goto 8, 3) := dk_167 0 8 (dk_at dksX0_breaks_2 4 rfl rfl)
theorem dX0_breaks_55 : decode cX0_breaks 55 = .ok (.iload 4, 2) := dk_21 4 (dk_at dksX0_breaks_2 7 rfl rfl)
theorem dX0_breaks_57 : decode cX0_breaks 57 = .ok (.invokestatic 269, 3) := dk_184 1 13 (dk_at dksX0_breaks_2 9 rfl rfl)
theorem dX0_breaks_60 : decode cX0_breaks 60 = .ok (.ireturn, 1) := dk_172 (dk_at dksX0_breaks_2 12 rfl rfl)
theorem dX0_breaks_61 : decode cX0_breaks 61 = .ok (.iinc 3 1, 3) := dk_132 3 1 (dk_at dksX0_breaks_2 13 rfl rfl)
theorem dX0_breaks_64 : decode cX0_breaks 64 = .ok (.goto (-34), 3) := dk_167 255 222 (dk_at dksX0_breaks_2 16 rfl rfl)
theorem dX0_breaks_67 : decode cX0_breaks 67 = .ok (.ldc 240, 2) := dk_18 240 (dk_at dksX0_breaks_2 19 rfl rfl)
theorem dX0_breaks_69 : decode cX0_breaks 69 = .ok (.ireturn, 1) := dk_172 (dk_at dksX0_breaks_2 21 rfl rfl)
abbrev cX0_stands : ByteArray := prog_1_method_41_code
def yX0_stands : MethodName := ⟨RX0, "stands", "(II)I"⟩
def dkwX0_stands_2 : List UInt8 := [42, 5, 182, 0, 107, 172]
abbrev dktX0_stands_2 : List UInt8 := dkwX0_stands_2 ++ []
def dkwX0_stands_1 : List UInt8 := [42, 42, 27, 28, 16, 16, 182, 1, 18, 182, 1, 22, 182, 0, 101, 172, 78, 42, 4, 182, 0, 107, 172, 78]
abbrev dktX0_stands_1 : List UInt8 := dkwX0_stands_1 ++ dktX0_stands_2
def dkwX0_stands_0 : List UInt8 := [42, 180, 0, 46, 180, 0, 181, 154, 0, 6, 18, 185, 172, 27, 184, 0, 86, 154, 0, 6, 18, 92, 172, 42]
abbrev dktX0_stands_0 : List UInt8 := dkwX0_stands_0 ++ dktX0_stands_1
theorem dksX0_stands_0 : cX0_stands.data.toList.drop 0 = dktX0_stands_0 := by decide +kernel
theorem dksX0_stands_1 : cX0_stands.data.toList.drop 24 = dktX0_stands_1 := dk_seg dksX0_stands_0 24 rfl rfl
theorem dksX0_stands_2 : cX0_stands.data.toList.drop 48 = dktX0_stands_2 := dk_seg dksX0_stands_1 24 rfl rfl
theorem dX0_stands_0 : decode cX0_stands 0 = .ok (.aload_n 0, 1) := dk_42 (dk_at dksX0_stands_0 0 rfl rfl)
theorem dX0_stands_1 : decode cX0_stands 1 = .ok (.getfield 46, 3) := dk_180 0 46 (dk_at dksX0_stands_0 1 rfl rfl)
theorem dX0_stands_4 : decode cX0_stands 4 = .ok (.getfield 181, 3) := dk_180 0 181 (dk_at dksX0_stands_0 4 rfl rfl)
theorem dX0_stands_7 : decode cX0_stands 7 = .ok (.ifCond .ne 6, 3) := dk_154 0 6 (dk_at dksX0_stands_0 7 rfl rfl)
theorem dX0_stands_10 : decode cX0_stands 10 = .ok (.ldc 185, 2) := dk_18 185 (dk_at dksX0_stands_0 10 rfl rfl)
theorem dX0_stands_12 : decode cX0_stands 12 = .ok (.ireturn, 1) := dk_172 (dk_at dksX0_stands_0 12 rfl rfl)
theorem dX0_stands_13 : decode cX0_stands 13 = .ok (.iload_n 1, 1) := dk_27 (dk_at dksX0_stands_0 13 rfl rfl)
theorem dX0_stands_14 : decode cX0_stands 14 = .ok (.invokestatic 86, 3) := dk_184 0 86 (dk_at dksX0_stands_0 14 rfl rfl)
theorem dX0_stands_17 : decode cX0_stands 17 = .ok (.ifCond .ne 6, 3) := dk_154 0 6 (dk_at dksX0_stands_0 17 rfl rfl)
theorem dX0_stands_20 : decode cX0_stands 20 = .ok (.ldc 92, 2) := dk_18 92 (dk_at dksX0_stands_0 20 rfl rfl)
theorem dX0_stands_22 : decode cX0_stands 22 = .ok (.ireturn, 1) := dk_172 (dk_at dksX0_stands_0 22 rfl rfl)
theorem dX0_stands_23 : decode cX0_stands 23 = .ok (.aload_n 0, 1) := dk_42 (dk_at dksX0_stands_0 23 rfl rfl)
theorem dX0_stands_24 : decode cX0_stands 24 = .ok (.aload_n 0, 1) := dk_42 (dk_at dksX0_stands_1 0 rfl rfl)
theorem dX0_stands_25 : decode cX0_stands 25 = .ok (.aload_n 0, 1) := dk_42 (dk_at dksX0_stands_1 1 rfl rfl)
theorem dX0_stands_26 : decode cX0_stands 26 = .ok (.iload_n 1, 1) := dk_27 (dk_at dksX0_stands_1 2 rfl rfl)
theorem dX0_stands_27 : decode cX0_stands 27 = .ok (.iload_n 2, 1) := dk_28 (dk_at dksX0_stands_1 3 rfl rfl)
theorem dX0_stands_28 : decode cX0_stands 28 = .ok (.bipush 16, 2) := dk_16 16 (dk_at dksX0_stands_1 4 rfl rfl)
theorem dX0_stands_30 : decode cX0_stands 30 = .ok (.invokevirtual 274, 3) := dk_182 1 18 (dk_at dksX0_stands_1 6 rfl rfl)
theorem dX0_stands_33 : decode cX0_stands 33 = .ok (.invokevirtual 278, 3) := dk_182 1 22 (dk_at dksX0_stands_1 9 rfl rfl)
theorem dX0_stands_36 : decode cX0_stands 36 = .ok (.invokevirtual 101, 3) := dk_182 0 101 (dk_at dksX0_stands_1 12 rfl rfl)
theorem dX0_stands_39 : decode cX0_stands 39 = .ok (.ireturn, 1) := dk_172 (dk_at dksX0_stands_1 15 rfl rfl)
theorem dX0_stands_40 : decode cX0_stands 40 = .ok (.astore_n 3, 1) := dk_78 (dk_at dksX0_stands_1 16 rfl rfl)
theorem dX0_stands_41 : decode cX0_stands 41 = .ok (.aload_n 0, 1) := dk_42 (dk_at dksX0_stands_1 17 rfl rfl)
theorem dX0_stands_42 : decode cX0_stands 42 = .ok (.iconst 1, 1) := dk_4 (dk_at dksX0_stands_1 18 rfl rfl)
theorem dX0_stands_43 : decode cX0_stands 43 = .ok (.invokevirtual 107, 3) := dk_182 0 107 (dk_at dksX0_stands_1 19 rfl rfl)
theorem dX0_stands_46 : decode cX0_stands 46 = .ok (.ireturn, 1) := dk_172 (dk_at dksX0_stands_1 22 rfl rfl)
theorem dX0_stands_47 : decode cX0_stands 47 = .ok (.astore_n 3, 1) := dk_78 (dk_at dksX0_stands_1 23 rfl rfl)
theorem dX0_stands_48 : decode cX0_stands 48 = .ok (.aload_n 0, 1) := dk_42 (dk_at dksX0_stands_2 0 rfl rfl)
theorem dX0_stands_49 : decode cX0_stands 49 = .ok (.iconst 2, 1) := dk_5 (dk_at dksX0_stands_2 1 rfl rfl)
theorem dX0_stands_50 : decode cX0_stands 50 = .ok (.invokevirtual 107, 3) := dk_182 0 107 (dk_at dksX0_stands_2 2 rfl rfl)
theorem dX0_stands_53 : decode cX0_stands 53 = .ok (.ireturn, 1) := dk_172 (dk_at dksX0_stands_2 5 rfl rfl)
abbrev cX0_items : ByteArray := prog_1_method_15_code
def yX0_items : MethodName := ⟨RX0, "items", "(III)[I"⟩
def dkwX0_items_3 : List UInt8 := [167, 255, 229, 25, 5, 176]
abbrev dktX0_items_3 : List UInt8 := dkwX0_items_3 ++ []
def dkwX0_items_2 : List UInt8 := [162, 0, 27, 25, 5, 21, 6, 42, 180, 0, 35, 27, 50, 28, 21, 6, 96, 182, 0, 133, 79, 132, 6, 1]
abbrev dktX0_items_2 : List UInt8 := dkwX0_items_2 ++ dktX0_items_3
def dkwX0_items_1 : List UInt8 := [158, 0, 11, 187, 0, 116, 89, 183, 0, 132, 191, 29, 188, 10, 58, 5, 3, 54, 6, 21, 6, 29]
abbrev dktX0_items_1 : List UInt8 := dkwX0_items_1 ++ dktX0_items_2
def dkwX0_items_0 : List UInt8 := [42, 180, 0, 35, 27, 50, 182, 0, 128, 54, 4, 28, 155, 0, 15, 28, 133, 29, 133, 97, 21, 4, 133, 148]
abbrev dktX0_items_0 : List UInt8 := dkwX0_items_0 ++ dktX0_items_1
theorem dksX0_items_0 : cX0_items.data.toList.drop 0 = dktX0_items_0 := by decide +kernel
theorem dksX0_items_1 : cX0_items.data.toList.drop 24 = dktX0_items_1 := dk_seg dksX0_items_0 24 rfl rfl
theorem dksX0_items_2 : cX0_items.data.toList.drop 46 = dktX0_items_2 := dk_seg dksX0_items_1 22 rfl rfl
theorem dksX0_items_3 : cX0_items.data.toList.drop 70 = dktX0_items_3 := dk_seg dksX0_items_2 24 rfl rfl
theorem dX0_items_0 : decode cX0_items 0 = .ok (.aload_n 0, 1) := dk_42 (dk_at dksX0_items_0 0 rfl rfl)
theorem dX0_items_1 : decode cX0_items 1 = .ok (.getfield 35, 3) := dk_180 0 35 (dk_at dksX0_items_0 1 rfl rfl)
theorem dX0_items_4 : decode cX0_items 4 = .ok (.iload_n 1, 1) := dk_27 (dk_at dksX0_items_0 4 rfl rfl)
theorem dX0_items_5 : decode cX0_items 5 = .ok (.aaload, 1) := dk_50 (dk_at dksX0_items_0 5 rfl rfl)
theorem dX0_items_6 : decode cX0_items 6 = .ok (.invokevirtual 128, 3) := dk_182 0 128 (dk_at dksX0_items_0 6 rfl rfl)
theorem dX0_items_9 : decode cX0_items 9 = .ok (.istore 4, 2) := dk_54 4 (dk_at dksX0_items_0 9 rfl rfl)
theorem dX0_items_11 : decode cX0_items 11 = .ok (.iload_n 2, 1) := dk_28 (dk_at dksX0_items_0 11 rfl rfl)
theorem dX0_items_12 : decode cX0_items 12 = .ok (.ifCond .lt 15, 3) := dk_155 0 15 (dk_at dksX0_items_0 12 rfl rfl)
theorem dX0_items_15 : decode cX0_items 15 = .ok (.iload_n 2, 1) := dk_28 (dk_at dksX0_items_0 15 rfl rfl)
theorem dX0_items_16 : decode cX0_items 16 = .ok (.i2l, 1) := dk_133 (dk_at dksX0_items_0 16 rfl rfl)
theorem dX0_items_17 : decode cX0_items 17 = .ok (.iload_n 3, 1) := dk_29 (dk_at dksX0_items_0 17 rfl rfl)
theorem dX0_items_18 : decode cX0_items 18 = .ok (.i2l, 1) := dk_133 (dk_at dksX0_items_0 18 rfl rfl)
theorem dX0_items_19 : decode cX0_items 19 = .ok (.ladd, 1) := dk_97 (dk_at dksX0_items_0 19 rfl rfl)
theorem dX0_items_20 : decode cX0_items 20 = .ok (.iload 4, 2) := dk_21 4 (dk_at dksX0_items_0 20 rfl rfl)
theorem dX0_items_22 : decode cX0_items 22 = .ok (.i2l, 1) := dk_133 (dk_at dksX0_items_0 22 rfl rfl)
theorem dX0_items_23 : decode cX0_items 23 = .ok (.lcmp, 1) := dk_148 (dk_at dksX0_items_0 23 rfl rfl)
theorem dX0_items_24 : decode cX0_items 24 = .ok (.ifCond .le 11, 3) := dk_158 0 11 (dk_at dksX0_items_1 0 rfl rfl)
theorem dX0_items_27 : decode cX0_items 27 = .ok (.new 116, 3) := dk_187 0 116 (dk_at dksX0_items_1 3 rfl rfl)
theorem dX0_items_30 : decode cX0_items 30 = .ok (.dup, 1) := dk_89 (dk_at dksX0_items_1 6 rfl rfl)
theorem dX0_items_31 : decode cX0_items 31 = .ok (.invokespecial 132, 3) := dk_183 0 132 (dk_at dksX0_items_1 7 rfl rfl)
theorem dX0_items_34 : decode cX0_items 34 = .ok (.athrow, 1) := dk_191 (dk_at dksX0_items_1 10 rfl rfl)
theorem dX0_items_35 : decode cX0_items 35 = .ok (.iload_n 3, 1) := dk_29 (dk_at dksX0_items_1 11 rfl rfl)
theorem dX0_items_36 : decode cX0_items 36 = .ok (.newarray .int, 2) := dk_188_10 (dk_at dksX0_items_1 12 rfl rfl)
theorem dX0_items_38 : decode cX0_items 38 = .ok (.astore 5, 2) := dk_58 5 (dk_at dksX0_items_1 14 rfl rfl)
theorem dX0_items_40 : decode cX0_items 40 = .ok (.iconst 0, 1) := dk_3 (dk_at dksX0_items_1 16 rfl rfl)
theorem dX0_items_41 : decode cX0_items 41 = .ok (.istore 6, 2) := dk_54 6 (dk_at dksX0_items_1 17 rfl rfl)
theorem dX0_items_43 : decode cX0_items 43 = .ok (.iload 6, 2) := dk_21 6 (dk_at dksX0_items_1 19 rfl rfl)
theorem dX0_items_45 : decode cX0_items 45 = .ok (.iload_n 3, 1) := dk_29 (dk_at dksX0_items_1 21 rfl rfl)
theorem dX0_items_46 : decode cX0_items 46 = .ok (.if_icmp .ge 27, 3) := dk_162 0 27 (dk_at dksX0_items_2 0 rfl rfl)
theorem dX0_items_49 : decode cX0_items 49 = .ok (.aload 5, 2) := dk_25 5 (dk_at dksX0_items_2 3 rfl rfl)
theorem dX0_items_51 : decode cX0_items 51 = .ok (.iload 6, 2) := dk_21 6 (dk_at dksX0_items_2 5 rfl rfl)
theorem dX0_items_53 : decode cX0_items 53 = .ok (.aload_n 0, 1) := dk_42 (dk_at dksX0_items_2 7 rfl rfl)
theorem dX0_items_54 : decode cX0_items 54 = .ok (.getfield 35, 3) := dk_180 0 35 (dk_at dksX0_items_2 8 rfl rfl)
theorem dX0_items_57 : decode cX0_items 57 = .ok (.iload_n 1, 1) := dk_27 (dk_at dksX0_items_2 11 rfl rfl)
theorem dX0_items_58 : decode cX0_items 58 = .ok (.aaload, 1) := dk_50 (dk_at dksX0_items_2 12 rfl rfl)
theorem dX0_items_59 : decode cX0_items 59 = .ok (.iload_n 2, 1) := dk_28 (dk_at dksX0_items_2 13 rfl rfl)
theorem dX0_items_60 : decode cX0_items 60 = .ok (.iload 6, 2) := dk_21 6 (dk_at dksX0_items_2 14 rfl rfl)
theorem dX0_items_62 : decode cX0_items 62 = .ok (.iadd, 1) := dk_96 (dk_at dksX0_items_2 16 rfl rfl)
theorem dX0_items_63 : decode cX0_items 63 = .ok (.invokevirtual 133, 3) := dk_182 0 133 (dk_at dksX0_items_2 17 rfl rfl)
theorem dX0_items_66 : decode cX0_items 66 = .ok (.iastore, 1) := dk_79 (dk_at dksX0_items_2 20 rfl rfl)
theorem dX0_items_67 : decode cX0_items 67 = .ok (.iinc 6 1, 3) := dk_132 6 1 (dk_at dksX0_items_2 21 rfl rfl)
theorem dX0_items_70 : decode cX0_items 70 = .ok (.goto (-27), 3) := dk_167 255 229 (dk_at dksX0_items_3 0 rfl rfl)
theorem dX0_items_73 : decode cX0_items 73 = .ok (.aload 5, 2) := dk_25 5 (dk_at dksX0_items_3 3 rfl rfl)
theorem dX0_items_75 : decode cX0_items 75 = .ok (.areturn, 1) := dk_176 (dk_at dksX0_items_3 5 rfl rfl)
abbrev cX0_standsBy : ByteArray := prog_1_method_40_code
def yX0_standsBy : MethodName := ⟨RX0, "standsBy", "([I)I"⟩
def dkwX0_standsBy_2 : List UInt8 := [167, 255, 230, 44, 182, 0, 230, 87, 132, 3, 1, 167, 255, 206, 16, 40, 172]
abbrev dktX0_standsBy_2 : List UInt8 := dkwX0_standsBy_2 ++ []
def dkwX0_standsBy_1 : List UInt8 := [162, 0, 25, 44, 180, 0, 237, 21, 4, 46, 43, 21, 4, 46, 159, 0, 5, 29, 172, 132, 4, 1]
abbrev dktX0_standsBy_1 : List UInt8 := dkwX0_standsBy_1 ++ dktX0_standsBy_2
def dkwX0_standsBy_0 : List UInt8 := [42, 182, 0, 250, 77, 3, 62, 29, 16, 40, 162, 0, 50, 44, 182, 0, 253, 3, 54, 4, 21, 4, 16, 16]
abbrev dktX0_standsBy_0 : List UInt8 := dkwX0_standsBy_0 ++ dktX0_standsBy_1
theorem dksX0_standsBy_0 : cX0_standsBy.data.toList.drop 0 = dktX0_standsBy_0 := by decide +kernel
theorem dksX0_standsBy_1 : cX0_standsBy.data.toList.drop 24 = dktX0_standsBy_1 := dk_seg dksX0_standsBy_0 24 rfl rfl
theorem dksX0_standsBy_2 : cX0_standsBy.data.toList.drop 46 = dktX0_standsBy_2 := dk_seg dksX0_standsBy_1 22 rfl rfl
theorem dX0_standsBy_0 : decode cX0_standsBy 0 = .ok (.aload_n 0, 1) := dk_42 (dk_at dksX0_standsBy_0 0 rfl rfl)
theorem dX0_standsBy_1 : decode cX0_standsBy 1 = .ok (.invokevirtual 250, 3) := dk_182 0 250 (dk_at dksX0_standsBy_0 1 rfl rfl)
theorem dX0_standsBy_4 : decode cX0_standsBy 4 = .ok (.astore_n 2, 1) := dk_77 (dk_at dksX0_standsBy_0 4 rfl rfl)
theorem dX0_standsBy_5 : decode cX0_standsBy 5 = .ok (.iconst 0, 1) := dk_3 (dk_at dksX0_standsBy_0 5 rfl rfl)
theorem dX0_standsBy_6 : decode cX0_standsBy 6 = .ok (.istore_n 3, 1) := dk_62 (dk_at dksX0_standsBy_0 6 rfl rfl)
theorem dX0_standsBy_7 : decode cX0_standsBy 7 = .ok (.iload_n 3, 1) := dk_29 (dk_at dksX0_standsBy_0 7 rfl rfl)
theorem dX0_standsBy_8 : decode cX0_standsBy 8 = .ok (.bipush 40, 2) := dk_16 40 (dk_at dksX0_standsBy_0 8 rfl rfl)
theorem dX0_standsBy_10 : decode cX0_standsBy 10 = .ok (.if_icmp .ge 50, 3) := dk_162 0 50 (dk_at dksX0_standsBy_0 10 rfl rfl)
theorem dX0_standsBy_13 : decode cX0_standsBy 13 = .ok (.aload_n 2, 1) := dk_44 (dk_at dksX0_standsBy_0 13 rfl rfl)
theorem dX0_standsBy_14 : decode cX0_standsBy 14 = .ok (.invokevirtual 253, 3) := dk_182 0 253 (dk_at dksX0_standsBy_0 14 rfl rfl)
theorem dX0_standsBy_17 : decode cX0_standsBy 17 = .ok (.iconst 0, 1) := dk_3 (dk_at dksX0_standsBy_0 17 rfl rfl)
theorem dX0_standsBy_18 : decode cX0_standsBy 18 = .ok (.istore 4, 2) := dk_54 4 (dk_at dksX0_standsBy_0 18 rfl rfl)
theorem dX0_standsBy_20 : decode cX0_standsBy 20 = .ok (.iload 4, 2) := dk_21 4 (dk_at dksX0_standsBy_0 20 rfl rfl)
theorem dX0_standsBy_22 : decode cX0_standsBy 22 = .ok (.bipush 16, 2) := dk_16 16 (dk_at dksX0_standsBy_0 22 rfl rfl)
theorem dX0_standsBy_24 : decode cX0_standsBy 24 = .ok (.if_icmp .ge 25, 3) := dk_162 0 25 (dk_at dksX0_standsBy_1 0 rfl rfl)
theorem dX0_standsBy_27 : decode cX0_standsBy 27 = .ok (.aload_n 2, 1) := dk_44 (dk_at dksX0_standsBy_1 3 rfl rfl)
theorem dX0_standsBy_28 : decode cX0_standsBy 28 = .ok (.getfield 237, 3) := dk_180 0 237 (dk_at dksX0_standsBy_1 4 rfl rfl)
theorem dX0_standsBy_31 : decode cX0_standsBy 31 = .ok (.iload 4, 2) := dk_21 4 (dk_at dksX0_standsBy_1 7 rfl rfl)
theorem dX0_standsBy_33 : decode cX0_standsBy 33 = .ok (.iaload, 1) := dk_46 (dk_at dksX0_standsBy_1 9 rfl rfl)
theorem dX0_standsBy_34 : decode cX0_standsBy 34 = .ok (.aload_n 1, 1) := dk_43 (dk_at dksX0_standsBy_1 10 rfl rfl)
theorem dX0_standsBy_35 : decode cX0_standsBy 35 = .ok (.iload 4, 2) := dk_21 4 (dk_at dksX0_standsBy_1 11 rfl rfl)
theorem dX0_standsBy_37 : decode cX0_standsBy 37 = .ok (.iaload, 1) := dk_46 (dk_at dksX0_standsBy_1 13 rfl rfl)
theorem dX0_standsBy_38 : decode cX0_standsBy 38 = .ok (.if_icmp .eq 5, 3) := dk_159 0 5 (dk_at dksX0_standsBy_1 14 rfl rfl)
theorem dX0_standsBy_41 : decode cX0_standsBy 41 = .ok (.iload_n 3, 1) := dk_29 (dk_at dksX0_standsBy_1 17 rfl rfl)
theorem dX0_standsBy_42 : decode cX0_standsBy 42 = .ok (.ireturn, 1) := dk_172 (dk_at dksX0_standsBy_1 18 rfl rfl)
theorem dX0_standsBy_43 : decode cX0_standsBy 43 = .ok (.iinc 4 1, 3) := dk_132 4 1 (dk_at dksX0_standsBy_1 19 rfl rfl)
theorem dX0_standsBy_46 : decode cX0_standsBy 46 = .ok (.goto (-26), 3) := dk_167 255 230 (dk_at dksX0_standsBy_2 0 rfl rfl)
theorem dX0_standsBy_49 : decode cX0_standsBy 49 = .ok (.aload_n 2, 1) := dk_44 (dk_at dksX0_standsBy_2 3 rfl rfl)
theorem dX0_standsBy_50 : decode cX0_standsBy 50 = .ok (.invokevirtual 230, 3) := dk_182 0 230 (dk_at dksX0_standsBy_2 4 rfl rfl)
theorem dX0_standsBy_53 : decode cX0_standsBy 53 = .ok (.pop, 1) := dk_87 (dk_at dksX0_standsBy_2 7 rfl rfl)
theorem dX0_standsBy_54 : decode cX0_standsBy 54 = .ok (.iinc 3 1, 3) := dk_132 3 1 (dk_at dksX0_standsBy_2 8 rfl rfl)
theorem dX0_standsBy_57 : decode cX0_standsBy 57 = .ok (.goto (-50), 3) := dk_167 255 206 (dk_at dksX0_standsBy_2 11 rfl rfl)
theorem dX0_standsBy_60 : decode cX0_standsBy 60 = .ok (.bipush 40, 2) := dk_16 40 (dk_at dksX0_standsBy_2 14 rfl rfl)
theorem dX0_standsBy_62 : decode cX0_standsBy 62 = .ok (.ireturn, 1) := dk_172 (dk_at dksX0_standsBy_2 16 rfl rfl)
abbrev cX0_walls_2 : ByteArray := prog_1_method_45_code
def yX0_walls_2 : MethodName := ⟨RX0, "walls", "(III)I"⟩
def dkwX0_walls_2_6 : List UInt8 := [18, 240, 172]
abbrev dktX0_walls_2_6 : List UInt8 := dkwX0_walls_2_6 ++ []
def dkwX0_walls_2_5 : List UInt8 := [29, 154, 0, 11, 21, 5, 16, 16, 108, 167, 0, 8, 21, 5, 16, 16, 112, 172, 132, 4, 1, 167, 255, 191]
abbrev dktX0_walls_2_5 : List UInt8 := dkwX0_walls_2_5 ++ dktX0_walls_2_6
def dkwX0_walls_2_4 : List UInt8 := [159, 0, 42, 29, 2, 160, 0, 8, 21, 4, 167, 0, 31, 29, 21, 4, 161, 0, 8, 18, 240, 167, 0, 20]
abbrev dktX0_walls_2_4 : List UInt8 := dkwX0_walls_2_4 ++ dktX0_walls_2_5
def dkwX0_walls_2_3 : List UInt8 := [172, 4, 54, 4, 21, 4, 5, 163, 0, 65, 42, 27, 28, 21, 4, 182, 1, 32, 54, 5, 21, 5, 18, 240]
abbrev dktX0_walls_2_3 : List UInt8 := dkwX0_walls_2_3 ++ dktX0_walls_2_4
def dkwX0_walls_2_2 : List UInt8 := [42, 182, 0, 233, 180, 0, 237, 27, 46, 28, 161, 0, 15, 29, 2, 160, 0, 7, 3, 167, 0, 5, 18, 240]
abbrev dktX0_walls_2_2 : List UInt8 := dkwX0_walls_2_2 ++ dktX0_walls_2_3
def dkwX0_walls_2_1 : List UInt8 := [20, 0, 192, 184, 0, 82, 153, 0, 15, 29, 133, 20, 1, 30, 10, 184, 0, 82, 154, 0, 6, 18, 92, 172]
abbrev dktX0_walls_2_1 : List UInt8 := dkwX0_walls_2_1 ++ dktX0_walls_2_2
def dkwX0_walls_2_0 : List UInt8 := [42, 180, 0, 46, 180, 0, 181, 154, 0, 6, 18, 185, 172, 27, 184, 0, 186, 153, 0, 27, 28, 133, 9]
abbrev dktX0_walls_2_0 : List UInt8 := dkwX0_walls_2_0 ++ dktX0_walls_2_1
theorem dksX0_walls_2_0 : cX0_walls_2.data.toList.drop 0 = dktX0_walls_2_0 := by decide +kernel
theorem dksX0_walls_2_1 : cX0_walls_2.data.toList.drop 23 = dktX0_walls_2_1 := dk_seg dksX0_walls_2_0 23 rfl rfl
theorem dksX0_walls_2_2 : cX0_walls_2.data.toList.drop 47 = dktX0_walls_2_2 := dk_seg dksX0_walls_2_1 24 rfl rfl
theorem dksX0_walls_2_3 : cX0_walls_2.data.toList.drop 71 = dktX0_walls_2_3 := dk_seg dksX0_walls_2_2 24 rfl rfl
theorem dksX0_walls_2_4 : cX0_walls_2.data.toList.drop 95 = dktX0_walls_2_4 := dk_seg dksX0_walls_2_3 24 rfl rfl
theorem dksX0_walls_2_5 : cX0_walls_2.data.toList.drop 119 = dktX0_walls_2_5 := dk_seg dksX0_walls_2_4 24 rfl rfl
theorem dksX0_walls_2_6 : cX0_walls_2.data.toList.drop 143 = dktX0_walls_2_6 := dk_seg dksX0_walls_2_5 24 rfl rfl
theorem dX0_walls_2_0 : decode cX0_walls_2 0 = .ok (.aload_n 0, 1) := dk_42 (dk_at dksX0_walls_2_0 0 rfl rfl)
theorem dX0_walls_2_1 : decode cX0_walls_2 1 = .ok (.getfield 46, 3) := dk_180 0 46 (dk_at dksX0_walls_2_0 1 rfl rfl)
theorem dX0_walls_2_4 : decode cX0_walls_2 4 = .ok (.getfield 181, 3) := dk_180 0 181 (dk_at dksX0_walls_2_0 4 rfl rfl)
theorem dX0_walls_2_7 : decode cX0_walls_2 7 = .ok (.ifCond .ne 6, 3) := dk_154 0 6 (dk_at dksX0_walls_2_0 7 rfl rfl)
theorem dX0_walls_2_10 : decode cX0_walls_2 10 = .ok (.ldc 185, 2) := dk_18 185 (dk_at dksX0_walls_2_0 10 rfl rfl)
theorem dX0_walls_2_12 : decode cX0_walls_2 12 = .ok (.ireturn, 1) := dk_172 (dk_at dksX0_walls_2_0 12 rfl rfl)
theorem dX0_walls_2_13 : decode cX0_walls_2 13 = .ok (.iload_n 1, 1) := dk_27 (dk_at dksX0_walls_2_0 13 rfl rfl)
theorem dX0_walls_2_14 : decode cX0_walls_2 14 = .ok (.invokestatic 186, 3) := dk_184 0 186 (dk_at dksX0_walls_2_0 14 rfl rfl)
theorem dX0_walls_2_17 : decode cX0_walls_2 17 = .ok (.ifCond .eq 27, 3) := dk_153 0 27 (dk_at dksX0_walls_2_0 17 rfl rfl)
theorem dX0_walls_2_20 : decode cX0_walls_2 20 = .ok (.iload_n 2, 1) := dk_28 (dk_at dksX0_walls_2_0 20 rfl rfl)
theorem dX0_walls_2_21 : decode cX0_walls_2 21 = .ok (.i2l, 1) := dk_133 (dk_at dksX0_walls_2_0 21 rfl rfl)
theorem dX0_walls_2_22 : decode cX0_walls_2 22 = .ok (.lconst 0, 1) := dk_9 (dk_at dksX0_walls_2_0 22 rfl rfl)
theorem dX0_walls_2_23 : decode cX0_walls_2 23 = .ok (.ldc2_w 192, 3) := dk_20 0 192 (dk_at dksX0_walls_2_1 0 rfl rfl)
theorem dX0_walls_2_26 : decode cX0_walls_2 26 = .ok (.invokestatic 82, 3) := dk_184 0 82 (dk_at dksX0_walls_2_1 3 rfl rfl)
theorem dX0_walls_2_29 : decode cX0_walls_2 29 = .ok (.ifCond .eq 15, 3) := dk_153 0 15 (dk_at dksX0_walls_2_1 6 rfl rfl)
theorem dX0_walls_2_32 : decode cX0_walls_2 32 = .ok (.iload_n 3, 1) := dk_29 (dk_at dksX0_walls_2_1 9 rfl rfl)
theorem dX0_walls_2_33 : decode cX0_walls_2 33 = .ok (.i2l, 1) := dk_133 (dk_at dksX0_walls_2_1 10 rfl rfl)
theorem dX0_walls_2_34 : decode cX0_walls_2 34 = .ok (.ldc2_w 286, 3) := dk_20 1 30 (dk_at dksX0_walls_2_1 11 rfl rfl)
theorem dX0_walls_2_37 : decode cX0_walls_2 37 = .ok (.lconst 1, 1) := dk_10 (dk_at dksX0_walls_2_1 14 rfl rfl)
theorem dX0_walls_2_38 : decode cX0_walls_2 38 = .ok (.invokestatic 82, 3) := dk_184 0 82 (dk_at dksX0_walls_2_1 15 rfl rfl)
theorem dX0_walls_2_41 : decode cX0_walls_2 41 = .ok (.ifCond .ne 6, 3) := dk_154 0 6 (dk_at dksX0_walls_2_1 18 rfl rfl)
theorem dX0_walls_2_44 : decode cX0_walls_2 44 = .ok (.ldc 92, 2) := dk_18 92 (dk_at dksX0_walls_2_1 21 rfl rfl)
theorem dX0_walls_2_46 : decode cX0_walls_2 46 = .ok (.ireturn, 1) := dk_172 (dk_at dksX0_walls_2_1 23 rfl rfl)
theorem dX0_walls_2_47 : decode cX0_walls_2 47 = .ok (.aload_n 0, 1) := dk_42 (dk_at dksX0_walls_2_2 0 rfl rfl)
theorem dX0_walls_2_48 : decode cX0_walls_2 48 = .ok (.invokevirtual 233, 3) := dk_182 0 233 (dk_at dksX0_walls_2_2 1 rfl rfl)
theorem dX0_walls_2_51 : decode cX0_walls_2 51 = .ok (.getfield 237, 3) := dk_180 0 237 (dk_at dksX0_walls_2_2 4 rfl rfl)
theorem dX0_walls_2_54 : decode cX0_walls_2 54 = .ok (.iload_n 1, 1) := dk_27 (dk_at dksX0_walls_2_2 7 rfl rfl)
theorem dX0_walls_2_55 : decode cX0_walls_2 55 = .ok (.iaload, 1) := dk_46 (dk_at dksX0_walls_2_2 8 rfl rfl)
theorem dX0_walls_2_56 : decode cX0_walls_2 56 = .ok (.iload_n 2, 1) := dk_28 (dk_at dksX0_walls_2_2 9 rfl rfl)
theorem dX0_walls_2_57 : decode cX0_walls_2 57 = .ok (.if_icmp .lt 15, 3) := dk_161 0 15 (dk_at dksX0_walls_2_2 10 rfl rfl)
theorem dX0_walls_2_60 : decode cX0_walls_2 60 = .ok (.iload_n 3, 1) := dk_29 (dk_at dksX0_walls_2_2 13 rfl rfl)
theorem dX0_walls_2_61 : decode cX0_walls_2 61 = .ok (.iconst (-1), 1) := dk_2 (dk_at dksX0_walls_2_2 14 rfl rfl)
theorem dX0_walls_2_62 : decode cX0_walls_2 62 = .ok (.if_icmp .ne 7, 3) := dk_160 0 7 (dk_at dksX0_walls_2_2 15 rfl rfl)
theorem dX0_walls_2_65 : decode cX0_walls_2 65 = .ok (.iconst 0, 1) := dk_3 (dk_at dksX0_walls_2_2 18 rfl rfl)
theorem dX0_walls_2_66 : decode cX0_walls_2 66 = .ok (.goto 5, 3) := dk_167 0 5 (dk_at dksX0_walls_2_2 19 rfl rfl)
theorem dX0_walls_2_69 : decode cX0_walls_2 69 = .ok (.ldc 240, 2) := dk_18 240 (dk_at dksX0_walls_2_2 22 rfl rfl)
theorem dX0_walls_2_71 : decode cX0_walls_2 71 = .ok (.ireturn, 1) := dk_172 (dk_at dksX0_walls_2_3 0 rfl rfl)
theorem dX0_walls_2_72 : decode cX0_walls_2 72 = .ok (.iconst 1, 1) := dk_4 (dk_at dksX0_walls_2_3 1 rfl rfl)
theorem dX0_walls_2_73 : decode cX0_walls_2 73 = .ok (.istore 4, 2) := dk_54 4 (dk_at dksX0_walls_2_3 2 rfl rfl)
theorem dX0_walls_2_75 : decode cX0_walls_2 75 = .ok (.iload 4, 2) := dk_21 4 (dk_at dksX0_walls_2_3 4 rfl rfl)
theorem dX0_walls_2_77 : decode cX0_walls_2 77 = .ok (.iconst 2, 1) := dk_5 (dk_at dksX0_walls_2_3 6 rfl rfl)
theorem dX0_walls_2_78 : decode cX0_walls_2 78 = .ok (.if_icmp .gt 65, 3) := dk_163 0 65 (dk_at dksX0_walls_2_3 7 rfl rfl)
theorem dX0_walls_2_81 : decode cX0_walls_2 81 = .ok (.aload_n 0, 1) := dk_42 (dk_at dksX0_walls_2_3 10 rfl rfl)
theorem dX0_walls_2_82 : decode cX0_walls_2 82 = .ok (.iload_n 1, 1) := dk_27 (dk_at dksX0_walls_2_3 11 rfl rfl)
theorem dX0_walls_2_83 : decode cX0_walls_2 83 = .ok (.iload_n 2, 1) := dk_28 (dk_at dksX0_walls_2_3 12 rfl rfl)
theorem dX0_walls_2_84 : decode cX0_walls_2 84 = .ok (.iload 4, 2) := dk_21 4 (dk_at dksX0_walls_2_3 13 rfl rfl)
theorem dX0_walls_2_86 : decode cX0_walls_2 86 = .ok (.invokevirtual 288, 3) := dk_182 1 32 (dk_at dksX0_walls_2_3 15 rfl rfl)
theorem dX0_walls_2_89 : decode cX0_walls_2 89 = .ok (.istore 5, 2) := dk_54 5 (dk_at dksX0_walls_2_3 18 rfl rfl)
theorem dX0_walls_2_91 : decode cX0_walls_2 91 = .ok (.iload 5, 2) := dk_21 5 (dk_at dksX0_walls_2_3 20 rfl rfl)
theorem dX0_walls_2_93 : decode cX0_walls_2 93 = .ok (.ldc 240, 2) := dk_18 240 (dk_at dksX0_walls_2_3 22 rfl rfl)
theorem dX0_walls_2_95 : decode cX0_walls_2 95 = .ok (.if_icmp .eq 42, 3) := dk_159 0 42 (dk_at dksX0_walls_2_4 0 rfl rfl)
theorem dX0_walls_2_98 : decode cX0_walls_2 98 = .ok (.iload_n 3, 1) := dk_29 (dk_at dksX0_walls_2_4 3 rfl rfl)
theorem dX0_walls_2_99 : decode cX0_walls_2 99 = .ok (.iconst (-1), 1) := dk_2 (dk_at dksX0_walls_2_4 4 rfl rfl)
theorem dX0_walls_2_100 : decode cX0_walls_2 100 = .ok (.if_icmp .ne 8, 3) := dk_160 0 8 (dk_at dksX0_walls_2_4 5 rfl rfl)
theorem dX0_walls_2_103 : decode cX0_walls_2 103 = .ok (.iload 4, 2) := dk_21 4 (dk_at dksX0_walls_2_4 8 rfl rfl)
theorem dX0_walls_2_105 : decode cX0_walls_2 105 = .ok (.goto 31, 3) := dk_167 0 31 (dk_at dksX0_walls_2_4 10 rfl rfl)
theorem dX0_walls_2_108 : decode cX0_walls_2 108 = .ok (.iload_n 3, 1) := dk_29 (dk_at dksX0_walls_2_4 13 rfl rfl)
theorem dX0_walls_2_109 : decode cX0_walls_2 109 = .ok (.iload 4, 2) := dk_21 4 (dk_at dksX0_walls_2_4 14 rfl rfl)
theorem dX0_walls_2_111 : decode cX0_walls_2 111 = .ok (.if_icmp .lt 8, 3) := dk_161 0 8 (dk_at dksX0_walls_2_4 16 rfl rfl)
theorem dX0_walls_2_114 : decode cX0_walls_2 114 = .ok (.ldc 240, 2) := dk_18 240 (dk_at dksX0_walls_2_4 19 rfl rfl)
theorem dX0_walls_2_116 : decode cX0_walls_2 116 = .ok (.goto 20, 3) := dk_167 0 20 (dk_at dksX0_walls_2_4 21 rfl rfl)
theorem dX0_walls_2_119 : decode cX0_walls_2 119 = .ok (.iload_n 3, 1) := dk_29 (dk_at dksX0_walls_2_5 0 rfl rfl)
theorem dX0_walls_2_120 : decode cX0_walls_2 120 = .ok (.ifCond .ne 11, 3) := dk_154 0 11 (dk_at dksX0_walls_2_5 1 rfl rfl)
theorem dX0_walls_2_123 : decode cX0_walls_2 123 = .ok (.iload 5, 2) := dk_21 5 (dk_at dksX0_walls_2_5 4 rfl rfl)
theorem dX0_walls_2_125 : decode cX0_walls_2 125 = .ok (.bipush 16, 2) := dk_16 16 (dk_at dksX0_walls_2_5 6 rfl rfl)
theorem dX0_walls_2_127 : decode cX0_walls_2 127 = .ok (.idiv, 1) := dk_108 (dk_at dksX0_walls_2_5 8 rfl rfl)
theorem dX0_walls_2_128 : decode cX0_walls_2 128 = .ok (.goto 8, 3) := dk_167 0 8 (dk_at dksX0_walls_2_5 9 rfl rfl)
theorem dX0_walls_2_131 : decode cX0_walls_2 131 = .ok (.iload 5, 2) := dk_21 5 (dk_at dksX0_walls_2_5 12 rfl rfl)
theorem dX0_walls_2_133 : decode cX0_walls_2 133 = .ok (.bipush 16, 2) := dk_16 16 (dk_at dksX0_walls_2_5 14 rfl rfl)
theorem dX0_walls_2_135 : decode cX0_walls_2 135 = .ok (.irem, 1) := dk_112 (dk_at dksX0_walls_2_5 16 rfl rfl)
theorem dX0_walls_2_136 : decode cX0_walls_2 136 = .ok (.ireturn, 1) := dk_172 (dk_at dksX0_walls_2_5 17 rfl rfl)
theorem dX0_walls_2_137 : decode cX0_walls_2 137 = .ok (.iinc 4 1, 3) := dk_132 4 1 (dk_at dksX0_walls_2_5 18 rfl rfl)
theorem dX0_walls_2_140 : decode cX0_walls_2 140 = .ok (.goto (-65), 3) := dk_167 255 191 (dk_at dksX0_walls_2_5 21 rfl rfl)
theorem dX0_walls_2_143 : decode cX0_walls_2 143 = .ok (.ldc 240, 2) := dk_18 240 (dk_at dksX0_walls_2_6 0 rfl rfl)
theorem dX0_walls_2_145 : decode cX0_walls_2 145 = .ok (.ireturn, 1) := dk_172 (dk_at dksX0_walls_2_6 2 rfl rfl)
abbrev cX0_wallsBy : ByteArray := prog_1_method_44_code
def yX0_wallsBy : MethodName := ⟨RX0, "wallsBy", "(III)I"⟩
def dkwX0_wallsBy_4 : List UInt8 := [167, 255, 188, 132, 4, 1, 167, 255, 159, 18, 240, 172]
abbrev dktX0_wallsBy_4 : List UInt8 := dkwX0_wallsBy_4 ++ []
def dkwX0_wallsBy_3 : List UInt8 := [27, 21, 4, 21, 5, 182, 1, 26, 28, 161, 0, 12, 16, 16, 21, 4, 104, 21, 5, 96, 172, 132, 5, 1]
abbrev dktX0_wallsBy_3 : List UInt8 := dkwX0_wallsBy_3 ++ dktX0_wallsBy_4
def dkwX0_wallsBy_2 : List UInt8 := [180, 0, 46, 21, 4, 182, 0, 194, 154, 0, 37, 42, 180, 0, 46, 21, 5, 182, 0, 194, 154, 0, 25, 42]
abbrev dktX0_wallsBy_2 : List UInt8 := dkwX0_wallsBy_2 ++ dktX0_wallsBy_3
def dkwX0_wallsBy_1 : List UInt8 := [54, 5, 21, 5, 29, 4, 160, 0, 10, 21, 4, 4, 96, 167, 0, 5, 16, 16, 162, 0, 55, 42]
abbrev dktX0_wallsBy_1 : List UInt8 := dkwX0_wallsBy_1 ++ dktX0_wallsBy_2
def dkwX0_wallsBy_0 : List UInt8 := [3, 54, 4, 21, 4, 16, 16, 162, 0, 96, 29, 4, 160, 0, 8, 21, 4, 167, 0, 7, 21, 4, 4, 96]
abbrev dktX0_wallsBy_0 : List UInt8 := dkwX0_wallsBy_0 ++ dktX0_wallsBy_1
theorem dksX0_wallsBy_0 : cX0_wallsBy.data.toList.drop 0 = dktX0_wallsBy_0 := by decide +kernel
theorem dksX0_wallsBy_1 : cX0_wallsBy.data.toList.drop 24 = dktX0_wallsBy_1 := dk_seg dksX0_wallsBy_0 24 rfl rfl
theorem dksX0_wallsBy_2 : cX0_wallsBy.data.toList.drop 46 = dktX0_wallsBy_2 := dk_seg dksX0_wallsBy_1 22 rfl rfl
theorem dksX0_wallsBy_3 : cX0_wallsBy.data.toList.drop 70 = dktX0_wallsBy_3 := dk_seg dksX0_wallsBy_2 24 rfl rfl
theorem dksX0_wallsBy_4 : cX0_wallsBy.data.toList.drop 94 = dktX0_wallsBy_4 := dk_seg dksX0_wallsBy_3 24 rfl rfl
theorem dX0_wallsBy_0 : decode cX0_wallsBy 0 = .ok (.iconst 0, 1) := dk_3 (dk_at dksX0_wallsBy_0 0 rfl rfl)
theorem dX0_wallsBy_1 : decode cX0_wallsBy 1 = .ok (.istore 4, 2) := dk_54 4 (dk_at dksX0_wallsBy_0 1 rfl rfl)
theorem dX0_wallsBy_3 : decode cX0_wallsBy 3 = .ok (.iload 4, 2) := dk_21 4 (dk_at dksX0_wallsBy_0 3 rfl rfl)
theorem dX0_wallsBy_5 : decode cX0_wallsBy 5 = .ok (.bipush 16, 2) := dk_16 16 (dk_at dksX0_wallsBy_0 5 rfl rfl)
theorem dX0_wallsBy_7 : decode cX0_wallsBy 7 = .ok (.if_icmp .ge 96, 3) := dk_162 0 96 (dk_at dksX0_wallsBy_0 7 rfl rfl)
theorem dX0_wallsBy_10 : decode cX0_wallsBy 10 = .ok (.iload_n 3, 1) := dk_29 (dk_at dksX0_wallsBy_0 10 rfl rfl)
theorem dX0_wallsBy_11 : decode cX0_wallsBy 11 = .ok (.iconst 1, 1) := dk_4 (dk_at dksX0_wallsBy_0 11 rfl rfl)
theorem dX0_wallsBy_12 : decode cX0_wallsBy 12 = .ok (.if_icmp .ne 8, 3) := dk_160 0 8 (dk_at dksX0_wallsBy_0 12 rfl rfl)
theorem dX0_wallsBy_15 : decode cX0_wallsBy 15 = .ok (.iload 4, 2) := dk_21 4 (dk_at dksX0_wallsBy_0 15 rfl rfl)
theorem dX0_wallsBy_17 : decode cX0_wallsBy 17 = .ok (.goto 7, 3) := dk_167 0 7 (dk_at dksX0_wallsBy_0 17 rfl rfl)
theorem dX0_wallsBy_20 : decode cX0_wallsBy 20 = .ok (.iload 4, 2) := dk_21 4 (dk_at dksX0_wallsBy_0 20 rfl rfl)
theorem dX0_wallsBy_22 : decode cX0_wallsBy 22 = .ok (.iconst 1, 1) := dk_4 (dk_at dksX0_wallsBy_0 22 rfl rfl)
theorem dX0_wallsBy_23 : decode cX0_wallsBy 23 = .ok (.iadd, 1) := dk_96 (dk_at dksX0_wallsBy_0 23 rfl rfl)
theorem dX0_wallsBy_24 : decode cX0_wallsBy 24 = .ok (.istore 5, 2) := dk_54 5 (dk_at dksX0_wallsBy_1 0 rfl rfl)
theorem dX0_wallsBy_26 : decode cX0_wallsBy 26 = .ok (.iload 5, 2) := dk_21 5 (dk_at dksX0_wallsBy_1 2 rfl rfl)
theorem dX0_wallsBy_28 : decode cX0_wallsBy 28 = .ok (.iload_n 3, 1) := dk_29 (dk_at dksX0_wallsBy_1 4 rfl rfl)
theorem dX0_wallsBy_29 : decode cX0_wallsBy 29 = .ok (.iconst 1, 1) := dk_4 (dk_at dksX0_wallsBy_1 5 rfl rfl)
theorem dX0_wallsBy_30 : decode cX0_wallsBy 30 = .ok (.if_icmp .ne 10, 3) := dk_160 0 10 (dk_at dksX0_wallsBy_1 6 rfl rfl)
theorem dX0_wallsBy_33 : decode cX0_wallsBy 33 = .ok (.iload 4, 2) := dk_21 4 (dk_at dksX0_wallsBy_1 9 rfl rfl)
theorem dX0_wallsBy_35 : decode cX0_wallsBy 35 = .ok (.iconst 1, 1) := dk_4 (dk_at dksX0_wallsBy_1 11 rfl rfl)
theorem dX0_wallsBy_36 : decode cX0_wallsBy 36 = .ok (.iadd, 1) := dk_96 (dk_at dksX0_wallsBy_1 12 rfl rfl)
theorem dX0_wallsBy_37 : decode cX0_wallsBy 37 = .ok (.goto 5, 3) := dk_167 0 5 (dk_at dksX0_wallsBy_1 13 rfl rfl)
theorem dX0_wallsBy_40 : decode cX0_wallsBy 40 = .ok (.bipush 16, 2) := dk_16 16 (dk_at dksX0_wallsBy_1 16 rfl rfl)
theorem dX0_wallsBy_42 : decode cX0_wallsBy 42 = .ok (.if_icmp .ge 55, 3) := dk_162 0 55 (dk_at dksX0_wallsBy_1 18 rfl rfl)
theorem dX0_wallsBy_45 : decode cX0_wallsBy 45 = .ok (.aload_n 0, 1) := dk_42 (dk_at dksX0_wallsBy_1 21 rfl rfl)
theorem dX0_wallsBy_46 : decode cX0_wallsBy 46 = .ok (.getfield 46, 3) := dk_180 0 46 (dk_at dksX0_wallsBy_2 0 rfl rfl)
theorem dX0_wallsBy_49 : decode cX0_wallsBy 49 = .ok (.iload 4, 2) := dk_21 4 (dk_at dksX0_wallsBy_2 3 rfl rfl)
theorem dX0_wallsBy_51 : decode cX0_wallsBy 51 = .ok (.invokevirtual 194, 3) := dk_182 0 194 (dk_at dksX0_wallsBy_2 5 rfl rfl)
theorem dX0_wallsBy_54 : decode cX0_wallsBy 54 = .ok (.ifCond .ne 37, 3) := dk_154 0 37 (dk_at dksX0_wallsBy_2 8 rfl rfl)
theorem dX0_wallsBy_57 : decode cX0_wallsBy 57 = .ok (.aload_n 0, 1) := dk_42 (dk_at dksX0_wallsBy_2 11 rfl rfl)
theorem dX0_wallsBy_58 : decode cX0_wallsBy 58 = .ok (.getfield 46, 3) := dk_180 0 46 (dk_at dksX0_wallsBy_2 12 rfl rfl)
theorem dX0_wallsBy_61 : decode cX0_wallsBy 61 = .ok (.iload 5, 2) := dk_21 5 (dk_at dksX0_wallsBy_2 15 rfl rfl)
theorem dX0_wallsBy_63 : decode cX0_wallsBy 63 = .ok (.invokevirtual 194, 3) := dk_182 0 194 (dk_at dksX0_wallsBy_2 17 rfl rfl)
theorem dX0_wallsBy_66 : decode cX0_wallsBy 66 = .ok (.ifCond .ne 25, 3) := dk_154 0 25 (dk_at dksX0_wallsBy_2 20 rfl rfl)
theorem dX0_wallsBy_69 : decode cX0_wallsBy 69 = .ok (.aload_n 0, 1) := dk_42 (dk_at dksX0_wallsBy_2 23 rfl rfl)
theorem dX0_wallsBy_70 : decode cX0_wallsBy 70 = .ok (.iload_n 1, 1) := dk_27 (dk_at dksX0_wallsBy_3 0 rfl rfl)
theorem dX0_wallsBy_71 : decode cX0_wallsBy 71 = .ok (.iload 4, 2) := dk_21 4 (dk_at dksX0_wallsBy_3 1 rfl rfl)
theorem dX0_wallsBy_73 : decode cX0_wallsBy 73 = .ok (.iload 5, 2) := dk_21 5 (dk_at dksX0_wallsBy_3 3 rfl rfl)
theorem dX0_wallsBy_75 : decode cX0_wallsBy 75 = .ok (.invokevirtual 282, 3) := dk_182 1 26 (dk_at dksX0_wallsBy_3 5 rfl rfl)
theorem dX0_wallsBy_78 : decode cX0_wallsBy 78 = .ok (.iload_n 2, 1) := dk_28 (dk_at dksX0_wallsBy_3 8 rfl rfl)
theorem dX0_wallsBy_79 : decode cX0_wallsBy 79 = .ok (.if_icmp .lt 12, 3) := dk_161 0 12 (dk_at dksX0_wallsBy_3 9 rfl rfl)
theorem dX0_wallsBy_82 : decode cX0_wallsBy 82 = .ok (.bipush 16, 2) := dk_16 16 (dk_at dksX0_wallsBy_3 12 rfl rfl)
theorem dX0_wallsBy_84 : decode cX0_wallsBy 84 = .ok (.iload 4, 2) := dk_21 4 (dk_at dksX0_wallsBy_3 14 rfl rfl)
theorem dX0_wallsBy_86 : decode cX0_wallsBy 86 = .ok (.imul, 1) := dk_104 (dk_at dksX0_wallsBy_3 16 rfl rfl)
theorem dX0_wallsBy_87 : decode cX0_wallsBy 87 = .ok (.iload 5, 2) := dk_21 5 (dk_at dksX0_wallsBy_3 17 rfl rfl)
theorem dX0_wallsBy_89 : decode cX0_wallsBy 89 = .ok (.iadd, 1) := dk_96 (dk_at dksX0_wallsBy_3 19 rfl rfl)
theorem dX0_wallsBy_90 : decode cX0_wallsBy 90 = .ok (.ireturn, 1) := dk_172 (dk_at dksX0_wallsBy_3 20 rfl rfl)
theorem dX0_wallsBy_91 : decode cX0_wallsBy 91 = .ok (.iinc 5 1, 3) := dk_132 5 1 (dk_at dksX0_wallsBy_3 21 rfl rfl)
theorem dX0_wallsBy_94 : decode cX0_wallsBy 94 = .ok (.goto (-68), 3) := dk_167 255 188 (dk_at dksX0_wallsBy_4 0 rfl rfl)
theorem dX0_wallsBy_97 : decode cX0_wallsBy 97 = .ok (.iinc 4 1, 3) := dk_132 4 1 (dk_at dksX0_wallsBy_4 3 rfl rfl)
theorem dX0_wallsBy_100 : decode cX0_wallsBy 100 = .ok (.goto (-97), 3) := dk_167 255 159 (dk_at dksX0_wallsBy_4 6 rfl rfl)
theorem dX0_wallsBy_103 : decode cX0_wallsBy 103 = .ok (.ldc 240, 2) := dk_18 240 (dk_at dksX0_wallsBy_4 9 rfl rfl)
theorem dX0_wallsBy_105 : decode cX0_wallsBy 105 = .ok (.ireturn, 1) := dk_172 (dk_at dksX0_wallsBy_4 11 rfl rfl)
abbrev cX0_feltBy : ByteArray := prog_1_method_43_code
def yX0_feltBy : MethodName := ⟨RX0, "feltBy", "(III)I"⟩
def dkwX0_feltBy_1 : List UInt8 := [29, 42, 180, 0, 71, 29, 50, 83, 25, 4, 182, 0, 253, 25, 4, 180, 0, 237, 27, 46, 172]
abbrev dktX0_feltBy_1 : List UInt8 := dkwX0_feltBy_1 ++ []
def dkwX0_feltBy_0 : List UInt8 := [42, 182, 0, 250, 58, 4, 25, 4, 180, 0, 200, 28, 42, 180, 0, 71, 28, 50, 83, 25, 4, 180, 0, 200]
abbrev dktX0_feltBy_0 : List UInt8 := dkwX0_feltBy_0 ++ dktX0_feltBy_1
theorem dksX0_feltBy_0 : cX0_feltBy.data.toList.drop 0 = dktX0_feltBy_0 := by decide +kernel
theorem dksX0_feltBy_1 : cX0_feltBy.data.toList.drop 24 = dktX0_feltBy_1 := dk_seg dksX0_feltBy_0 24 rfl rfl
theorem dX0_feltBy_0 : decode cX0_feltBy 0 = .ok (.aload_n 0, 1) := dk_42 (dk_at dksX0_feltBy_0 0 rfl rfl)
theorem dX0_feltBy_1 : decode cX0_feltBy 1 = .ok (.invokevirtual 250, 3) := dk_182 0 250 (dk_at dksX0_feltBy_0 1 rfl rfl)
theorem dX0_feltBy_4 : decode cX0_feltBy 4 = .ok (.astore 4, 2) := dk_58 4 (dk_at dksX0_feltBy_0 4 rfl rfl)
theorem dX0_feltBy_6 : decode cX0_feltBy 6 = .ok (.aload 4, 2) := dk_25 4 (dk_at dksX0_feltBy_0 6 rfl rfl)
theorem dX0_feltBy_8 : decode cX0_feltBy 8 = .ok (.getfield 200, 3) := dk_180 0 200 (dk_at dksX0_feltBy_0 8 rfl rfl)
theorem dX0_feltBy_11 : decode cX0_feltBy 11 = .ok (.iload_n 2, 1) := dk_28 (dk_at dksX0_feltBy_0 11 rfl rfl)
theorem dX0_feltBy_12 : decode cX0_feltBy 12 = .ok (.aload_n 0, 1) := dk_42 (dk_at dksX0_feltBy_0 12 rfl rfl)
theorem dX0_feltBy_13 : decode cX0_feltBy 13 = .ok (.getfield 71, 3) := dk_180 0 71 (dk_at dksX0_feltBy_0 13 rfl rfl)
theorem dX0_feltBy_16 : decode cX0_feltBy 16 = .ok (.iload_n 2, 1) := dk_28 (dk_at dksX0_feltBy_0 16 rfl rfl)
theorem dX0_feltBy_17 : decode cX0_feltBy 17 = .ok (.aaload, 1) := dk_50 (dk_at dksX0_feltBy_0 17 rfl rfl)
theorem dX0_feltBy_18 : decode cX0_feltBy 18 = .ok (.aastore, 1) := dk_83 (dk_at dksX0_feltBy_0 18 rfl rfl)
theorem dX0_feltBy_19 : decode cX0_feltBy 19 = .ok (.aload 4, 2) := dk_25 4 (dk_at dksX0_feltBy_0 19 rfl rfl)
theorem dX0_feltBy_21 : decode cX0_feltBy 21 = .ok (.getfield 200, 3) := dk_180 0 200 (dk_at dksX0_feltBy_0 21 rfl rfl)
theorem dX0_feltBy_24 : decode cX0_feltBy 24 = .ok (.iload_n 3, 1) := dk_29 (dk_at dksX0_feltBy_1 0 rfl rfl)
theorem dX0_feltBy_25 : decode cX0_feltBy 25 = .ok (.aload_n 0, 1) := dk_42 (dk_at dksX0_feltBy_1 1 rfl rfl)
theorem dX0_feltBy_26 : decode cX0_feltBy 26 = .ok (.getfield 71, 3) := dk_180 0 71 (dk_at dksX0_feltBy_1 2 rfl rfl)
theorem dX0_feltBy_29 : decode cX0_feltBy 29 = .ok (.iload_n 3, 1) := dk_29 (dk_at dksX0_feltBy_1 5 rfl rfl)
theorem dX0_feltBy_30 : decode cX0_feltBy 30 = .ok (.aaload, 1) := dk_50 (dk_at dksX0_feltBy_1 6 rfl rfl)
theorem dX0_feltBy_31 : decode cX0_feltBy 31 = .ok (.aastore, 1) := dk_83 (dk_at dksX0_feltBy_1 7 rfl rfl)
theorem dX0_feltBy_32 : decode cX0_feltBy 32 = .ok (.aload 4, 2) := dk_25 4 (dk_at dksX0_feltBy_1 8 rfl rfl)
theorem dX0_feltBy_34 : decode cX0_feltBy 34 = .ok (.invokevirtual 253, 3) := dk_182 0 253 (dk_at dksX0_feltBy_1 10 rfl rfl)
theorem dX0_feltBy_37 : decode cX0_feltBy 37 = .ok (.aload 4, 2) := dk_25 4 (dk_at dksX0_feltBy_1 13 rfl rfl)
theorem dX0_feltBy_39 : decode cX0_feltBy 39 = .ok (.getfield 237, 3) := dk_180 0 237 (dk_at dksX0_feltBy_1 15 rfl rfl)
theorem dX0_feltBy_42 : decode cX0_feltBy 42 = .ok (.iload_n 1, 1) := dk_27 (dk_at dksX0_feltBy_1 18 rfl rfl)
theorem dX0_feltBy_43 : decode cX0_feltBy 43 = .ok (.iaload, 1) := dk_46 (dk_at dksX0_feltBy_1 19 rfl rfl)
theorem dX0_feltBy_44 : decode cX0_feltBy 44 = .ok (.ireturn, 1) := dk_172 (dk_at dksX0_feltBy_1 20 rfl rfl)
abbrev cX0_hidden : ByteArray := prog_1_method_47_code
def yX0_hidden : MethodName := ⟨RX0, "hidden", "(IIII)I"⟩
def dkwX0_hidden_3 : List UInt8 := [182, 0, 107, 172]
abbrev dktX0_hidden_3 : List UInt8 := dkwX0_hidden_3 ++ []
def dkwX0_hidden_2 : List UInt8 := [182, 1, 18, 182, 1, 35, 182, 0, 101, 172, 58, 5, 42, 4, 182, 0, 107, 172, 58, 5, 42, 5]
abbrev dktX0_hidden_2 : List UInt8 := dkwX0_hidden_2 ++ dktX0_hidden_3
def dkwX0_hidden_1 : List UInt8 := [153, 0, 10, 29, 184, 0, 86, 154, 0, 6, 18, 92, 172, 42, 42, 27, 28, 42, 29, 21, 4, 7]
abbrev dktX0_hidden_1 : List UInt8 := dkwX0_hidden_1 ++ dktX0_hidden_2
def dkwX0_hidden_0 : List UInt8 := [42, 180, 0, 46, 180, 0, 181, 154, 0, 6, 18, 185, 172, 27, 184, 0, 189, 153, 0, 17, 28, 184, 0, 216]
abbrev dktX0_hidden_0 : List UInt8 := dkwX0_hidden_0 ++ dktX0_hidden_1
theorem dksX0_hidden_0 : cX0_hidden.data.toList.drop 0 = dktX0_hidden_0 := by decide +kernel
theorem dksX0_hidden_1 : cX0_hidden.data.toList.drop 24 = dktX0_hidden_1 := dk_seg dksX0_hidden_0 24 rfl rfl
theorem dksX0_hidden_2 : cX0_hidden.data.toList.drop 46 = dktX0_hidden_2 := dk_seg dksX0_hidden_1 22 rfl rfl
theorem dksX0_hidden_3 : cX0_hidden.data.toList.drop 68 = dktX0_hidden_3 := dk_seg dksX0_hidden_2 22 rfl rfl
theorem dX0_hidden_0 : decode cX0_hidden 0 = .ok (.aload_n 0, 1) := dk_42 (dk_at dksX0_hidden_0 0 rfl rfl)
theorem dX0_hidden_1 : decode cX0_hidden 1 = .ok (.getfield 46, 3) := dk_180 0 46 (dk_at dksX0_hidden_0 1 rfl rfl)
theorem dX0_hidden_4 : decode cX0_hidden 4 = .ok (.getfield 181, 3) := dk_180 0 181 (dk_at dksX0_hidden_0 4 rfl rfl)
theorem dX0_hidden_7 : decode cX0_hidden 7 = .ok (.ifCond .ne 6, 3) := dk_154 0 6 (dk_at dksX0_hidden_0 7 rfl rfl)
theorem dX0_hidden_10 : decode cX0_hidden 10 = .ok (.ldc 185, 2) := dk_18 185 (dk_at dksX0_hidden_0 10 rfl rfl)
theorem dX0_hidden_12 : decode cX0_hidden 12 = .ok (.ireturn, 1) := dk_172 (dk_at dksX0_hidden_0 12 rfl rfl)
theorem dX0_hidden_13 : decode cX0_hidden 13 = .ok (.iload_n 1, 1) := dk_27 (dk_at dksX0_hidden_0 13 rfl rfl)
theorem dX0_hidden_14 : decode cX0_hidden 14 = .ok (.invokestatic 189, 3) := dk_184 0 189 (dk_at dksX0_hidden_0 14 rfl rfl)
theorem dX0_hidden_17 : decode cX0_hidden 17 = .ok (.ifCond .eq 17, 3) := dk_153 0 17 (dk_at dksX0_hidden_0 17 rfl rfl)
theorem dX0_hidden_20 : decode cX0_hidden 20 = .ok (.iload_n 2, 1) := dk_28 (dk_at dksX0_hidden_0 20 rfl rfl)
theorem dX0_hidden_21 : decode cX0_hidden 21 = .ok (.invokestatic 216, 3) := dk_184 0 216 (dk_at dksX0_hidden_0 21 rfl rfl)
theorem dX0_hidden_24 : decode cX0_hidden 24 = .ok (.ifCond .eq 10, 3) := dk_153 0 10 (dk_at dksX0_hidden_1 0 rfl rfl)
theorem dX0_hidden_27 : decode cX0_hidden 27 = .ok (.iload_n 3, 1) := dk_29 (dk_at dksX0_hidden_1 3 rfl rfl)
theorem dX0_hidden_28 : decode cX0_hidden 28 = .ok (.invokestatic 86, 3) := dk_184 0 86 (dk_at dksX0_hidden_1 4 rfl rfl)
theorem dX0_hidden_31 : decode cX0_hidden 31 = .ok (.ifCond .ne 6, 3) := dk_154 0 6 (dk_at dksX0_hidden_1 7 rfl rfl)
theorem dX0_hidden_34 : decode cX0_hidden 34 = .ok (.ldc 92, 2) := dk_18 92 (dk_at dksX0_hidden_1 10 rfl rfl)
theorem dX0_hidden_36 : decode cX0_hidden 36 = .ok (.ireturn, 1) := dk_172 (dk_at dksX0_hidden_1 12 rfl rfl)
theorem dX0_hidden_37 : decode cX0_hidden 37 = .ok (.aload_n 0, 1) := dk_42 (dk_at dksX0_hidden_1 13 rfl rfl)
theorem dX0_hidden_38 : decode cX0_hidden 38 = .ok (.aload_n 0, 1) := dk_42 (dk_at dksX0_hidden_1 14 rfl rfl)
theorem dX0_hidden_39 : decode cX0_hidden 39 = .ok (.iload_n 1, 1) := dk_27 (dk_at dksX0_hidden_1 15 rfl rfl)
theorem dX0_hidden_40 : decode cX0_hidden 40 = .ok (.iload_n 2, 1) := dk_28 (dk_at dksX0_hidden_1 16 rfl rfl)
theorem dX0_hidden_41 : decode cX0_hidden 41 = .ok (.aload_n 0, 1) := dk_42 (dk_at dksX0_hidden_1 17 rfl rfl)
theorem dX0_hidden_42 : decode cX0_hidden 42 = .ok (.iload_n 3, 1) := dk_29 (dk_at dksX0_hidden_1 18 rfl rfl)
theorem dX0_hidden_43 : decode cX0_hidden 43 = .ok (.iload 4, 2) := dk_21 4 (dk_at dksX0_hidden_1 19 rfl rfl)
theorem dX0_hidden_45 : decode cX0_hidden 45 = .ok (.iconst 4, 1) := dk_7 (dk_at dksX0_hidden_1 21 rfl rfl)
theorem dX0_hidden_46 : decode cX0_hidden 46 = .ok (.invokevirtual 274, 3) := dk_182 1 18 (dk_at dksX0_hidden_2 0 rfl rfl)
theorem dX0_hidden_49 : decode cX0_hidden 49 = .ok (.invokevirtual 291, 3) := dk_182 1 35 (dk_at dksX0_hidden_2 3 rfl rfl)
theorem dX0_hidden_52 : decode cX0_hidden 52 = .ok (.invokevirtual 101, 3) := dk_182 0 101 (dk_at dksX0_hidden_2 6 rfl rfl)
theorem dX0_hidden_55 : decode cX0_hidden 55 = .ok (.ireturn, 1) := dk_172 (dk_at dksX0_hidden_2 9 rfl rfl)
theorem dX0_hidden_56 : decode cX0_hidden 56 = .ok (.astore 5, 2) := dk_58 5 (dk_at dksX0_hidden_2 10 rfl rfl)
theorem dX0_hidden_58 : decode cX0_hidden 58 = .ok (.aload_n 0, 1) := dk_42 (dk_at dksX0_hidden_2 12 rfl rfl)
theorem dX0_hidden_59 : decode cX0_hidden 59 = .ok (.iconst 1, 1) := dk_4 (dk_at dksX0_hidden_2 13 rfl rfl)
theorem dX0_hidden_60 : decode cX0_hidden 60 = .ok (.invokevirtual 107, 3) := dk_182 0 107 (dk_at dksX0_hidden_2 14 rfl rfl)
theorem dX0_hidden_63 : decode cX0_hidden 63 = .ok (.ireturn, 1) := dk_172 (dk_at dksX0_hidden_2 17 rfl rfl)
theorem dX0_hidden_64 : decode cX0_hidden 64 = .ok (.astore 5, 2) := dk_58 5 (dk_at dksX0_hidden_2 18 rfl rfl)
theorem dX0_hidden_66 : decode cX0_hidden 66 = .ok (.aload_n 0, 1) := dk_42 (dk_at dksX0_hidden_2 20 rfl rfl)
theorem dX0_hidden_67 : decode cX0_hidden 67 = .ok (.iconst 2, 1) := dk_5 (dk_at dksX0_hidden_2 21 rfl rfl)
theorem dX0_hidden_68 : decode cX0_hidden 68 = .ok (.invokevirtual 107, 3) := dk_182 0 107 (dk_at dksX0_hidden_3 0 rfl rfl)
theorem dX0_hidden_71 : decode cX0_hidden 71 = .ok (.ireturn, 1) := dk_172 (dk_at dksX0_hidden_3 3 rfl rfl)
abbrev cX0_hiddenBy : ByteArray := prog_1_method_46_code
def yX0_hiddenBy : MethodName := ⟨RX0, "hiddenBy", "(II[I)I"⟩
def dkwX0_hiddenBy_5 : List UInt8 := [128, 54, 4, 132, 5, 1, 167, 255, 139, 21, 4, 172]
abbrev dktX0_hiddenBy_5 : List UInt8 := dkwX0_hiddenBy_5 ++ []
def dkwX0_hiddenBy_4 : List UInt8 := [126, 54, 7, 132, 8, 1, 167, 255, 218, 21, 4, 21, 7, 153, 0, 10, 4, 21, 5, 120, 167, 0, 4, 3]
abbrev dktX0_hiddenBy_4 : List UInt8 := dkwX0_hiddenBy_4 ++ dktX0_hiddenBy_5
def dkwX0_hiddenBy_3 : List UInt8 := [25, 6, 180, 0, 237, 7, 21, 8, 104, 28, 96, 46, 45, 21, 8, 46, 160, 0, 7, 4, 167, 0, 4, 3]
abbrev dktX0_hiddenBy_3 : List UInt8 := dkwX0_hiddenBy_3 ++ dktX0_hiddenBy_4
def dkwX0_hiddenBy_2 : List UInt8 := [184, 0, 203, 83, 25, 6, 182, 0, 253, 4, 54, 7, 3, 54, 8, 21, 8, 7, 162, 0, 38, 21, 7]
abbrev dktX0_hiddenBy_2 : List UInt8 := dkwX0_hiddenBy_2 ++ dktX0_hiddenBy_3
def dkwX0_hiddenBy_1 : List UInt8 := [153, 0, 6, 167, 0, 95, 42, 182, 0, 250, 58, 6, 25, 6, 180, 0, 200, 21, 5, 27, 21, 5, 16, 99]
abbrev dktX0_hiddenBy_1 : List UInt8 := dkwX0_hiddenBy_1 ++ dktX0_hiddenBy_2
def dkwX0_hiddenBy_0 : List UInt8 := [3, 54, 4, 3, 54, 5, 21, 5, 16, 16, 162, 0, 116, 42, 180, 0, 46, 21, 5, 182, 0, 194]
abbrev dktX0_hiddenBy_0 : List UInt8 := dkwX0_hiddenBy_0 ++ dktX0_hiddenBy_1
theorem dksX0_hiddenBy_0 : cX0_hiddenBy.data.toList.drop 0 = dktX0_hiddenBy_0 := by decide +kernel
theorem dksX0_hiddenBy_1 : cX0_hiddenBy.data.toList.drop 22 = dktX0_hiddenBy_1 := dk_seg dksX0_hiddenBy_0 22 rfl rfl
theorem dksX0_hiddenBy_2 : cX0_hiddenBy.data.toList.drop 46 = dktX0_hiddenBy_2 := dk_seg dksX0_hiddenBy_1 24 rfl rfl
theorem dksX0_hiddenBy_3 : cX0_hiddenBy.data.toList.drop 69 = dktX0_hiddenBy_3 := dk_seg dksX0_hiddenBy_2 23 rfl rfl
theorem dksX0_hiddenBy_4 : cX0_hiddenBy.data.toList.drop 93 = dktX0_hiddenBy_4 := dk_seg dksX0_hiddenBy_3 24 rfl rfl
theorem dksX0_hiddenBy_5 : cX0_hiddenBy.data.toList.drop 117 = dktX0_hiddenBy_5 := dk_seg dksX0_hiddenBy_4 24 rfl rfl
theorem dX0_hiddenBy_0 : decode cX0_hiddenBy 0 = .ok (.iconst 0, 1) := dk_3 (dk_at dksX0_hiddenBy_0 0 rfl rfl)
theorem dX0_hiddenBy_1 : decode cX0_hiddenBy 1 = .ok (.istore 4, 2) := dk_54 4 (dk_at dksX0_hiddenBy_0 1 rfl rfl)
theorem dX0_hiddenBy_3 : decode cX0_hiddenBy 3 = .ok (.iconst 0, 1) := dk_3 (dk_at dksX0_hiddenBy_0 3 rfl rfl)
theorem dX0_hiddenBy_4 : decode cX0_hiddenBy 4 = .ok (.istore 5, 2) := dk_54 5 (dk_at dksX0_hiddenBy_0 4 rfl rfl)
theorem dX0_hiddenBy_6 : decode cX0_hiddenBy 6 = .ok (.iload 5, 2) := dk_21 5 (dk_at dksX0_hiddenBy_0 6 rfl rfl)
theorem dX0_hiddenBy_8 : decode cX0_hiddenBy 8 = .ok (.bipush 16, 2) := dk_16 16 (dk_at dksX0_hiddenBy_0 8 rfl rfl)
theorem dX0_hiddenBy_10 : decode cX0_hiddenBy 10 = .ok (.if_icmp .ge 116, 3) := dk_162 0 116 (dk_at dksX0_hiddenBy_0 10 rfl rfl)
theorem dX0_hiddenBy_13 : decode cX0_hiddenBy 13 = .ok (.aload_n 0, 1) := dk_42 (dk_at dksX0_hiddenBy_0 13 rfl rfl)
theorem dX0_hiddenBy_14 : decode cX0_hiddenBy 14 = .ok (.getfield 46, 3) := dk_180 0 46 (dk_at dksX0_hiddenBy_0 14 rfl rfl)
theorem dX0_hiddenBy_17 : decode cX0_hiddenBy 17 = .ok (.iload 5, 2) := dk_21 5 (dk_at dksX0_hiddenBy_0 17 rfl rfl)
theorem dX0_hiddenBy_19 : decode cX0_hiddenBy 19 = .ok (.invokevirtual 194, 3) := dk_182 0 194 (dk_at dksX0_hiddenBy_0 19 rfl rfl)
theorem dX0_hiddenBy_22 : decode cX0_hiddenBy 22 = .ok (.ifCond .eq 6, 3) := dk_153 0 6 (dk_at dksX0_hiddenBy_1 0 rfl rfl)
theorem dX0_hiddenBy_25 : decode cX0_hiddenBy 25 = .ok (.goto 95, 3) := dk_167 0 95 (dk_at dksX0_hiddenBy_1 3 rfl rfl)
theorem dX0_hiddenBy_28 : decode cX0_hiddenBy 28 = .ok (.aload_n 0, 1) := dk_42 (dk_at dksX0_hiddenBy_1 6 rfl rfl)
theorem dX0_hiddenBy_29 : decode cX0_hiddenBy 29 = .ok (.invokevirtual 250, 3) := dk_182 0 250 (dk_at dksX0_hiddenBy_1 7 rfl rfl)
theorem dX0_hiddenBy_32 : decode cX0_hiddenBy 32 = .ok (.astore 6, 2) := dk_58 6 (dk_at dksX0_hiddenBy_1 10 rfl rfl)
theorem dX0_hiddenBy_34 : decode cX0_hiddenBy 34 = .ok (.aload 6, 2) := dk_25 6 (dk_at dksX0_hiddenBy_1 12 rfl rfl)
theorem dX0_hiddenBy_36 : decode cX0_hiddenBy 36 = .ok (.getfield 200, 3) := dk_180 0 200 (dk_at dksX0_hiddenBy_1 14 rfl rfl)
theorem dX0_hiddenBy_39 : decode cX0_hiddenBy 39 = .ok (.iload 5, 2) := dk_21 5 (dk_at dksX0_hiddenBy_1 17 rfl rfl)
theorem dX0_hiddenBy_41 : decode cX0_hiddenBy 41 = .ok (.iload_n 1, 1) := dk_27 (dk_at dksX0_hiddenBy_1 19 rfl rfl)
theorem dX0_hiddenBy_42 : decode cX0_hiddenBy 42 = .ok (.iload 5, 2) := dk_21 5 (dk_at dksX0_hiddenBy_1 20 rfl rfl)
theorem dX0_hiddenBy_44 : decode cX0_hiddenBy 44 = .ok (.bipush 99, 2) := dk_16 99 (dk_at dksX0_hiddenBy_1 22 rfl rfl)
theorem dX0_hiddenBy_46 : decode cX0_hiddenBy 46 = .ok (.invokestatic 203, 3) := dk_184 0 203 (dk_at dksX0_hiddenBy_2 0 rfl rfl)
theorem dX0_hiddenBy_49 : decode cX0_hiddenBy 49 = .ok (.aastore, 1) := dk_83 (dk_at dksX0_hiddenBy_2 3 rfl rfl)
theorem dX0_hiddenBy_50 : decode cX0_hiddenBy 50 = .ok (.aload 6, 2) := dk_25 6 (dk_at dksX0_hiddenBy_2 4 rfl rfl)
theorem dX0_hiddenBy_52 : decode cX0_hiddenBy 52 = .ok (.invokevirtual 253, 3) := dk_182 0 253 (dk_at dksX0_hiddenBy_2 6 rfl rfl)
theorem dX0_hiddenBy_55 : decode cX0_hiddenBy 55 = .ok (.iconst 1, 1) := dk_4 (dk_at dksX0_hiddenBy_2 9 rfl rfl)
theorem dX0_hiddenBy_56 : decode cX0_hiddenBy 56 = .ok (.istore 7, 2) := dk_54 7 (dk_at dksX0_hiddenBy_2 10 rfl rfl)
theorem dX0_hiddenBy_58 : decode cX0_hiddenBy 58 = .ok (.iconst 0, 1) := dk_3 (dk_at dksX0_hiddenBy_2 12 rfl rfl)
theorem dX0_hiddenBy_59 : decode cX0_hiddenBy 59 = .ok (.istore 8, 2) := dk_54 8 (dk_at dksX0_hiddenBy_2 13 rfl rfl)
theorem dX0_hiddenBy_61 : decode cX0_hiddenBy 61 = .ok (.iload 8, 2) := dk_21 8 (dk_at dksX0_hiddenBy_2 15 rfl rfl)
theorem dX0_hiddenBy_63 : decode cX0_hiddenBy 63 = .ok (.iconst 4, 1) := dk_7 (dk_at dksX0_hiddenBy_2 17 rfl rfl)
theorem dX0_hiddenBy_64 : decode cX0_hiddenBy 64 = .ok (.if_icmp .ge 38, 3) := dk_162 0 38 (dk_at dksX0_hiddenBy_2 18 rfl rfl)
theorem dX0_hiddenBy_67 : decode cX0_hiddenBy 67 = .ok (.iload 7, 2) := dk_21 7 (dk_at dksX0_hiddenBy_2 21 rfl rfl)
theorem dX0_hiddenBy_69 : decode cX0_hiddenBy 69 = .ok (.aload 6, 2) := dk_25 6 (dk_at dksX0_hiddenBy_3 0 rfl rfl)
theorem dX0_hiddenBy_71 : decode cX0_hiddenBy 71 = .ok (.getfield 237, 3) := dk_180 0 237 (dk_at dksX0_hiddenBy_3 2 rfl rfl)
theorem dX0_hiddenBy_74 : decode cX0_hiddenBy 74 = .ok (.iconst 4, 1) := dk_7 (dk_at dksX0_hiddenBy_3 5 rfl rfl)
theorem dX0_hiddenBy_75 : decode cX0_hiddenBy 75 = .ok (.iload 8, 2) := dk_21 8 (dk_at dksX0_hiddenBy_3 6 rfl rfl)
theorem dX0_hiddenBy_77 : decode cX0_hiddenBy 77 = .ok (.imul, 1) := dk_104 (dk_at dksX0_hiddenBy_3 8 rfl rfl)
theorem dX0_hiddenBy_78 : decode cX0_hiddenBy 78 = .ok (.iload_n 2, 1) := dk_28 (dk_at dksX0_hiddenBy_3 9 rfl rfl)
theorem dX0_hiddenBy_79 : decode cX0_hiddenBy 79 = .ok (.iadd, 1) := dk_96 (dk_at dksX0_hiddenBy_3 10 rfl rfl)
theorem dX0_hiddenBy_80 : decode cX0_hiddenBy 80 = .ok (.iaload, 1) := dk_46 (dk_at dksX0_hiddenBy_3 11 rfl rfl)
theorem dX0_hiddenBy_81 : decode cX0_hiddenBy 81 = .ok (.aload_n 3, 1) := dk_45 (dk_at dksX0_hiddenBy_3 12 rfl rfl)
theorem dX0_hiddenBy_82 : decode cX0_hiddenBy 82 = .ok (.iload 8, 2) := dk_21 8 (dk_at dksX0_hiddenBy_3 13 rfl rfl)
theorem dX0_hiddenBy_84 : decode cX0_hiddenBy 84 = .ok (.iaload, 1) := dk_46 (dk_at dksX0_hiddenBy_3 15 rfl rfl)
theorem dX0_hiddenBy_85 : decode cX0_hiddenBy 85 = .ok (.if_icmp .ne 7, 3) := dk_160 0 7 (dk_at dksX0_hiddenBy_3 16 rfl rfl)
theorem dX0_hiddenBy_88 : decode cX0_hiddenBy 88 = .ok (.iconst 1, 1) := dk_4 (dk_at dksX0_hiddenBy_3 19 rfl rfl)
theorem dX0_hiddenBy_89 : decode cX0_hiddenBy 89 = .ok (.goto 4, 3) := dk_167 0 4 (dk_at dksX0_hiddenBy_3 20 rfl rfl)
theorem dX0_hiddenBy_92 : decode cX0_hiddenBy 92 = .ok (.iconst 0, 1) := dk_3 (dk_at dksX0_hiddenBy_3 23 rfl rfl)
theorem dX0_hiddenBy_93 : decode cX0_hiddenBy 93 = .ok (.iand, 1) := dk_126 (dk_at dksX0_hiddenBy_4 0 rfl rfl)
theorem dX0_hiddenBy_94 : decode cX0_hiddenBy 94 = .ok (.istore 7, 2) := dk_54 7 (dk_at dksX0_hiddenBy_4 1 rfl rfl)
theorem dX0_hiddenBy_96 : decode cX0_hiddenBy 96 = .ok (.iinc 8 1, 3) := dk_132 8 1 (dk_at dksX0_hiddenBy_4 3 rfl rfl)
theorem dX0_hiddenBy_99 : decode cX0_hiddenBy 99 = .ok (.goto (-38), 3) := dk_167 255 218 (dk_at dksX0_hiddenBy_4 6 rfl rfl)
theorem dX0_hiddenBy_102 : decode cX0_hiddenBy 102 = .ok (.iload 4, 2) := dk_21 4 (dk_at dksX0_hiddenBy_4 9 rfl rfl)
theorem dX0_hiddenBy_104 : decode cX0_hiddenBy 104 = .ok (.iload 7, 2) := dk_21 7 (dk_at dksX0_hiddenBy_4 11 rfl rfl)
theorem dX0_hiddenBy_106 : decode cX0_hiddenBy 106 = .ok (.ifCond .eq 10, 3) := dk_153 0 10 (dk_at dksX0_hiddenBy_4 13 rfl rfl)
theorem dX0_hiddenBy_109 : decode cX0_hiddenBy 109 = .ok (.iconst 1, 1) := dk_4 (dk_at dksX0_hiddenBy_4 16 rfl rfl)
theorem dX0_hiddenBy_110 : decode cX0_hiddenBy 110 = .ok (.iload 5, 2) := dk_21 5 (dk_at dksX0_hiddenBy_4 17 rfl rfl)
theorem dX0_hiddenBy_112 : decode cX0_hiddenBy 112 = .ok (.ishl, 1) := dk_120 (dk_at dksX0_hiddenBy_4 19 rfl rfl)
theorem dX0_hiddenBy_113 : decode cX0_hiddenBy 113 = .ok (.goto 4, 3) := dk_167 0 4 (dk_at dksX0_hiddenBy_4 20 rfl rfl)
theorem dX0_hiddenBy_116 : decode cX0_hiddenBy 116 = .ok (.iconst 0, 1) := dk_3 (dk_at dksX0_hiddenBy_4 23 rfl rfl)
theorem dX0_hiddenBy_117 : decode cX0_hiddenBy 117 = .ok (.ior, 1) := dk_128 (dk_at dksX0_hiddenBy_5 0 rfl rfl)
theorem dX0_hiddenBy_118 : decode cX0_hiddenBy 118 = .ok (.istore 4, 2) := dk_54 4 (dk_at dksX0_hiddenBy_5 1 rfl rfl)
theorem dX0_hiddenBy_120 : decode cX0_hiddenBy 120 = .ok (.iinc 5 1, 3) := dk_132 5 1 (dk_at dksX0_hiddenBy_5 3 rfl rfl)
theorem dX0_hiddenBy_123 : decode cX0_hiddenBy 123 = .ok (.goto (-117), 3) := dk_167 255 139 (dk_at dksX0_hiddenBy_5 6 rfl rfl)
theorem dX0_hiddenBy_126 : decode cX0_hiddenBy 126 = .ok (.iload 4, 2) := dk_21 4 (dk_at dksX0_hiddenBy_5 9 rfl rfl)
theorem dX0_hiddenBy_128 : decode cX0_hiddenBy 128 = .ok (.ireturn, 1) := dk_172 (dk_at dksX0_hiddenBy_5 11 rfl rfl)
abbrev cX0_most : ByteArray := prog_1_method_48_code
def yX0_most : MethodName := ⟨RX0, "most", "(II)I"⟩
def dkwX0_most_5 : List UInt8 := [184, 1, 39, 54, 4, 132, 5, 1, 167, 255, 172, 28, 154, 0, 7, 29, 167, 0, 5, 21, 4, 172]
abbrev dktX0_most_5 : List UInt8 := dkwX0_most_5 ++ []
def dkwX0_most_4 : List UInt8 := [46, 21, 4, 164, 0, 8, 21, 5, 167, 0, 4, 29, 62, 21, 4, 25, 6, 180, 1, 10, 27, 46]
abbrev dktX0_most_4 : List UInt8 := dkwX0_most_4 ++ dktX0_most_5
def dkwX0_most_3 : List UInt8 := [180, 0, 200, 21, 5, 42, 180, 0, 71, 21, 5, 50, 83, 25, 6, 182, 0, 253, 25, 6, 180, 1, 10, 27]
abbrev dktX0_most_3 : List UInt8 := dkwX0_most_3 ++ dktX0_most_4
def dkwX0_most_2 : List UInt8 := [180, 0, 46, 21, 5, 182, 0, 194, 153, 0, 6, 167, 0, 62, 42, 182, 0, 250, 58, 6, 25, 6]
abbrev dktX0_most_2 : List UInt8 := dkwX0_most_2 ++ dktX0_most_3
def dkwX0_most_1 : List UInt8 := [154, 0, 6, 18, 92, 172, 18, 240, 62, 18, 240, 54, 4, 3, 54, 5, 21, 5, 16, 16, 162, 0, 83, 42]
abbrev dktX0_most_1 : List UInt8 := dkwX0_most_1 ++ dktX0_most_2
def dkwX0_most_0 : List UInt8 := [42, 180, 0, 46, 180, 0, 181, 154, 0, 6, 18, 185, 172, 27, 184, 0, 216, 153, 0, 10, 28, 184, 0, 244]
abbrev dktX0_most_0 : List UInt8 := dkwX0_most_0 ++ dktX0_most_1
theorem dksX0_most_0 : cX0_most.data.toList.drop 0 = dktX0_most_0 := by decide +kernel
theorem dksX0_most_1 : cX0_most.data.toList.drop 24 = dktX0_most_1 := dk_seg dksX0_most_0 24 rfl rfl
theorem dksX0_most_2 : cX0_most.data.toList.drop 48 = dktX0_most_2 := dk_seg dksX0_most_1 24 rfl rfl
theorem dksX0_most_3 : cX0_most.data.toList.drop 70 = dktX0_most_3 := dk_seg dksX0_most_2 22 rfl rfl
theorem dksX0_most_4 : cX0_most.data.toList.drop 94 = dktX0_most_4 := dk_seg dksX0_most_3 24 rfl rfl
theorem dksX0_most_5 : cX0_most.data.toList.drop 116 = dktX0_most_5 := dk_seg dksX0_most_4 22 rfl rfl
theorem dX0_most_0 : decode cX0_most 0 = .ok (.aload_n 0, 1) := dk_42 (dk_at dksX0_most_0 0 rfl rfl)
theorem dX0_most_1 : decode cX0_most 1 = .ok (.getfield 46, 3) := dk_180 0 46 (dk_at dksX0_most_0 1 rfl rfl)
theorem dX0_most_4 : decode cX0_most 4 = .ok (.getfield 181, 3) := dk_180 0 181 (dk_at dksX0_most_0 4 rfl rfl)
theorem dX0_most_7 : decode cX0_most 7 = .ok (.ifCond .ne 6, 3) := dk_154 0 6 (dk_at dksX0_most_0 7 rfl rfl)
theorem dX0_most_10 : decode cX0_most 10 = .ok (.ldc 185, 2) := dk_18 185 (dk_at dksX0_most_0 10 rfl rfl)
theorem dX0_most_12 : decode cX0_most 12 = .ok (.ireturn, 1) := dk_172 (dk_at dksX0_most_0 12 rfl rfl)
theorem dX0_most_13 : decode cX0_most 13 = .ok (.iload_n 1, 1) := dk_27 (dk_at dksX0_most_0 13 rfl rfl)
theorem dX0_most_14 : decode cX0_most 14 = .ok (.invokestatic 216, 3) := dk_184 0 216 (dk_at dksX0_most_0 14 rfl rfl)
theorem dX0_most_17 : decode cX0_most 17 = .ok (.ifCond .eq 10, 3) := dk_153 0 10 (dk_at dksX0_most_0 17 rfl rfl)
theorem dX0_most_20 : decode cX0_most 20 = .ok (.iload_n 2, 1) := dk_28 (dk_at dksX0_most_0 20 rfl rfl)
theorem dX0_most_21 : decode cX0_most 21 = .ok (.invokestatic 244, 3) := dk_184 0 244 (dk_at dksX0_most_0 21 rfl rfl)
theorem dX0_most_24 : decode cX0_most 24 = .ok (.ifCond .ne 6, 3) := dk_154 0 6 (dk_at dksX0_most_1 0 rfl rfl)
theorem dX0_most_27 : decode cX0_most 27 = .ok (.ldc 92, 2) := dk_18 92 (dk_at dksX0_most_1 3 rfl rfl)
theorem dX0_most_29 : decode cX0_most 29 = .ok (.ireturn, 1) := dk_172 (dk_at dksX0_most_1 5 rfl rfl)
theorem dX0_most_30 : decode cX0_most 30 = .ok (.ldc 240, 2) := dk_18 240 (dk_at dksX0_most_1 6 rfl rfl)
theorem dX0_most_32 : decode cX0_most 32 = .ok (.istore_n 3, 1) := dk_62 (dk_at dksX0_most_1 8 rfl rfl)
theorem dX0_most_33 : decode cX0_most 33 = .ok (.ldc 240, 2) := dk_18 240 (dk_at dksX0_most_1 9 rfl rfl)
theorem dX0_most_35 : decode cX0_most 35 = .ok (.istore 4, 2) := dk_54 4 (dk_at dksX0_most_1 11 rfl rfl)
theorem dX0_most_37 : decode cX0_most 37 = .ok (.iconst 0, 1) := dk_3 (dk_at dksX0_most_1 13 rfl rfl)
theorem dX0_most_38 : decode cX0_most 38 = .ok (.istore 5, 2) := dk_54 5 (dk_at dksX0_most_1 14 rfl rfl)
theorem dX0_most_40 : decode cX0_most 40 = .ok (.iload 5, 2) := dk_21 5 (dk_at dksX0_most_1 16 rfl rfl)
theorem dX0_most_42 : decode cX0_most 42 = .ok (.bipush 16, 2) := dk_16 16 (dk_at dksX0_most_1 18 rfl rfl)
theorem dX0_most_44 : decode cX0_most 44 = .ok (.if_icmp .ge 83, 3) := dk_162 0 83 (dk_at dksX0_most_1 20 rfl rfl)
theorem dX0_most_47 : decode cX0_most 47 = .ok (.aload_n 0, 1) := dk_42 (dk_at dksX0_most_1 23 rfl rfl)
theorem dX0_most_48 : decode cX0_most 48 = .ok (.getfield 46, 3) := dk_180 0 46 (dk_at dksX0_most_2 0 rfl rfl)
theorem dX0_most_51 : decode cX0_most 51 = .ok (.iload 5, 2) := dk_21 5 (dk_at dksX0_most_2 3 rfl rfl)
theorem dX0_most_53 : decode cX0_most 53 = .ok (.invokevirtual 194, 3) := dk_182 0 194 (dk_at dksX0_most_2 5 rfl rfl)
theorem dX0_most_56 : decode cX0_most 56 = .ok (.ifCond .eq 6, 3) := dk_153 0 6 (dk_at dksX0_most_2 8 rfl rfl)
theorem dX0_most_59 : decode cX0_most 59 = .ok (.goto 62, 3) := dk_167 0 62 (dk_at dksX0_most_2 11 rfl rfl)
theorem dX0_most_62 : decode cX0_most 62 = .ok (.aload_n 0, 1) := dk_42 (dk_at dksX0_most_2 14 rfl rfl)
theorem dX0_most_63 : decode cX0_most 63 = .ok (.invokevirtual 250, 3) := dk_182 0 250 (dk_at dksX0_most_2 15 rfl rfl)
theorem dX0_most_66 : decode cX0_most 66 = .ok (.astore 6, 2) := dk_58 6 (dk_at dksX0_most_2 18 rfl rfl)
theorem dX0_most_68 : decode cX0_most 68 = .ok (.aload 6, 2) := dk_25 6 (dk_at dksX0_most_2 20 rfl rfl)
theorem dX0_most_70 : decode cX0_most 70 = .ok (.getfield 200, 3) := dk_180 0 200 (dk_at dksX0_most_3 0 rfl rfl)
theorem dX0_most_73 : decode cX0_most 73 = .ok (.iload 5, 2) := dk_21 5 (dk_at dksX0_most_3 3 rfl rfl)
theorem dX0_most_75 : decode cX0_most 75 = .ok (.aload_n 0, 1) := dk_42 (dk_at dksX0_most_3 5 rfl rfl)
theorem dX0_most_76 : decode cX0_most 76 = .ok (.getfield 71, 3) := dk_180 0 71 (dk_at dksX0_most_3 6 rfl rfl)
theorem dX0_most_79 : decode cX0_most 79 = .ok (.iload 5, 2) := dk_21 5 (dk_at dksX0_most_3 9 rfl rfl)
theorem dX0_most_81 : decode cX0_most 81 = .ok (.aaload, 1) := dk_50 (dk_at dksX0_most_3 11 rfl rfl)
theorem dX0_most_82 : decode cX0_most 82 = .ok (.aastore, 1) := dk_83 (dk_at dksX0_most_3 12 rfl rfl)
theorem dX0_most_83 : decode cX0_most 83 = .ok (.aload 6, 2) := dk_25 6 (dk_at dksX0_most_3 13 rfl rfl)
theorem dX0_most_85 : decode cX0_most 85 = .ok (.invokevirtual 253, 3) := dk_182 0 253 (dk_at dksX0_most_3 15 rfl rfl)
theorem dX0_most_88 : decode cX0_most 88 = .ok (.aload 6, 2) := dk_25 6 (dk_at dksX0_most_3 18 rfl rfl)
theorem dX0_most_90 : decode cX0_most 90 = .ok (.getfield 266, 3) := dk_180 1 10 (dk_at dksX0_most_3 20 rfl rfl)
theorem dX0_most_93 : decode cX0_most 93 = .ok (.iload_n 1, 1) := dk_27 (dk_at dksX0_most_3 23 rfl rfl)
theorem dX0_most_94 : decode cX0_most 94 = .ok (.iaload, 1) := dk_46 (dk_at dksX0_most_4 0 rfl rfl)
theorem dX0_most_95 : decode cX0_most 95 = .ok (.iload 4, 2) := dk_21 4 (dk_at dksX0_most_4 1 rfl rfl)
theorem dX0_most_97 : decode cX0_most 97 = .ok (.if_icmp .le 8, 3) := dk_164 0 8 (dk_at dksX0_most_4 3 rfl rfl)
theorem dX0_most_100 : decode cX0_most 100 = .ok (.iload 5, 2) := dk_21 5 (dk_at dksX0_most_4 6 rfl rfl)
theorem dX0_most_102 : decode cX0_most 102 = .ok (.goto 4, 3) := dk_167 0 4 (dk_at dksX0_most_4 8 rfl rfl)
theorem dX0_most_105 : decode cX0_most 105 = .ok (.iload_n 3, 1) := dk_29 (dk_at dksX0_most_4 11 rfl rfl)
theorem dX0_most_106 : decode cX0_most 106 = .ok (.istore_n 3, 1) := dk_62 (dk_at dksX0_most_4 12 rfl rfl)
theorem dX0_most_107 : decode cX0_most 107 = .ok (.iload 4, 2) := dk_21 4 (dk_at dksX0_most_4 13 rfl rfl)
theorem dX0_most_109 : decode cX0_most 109 = .ok (.aload 6, 2) := dk_25 6 (dk_at dksX0_most_4 15 rfl rfl)
theorem dX0_most_111 : decode cX0_most 111 = .ok (.getfield 266, 3) := dk_180 1 10 (dk_at dksX0_most_4 17 rfl rfl)
theorem dX0_most_114 : decode cX0_most 114 = .ok (.iload_n 1, 1) := dk_27 (dk_at dksX0_most_4 20 rfl rfl)
theorem dX0_most_115 : decode cX0_most 115 = .ok (.iaload, 1) := dk_46 (dk_at dksX0_most_4 21 rfl rfl)
theorem dX0_most_116 : decode cX0_most 116 = .ok (.invokestatic 295, 3) := dk_184 1 39 (dk_at dksX0_most_5 0 rfl rfl)
theorem dX0_most_119 : decode cX0_most 119 = .ok (.istore 4, 2) := dk_54 4 (dk_at dksX0_most_5 3 rfl rfl)
theorem dX0_most_121 : decode cX0_most 121 = .ok (.iinc 5 1, 3) := dk_132 5 1 (dk_at dksX0_most_5 5 rfl rfl)
theorem dX0_most_124 : decode cX0_most 124 = .ok (.goto (-84), 3) := dk_167 255 172 (dk_at dksX0_most_5 8 rfl rfl)
theorem dX0_most_127 : decode cX0_most 127 = .ok (.iload_n 2, 1) := dk_28 (dk_at dksX0_most_5 11 rfl rfl)
theorem dX0_most_128 : decode cX0_most 128 = .ok (.ifCond .ne 7, 3) := dk_154 0 7 (dk_at dksX0_most_5 12 rfl rfl)
theorem dX0_most_131 : decode cX0_most 131 = .ok (.iload_n 3, 1) := dk_29 (dk_at dksX0_most_5 15 rfl rfl)
theorem dX0_most_132 : decode cX0_most 132 = .ok (.goto 5, 3) := dk_167 0 5 (dk_at dksX0_most_5 16 rfl rfl)
theorem dX0_most_135 : decode cX0_most 135 = .ok (.iload 4, 2) := dk_21 4 (dk_at dksX0_most_5 19 rfl rfl)
theorem dX0_most_137 : decode cX0_most 137 = .ok (.ireturn, 1) := dk_172 (dk_at dksX0_most_5 21 rfl rfl)
abbrev cX0_lots : ByteArray := prog_1_method_51_code
def yX0_lots : MethodName := ⟨RX0, "lots", "(IIII)I"⟩
def dkwX0_lots_7 : List UInt8 := [21, 7, 184, 1, 53, 54, 8, 21, 4, 154, 0, 8, 21, 6, 167, 0, 5, 21, 7, 21, 8, 108, 172]
abbrev dktX0_lots_7 : List UInt8 := dkwX0_lots_7 ++ []
def dkwX0_lots_6 : List UInt8 := [182, 1, 49, 153, 0, 8, 21, 9, 167, 0, 4, 3, 96, 54, 6, 132, 8, 1, 167, 255, 173, 21, 6]
abbrev dktX0_lots_6 : List UInt8 := dkwX0_lots_6 ++ dktX0_lots_7
def dkwX0_lots_5 : List UInt8 := [54, 9, 132, 10, 1, 167, 255, 223, 21, 7, 21, 9, 96, 54, 7, 21, 6, 42, 27, 28, 21, 8]
abbrev dktX0_lots_5 : List UInt8 := dkwX0_lots_5 ++ dktX0_lots_6
def dkwX0_lots_4 : List UInt8 := [162, 0, 32, 21, 9, 21, 8, 21, 10, 184, 1, 44, 153, 0, 7, 29, 167, 0, 7, 16, 10, 29, 100, 104]
abbrev dktX0_lots_4 : List UInt8 := dkwX0_lots_4 ++ dktX0_lots_5
def dkwX0_lots_3 : List UInt8 := [3, 54, 8, 21, 8, 4, 21, 5, 120, 162, 0, 80, 4, 54, 9, 3, 54, 10, 21, 10, 21, 5]
abbrev dktX0_lots_3 : List UInt8 := dkwX0_lots_3 ++ dktX0_lots_4
def dkwX0_lots_2 : List UInt8 := [184, 0, 244, 154, 0, 6, 18, 92, 172, 42, 180, 0, 46, 182, 0, 172, 54, 5, 3, 54, 6, 3, 54, 7]
abbrev dktX0_lots_2 : List UInt8 := dkwX0_lots_2 ++ dktX0_lots_3
def dkwX0_lots_1 : List UInt8 := [20, 0, 192, 184, 0, 82, 153, 0, 23, 29, 133, 9, 20, 1, 47, 184, 0, 82, 153, 0, 11, 21, 4]
abbrev dktX0_lots_1 : List UInt8 := dkwX0_lots_1 ++ dktX0_lots_2
def dkwX0_lots_0 : List UInt8 := [42, 180, 0, 46, 180, 0, 181, 154, 0, 6, 18, 185, 172, 27, 184, 0, 186, 153, 0, 35, 28, 133, 9]
abbrev dktX0_lots_0 : List UInt8 := dkwX0_lots_0 ++ dktX0_lots_1
theorem dksX0_lots_0 : cX0_lots.data.toList.drop 0 = dktX0_lots_0 := by decide +kernel
theorem dksX0_lots_1 : cX0_lots.data.toList.drop 23 = dktX0_lots_1 := dk_seg dksX0_lots_0 23 rfl rfl
theorem dksX0_lots_2 : cX0_lots.data.toList.drop 46 = dktX0_lots_2 := dk_seg dksX0_lots_1 23 rfl rfl
theorem dksX0_lots_3 : cX0_lots.data.toList.drop 70 = dktX0_lots_3 := dk_seg dksX0_lots_2 24 rfl rfl
theorem dksX0_lots_4 : cX0_lots.data.toList.drop 92 = dktX0_lots_4 := dk_seg dksX0_lots_3 22 rfl rfl
theorem dksX0_lots_5 : cX0_lots.data.toList.drop 116 = dktX0_lots_5 := dk_seg dksX0_lots_4 24 rfl rfl
theorem dksX0_lots_6 : cX0_lots.data.toList.drop 138 = dktX0_lots_6 := dk_seg dksX0_lots_5 22 rfl rfl
theorem dksX0_lots_7 : cX0_lots.data.toList.drop 161 = dktX0_lots_7 := dk_seg dksX0_lots_6 23 rfl rfl
theorem dX0_lots_0 : decode cX0_lots 0 = .ok (.aload_n 0, 1) := dk_42 (dk_at dksX0_lots_0 0 rfl rfl)
theorem dX0_lots_1 : decode cX0_lots 1 = .ok (.getfield 46, 3) := dk_180 0 46 (dk_at dksX0_lots_0 1 rfl rfl)
theorem dX0_lots_4 : decode cX0_lots 4 = .ok (.getfield 181, 3) := dk_180 0 181 (dk_at dksX0_lots_0 4 rfl rfl)
theorem dX0_lots_7 : decode cX0_lots 7 = .ok (.ifCond .ne 6, 3) := dk_154 0 6 (dk_at dksX0_lots_0 7 rfl rfl)
theorem dX0_lots_10 : decode cX0_lots 10 = .ok (.ldc 185, 2) := dk_18 185 (dk_at dksX0_lots_0 10 rfl rfl)
theorem dX0_lots_12 : decode cX0_lots 12 = .ok (.ireturn, 1) := dk_172 (dk_at dksX0_lots_0 12 rfl rfl)
theorem dX0_lots_13 : decode cX0_lots 13 = .ok (.iload_n 1, 1) := dk_27 (dk_at dksX0_lots_0 13 rfl rfl)
theorem dX0_lots_14 : decode cX0_lots 14 = .ok (.invokestatic 186, 3) := dk_184 0 186 (dk_at dksX0_lots_0 14 rfl rfl)
theorem dX0_lots_17 : decode cX0_lots 17 = .ok (.ifCond .eq 35, 3) := dk_153 0 35 (dk_at dksX0_lots_0 17 rfl rfl)
theorem dX0_lots_20 : decode cX0_lots 20 = .ok (.iload_n 2, 1) := dk_28 (dk_at dksX0_lots_0 20 rfl rfl)
theorem dX0_lots_21 : decode cX0_lots 21 = .ok (.i2l, 1) := dk_133 (dk_at dksX0_lots_0 21 rfl rfl)
theorem dX0_lots_22 : decode cX0_lots 22 = .ok (.lconst 0, 1) := dk_9 (dk_at dksX0_lots_0 22 rfl rfl)
theorem dX0_lots_23 : decode cX0_lots 23 = .ok (.ldc2_w 192, 3) := dk_20 0 192 (dk_at dksX0_lots_1 0 rfl rfl)
theorem dX0_lots_26 : decode cX0_lots 26 = .ok (.invokestatic 82, 3) := dk_184 0 82 (dk_at dksX0_lots_1 3 rfl rfl)
theorem dX0_lots_29 : decode cX0_lots 29 = .ok (.ifCond .eq 23, 3) := dk_153 0 23 (dk_at dksX0_lots_1 6 rfl rfl)
theorem dX0_lots_32 : decode cX0_lots 32 = .ok (.iload_n 3, 1) := dk_29 (dk_at dksX0_lots_1 9 rfl rfl)
theorem dX0_lots_33 : decode cX0_lots 33 = .ok (.i2l, 1) := dk_133 (dk_at dksX0_lots_1 10 rfl rfl)
theorem dX0_lots_34 : decode cX0_lots 34 = .ok (.lconst 0, 1) := dk_9 (dk_at dksX0_lots_1 11 rfl rfl)
theorem dX0_lots_35 : decode cX0_lots 35 = .ok (.ldc2_w 303, 3) := dk_20 1 47 (dk_at dksX0_lots_1 12 rfl rfl)
theorem dX0_lots_38 : decode cX0_lots 38 = .ok (.invokestatic 82, 3) := dk_184 0 82 (dk_at dksX0_lots_1 15 rfl rfl)
theorem dX0_lots_41 : decode cX0_lots 41 = .ok (.ifCond .eq 11, 3) := dk_153 0 11 (dk_at dksX0_lots_1 18 rfl rfl)
theorem dX0_lots_44 : decode cX0_lots 44 = .ok (.iload 4, 2) := dk_21 4 (dk_at dksX0_lots_1 21 rfl rfl)
theorem dX0_lots_46 : decode cX0_lots 46 = .ok (.invokestatic 244, 3) := dk_184 0 244 (dk_at dksX0_lots_2 0 rfl rfl)
theorem dX0_lots_49 : decode cX0_lots 49 = .ok (.ifCond .ne 6, 3) := dk_154 0 6 (dk_at dksX0_lots_2 3 rfl rfl)
theorem dX0_lots_52 : decode cX0_lots 52 = .ok (.ldc 92, 2) := dk_18 92 (dk_at dksX0_lots_2 6 rfl rfl)
theorem dX0_lots_54 : decode cX0_lots 54 = .ok (.ireturn, 1) := dk_172 (dk_at dksX0_lots_2 8 rfl rfl)
theorem dX0_lots_55 : decode cX0_lots 55 = .ok (.aload_n 0, 1) := dk_42 (dk_at dksX0_lots_2 9 rfl rfl)
theorem dX0_lots_56 : decode cX0_lots 56 = .ok (.getfield 46, 3) := dk_180 0 46 (dk_at dksX0_lots_2 10 rfl rfl)
theorem dX0_lots_59 : decode cX0_lots 59 = .ok (.invokevirtual 172, 3) := dk_182 0 172 (dk_at dksX0_lots_2 13 rfl rfl)
theorem dX0_lots_62 : decode cX0_lots 62 = .ok (.istore 5, 2) := dk_54 5 (dk_at dksX0_lots_2 16 rfl rfl)
theorem dX0_lots_64 : decode cX0_lots 64 = .ok (.iconst 0, 1) := dk_3 (dk_at dksX0_lots_2 18 rfl rfl)
theorem dX0_lots_65 : decode cX0_lots 65 = .ok (.istore 6, 2) := dk_54 6 (dk_at dksX0_lots_2 19 rfl rfl)
theorem dX0_lots_67 : decode cX0_lots 67 = .ok (.iconst 0, 1) := dk_3 (dk_at dksX0_lots_2 21 rfl rfl)
theorem dX0_lots_68 : decode cX0_lots 68 = .ok (.istore 7, 2) := dk_54 7 (dk_at dksX0_lots_2 22 rfl rfl)
theorem dX0_lots_70 : decode cX0_lots 70 = .ok (.iconst 0, 1) := dk_3 (dk_at dksX0_lots_3 0 rfl rfl)
theorem dX0_lots_71 : decode cX0_lots 71 = .ok (.istore 8, 2) := dk_54 8 (dk_at dksX0_lots_3 1 rfl rfl)
theorem dX0_lots_73 : decode cX0_lots 73 = .ok (.iload 8, 2) := dk_21 8 (dk_at dksX0_lots_3 3 rfl rfl)
theorem dX0_lots_75 : decode cX0_lots 75 = .ok (.iconst 1, 1) := dk_4 (dk_at dksX0_lots_3 5 rfl rfl)
theorem dX0_lots_76 : decode cX0_lots 76 = .ok (.iload 5, 2) := dk_21 5 (dk_at dksX0_lots_3 6 rfl rfl)
theorem dX0_lots_78 : decode cX0_lots 78 = .ok (.ishl, 1) := dk_120 (dk_at dksX0_lots_3 8 rfl rfl)
theorem dX0_lots_79 : decode cX0_lots 79 = .ok (.if_icmp .ge 80, 3) := dk_162 0 80 (dk_at dksX0_lots_3 9 rfl rfl)
theorem dX0_lots_82 : decode cX0_lots 82 = .ok (.iconst 1, 1) := dk_4 (dk_at dksX0_lots_3 12 rfl rfl)
theorem dX0_lots_83 : decode cX0_lots 83 = .ok (.istore 9, 2) := dk_54 9 (dk_at dksX0_lots_3 13 rfl rfl)
theorem dX0_lots_85 : decode cX0_lots 85 = .ok (.iconst 0, 1) := dk_3 (dk_at dksX0_lots_3 15 rfl rfl)
theorem dX0_lots_86 : decode cX0_lots 86 = .ok (.istore 10, 2) := dk_54 10 (dk_at dksX0_lots_3 16 rfl rfl)
theorem dX0_lots_88 : decode cX0_lots 88 = .ok (.iload 10, 2) := dk_21 10 (dk_at dksX0_lots_3 18 rfl rfl)
theorem dX0_lots_90 : decode cX0_lots 90 = .ok (.iload 5, 2) := dk_21 5 (dk_at dksX0_lots_3 20 rfl rfl)
theorem dX0_lots_92 : decode cX0_lots 92 = .ok (.if_icmp .ge 32, 3) := dk_162 0 32 (dk_at dksX0_lots_4 0 rfl rfl)
theorem dX0_lots_95 : decode cX0_lots 95 = .ok (.iload 9, 2) := dk_21 9 (dk_at dksX0_lots_4 3 rfl rfl)
theorem dX0_lots_97 : decode cX0_lots 97 = .ok (.iload 8, 2) := dk_21 8 (dk_at dksX0_lots_4 5 rfl rfl)
theorem dX0_lots_99 : decode cX0_lots 99 = .ok (.iload 10, 2) := dk_21 10 (dk_at dksX0_lots_4 7 rfl rfl)
theorem dX0_lots_101 : decode cX0_lots 101 = .ok (.invokestatic 300, 3) := dk_184 1 44 (dk_at dksX0_lots_4 9 rfl rfl)
theorem dX0_lots_104 : decode cX0_lots 104 = .ok (.ifCond .eq 7, 3) := dk_153 0 7 (dk_at dksX0_lots_4 12 rfl rfl)
theorem dX0_lots_107 : decode cX0_lots 107 = .ok (.iload_n 3, 1) := dk_29 (dk_at dksX0_lots_4 15 rfl rfl)
theorem dX0_lots_108 : decode cX0_lots 108 = .ok (.goto 7, 3) := dk_167 0 7 (dk_at dksX0_lots_4 16 rfl rfl)
theorem dX0_lots_111 : decode cX0_lots 111 = .ok (.bipush 10, 2) := dk_16 10 (dk_at dksX0_lots_4 19 rfl rfl)
theorem dX0_lots_113 : decode cX0_lots 113 = .ok (.iload_n 3, 1) := dk_29 (dk_at dksX0_lots_4 21 rfl rfl)
theorem dX0_lots_114 : decode cX0_lots 114 = .ok (.isub, 1) := dk_100 (dk_at dksX0_lots_4 22 rfl rfl)
theorem dX0_lots_115 : decode cX0_lots 115 = .ok (.imul, 1) := dk_104 (dk_at dksX0_lots_4 23 rfl rfl)
theorem dX0_lots_116 : decode cX0_lots 116 = .ok (.istore 9, 2) := dk_54 9 (dk_at dksX0_lots_5 0 rfl rfl)
theorem dX0_lots_118 : decode cX0_lots 118 = .ok (.iinc 10 1, 3) := dk_132 10 1 (dk_at dksX0_lots_5 2 rfl rfl)
theorem dX0_lots_121 : decode cX0_lots 121 = .ok (.goto (-33), 3) := dk_167 255 223 (dk_at dksX0_lots_5 5 rfl rfl)
theorem dX0_lots_124 : decode cX0_lots 124 = .ok (.iload 7, 2) := dk_21 7 (dk_at dksX0_lots_5 8 rfl rfl)
theorem dX0_lots_126 : decode cX0_lots 126 = .ok (.iload 9, 2) := dk_21 9 (dk_at dksX0_lots_5 10 rfl rfl)
theorem dX0_lots_128 : decode cX0_lots 128 = .ok (.iadd, 1) := dk_96 (dk_at dksX0_lots_5 12 rfl rfl)
theorem dX0_lots_129 : decode cX0_lots 129 = .ok (.istore 7, 2) := dk_54 7 (dk_at dksX0_lots_5 13 rfl rfl)
theorem dX0_lots_131 : decode cX0_lots 131 = .ok (.iload 6, 2) := dk_21 6 (dk_at dksX0_lots_5 15 rfl rfl)
theorem dX0_lots_133 : decode cX0_lots 133 = .ok (.aload_n 0, 1) := dk_42 (dk_at dksX0_lots_5 17 rfl rfl)
theorem dX0_lots_134 : decode cX0_lots 134 = .ok (.iload_n 1, 1) := dk_27 (dk_at dksX0_lots_5 18 rfl rfl)
theorem dX0_lots_135 : decode cX0_lots 135 = .ok (.iload_n 2, 1) := dk_28 (dk_at dksX0_lots_5 19 rfl rfl)
theorem dX0_lots_136 : decode cX0_lots 136 = .ok (.iload 8, 2) := dk_21 8 (dk_at dksX0_lots_5 20 rfl rfl)
theorem dX0_lots_138 : decode cX0_lots 138 = .ok (.invokevirtual 305, 3) := dk_182 1 49 (dk_at dksX0_lots_6 0 rfl rfl)
theorem dX0_lots_141 : decode cX0_lots 141 = .ok (.ifCond .eq 8, 3) := dk_153 0 8 (dk_at dksX0_lots_6 3 rfl rfl)
theorem dX0_lots_144 : decode cX0_lots 144 = .ok (.iload 9, 2) := dk_21 9 (dk_at dksX0_lots_6 6 rfl rfl)
theorem dX0_lots_146 : decode cX0_lots 146 = .ok (.goto 4, 3) := dk_167 0 4 (dk_at dksX0_lots_6 8 rfl rfl)
theorem dX0_lots_149 : decode cX0_lots 149 = .ok (.iconst 0, 1) := dk_3 (dk_at dksX0_lots_6 11 rfl rfl)
theorem dX0_lots_150 : decode cX0_lots 150 = .ok (.iadd, 1) := dk_96 (dk_at dksX0_lots_6 12 rfl rfl)
theorem dX0_lots_151 : decode cX0_lots 151 = .ok (.istore 6, 2) := dk_54 6 (dk_at dksX0_lots_6 13 rfl rfl)
theorem dX0_lots_153 : decode cX0_lots 153 = .ok (.iinc 8 1, 3) := dk_132 8 1 (dk_at dksX0_lots_6 15 rfl rfl)
theorem dX0_lots_156 : decode cX0_lots 156 = .ok (.goto (-83), 3) := dk_167 255 173 (dk_at dksX0_lots_6 18 rfl rfl)
theorem dX0_lots_159 : decode cX0_lots 159 = .ok (.iload 6, 2) := dk_21 6 (dk_at dksX0_lots_6 21 rfl rfl)
theorem dX0_lots_161 : decode cX0_lots 161 = .ok (.iload 7, 2) := dk_21 7 (dk_at dksX0_lots_7 0 rfl rfl)
theorem dX0_lots_163 : decode cX0_lots 163 = .ok (.invokestatic 309, 3) := dk_184 1 53 (dk_at dksX0_lots_7 2 rfl rfl)
theorem dX0_lots_166 : decode cX0_lots 166 = .ok (.istore 8, 2) := dk_54 8 (dk_at dksX0_lots_7 5 rfl rfl)
theorem dX0_lots_168 : decode cX0_lots 168 = .ok (.iload 4, 2) := dk_21 4 (dk_at dksX0_lots_7 7 rfl rfl)
theorem dX0_lots_170 : decode cX0_lots 170 = .ok (.ifCond .ne 8, 3) := dk_154 0 8 (dk_at dksX0_lots_7 9 rfl rfl)
theorem dX0_lots_173 : decode cX0_lots 173 = .ok (.iload 6, 2) := dk_21 6 (dk_at dksX0_lots_7 12 rfl rfl)
theorem dX0_lots_175 : decode cX0_lots 175 = .ok (.goto 5, 3) := dk_167 0 5 (dk_at dksX0_lots_7 14 rfl rfl)
theorem dX0_lots_178 : decode cX0_lots 178 = .ok (.iload 7, 2) := dk_21 7 (dk_at dksX0_lots_7 17 rfl rfl)
theorem dX0_lots_180 : decode cX0_lots 180 = .ok (.iload 8, 2) := dk_21 8 (dk_at dksX0_lots_7 19 rfl rfl)
theorem dX0_lots_182 : decode cX0_lots 182 = .ok (.idiv, 1) := dk_108 (dk_at dksX0_lots_7 21 rfl rfl)
theorem dX0_lots_183 : decode cX0_lots 183 = .ok (.ireturn, 1) := dk_172 (dk_at dksX0_lots_7 22 rfl rfl)
abbrev cX0_isFelt : ByteArray := prog_1_method_50_code
def yX0_isFelt : MethodName := ⟨RX0, "isFelt", "(III)Z"⟩
def dkwX0_isFelt_3 : List UInt8 := [28, 161, 0, 7, 4, 167, 0, 4, 3, 172]
abbrev dktX0_isFelt_3 : List UInt8 := dkwX0_isFelt_3 ++ []
def dkwX0_isFelt_2 : List UInt8 := [182, 0, 207, 132, 5, 1, 132, 6, 1, 167, 255, 212, 25, 4, 182, 0, 253, 25, 4, 180, 0, 237, 27, 46]
abbrev dktX0_isFelt_2 : List UInt8 := dkwX0_isFelt_2 ++ dktX0_isFelt_3
def dkwX0_isFelt_1 : List UInt8 := [21, 6, 182, 0, 194, 154, 0, 6, 167, 0, 22, 29, 21, 5, 184, 1, 44, 153, 0, 10, 25, 4, 21, 6]
abbrev dktX0_isFelt_1 : List UInt8 := dkwX0_isFelt_1 ++ dktX0_isFelt_2
def dkwX0_isFelt_0 : List UInt8 := [42, 182, 0, 250, 58, 4, 3, 54, 5, 3, 54, 6, 21, 6, 16, 16, 162, 0, 43, 42, 180, 0, 46]
abbrev dktX0_isFelt_0 : List UInt8 := dkwX0_isFelt_0 ++ dktX0_isFelt_1
theorem dksX0_isFelt_0 : cX0_isFelt.data.toList.drop 0 = dktX0_isFelt_0 := by decide +kernel
theorem dksX0_isFelt_1 : cX0_isFelt.data.toList.drop 23 = dktX0_isFelt_1 := dk_seg dksX0_isFelt_0 23 rfl rfl
theorem dksX0_isFelt_2 : cX0_isFelt.data.toList.drop 47 = dktX0_isFelt_2 := dk_seg dksX0_isFelt_1 24 rfl rfl
theorem dksX0_isFelt_3 : cX0_isFelt.data.toList.drop 71 = dktX0_isFelt_3 := dk_seg dksX0_isFelt_2 24 rfl rfl
theorem dX0_isFelt_0 : decode cX0_isFelt 0 = .ok (.aload_n 0, 1) := dk_42 (dk_at dksX0_isFelt_0 0 rfl rfl)
theorem dX0_isFelt_1 : decode cX0_isFelt 1 = .ok (.invokevirtual 250, 3) := dk_182 0 250 (dk_at dksX0_isFelt_0 1 rfl rfl)
theorem dX0_isFelt_4 : decode cX0_isFelt 4 = .ok (.astore 4, 2) := dk_58 4 (dk_at dksX0_isFelt_0 4 rfl rfl)
theorem dX0_isFelt_6 : decode cX0_isFelt 6 = .ok (.iconst 0, 1) := dk_3 (dk_at dksX0_isFelt_0 6 rfl rfl)
theorem dX0_isFelt_7 : decode cX0_isFelt 7 = .ok (.istore 5, 2) := dk_54 5 (dk_at dksX0_isFelt_0 7 rfl rfl)
theorem dX0_isFelt_9 : decode cX0_isFelt 9 = .ok (.iconst 0, 1) := dk_3 (dk_at dksX0_isFelt_0 9 rfl rfl)
theorem dX0_isFelt_10 : decode cX0_isFelt 10 = .ok (.istore 6, 2) := dk_54 6 (dk_at dksX0_isFelt_0 10 rfl rfl)
theorem dX0_isFelt_12 : decode cX0_isFelt 12 = .ok (.iload 6, 2) := dk_21 6 (dk_at dksX0_isFelt_0 12 rfl rfl)
theorem dX0_isFelt_14 : decode cX0_isFelt 14 = .ok (.bipush 16, 2) := dk_16 16 (dk_at dksX0_isFelt_0 14 rfl rfl)
theorem dX0_isFelt_16 : decode cX0_isFelt 16 = .ok (.if_icmp .ge 43, 3) := dk_162 0 43 (dk_at dksX0_isFelt_0 16 rfl rfl)
theorem dX0_isFelt_19 : decode cX0_isFelt 19 = .ok (.aload_n 0, 1) := dk_42 (dk_at dksX0_isFelt_0 19 rfl rfl)
theorem dX0_isFelt_20 : decode cX0_isFelt 20 = .ok (.getfield 46, 3) := dk_180 0 46 (dk_at dksX0_isFelt_0 20 rfl rfl)
theorem dX0_isFelt_23 : decode cX0_isFelt 23 = .ok (.iload 6, 2) := dk_21 6 (dk_at dksX0_isFelt_1 0 rfl rfl)
theorem dX0_isFelt_25 : decode cX0_isFelt 25 = .ok (.invokevirtual 194, 3) := dk_182 0 194 (dk_at dksX0_isFelt_1 2 rfl rfl)
theorem dX0_isFelt_28 : decode cX0_isFelt 28 = .ok (.ifCond .ne 6, 3) := dk_154 0 6 (dk_at dksX0_isFelt_1 5 rfl rfl)
theorem dX0_isFelt_31 : decode cX0_isFelt 31 = .ok (.goto 22, 3) := dk_167 0 22 (dk_at dksX0_isFelt_1 8 rfl rfl)
theorem dX0_isFelt_34 : decode cX0_isFelt 34 = .ok (.iload_n 3, 1) := dk_29 (dk_at dksX0_isFelt_1 11 rfl rfl)
theorem dX0_isFelt_35 : decode cX0_isFelt 35 = .ok (.iload 5, 2) := dk_21 5 (dk_at dksX0_isFelt_1 12 rfl rfl)
theorem dX0_isFelt_37 : decode cX0_isFelt 37 = .ok (.invokestatic 300, 3) := dk_184 1 44 (dk_at dksX0_isFelt_1 14 rfl rfl)
theorem dX0_isFelt_40 : decode cX0_isFelt 40 = .ok (.ifCond .eq 10, 3) := dk_153 0 10 (dk_at dksX0_isFelt_1 17 rfl rfl)
theorem dX0_isFelt_43 : decode cX0_isFelt 43 = .ok (.aload 4, 2) := dk_25 4 (dk_at dksX0_isFelt_1 20 rfl rfl)
theorem dX0_isFelt_45 : decode cX0_isFelt 45 = .ok (.iload 6, 2) := dk_21 6 (dk_at dksX0_isFelt_1 22 rfl rfl)
theorem dX0_isFelt_47 : decode cX0_isFelt 47 = .ok (.invokevirtual 207, 3) := dk_182 0 207 (dk_at dksX0_isFelt_2 0 rfl rfl)
theorem dX0_isFelt_50 : decode cX0_isFelt 50 = .ok (.iinc 5 1, 3) := dk_132 5 1 (dk_at dksX0_isFelt_2 3 rfl rfl)
theorem dX0_isFelt_53 : decode cX0_isFelt 53 = .ok (.iinc 6 1, 3) := dk_132 6 1 (dk_at dksX0_isFelt_2 6 rfl rfl)
theorem dX0_isFelt_56 : decode cX0_isFelt 56 = .ok (.goto (-44), 3) := dk_167 255 212 (dk_at dksX0_isFelt_2 9 rfl rfl)
theorem dX0_isFelt_59 : decode cX0_isFelt 59 = .ok (.aload 4, 2) := dk_25 4 (dk_at dksX0_isFelt_2 12 rfl rfl)
theorem dX0_isFelt_61 : decode cX0_isFelt 61 = .ok (.invokevirtual 253, 3) := dk_182 0 253 (dk_at dksX0_isFelt_2 14 rfl rfl)
theorem dX0_isFelt_64 : decode cX0_isFelt 64 = .ok (.aload 4, 2) := dk_25 4 (dk_at dksX0_isFelt_2 17 rfl rfl)
theorem dX0_isFelt_66 : decode cX0_isFelt 66 = .ok (.getfield 237, 3) := dk_180 0 237 (dk_at dksX0_isFelt_2 19 rfl rfl)
theorem dX0_isFelt_69 : decode cX0_isFelt 69 = .ok (.iload_n 1, 1) := dk_27 (dk_at dksX0_isFelt_2 22 rfl rfl)
theorem dX0_isFelt_70 : decode cX0_isFelt 70 = .ok (.iaload, 1) := dk_46 (dk_at dksX0_isFelt_2 23 rfl rfl)
theorem dX0_isFelt_71 : decode cX0_isFelt 71 = .ok (.iload_n 2, 1) := dk_28 (dk_at dksX0_isFelt_3 0 rfl rfl)
theorem dX0_isFelt_72 : decode cX0_isFelt 72 = .ok (.if_icmp .lt 7, 3) := dk_161 0 7 (dk_at dksX0_isFelt_3 1 rfl rfl)
theorem dX0_isFelt_75 : decode cX0_isFelt 75 = .ok (.iconst 1, 1) := dk_4 (dk_at dksX0_isFelt_3 4 rfl rfl)
theorem dX0_isFelt_76 : decode cX0_isFelt 76 = .ok (.goto 4, 3) := dk_167 0 4 (dk_at dksX0_isFelt_3 5 rfl rfl)
theorem dX0_isFelt_79 : decode cX0_isFelt 79 = .ok (.iconst 0, 1) := dk_3 (dk_at dksX0_isFelt_3 8 rfl rfl)
theorem dX0_isFelt_80 : decode cX0_isFelt 80 = .ok (.ireturn, 1) := dk_172 (dk_at dksX0_isFelt_3 9 rfl rfl)
abbrev cX0_common : ByteArray := prog_1_method_49_code
def yX0_common : MethodName := ⟨RX0, "common", "(II)I"⟩
def dkwX0_common_0 : List UInt8 := [26, 61, 27, 62, 29, 153, 0, 16, 28, 29, 112, 54, 4, 29, 61, 21, 4, 62, 167, 255, 242, 28, 172]
abbrev dktX0_common_0 : List UInt8 := dkwX0_common_0 ++ []
theorem dksX0_common_0 : cX0_common.data.toList.drop 0 = dktX0_common_0 := by decide +kernel
theorem dX0_common_0 : decode cX0_common 0 = .ok (.iload_n 0, 1) := dk_26 (dk_at dksX0_common_0 0 rfl rfl)
theorem dX0_common_1 : decode cX0_common 1 = .ok (.istore_n 2, 1) := dk_61 (dk_at dksX0_common_0 1 rfl rfl)
theorem dX0_common_2 : decode cX0_common 2 = .ok (.iload_n 1, 1) := dk_27 (dk_at dksX0_common_0 2 rfl rfl)
theorem dX0_common_3 : decode cX0_common 3 = .ok (.istore_n 3, 1) := dk_62 (dk_at dksX0_common_0 3 rfl rfl)
theorem dX0_common_4 : decode cX0_common 4 = .ok (.iload_n 3, 1) := dk_29 (dk_at dksX0_common_0 4 rfl rfl)
theorem dX0_common_5 : decode cX0_common 5 = .ok (.ifCond .eq 16, 3) := dk_153 0 16 (dk_at dksX0_common_0 5 rfl rfl)
theorem dX0_common_8 : decode cX0_common 8 = .ok (.iload_n 2, 1) := dk_28 (dk_at dksX0_common_0 8 rfl rfl)
theorem dX0_common_9 : decode cX0_common 9 = .ok (.iload_n 3, 1) := dk_29 (dk_at dksX0_common_0 9 rfl rfl)
theorem dX0_common_10 : decode cX0_common 10 = .ok (.irem, 1) := dk_112 (dk_at dksX0_common_0 10 rfl rfl)
theorem dX0_common_11 : decode cX0_common 11 = .ok (.istore 4, 2) := dk_54 4 (dk_at dksX0_common_0 11 rfl rfl)
theorem dX0_common_13 : decode cX0_common 13 = .ok (.iload_n 3, 1) := dk_29 (dk_at dksX0_common_0 13 rfl rfl)
theorem dX0_common_14 : decode cX0_common 14 = .ok (.istore_n 2, 1) := dk_61 (dk_at dksX0_common_0 14 rfl rfl)
theorem dX0_common_15 : decode cX0_common 15 = .ok (.iload 4, 2) := dk_21 4 (dk_at dksX0_common_0 15 rfl rfl)
theorem dX0_common_17 : decode cX0_common 17 = .ok (.istore_n 3, 1) := dk_62 (dk_at dksX0_common_0 17 rfl rfl)
theorem dX0_common_18 : decode cX0_common 18 = .ok (.goto (-14), 3) := dk_167 255 242 (dk_at dksX0_common_0 18 rfl rfl)
theorem dX0_common_21 : decode cX0_common 21 = .ok (.iload_n 2, 1) := dk_28 (dk_at dksX0_common_0 21 rfl rfl)
theorem dX0_common_22 : decode cX0_common 22 = .ok (.ireturn, 1) := dk_172 (dk_at dksX0_common_0 22 rfl rfl)
abbrev cX0_image : ByteArray := prog_1_method_52_code
def yX0_image : MethodName := ⟨RX0, "image", "(I)I"⟩
def dkwX0_image_2 : List UInt8 := [83, 42, 180, 0, 57, 27, 50, 42, 180, 0, 46, 182, 0, 165, 4, 172]
abbrev dktX0_image_2 : List UInt8 := dkwX0_image_2 ++ []
def dkwX0_image_1 : List UInt8 := [18, 185, 172, 42, 180, 0, 57, 27, 50, 199, 0, 16, 42, 180, 0, 57, 27, 187, 0, 43, 89, 183, 0, 45]
abbrev dktX0_image_1 : List UInt8 := dkwX0_image_1 ++ dktX0_image_2
def dkwX0_image_0 : List UInt8 := [27, 133, 9, 10, 184, 0, 82, 154, 0, 6, 18, 92, 172, 42, 180, 0, 46, 180, 0, 181, 154, 0, 6]
abbrev dktX0_image_0 : List UInt8 := dkwX0_image_0 ++ dktX0_image_1
theorem dksX0_image_0 : cX0_image.data.toList.drop 0 = dktX0_image_0 := by decide +kernel
theorem dksX0_image_1 : cX0_image.data.toList.drop 23 = dktX0_image_1 := dk_seg dksX0_image_0 23 rfl rfl
theorem dksX0_image_2 : cX0_image.data.toList.drop 47 = dktX0_image_2 := dk_seg dksX0_image_1 24 rfl rfl
theorem dX0_image_0 : decode cX0_image 0 = .ok (.iload_n 1, 1) := dk_27 (dk_at dksX0_image_0 0 rfl rfl)
theorem dX0_image_1 : decode cX0_image 1 = .ok (.i2l, 1) := dk_133 (dk_at dksX0_image_0 1 rfl rfl)
theorem dX0_image_2 : decode cX0_image 2 = .ok (.lconst 0, 1) := dk_9 (dk_at dksX0_image_0 2 rfl rfl)
theorem dX0_image_3 : decode cX0_image 3 = .ok (.lconst 1, 1) := dk_10 (dk_at dksX0_image_0 3 rfl rfl)
theorem dX0_image_4 : decode cX0_image 4 = .ok (.invokestatic 82, 3) := dk_184 0 82 (dk_at dksX0_image_0 4 rfl rfl)
theorem dX0_image_7 : decode cX0_image 7 = .ok (.ifCond .ne 6, 3) := dk_154 0 6 (dk_at dksX0_image_0 7 rfl rfl)
theorem dX0_image_10 : decode cX0_image 10 = .ok (.ldc 92, 2) := dk_18 92 (dk_at dksX0_image_0 10 rfl rfl)
theorem dX0_image_12 : decode cX0_image 12 = .ok (.ireturn, 1) := dk_172 (dk_at dksX0_image_0 12 rfl rfl)
theorem dX0_image_13 : decode cX0_image 13 = .ok (.aload_n 0, 1) := dk_42 (dk_at dksX0_image_0 13 rfl rfl)
theorem dX0_image_14 : decode cX0_image 14 = .ok (.getfield 46, 3) := dk_180 0 46 (dk_at dksX0_image_0 14 rfl rfl)
theorem dX0_image_17 : decode cX0_image 17 = .ok (.getfield 181, 3) := dk_180 0 181 (dk_at dksX0_image_0 17 rfl rfl)
theorem dX0_image_20 : decode cX0_image 20 = .ok (.ifCond .ne 6, 3) := dk_154 0 6 (dk_at dksX0_image_0 20 rfl rfl)
theorem dX0_image_23 : decode cX0_image 23 = .ok (.ldc 185, 2) := dk_18 185 (dk_at dksX0_image_1 0 rfl rfl)
theorem dX0_image_25 : decode cX0_image 25 = .ok (.ireturn, 1) := dk_172 (dk_at dksX0_image_1 2 rfl rfl)
theorem dX0_image_26 : decode cX0_image 26 = .ok (.aload_n 0, 1) := dk_42 (dk_at dksX0_image_1 3 rfl rfl)
theorem dX0_image_27 : decode cX0_image 27 = .ok (.getfield 57, 3) := dk_180 0 57 (dk_at dksX0_image_1 4 rfl rfl)
theorem dX0_image_30 : decode cX0_image 30 = .ok (.iload_n 1, 1) := dk_27 (dk_at dksX0_image_1 7 rfl rfl)
theorem dX0_image_31 : decode cX0_image 31 = .ok (.aaload, 1) := dk_50 (dk_at dksX0_image_1 8 rfl rfl)
theorem dX0_image_32 : decode cX0_image 32 = .ok (.ifnonnull 16, 3) := dk_199 0 16 (dk_at dksX0_image_1 9 rfl rfl)
theorem dX0_image_35 : decode cX0_image 35 = .ok (.aload_n 0, 1) := dk_42 (dk_at dksX0_image_1 12 rfl rfl)
theorem dX0_image_36 : decode cX0_image 36 = .ok (.getfield 57, 3) := dk_180 0 57 (dk_at dksX0_image_1 13 rfl rfl)
theorem dX0_image_39 : decode cX0_image 39 = .ok (.iload_n 1, 1) := dk_27 (dk_at dksX0_image_1 16 rfl rfl)
theorem dX0_image_40 : decode cX0_image 40 = .ok (.new 43, 3) := dk_187 0 43 (dk_at dksX0_image_1 17 rfl rfl)
theorem dX0_image_43 : decode cX0_image 43 = .ok (.dup, 1) := dk_89 (dk_at dksX0_image_1 20 rfl rfl)
theorem dX0_image_44 : decode cX0_image 44 = .ok (.invokespecial 45, 3) := dk_183 0 45 (dk_at dksX0_image_1 21 rfl rfl)
theorem dX0_image_47 : decode cX0_image 47 = .ok (.aastore, 1) := dk_83 (dk_at dksX0_image_2 0 rfl rfl)
theorem dX0_image_48 : decode cX0_image 48 = .ok (.aload_n 0, 1) := dk_42 (dk_at dksX0_image_2 1 rfl rfl)
theorem dX0_image_49 : decode cX0_image 49 = .ok (.getfield 57, 3) := dk_180 0 57 (dk_at dksX0_image_2 2 rfl rfl)
theorem dX0_image_52 : decode cX0_image 52 = .ok (.iload_n 1, 1) := dk_27 (dk_at dksX0_image_2 5 rfl rfl)
theorem dX0_image_53 : decode cX0_image 53 = .ok (.aaload, 1) := dk_50 (dk_at dksX0_image_2 6 rfl rfl)
theorem dX0_image_54 : decode cX0_image 54 = .ok (.aload_n 0, 1) := dk_42 (dk_at dksX0_image_2 7 rfl rfl)
theorem dX0_image_55 : decode cX0_image 55 = .ok (.getfield 46, 3) := dk_180 0 46 (dk_at dksX0_image_2 8 rfl rfl)
theorem dX0_image_58 : decode cX0_image 58 = .ok (.invokevirtual 165, 3) := dk_182 0 165 (dk_at dksX0_image_2 11 rfl rfl)
theorem dX0_image_61 : decode cX0_image 61 = .ok (.iconst 1, 1) := dk_4 (dk_at dksX0_image_2 14 rfl rfl)
theorem dX0_image_62 : decode cX0_image 62 = .ok (.ireturn, 1) := dk_172 (dk_at dksX0_image_2 15 rfl rfl)
abbrev cX0_restore : ByteArray := prog_1_method_53_code
def yX0_restore : MethodName := ⟨RX0, "restore", "(I)I"⟩
def dkwX0_restore_1 : List UInt8 := [172, 42, 180, 0, 46, 42, 180, 0, 57, 27, 50, 182, 0, 165, 42, 3, 181, 0, 169, 4, 172]
abbrev dktX0_restore_1 : List UInt8 := dkwX0_restore_1 ++ []
def dkwX0_restore_0 : List UInt8 := [27, 133, 9, 10, 184, 0, 82, 154, 0, 6, 18, 92, 172, 42, 180, 0, 57, 27, 50, 199, 0, 6, 18, 185]
abbrev dktX0_restore_0 : List UInt8 := dkwX0_restore_0 ++ dktX0_restore_1
theorem dksX0_restore_0 : cX0_restore.data.toList.drop 0 = dktX0_restore_0 := by decide +kernel
theorem dksX0_restore_1 : cX0_restore.data.toList.drop 24 = dktX0_restore_1 := dk_seg dksX0_restore_0 24 rfl rfl
theorem dX0_restore_0 : decode cX0_restore 0 = .ok (.iload_n 1, 1) := dk_27 (dk_at dksX0_restore_0 0 rfl rfl)
theorem dX0_restore_1 : decode cX0_restore 1 = .ok (.i2l, 1) := dk_133 (dk_at dksX0_restore_0 1 rfl rfl)
theorem dX0_restore_2 : decode cX0_restore 2 = .ok (.lconst 0, 1) := dk_9 (dk_at dksX0_restore_0 2 rfl rfl)
theorem dX0_restore_3 : decode cX0_restore 3 = .ok (.lconst 1, 1) := dk_10 (dk_at dksX0_restore_0 3 rfl rfl)
theorem dX0_restore_4 : decode cX0_restore 4 = .ok (.invokestatic 82, 3) := dk_184 0 82 (dk_at dksX0_restore_0 4 rfl rfl)
theorem dX0_restore_7 : decode cX0_restore 7 = .ok (.ifCond .ne 6, 3) := dk_154 0 6 (dk_at dksX0_restore_0 7 rfl rfl)
theorem dX0_restore_10 : decode cX0_restore 10 = .ok (.ldc 92, 2) := dk_18 92 (dk_at dksX0_restore_0 10 rfl rfl)
theorem dX0_restore_12 : decode cX0_restore 12 = .ok (.ireturn, 1) := dk_172 (dk_at dksX0_restore_0 12 rfl rfl)
theorem dX0_restore_13 : decode cX0_restore 13 = .ok (.aload_n 0, 1) := dk_42 (dk_at dksX0_restore_0 13 rfl rfl)
theorem dX0_restore_14 : decode cX0_restore 14 = .ok (.getfield 57, 3) := dk_180 0 57 (dk_at dksX0_restore_0 14 rfl rfl)
theorem dX0_restore_17 : decode cX0_restore 17 = .ok (.iload_n 1, 1) := dk_27 (dk_at dksX0_restore_0 17 rfl rfl)
theorem dX0_restore_18 : decode cX0_restore 18 = .ok (.aaload, 1) := dk_50 (dk_at dksX0_restore_0 18 rfl rfl)
theorem dX0_restore_19 : decode cX0_restore 19 = .ok (.ifnonnull 6, 3) := dk_199 0 6 (dk_at dksX0_restore_0 19 rfl rfl)
theorem dX0_restore_22 : decode cX0_restore 22 = .ok (.ldc 185, 2) := dk_18 185 (dk_at dksX0_restore_0 22 rfl rfl)
theorem dX0_restore_24 : decode cX0_restore 24 = .ok (.ireturn, 1) := dk_172 (dk_at dksX0_restore_1 0 rfl rfl)
theorem dX0_restore_25 : decode cX0_restore 25 = .ok (.aload_n 0, 1) := dk_42 (dk_at dksX0_restore_1 1 rfl rfl)
theorem dX0_restore_26 : decode cX0_restore 26 = .ok (.getfield 46, 3) := dk_180 0 46 (dk_at dksX0_restore_1 2 rfl rfl)
theorem dX0_restore_29 : decode cX0_restore 29 = .ok (.aload_n 0, 1) := dk_42 (dk_at dksX0_restore_1 5 rfl rfl)
theorem dX0_restore_30 : decode cX0_restore 30 = .ok (.getfield 57, 3) := dk_180 0 57 (dk_at dksX0_restore_1 6 rfl rfl)
theorem dX0_restore_33 : decode cX0_restore 33 = .ok (.iload_n 1, 1) := dk_27 (dk_at dksX0_restore_1 9 rfl rfl)
theorem dX0_restore_34 : decode cX0_restore 34 = .ok (.aaload, 1) := dk_50 (dk_at dksX0_restore_1 10 rfl rfl)
theorem dX0_restore_35 : decode cX0_restore 35 = .ok (.invokevirtual 165, 3) := dk_182 0 165 (dk_at dksX0_restore_1 11 rfl rfl)
theorem dX0_restore_38 : decode cX0_restore 38 = .ok (.aload_n 0, 1) := dk_42 (dk_at dksX0_restore_1 14 rfl rfl)
theorem dX0_restore_39 : decode cX0_restore 39 = .ok (.iconst 0, 1) := dk_3 (dk_at dksX0_restore_1 15 rfl rfl)
theorem dX0_restore_40 : decode cX0_restore 40 = .ok (.putfield 169, 3) := dk_181 0 169 (dk_at dksX0_restore_1 16 rfl rfl)
theorem dX0_restore_43 : decode cX0_restore 43 = .ok (.iconst 1, 1) := dk_4 (dk_at dksX0_restore_1 19 rfl rfl)
theorem dX0_restore_44 : decode cX0_restore 44 = .ok (.ireturn, 1) := dk_172 (dk_at dksX0_restore_1 20 rfl rfl)
abbrev cX0_kind : ByteArray := prog_1_method_54_code
def yX0_kind : MethodName := ⟨RX0, "kind", "(I)I"⟩
def dkwX0_kind_2 : List UInt8 := [167, 0, 5, 18, 240, 172]
abbrev dktX0_kind_2 : List UInt8 := dkwX0_kind_2 ++ []
def dkwX0_kind_1 : List UInt8 := [180, 0, 46, 27, 182, 0, 194, 153, 0, 18, 42, 180, 0, 46, 180, 0, 200, 27, 50, 182, 0, 211]
abbrev dktX0_kind_1 : List UInt8 := dkwX0_kind_1 ++ dktX0_kind_2
def dkwX0_kind_0 : List UInt8 := [42, 180, 0, 46, 180, 0, 181, 154, 0, 6, 18, 185, 172, 27, 184, 0, 186, 154, 0, 6, 18, 92, 172, 42]
abbrev dktX0_kind_0 : List UInt8 := dkwX0_kind_0 ++ dktX0_kind_1
theorem dksX0_kind_0 : cX0_kind.data.toList.drop 0 = dktX0_kind_0 := by decide +kernel
theorem dksX0_kind_1 : cX0_kind.data.toList.drop 24 = dktX0_kind_1 := dk_seg dksX0_kind_0 24 rfl rfl
theorem dksX0_kind_2 : cX0_kind.data.toList.drop 46 = dktX0_kind_2 := dk_seg dksX0_kind_1 22 rfl rfl
theorem dX0_kind_0 : decode cX0_kind 0 = .ok (.aload_n 0, 1) := dk_42 (dk_at dksX0_kind_0 0 rfl rfl)
theorem dX0_kind_1 : decode cX0_kind 1 = .ok (.getfield 46, 3) := dk_180 0 46 (dk_at dksX0_kind_0 1 rfl rfl)
theorem dX0_kind_4 : decode cX0_kind 4 = .ok (.getfield 181, 3) := dk_180 0 181 (dk_at dksX0_kind_0 4 rfl rfl)
theorem dX0_kind_7 : decode cX0_kind 7 = .ok (.ifCond .ne 6, 3) := dk_154 0 6 (dk_at dksX0_kind_0 7 rfl rfl)
theorem dX0_kind_10 : decode cX0_kind 10 = .ok (.ldc 185, 2) := dk_18 185 (dk_at dksX0_kind_0 10 rfl rfl)
theorem dX0_kind_12 : decode cX0_kind 12 = .ok (.ireturn, 1) := dk_172 (dk_at dksX0_kind_0 12 rfl rfl)
theorem dX0_kind_13 : decode cX0_kind 13 = .ok (.iload_n 1, 1) := dk_27 (dk_at dksX0_kind_0 13 rfl rfl)
theorem dX0_kind_14 : decode cX0_kind 14 = .ok (.invokestatic 186, 3) := dk_184 0 186 (dk_at dksX0_kind_0 14 rfl rfl)
theorem dX0_kind_17 : decode cX0_kind 17 = .ok (.ifCond .ne 6, 3) := dk_154 0 6 (dk_at dksX0_kind_0 17 rfl rfl)
theorem dX0_kind_20 : decode cX0_kind 20 = .ok (.ldc 92, 2) := dk_18 92 (dk_at dksX0_kind_0 20 rfl rfl)
theorem dX0_kind_22 : decode cX0_kind 22 = .ok (.ireturn, 1) := dk_172 (dk_at dksX0_kind_0 22 rfl rfl)
theorem dX0_kind_23 : decode cX0_kind 23 = .ok (.aload_n 0, 1) := dk_42 (dk_at dksX0_kind_0 23 rfl rfl)
theorem dX0_kind_24 : decode cX0_kind 24 = .ok (.getfield 46, 3) := dk_180 0 46 (dk_at dksX0_kind_1 0 rfl rfl)
theorem dX0_kind_27 : decode cX0_kind 27 = .ok (.iload_n 1, 1) := dk_27 (dk_at dksX0_kind_1 3 rfl rfl)
theorem dX0_kind_28 : decode cX0_kind 28 = .ok (.invokevirtual 194, 3) := dk_182 0 194 (dk_at dksX0_kind_1 4 rfl rfl)
theorem dX0_kind_31 : decode cX0_kind 31 = .ok (.ifCond .eq 18, 3) := dk_153 0 18 (dk_at dksX0_kind_1 7 rfl rfl)
theorem dX0_kind_34 : decode cX0_kind 34 = .ok (.aload_n 0, 1) := dk_42 (dk_at dksX0_kind_1 10 rfl rfl)
theorem dX0_kind_35 : decode cX0_kind 35 = .ok (.getfield 46, 3) := dk_180 0 46 (dk_at dksX0_kind_1 11 rfl rfl)
theorem dX0_kind_38 : decode cX0_kind 38 = .ok (.getfield 200, 3) := dk_180 0 200 (dk_at dksX0_kind_1 14 rfl rfl)
theorem dX0_kind_41 : decode cX0_kind 41 = .ok (.iload_n 1, 1) := dk_27 (dk_at dksX0_kind_1 17 rfl rfl)
theorem dX0_kind_42 : decode cX0_kind 42 = .ok (.aaload, 1) := dk_50 (dk_at dksX0_kind_1 18 rfl rfl)
theorem dX0_kind_43 : decode cX0_kind 43 = .ok (.invokevirtual 211, 3) := dk_182 0 211 (dk_at dksX0_kind_1 19 rfl rfl)
theorem dX0_kind_46 : decode cX0_kind 46 = .ok (.goto 5, 3) := dk_167 0 5 (dk_at dksX0_kind_2 0 rfl rfl)
theorem dX0_kind_49 : decode cX0_kind 49 = .ok (.ldc 240, 2) := dk_18 240 (dk_at dksX0_kind_2 3 rfl rfl)
theorem dX0_kind_51 : decode cX0_kind 51 = .ok (.ireturn, 1) := dk_172 (dk_at dksX0_kind_2 5 rfl rfl)
abbrev cX0_as : ByteArray := prog_1_method_55_code
def yX0_as : MethodName := ⟨RX0, "as", "(II)I"⟩
def dkwX0_as_3 : List UInt8 := [78, 42, 6, 182, 0, 107, 172]
abbrev dktX0_as_3 : List UInt8 := dkwX0_as_3 ++ []
def dkwX0_as_2 : List UInt8 := [18, 185, 172, 42, 42, 180, 0, 46, 180, 0, 200, 27, 50, 28, 184, 1, 56, 182, 1, 60, 182, 0, 101, 172]
abbrev dktX0_as_2 : List UInt8 := dkwX0_as_2 ++ dktX0_as_3
def dkwX0_as_1 : List UInt8 := [20, 0, 177, 184, 0, 82, 154, 0, 6, 18, 92, 172, 42, 180, 0, 46, 27, 182, 0, 194, 154, 0, 6]
abbrev dktX0_as_1 : List UInt8 := dkwX0_as_1 ++ dktX0_as_2
def dkwX0_as_0 : List UInt8 := [42, 180, 0, 46, 180, 0, 181, 154, 0, 6, 18, 185, 172, 27, 184, 0, 186, 153, 0, 15, 28, 133, 9]
abbrev dktX0_as_0 : List UInt8 := dkwX0_as_0 ++ dktX0_as_1
theorem dksX0_as_0 : cX0_as.data.toList.drop 0 = dktX0_as_0 := by decide +kernel
theorem dksX0_as_1 : cX0_as.data.toList.drop 23 = dktX0_as_1 := dk_seg dksX0_as_0 23 rfl rfl
theorem dksX0_as_2 : cX0_as.data.toList.drop 46 = dktX0_as_2 := dk_seg dksX0_as_1 23 rfl rfl
theorem dksX0_as_3 : cX0_as.data.toList.drop 70 = dktX0_as_3 := dk_seg dksX0_as_2 24 rfl rfl
theorem dX0_as_0 : decode cX0_as 0 = .ok (.aload_n 0, 1) := dk_42 (dk_at dksX0_as_0 0 rfl rfl)
theorem dX0_as_1 : decode cX0_as 1 = .ok (.getfield 46, 3) := dk_180 0 46 (dk_at dksX0_as_0 1 rfl rfl)
theorem dX0_as_4 : decode cX0_as 4 = .ok (.getfield 181, 3) := dk_180 0 181 (dk_at dksX0_as_0 4 rfl rfl)
theorem dX0_as_7 : decode cX0_as 7 = .ok (.ifCond .ne 6, 3) := dk_154 0 6 (dk_at dksX0_as_0 7 rfl rfl)
theorem dX0_as_10 : decode cX0_as 10 = .ok (.ldc 185, 2) := dk_18 185 (dk_at dksX0_as_0 10 rfl rfl)
theorem dX0_as_12 : decode cX0_as 12 = .ok (.ireturn, 1) := dk_172 (dk_at dksX0_as_0 12 rfl rfl)
theorem dX0_as_13 : decode cX0_as 13 = .ok (.iload_n 1, 1) := dk_27 (dk_at dksX0_as_0 13 rfl rfl)
theorem dX0_as_14 : decode cX0_as 14 = .ok (.invokestatic 186, 3) := dk_184 0 186 (dk_at dksX0_as_0 14 rfl rfl)
theorem dX0_as_17 : decode cX0_as 17 = .ok (.ifCond .eq 15, 3) := dk_153 0 15 (dk_at dksX0_as_0 17 rfl rfl)
theorem dX0_as_20 : decode cX0_as 20 = .ok (.iload_n 2, 1) := dk_28 (dk_at dksX0_as_0 20 rfl rfl)
theorem dX0_as_21 : decode cX0_as 21 = .ok (.i2l, 1) := dk_133 (dk_at dksX0_as_0 21 rfl rfl)
theorem dX0_as_22 : decode cX0_as 22 = .ok (.lconst 0, 1) := dk_9 (dk_at dksX0_as_0 22 rfl rfl)
theorem dX0_as_23 : decode cX0_as 23 = .ok (.ldc2_w 177, 3) := dk_20 0 177 (dk_at dksX0_as_1 0 rfl rfl)
theorem dX0_as_26 : decode cX0_as 26 = .ok (.invokestatic 82, 3) := dk_184 0 82 (dk_at dksX0_as_1 3 rfl rfl)
theorem dX0_as_29 : decode cX0_as 29 = .ok (.ifCond .ne 6, 3) := dk_154 0 6 (dk_at dksX0_as_1 6 rfl rfl)
theorem dX0_as_32 : decode cX0_as 32 = .ok (.ldc 92, 2) := dk_18 92 (dk_at dksX0_as_1 9 rfl rfl)
theorem dX0_as_34 : decode cX0_as 34 = .ok (.ireturn, 1) := dk_172 (dk_at dksX0_as_1 11 rfl rfl)
theorem dX0_as_35 : decode cX0_as 35 = .ok (.aload_n 0, 1) := dk_42 (dk_at dksX0_as_1 12 rfl rfl)
theorem dX0_as_36 : decode cX0_as 36 = .ok (.getfield 46, 3) := dk_180 0 46 (dk_at dksX0_as_1 13 rfl rfl)
theorem dX0_as_39 : decode cX0_as 39 = .ok (.iload_n 1, 1) := dk_27 (dk_at dksX0_as_1 16 rfl rfl)
theorem dX0_as_40 : decode cX0_as 40 = .ok (.invokevirtual 194, 3) := dk_182 0 194 (dk_at dksX0_as_1 17 rfl rfl)
theorem dX0_as_43 : decode cX0_as 43 = .ok (.ifCond .ne 6, 3) := dk_154 0 6 (dk_at dksX0_as_1 20 rfl rfl)
theorem dX0_as_46 : decode cX0_as 46 = .ok (.ldc 185, 2) := dk_18 185 (dk_at dksX0_as_2 0 rfl rfl)
theorem dX0_as_48 : decode cX0_as 48 = .ok (.ireturn, 1) := dk_172 (dk_at dksX0_as_2 2 rfl rfl)
theorem dX0_as_49 : decode cX0_as 49 = .ok (.aload_n 0, 1) := dk_42 (dk_at dksX0_as_2 3 rfl rfl)
theorem dX0_as_50 : decode cX0_as 50 = .ok (.aload_n 0, 1) := dk_42 (dk_at dksX0_as_2 4 rfl rfl)
theorem dX0_as_51 : decode cX0_as 51 = .ok (.getfield 46, 3) := dk_180 0 46 (dk_at dksX0_as_2 5 rfl rfl)
theorem dX0_as_54 : decode cX0_as 54 = .ok (.getfield 200, 3) := dk_180 0 200 (dk_at dksX0_as_2 8 rfl rfl)
theorem dX0_as_57 : decode cX0_as 57 = .ok (.iload_n 1, 1) := dk_27 (dk_at dksX0_as_2 11 rfl rfl)
theorem dX0_as_58 : decode cX0_as 58 = .ok (.aaload, 1) := dk_50 (dk_at dksX0_as_2 12 rfl rfl)
theorem dX0_as_59 : decode cX0_as 59 = .ok (.iload_n 2, 1) := dk_28 (dk_at dksX0_as_2 13 rfl rfl)
theorem dX0_as_60 : decode cX0_as 60 = .ok (.invokestatic 312, 3) := dk_184 1 56 (dk_at dksX0_as_2 14 rfl rfl)
theorem dX0_as_63 : decode cX0_as 63 = .ok (.invokevirtual 316, 3) := dk_182 1 60 (dk_at dksX0_as_2 17 rfl rfl)
theorem dX0_as_66 : decode cX0_as 66 = .ok (.invokevirtual 101, 3) := dk_182 0 101 (dk_at dksX0_as_2 20 rfl rfl)
theorem dX0_as_69 : decode cX0_as 69 = .ok (.ireturn, 1) := dk_172 (dk_at dksX0_as_2 23 rfl rfl)
theorem dX0_as_70 : decode cX0_as 70 = .ok (.astore_n 3, 1) := dk_78 (dk_at dksX0_as_3 0 rfl rfl)
theorem dX0_as_71 : decode cX0_as 71 = .ok (.aload_n 0, 1) := dk_42 (dk_at dksX0_as_3 1 rfl rfl)
theorem dX0_as_72 : decode cX0_as 72 = .ok (.iconst 3, 1) := dk_6 (dk_at dksX0_as_3 2 rfl rfl)
theorem dX0_as_73 : decode cX0_as 73 = .ok (.invokevirtual 107, 3) := dk_182 0 107 (dk_at dksX0_as_3 3 rfl rfl)
theorem dX0_as_76 : decode cX0_as 76 = .ok (.ireturn, 1) := dk_172 (dk_at dksX0_as_3 6 rfl rfl)
abbrev cX0_taken : ByteArray := prog_1_method_4_code
def yX0_taken : MethodName := ⟨RX0, "taken", "(Ljava/lang/Object;I)LWindCarver$Work;"⟩
def dkwX0_taken_3 : List UInt8 := [176, 42, 192, 0, 16, 176]
abbrev dktX0_taken_3 : List UInt8 := dkwX0_taken_3 ++ []
def dkwX0_taken_2 : List UInt8 := [42, 192, 0, 19, 176, 42, 192, 0, 1, 176, 42, 192, 0, 7, 176, 42, 192, 0, 10, 176, 42, 192, 0, 13]
abbrev dktX0_taken_2 : List UInt8 := dkwX0_taken_2 ++ dktX0_taken_3
def dkwX0_taken_1 : List UInt8 := [170, 0, 0, 0, 0, 0, 60, 0, 0, 0, 0, 0, 0, 0, 4, 0, 0, 0, 35, 0, 0, 0, 40, 0, 0, 0, 45, 0, 0, 0, 50, 0, 0, 0, 55]
abbrev dktX0_taken_1 : List UInt8 := dkwX0_taken_1 ++ dktX0_taken_2
def dkwX0_taken_0 : List UInt8 := [27]
abbrev dktX0_taken_0 : List UInt8 := dkwX0_taken_0 ++ dktX0_taken_1
theorem dksX0_taken_0 : cX0_taken.data.toList.drop 0 = dktX0_taken_0 := by decide +kernel
theorem dksX0_taken_1 : cX0_taken.data.toList.drop 1 = dktX0_taken_1 := dk_seg dksX0_taken_0 1 rfl rfl
theorem dksX0_taken_2 : cX0_taken.data.toList.drop 36 = dktX0_taken_2 := dk_seg dksX0_taken_1 35 rfl rfl
theorem dksX0_taken_3 : cX0_taken.data.toList.drop 60 = dktX0_taken_3 := dk_seg dksX0_taken_2 24 rfl rfl
theorem dX0_taken_0 : decode cX0_taken 0 = .ok (.iload_n 1, 1) := dk_27 (dk_at dksX0_taken_0 0 rfl rfl)
theorem dX0_taken_1 : decode cX0_taken 1 = .ok (.tableswitch 60 0 4 #[35, 40, 45, 50, 55], 35) := by decide +kernel
theorem dX0_taken_36 : decode cX0_taken 36 = .ok (.aload_n 0, 1) := dk_42 (dk_at dksX0_taken_2 0 rfl rfl)
theorem dX0_taken_37 : decode cX0_taken 37 = .ok (.checkcast 19, 3) := dk_192 0 19 (dk_at dksX0_taken_2 1 rfl rfl)
theorem dX0_taken_40 : decode cX0_taken 40 = .ok (.areturn, 1) := dk_176 (dk_at dksX0_taken_2 4 rfl rfl)
theorem dX0_taken_41 : decode cX0_taken 41 = .ok (.aload_n 0, 1) := dk_42 (dk_at dksX0_taken_2 5 rfl rfl)
theorem dX0_taken_42 : decode cX0_taken 42 = .ok (.checkcast 1, 3) := dk_192 0 1 (dk_at dksX0_taken_2 6 rfl rfl)
theorem dX0_taken_45 : decode cX0_taken 45 = .ok (.areturn, 1) := dk_176 (dk_at dksX0_taken_2 9 rfl rfl)
theorem dX0_taken_46 : decode cX0_taken 46 = .ok (.aload_n 0, 1) := dk_42 (dk_at dksX0_taken_2 10 rfl rfl)
theorem dX0_taken_47 : decode cX0_taken 47 = .ok (.checkcast 7, 3) := dk_192 0 7 (dk_at dksX0_taken_2 11 rfl rfl)
theorem dX0_taken_50 : decode cX0_taken 50 = .ok (.areturn, 1) := dk_176 (dk_at dksX0_taken_2 14 rfl rfl)
theorem dX0_taken_51 : decode cX0_taken 51 = .ok (.aload_n 0, 1) := dk_42 (dk_at dksX0_taken_2 15 rfl rfl)
theorem dX0_taken_52 : decode cX0_taken 52 = .ok (.checkcast 10, 3) := dk_192 0 10 (dk_at dksX0_taken_2 16 rfl rfl)
theorem dX0_taken_55 : decode cX0_taken 55 = .ok (.areturn, 1) := dk_176 (dk_at dksX0_taken_2 19 rfl rfl)
theorem dX0_taken_56 : decode cX0_taken 56 = .ok (.aload_n 0, 1) := dk_42 (dk_at dksX0_taken_2 20 rfl rfl)
theorem dX0_taken_57 : decode cX0_taken 57 = .ok (.checkcast 13, 3) := dk_192 0 13 (dk_at dksX0_taken_2 21 rfl rfl)
theorem dX0_taken_60 : decode cX0_taken 60 = .ok (.areturn, 1) := dk_176 (dk_at dksX0_taken_3 0 rfl rfl)
theorem dX0_taken_61 : decode cX0_taken 61 = .ok (.aload_n 0, 1) := dk_42 (dk_at dksX0_taken_3 1 rfl rfl)
theorem dX0_taken_62 : decode cX0_taken 62 = .ok (.checkcast 16, 3) := dk_192 0 16 (dk_at dksX0_taken_3 2 rfl rfl)
theorem dX0_taken_65 : decode cX0_taken 65 = .ok (.areturn, 1) := dk_176 (dk_at dksX0_taken_3 5 rfl rfl)
abbrev cX0_ask : ByteArray := prog_1_method_56_code
def yX0_ask : MethodName := ⟨RX0, "ask", "(II)I"⟩
def dkwX0_ask_4 : List UInt8 := [180, 0, 63, 25, 4, 182, 1, 74, 172]
abbrev dktX0_ask_4 : List UInt8 := dkwX0_ask_4 ++ []
def dkwX0_ask_3 : List UInt8 := [183, 1, 67, 58, 4, 28, 154, 0, 16, 45, 42, 180, 0, 63, 25, 4, 182, 1, 70, 167, 0, 13, 45, 42]
abbrev dktX0_ask_3 : List UInt8 := dkwX0_ask_3 ++ dktX0_ask_4
def dkwX0_ask_2 : List UInt8 := [89, 183, 0, 62, 181, 0, 63, 42, 180, 0, 46, 180, 0, 200, 27, 50, 78, 187, 1, 65, 89, 42, 27]
abbrev dktX0_ask_2 : List UInt8 := dkwX0_ask_2 ++ dktX0_ask_3
def dkwX0_ask_1 : List UInt8 := [154, 0, 6, 18, 92, 172, 42, 180, 0, 46, 27, 182, 0, 194, 154, 0, 6, 18, 185, 172, 42, 187, 0, 60]
abbrev dktX0_ask_1 : List UInt8 := dkwX0_ask_1 ++ dktX0_ask_2
def dkwX0_ask_0 : List UInt8 := [42, 180, 0, 46, 180, 0, 181, 154, 0, 6, 18, 185, 172, 27, 184, 0, 186, 153, 0, 10, 28, 184, 0, 244]
abbrev dktX0_ask_0 : List UInt8 := dkwX0_ask_0 ++ dktX0_ask_1
theorem dksX0_ask_0 : cX0_ask.data.toList.drop 0 = dktX0_ask_0 := by decide +kernel
theorem dksX0_ask_1 : cX0_ask.data.toList.drop 24 = dktX0_ask_1 := dk_seg dksX0_ask_0 24 rfl rfl
theorem dksX0_ask_2 : cX0_ask.data.toList.drop 48 = dktX0_ask_2 := dk_seg dksX0_ask_1 24 rfl rfl
theorem dksX0_ask_3 : cX0_ask.data.toList.drop 71 = dktX0_ask_3 := dk_seg dksX0_ask_2 23 rfl rfl
theorem dksX0_ask_4 : cX0_ask.data.toList.drop 95 = dktX0_ask_4 := dk_seg dksX0_ask_3 24 rfl rfl
theorem dX0_ask_0 : decode cX0_ask 0 = .ok (.aload_n 0, 1) := dk_42 (dk_at dksX0_ask_0 0 rfl rfl)
theorem dX0_ask_1 : decode cX0_ask 1 = .ok (.getfield 46, 3) := dk_180 0 46 (dk_at dksX0_ask_0 1 rfl rfl)
theorem dX0_ask_4 : decode cX0_ask 4 = .ok (.getfield 181, 3) := dk_180 0 181 (dk_at dksX0_ask_0 4 rfl rfl)
theorem dX0_ask_7 : decode cX0_ask 7 = .ok (.ifCond .ne 6, 3) := dk_154 0 6 (dk_at dksX0_ask_0 7 rfl rfl)
theorem dX0_ask_10 : decode cX0_ask 10 = .ok (.ldc 185, 2) := dk_18 185 (dk_at dksX0_ask_0 10 rfl rfl)
theorem dX0_ask_12 : decode cX0_ask 12 = .ok (.ireturn, 1) := dk_172 (dk_at dksX0_ask_0 12 rfl rfl)
theorem dX0_ask_13 : decode cX0_ask 13 = .ok (.iload_n 1, 1) := dk_27 (dk_at dksX0_ask_0 13 rfl rfl)
theorem dX0_ask_14 : decode cX0_ask 14 = .ok (.invokestatic 186, 3) := dk_184 0 186 (dk_at dksX0_ask_0 14 rfl rfl)
theorem dX0_ask_17 : decode cX0_ask 17 = .ok (.ifCond .eq 10, 3) := dk_153 0 10 (dk_at dksX0_ask_0 17 rfl rfl)
theorem dX0_ask_20 : decode cX0_ask 20 = .ok (.iload_n 2, 1) := dk_28 (dk_at dksX0_ask_0 20 rfl rfl)
theorem dX0_ask_21 : decode cX0_ask 21 = .ok (.invokestatic 244, 3) := dk_184 0 244 (dk_at dksX0_ask_0 21 rfl rfl)
theorem dX0_ask_24 : decode cX0_ask 24 = .ok (.ifCond .ne 6, 3) := dk_154 0 6 (dk_at dksX0_ask_1 0 rfl rfl)
theorem dX0_ask_27 : decode cX0_ask 27 = .ok (.ldc 92, 2) := dk_18 92 (dk_at dksX0_ask_1 3 rfl rfl)
theorem dX0_ask_29 : decode cX0_ask 29 = .ok (.ireturn, 1) := dk_172 (dk_at dksX0_ask_1 5 rfl rfl)
theorem dX0_ask_30 : decode cX0_ask 30 = .ok (.aload_n 0, 1) := dk_42 (dk_at dksX0_ask_1 6 rfl rfl)
theorem dX0_ask_31 : decode cX0_ask 31 = .ok (.getfield 46, 3) := dk_180 0 46 (dk_at dksX0_ask_1 7 rfl rfl)
theorem dX0_ask_34 : decode cX0_ask 34 = .ok (.iload_n 1, 1) := dk_27 (dk_at dksX0_ask_1 10 rfl rfl)
theorem dX0_ask_35 : decode cX0_ask 35 = .ok (.invokevirtual 194, 3) := dk_182 0 194 (dk_at dksX0_ask_1 11 rfl rfl)
theorem dX0_ask_38 : decode cX0_ask 38 = .ok (.ifCond .ne 6, 3) := dk_154 0 6 (dk_at dksX0_ask_1 14 rfl rfl)
theorem dX0_ask_41 : decode cX0_ask 41 = .ok (.ldc 185, 2) := dk_18 185 (dk_at dksX0_ask_1 17 rfl rfl)
theorem dX0_ask_43 : decode cX0_ask 43 = .ok (.ireturn, 1) := dk_172 (dk_at dksX0_ask_1 19 rfl rfl)
theorem dX0_ask_44 : decode cX0_ask 44 = .ok (.aload_n 0, 1) := dk_42 (dk_at dksX0_ask_1 20 rfl rfl)
theorem dX0_ask_45 : decode cX0_ask 45 = .ok (.new 60, 3) := dk_187 0 60 (dk_at dksX0_ask_1 21 rfl rfl)
theorem dX0_ask_48 : decode cX0_ask 48 = .ok (.dup, 1) := dk_89 (dk_at dksX0_ask_2 0 rfl rfl)
theorem dX0_ask_49 : decode cX0_ask 49 = .ok (.invokespecial 62, 3) := dk_183 0 62 (dk_at dksX0_ask_2 1 rfl rfl)
theorem dX0_ask_52 : decode cX0_ask 52 = .ok (.putfield 63, 3) := dk_181 0 63 (dk_at dksX0_ask_2 4 rfl rfl)
theorem dX0_ask_55 : decode cX0_ask 55 = .ok (.aload_n 0, 1) := dk_42 (dk_at dksX0_ask_2 7 rfl rfl)
theorem dX0_ask_56 : decode cX0_ask 56 = .ok (.getfield 46, 3) := dk_180 0 46 (dk_at dksX0_ask_2 8 rfl rfl)
theorem dX0_ask_59 : decode cX0_ask 59 = .ok (.getfield 200, 3) := dk_180 0 200 (dk_at dksX0_ask_2 11 rfl rfl)
theorem dX0_ask_62 : decode cX0_ask 62 = .ok (.iload_n 1, 1) := dk_27 (dk_at dksX0_ask_2 14 rfl rfl)
theorem dX0_ask_63 : decode cX0_ask 63 = .ok (.aaload, 1) := dk_50 (dk_at dksX0_ask_2 15 rfl rfl)
theorem dX0_ask_64 : decode cX0_ask 64 = .ok (.astore_n 3, 1) := dk_78 (dk_at dksX0_ask_2 16 rfl rfl)
theorem dX0_ask_65 : decode cX0_ask 65 = .ok (.new 321, 3) := dk_187 1 65 (dk_at dksX0_ask_2 17 rfl rfl)
theorem dX0_ask_68 : decode cX0_ask 68 = .ok (.dup, 1) := dk_89 (dk_at dksX0_ask_2 20 rfl rfl)
theorem dX0_ask_69 : decode cX0_ask 69 = .ok (.aload_n 0, 1) := dk_42 (dk_at dksX0_ask_2 21 rfl rfl)
theorem dX0_ask_70 : decode cX0_ask 70 = .ok (.iload_n 1, 1) := dk_27 (dk_at dksX0_ask_2 22 rfl rfl)
theorem dX0_ask_71 : decode cX0_ask 71 = .ok (.invokespecial 323, 3) := dk_183 1 67 (dk_at dksX0_ask_3 0 rfl rfl)
theorem dX0_ask_74 : decode cX0_ask 74 = .ok (.astore 4, 2) := dk_58 4 (dk_at dksX0_ask_3 3 rfl rfl)
theorem dX0_ask_76 : decode cX0_ask 76 = .ok (.iload_n 2, 1) := dk_28 (dk_at dksX0_ask_3 5 rfl rfl)
theorem dX0_ask_77 : decode cX0_ask 77 = .ok (.ifCond .ne 16, 3) := dk_154 0 16 (dk_at dksX0_ask_3 6 rfl rfl)
theorem dX0_ask_80 : decode cX0_ask 80 = .ok (.aload_n 3, 1) := dk_45 (dk_at dksX0_ask_3 9 rfl rfl)
theorem dX0_ask_81 : decode cX0_ask 81 = .ok (.aload_n 0, 1) := dk_42 (dk_at dksX0_ask_3 10 rfl rfl)
theorem dX0_ask_82 : decode cX0_ask 82 = .ok (.getfield 63, 3) := dk_180 0 63 (dk_at dksX0_ask_3 11 rfl rfl)
theorem dX0_ask_85 : decode cX0_ask 85 = .ok (.aload 4, 2) := dk_25 4 (dk_at dksX0_ask_3 14 rfl rfl)
theorem dX0_ask_87 : decode cX0_ask 87 = .ok (.invokevirtual 326, 3) := dk_182 1 70 (dk_at dksX0_ask_3 16 rfl rfl)
theorem dX0_ask_90 : decode cX0_ask 90 = .ok (.goto 13, 3) := dk_167 0 13 (dk_at dksX0_ask_3 19 rfl rfl)
theorem dX0_ask_93 : decode cX0_ask 93 = .ok (.aload_n 3, 1) := dk_45 (dk_at dksX0_ask_3 22 rfl rfl)
theorem dX0_ask_94 : decode cX0_ask 94 = .ok (.aload_n 0, 1) := dk_42 (dk_at dksX0_ask_3 23 rfl rfl)
theorem dX0_ask_95 : decode cX0_ask 95 = .ok (.getfield 63, 3) := dk_180 0 63 (dk_at dksX0_ask_4 0 rfl rfl)
theorem dX0_ask_98 : decode cX0_ask 98 = .ok (.aload 4, 2) := dk_25 4 (dk_at dksX0_ask_4 3 rfl rfl)
theorem dX0_ask_100 : decode cX0_ask 100 = .ok (.invokevirtual 330, 3) := dk_182 1 74 (dk_at dksX0_ask_4 5 rfl rfl)
theorem dX0_ask_103 : decode cX0_ask 103 = .ok (.ireturn, 1) := dk_172 (dk_at dksX0_ask_4 8 rfl rfl)
abbrev cX0_trace : ByteArray := prog_1_method_57_code
def yX0_trace : MethodName := ⟨RX0, "trace", "(I)I"⟩
def dkwX0_trace_1 : List UInt8 := [180, 1, 79, 27, 46, 167, 0, 5, 18, 240, 172]
abbrev dktX0_trace_1 : List UInt8 := dkwX0_trace_1 ++ []
def dkwX0_trace_0 : List UInt8 := [27, 133, 9, 42, 180, 0, 63, 180, 1, 77, 4, 100, 133, 184, 0, 82, 153, 0, 15, 42, 180, 0, 63]
abbrev dktX0_trace_0 : List UInt8 := dkwX0_trace_0 ++ dktX0_trace_1
theorem dksX0_trace_0 : cX0_trace.data.toList.drop 0 = dktX0_trace_0 := by decide +kernel
theorem dksX0_trace_1 : cX0_trace.data.toList.drop 23 = dktX0_trace_1 := dk_seg dksX0_trace_0 23 rfl rfl
theorem dX0_trace_0 : decode cX0_trace 0 = .ok (.iload_n 1, 1) := dk_27 (dk_at dksX0_trace_0 0 rfl rfl)
theorem dX0_trace_1 : decode cX0_trace 1 = .ok (.i2l, 1) := dk_133 (dk_at dksX0_trace_0 1 rfl rfl)
theorem dX0_trace_2 : decode cX0_trace 2 = .ok (.lconst 0, 1) := dk_9 (dk_at dksX0_trace_0 2 rfl rfl)
theorem dX0_trace_3 : decode cX0_trace 3 = .ok (.aload_n 0, 1) := dk_42 (dk_at dksX0_trace_0 3 rfl rfl)
theorem dX0_trace_4 : decode cX0_trace 4 = .ok (.getfield 63, 3) := dk_180 0 63 (dk_at dksX0_trace_0 4 rfl rfl)
theorem dX0_trace_7 : decode cX0_trace 7 = .ok (.getfield 333, 3) := dk_180 1 77 (dk_at dksX0_trace_0 7 rfl rfl)
theorem dX0_trace_10 : decode cX0_trace 10 = .ok (.iconst 1, 1) := dk_4 (dk_at dksX0_trace_0 10 rfl rfl)
theorem dX0_trace_11 : decode cX0_trace 11 = .ok (.isub, 1) := dk_100 (dk_at dksX0_trace_0 11 rfl rfl)
theorem dX0_trace_12 : decode cX0_trace 12 = .ok (.i2l, 1) := dk_133 (dk_at dksX0_trace_0 12 rfl rfl)
theorem dX0_trace_13 : decode cX0_trace 13 = .ok (.invokestatic 82, 3) := dk_184 0 82 (dk_at dksX0_trace_0 13 rfl rfl)
theorem dX0_trace_16 : decode cX0_trace 16 = .ok (.ifCond .eq 15, 3) := dk_153 0 15 (dk_at dksX0_trace_0 16 rfl rfl)
theorem dX0_trace_19 : decode cX0_trace 19 = .ok (.aload_n 0, 1) := dk_42 (dk_at dksX0_trace_0 19 rfl rfl)
theorem dX0_trace_20 : decode cX0_trace 20 = .ok (.getfield 63, 3) := dk_180 0 63 (dk_at dksX0_trace_0 20 rfl rfl)
theorem dX0_trace_23 : decode cX0_trace 23 = .ok (.getfield 335, 3) := dk_180 1 79 (dk_at dksX0_trace_1 0 rfl rfl)
theorem dX0_trace_26 : decode cX0_trace 26 = .ok (.iload_n 1, 1) := dk_27 (dk_at dksX0_trace_1 3 rfl rfl)
theorem dX0_trace_27 : decode cX0_trace 27 = .ok (.iaload, 1) := dk_46 (dk_at dksX0_trace_1 4 rfl rfl)
theorem dX0_trace_28 : decode cX0_trace 28 = .ok (.goto 5, 3) := dk_167 0 5 (dk_at dksX0_trace_1 5 rfl rfl)
theorem dX0_trace_31 : decode cX0_trace 31 = .ok (.ldc 240, 2) := dk_18 240 (dk_at dksX0_trace_1 8 rfl rfl)
theorem dX0_trace_33 : decode cX0_trace 33 = .ok (.ireturn, 1) := dk_172 (dk_at dksX0_trace_1 10 rfl rfl)
abbrev cX0_count : ByteArray := prog_1_method_59_code
def yX0_count : MethodName := ⟨RX0, "count", "(I)I"⟩
def dkwX0_count_5 : List UInt8 := [172, 42, 180, 0, 138, 172, 18, 92, 172]
abbrev dktX0_count_5 : List UInt8 := dkwX0_count_5 ++ []
def dkwX0_count_4 : List UInt8 := [180, 0, 46, 180, 0, 227, 172, 42, 182, 0, 233, 180, 1, 7, 172, 42, 182, 1, 82, 172, 42, 180, 0, 169]
abbrev dktX0_count_4 : List UInt8 := dkwX0_count_4 ++ dktX0_count_5
def dkwX0_count_3 : List UInt8 := [167, 0, 4, 4, 96, 61, 132, 3, 1, 167, 255, 227, 28, 172, 42, 180, 0, 46, 182, 0, 172, 172, 42]
abbrev dktX0_count_3 : List UInt8 := dkwX0_count_3 ++ dktX0_count_4
def dkwX0_count_2 : List UInt8 := [3, 62, 29, 16, 8, 162, 0, 29, 28, 42, 180, 0, 35, 29, 50, 180, 0, 97, 199, 0, 7, 3]
abbrev dktX0_count_2 : List UInt8 := dkwX0_count_2 ++ dktX0_count_3
def dkwX0_count_1 : List UInt8 := [170, 0, 0, 0, 116, 0, 0, 0, 0, 0, 0, 0, 6, 0, 0, 0, 41, 0, 0, 0, 77, 0, 0, 0, 85, 0, 0, 0, 93, 0, 0, 0, 101, 0, 0, 0, 106, 0, 0, 0, 111]
abbrev dktX0_count_1 : List UInt8 := dkwX0_count_1 ++ dktX0_count_2
def dkwX0_count_0 : List UInt8 := [3, 61, 27]
abbrev dktX0_count_0 : List UInt8 := dkwX0_count_0 ++ dktX0_count_1
theorem dksX0_count_0 : cX0_count.data.toList.drop 0 = dktX0_count_0 := by decide +kernel
theorem dksX0_count_1 : cX0_count.data.toList.drop 3 = dktX0_count_1 := dk_seg dksX0_count_0 3 rfl rfl
theorem dksX0_count_2 : cX0_count.data.toList.drop 44 = dktX0_count_2 := dk_seg dksX0_count_1 41 rfl rfl
theorem dksX0_count_3 : cX0_count.data.toList.drop 66 = dktX0_count_3 := dk_seg dksX0_count_2 22 rfl rfl
theorem dksX0_count_4 : cX0_count.data.toList.drop 89 = dktX0_count_4 := dk_seg dksX0_count_3 23 rfl rfl
theorem dksX0_count_5 : cX0_count.data.toList.drop 113 = dktX0_count_5 := dk_seg dksX0_count_4 24 rfl rfl
theorem dX0_count_0 : decode cX0_count 0 = .ok (.iconst 0, 1) := dk_3 (dk_at dksX0_count_0 0 rfl rfl)
theorem dX0_count_1 : decode cX0_count 1 = .ok (.istore_n 2, 1) := dk_61 (dk_at dksX0_count_0 1 rfl rfl)
theorem dX0_count_2 : decode cX0_count 2 = .ok (.iload_n 1, 1) := dk_27 (dk_at dksX0_count_0 2 rfl rfl)
theorem dX0_count_3 : decode cX0_count 3 = .ok (.tableswitch 116 0 6 #[41, 77, 85, 93, 101, 106, 111], 41) := by decide +kernel
theorem dX0_count_44 : decode cX0_count 44 = .ok (.iconst 0, 1) := dk_3 (dk_at dksX0_count_2 0 rfl rfl)
theorem dX0_count_45 : decode cX0_count 45 = .ok (.istore_n 3, 1) := dk_62 (dk_at dksX0_count_2 1 rfl rfl)
theorem dX0_count_46 : decode cX0_count 46 = .ok (.iload_n 3, 1) := dk_29 (dk_at dksX0_count_2 2 rfl rfl)
theorem dX0_count_47 : decode cX0_count 47 = .ok (.bipush 8, 2) := dk_16 8 (dk_at dksX0_count_2 3 rfl rfl)
theorem dX0_count_49 : decode cX0_count 49 = .ok (.if_icmp .ge 29, 3) := dk_162 0 29 (dk_at dksX0_count_2 5 rfl rfl)
theorem dX0_count_52 : decode cX0_count 52 = .ok (.iload_n 2, 1) := dk_28 (dk_at dksX0_count_2 8 rfl rfl)
theorem dX0_count_53 : decode cX0_count 53 = .ok (.aload_n 0, 1) := dk_42 (dk_at dksX0_count_2 9 rfl rfl)
theorem dX0_count_54 : decode cX0_count 54 = .ok (.getfield 35, 3) := dk_180 0 35 (dk_at dksX0_count_2 10 rfl rfl)
theorem dX0_count_57 : decode cX0_count 57 = .ok (.iload_n 3, 1) := dk_29 (dk_at dksX0_count_2 13 rfl rfl)
theorem dX0_count_58 : decode cX0_count 58 = .ok (.aaload, 1) := dk_50 (dk_at dksX0_count_2 14 rfl rfl)
theorem dX0_count_59 : decode cX0_count 59 = .ok (.getfield 97, 3) := dk_180 0 97 (dk_at dksX0_count_2 15 rfl rfl)
theorem dX0_count_62 : decode cX0_count 62 = .ok (.ifnonnull 7, 3) := dk_199 0 7 (dk_at dksX0_count_2 18 rfl rfl)
theorem dX0_count_65 : decode cX0_count 65 = .ok (.iconst 0, 1) := dk_3 (dk_at dksX0_count_2 21 rfl rfl)
theorem dX0_count_66 : decode cX0_count 66 = .ok (.goto 4, 3) := dk_167 0 4 (dk_at dksX0_count_3 0 rfl rfl)
theorem dX0_count_69 : decode cX0_count 69 = .ok (.iconst 1, 1) := dk_4 (dk_at dksX0_count_3 3 rfl rfl)
theorem dX0_count_70 : decode cX0_count 70 = .ok (.iadd, 1) := dk_96 (dk_at dksX0_count_3 4 rfl rfl)
theorem dX0_count_71 : decode cX0_count 71 = .ok (.istore_n 2, 1) := dk_61 (dk_at dksX0_count_3 5 rfl rfl)
theorem dX0_count_72 : decode cX0_count 72 = .ok (.iinc 3 1, 3) := dk_132 3 1 (dk_at dksX0_count_3 6 rfl rfl)
theorem dX0_count_75 : decode cX0_count 75 = .ok (.goto (-29), 3) := dk_167 255 227 (dk_at dksX0_count_3 9 rfl rfl)
theorem dX0_count_78 : decode cX0_count 78 = .ok (.iload_n 2, 1) := dk_28 (dk_at dksX0_count_3 12 rfl rfl)
theorem dX0_count_79 : decode cX0_count 79 = .ok (.ireturn, 1) := dk_172 (dk_at dksX0_count_3 13 rfl rfl)
theorem dX0_count_80 : decode cX0_count 80 = .ok (.aload_n 0, 1) := dk_42 (dk_at dksX0_count_3 14 rfl rfl)
theorem dX0_count_81 : decode cX0_count 81 = .ok (.getfield 46, 3) := dk_180 0 46 (dk_at dksX0_count_3 15 rfl rfl)
theorem dX0_count_84 : decode cX0_count 84 = .ok (.invokevirtual 172, 3) := dk_182 0 172 (dk_at dksX0_count_3 18 rfl rfl)
theorem dX0_count_87 : decode cX0_count 87 = .ok (.ireturn, 1) := dk_172 (dk_at dksX0_count_3 21 rfl rfl)
theorem dX0_count_88 : decode cX0_count 88 = .ok (.aload_n 0, 1) := dk_42 (dk_at dksX0_count_3 22 rfl rfl)
theorem dX0_count_89 : decode cX0_count 89 = .ok (.getfield 46, 3) := dk_180 0 46 (dk_at dksX0_count_4 0 rfl rfl)
theorem dX0_count_92 : decode cX0_count 92 = .ok (.getfield 227, 3) := dk_180 0 227 (dk_at dksX0_count_4 3 rfl rfl)
theorem dX0_count_95 : decode cX0_count 95 = .ok (.ireturn, 1) := dk_172 (dk_at dksX0_count_4 6 rfl rfl)
theorem dX0_count_96 : decode cX0_count 96 = .ok (.aload_n 0, 1) := dk_42 (dk_at dksX0_count_4 7 rfl rfl)
theorem dX0_count_97 : decode cX0_count 97 = .ok (.invokevirtual 233, 3) := dk_182 0 233 (dk_at dksX0_count_4 8 rfl rfl)
theorem dX0_count_100 : decode cX0_count 100 = .ok (.getfield 263, 3) := dk_180 1 7 (dk_at dksX0_count_4 11 rfl rfl)
theorem dX0_count_103 : decode cX0_count 103 = .ok (.ireturn, 1) := dk_172 (dk_at dksX0_count_4 14 rfl rfl)
theorem dX0_count_104 : decode cX0_count 104 = .ok (.aload_n 0, 1) := dk_42 (dk_at dksX0_count_4 15 rfl rfl)
theorem dX0_count_105 : decode cX0_count 105 = .ok (.invokevirtual 338, 3) := dk_182 1 82 (dk_at dksX0_count_4 16 rfl rfl)
theorem dX0_count_108 : decode cX0_count 108 = .ok (.ireturn, 1) := dk_172 (dk_at dksX0_count_4 19 rfl rfl)
theorem dX0_count_109 : decode cX0_count 109 = .ok (.aload_n 0, 1) := dk_42 (dk_at dksX0_count_4 20 rfl rfl)
theorem dX0_count_110 : decode cX0_count 110 = .ok (.getfield 169, 3) := dk_180 0 169 (dk_at dksX0_count_4 21 rfl rfl)
theorem dX0_count_113 : decode cX0_count 113 = .ok (.ireturn, 1) := dk_172 (dk_at dksX0_count_5 0 rfl rfl)
theorem dX0_count_114 : decode cX0_count 114 = .ok (.aload_n 0, 1) := dk_42 (dk_at dksX0_count_5 1 rfl rfl)
theorem dX0_count_115 : decode cX0_count 115 = .ok (.getfield 138, 3) := dk_180 0 138 (dk_at dksX0_count_5 2 rfl rfl)
theorem dX0_count_118 : decode cX0_count 118 = .ok (.ireturn, 1) := dk_172 (dk_at dksX0_count_5 5 rfl rfl)
theorem dX0_count_119 : decode cX0_count 119 = .ok (.ldc 92, 2) := dk_18 92 (dk_at dksX0_count_5 6 rfl rfl)
theorem dX0_count_121 : decode cX0_count 121 = .ok (.ireturn, 1) := dk_172 (dk_at dksX0_count_5 8 rfl rfl)
abbrev cX0_leavesNow : ByteArray := prog_1_method_58_code
def yX0_leavesNow : MethodName := ⟨RX0, "leavesNow", "()I"⟩
def dkwX0_leavesNow_1 : List UInt8 := [132, 3, 1, 167, 255, 239, 28, 172]
abbrev dktX0_leavesNow_1 : List UInt8 := dkwX0_leavesNow_1 ++ []
def dkwX0_leavesNow_0 : List UInt8 := [42, 182, 0, 233, 76, 3, 61, 3, 62, 29, 7, 162, 0, 18, 28, 43, 180, 1, 10, 29, 46, 96, 61]
abbrev dktX0_leavesNow_0 : List UInt8 := dkwX0_leavesNow_0 ++ dktX0_leavesNow_1
theorem dksX0_leavesNow_0 : cX0_leavesNow.data.toList.drop 0 = dktX0_leavesNow_0 := by decide +kernel
theorem dksX0_leavesNow_1 : cX0_leavesNow.data.toList.drop 23 = dktX0_leavesNow_1 := dk_seg dksX0_leavesNow_0 23 rfl rfl
theorem dX0_leavesNow_0 : decode cX0_leavesNow 0 = .ok (.aload_n 0, 1) := dk_42 (dk_at dksX0_leavesNow_0 0 rfl rfl)
theorem dX0_leavesNow_1 : decode cX0_leavesNow 1 = .ok (.invokevirtual 233, 3) := dk_182 0 233 (dk_at dksX0_leavesNow_0 1 rfl rfl)
theorem dX0_leavesNow_4 : decode cX0_leavesNow 4 = .ok (.astore_n 1, 1) := dk_76 (dk_at dksX0_leavesNow_0 4 rfl rfl)
theorem dX0_leavesNow_5 : decode cX0_leavesNow 5 = .ok (.iconst 0, 1) := dk_3 (dk_at dksX0_leavesNow_0 5 rfl rfl)
theorem dX0_leavesNow_6 : decode cX0_leavesNow 6 = .ok (.istore_n 2, 1) := dk_61 (dk_at dksX0_leavesNow_0 6 rfl rfl)
theorem dX0_leavesNow_7 : decode cX0_leavesNow 7 = .ok (.iconst 0, 1) := dk_3 (dk_at dksX0_leavesNow_0 7 rfl rfl)
theorem dX0_leavesNow_8 : decode cX0_leavesNow 8 = .ok (.istore_n 3, 1) := dk_62 (dk_at dksX0_leavesNow_0 8 rfl rfl)
theorem dX0_leavesNow_9 : decode cX0_leavesNow 9 = .ok (.iload_n 3, 1) := dk_29 (dk_at dksX0_leavesNow_0 9 rfl rfl)
theorem dX0_leavesNow_10 : decode cX0_leavesNow 10 = .ok (.iconst 4, 1) := dk_7 (dk_at dksX0_leavesNow_0 10 rfl rfl)
theorem dX0_leavesNow_11 : decode cX0_leavesNow 11 = .ok (.if_icmp .ge 18, 3) := dk_162 0 18 (dk_at dksX0_leavesNow_0 11 rfl rfl)
theorem dX0_leavesNow_14 : decode cX0_leavesNow 14 = .ok (.iload_n 2, 1) := dk_28 (dk_at dksX0_leavesNow_0 14 rfl rfl)
theorem dX0_leavesNow_15 : decode cX0_leavesNow 15 = .ok (.aload_n 1, 1) := dk_43 (dk_at dksX0_leavesNow_0 15 rfl rfl)
theorem dX0_leavesNow_16 : decode cX0_leavesNow 16 = .ok (.getfield 266, 3) := dk_180 1 10 (dk_at dksX0_leavesNow_0 16 rfl rfl)
theorem dX0_leavesNow_19 : decode cX0_leavesNow 19 = .ok (.iload_n 3, 1) := dk_29 (dk_at dksX0_leavesNow_0 19 rfl rfl)
theorem dX0_leavesNow_20 : decode cX0_leavesNow 20 = .ok (.iaload, 1) := dk_46 (dk_at dksX0_leavesNow_0 20 rfl rfl)
theorem dX0_leavesNow_21 : decode cX0_leavesNow 21 = .ok (.iadd, 1) := dk_96 (dk_at dksX0_leavesNow_0 21 rfl rfl)
theorem dX0_leavesNow_22 : decode cX0_leavesNow 22 = .ok (.istore_n 2, 1) := dk_61 (dk_at dksX0_leavesNow_0 22 rfl rfl)
theorem dX0_leavesNow_23 : decode cX0_leavesNow 23 = .ok (.iinc 3 1, 3) := dk_132 3 1 (dk_at dksX0_leavesNow_1 0 rfl rfl)
theorem dX0_leavesNow_26 : decode cX0_leavesNow 26 = .ok (.goto (-17), 3) := dk_167 255 239 (dk_at dksX0_leavesNow_1 3 rfl rfl)
theorem dX0_leavesNow_29 : decode cX0_leavesNow 29 = .ok (.iload_n 2, 1) := dk_28 (dk_at dksX0_leavesNow_1 6 rfl rfl)
theorem dX0_leavesNow_30 : decode cX0_leavesNow 30 = .ok (.ireturn, 1) := dk_172 (dk_at dksX0_leavesNow_1 7 rfl rfl)
abbrev cX0_status : ByteArray := prog_1_method_60_code
def yX0_status : MethodName := ⟨RX0, "status", "()I"⟩
theorem dX0_status_0 : decode cX0_status 0 = .ok (.aload_n 0, 1) := by decide +kernel
theorem dX0_status_1 : decode cX0_status 1 = .ok (.getfield 75, 3) := by decide +kernel
theorem dX0_status_4 : decode cX0_status 4 = .ok (.ireturn, 1) := by decide +kernel
theorem q60 : (Jvm.Cond.initialized "WindCarver") ∈ lw_all := lw_g (lw_at lw_m1 1 rfl) rfl
theorem q92 : (Jvm.Cond.instantiable "WindCarver" (12 : Nat)) ∈ lw_all := lw_g (lw_at lw_m1 33 rfl) rfl
theorem q94 : (Jvm.Cond.instanceMethod ({ cls := "WindCarver", name := "<init>", desc := "()V" } : Jvm.MethodName)) ∈ lw_all := lw_g (lw_at lw_m1 35 rfl) rfl
theorem q95 : (Jvm.Cond.code ({ cls := "WindCarver", name := "<init>", desc := "()V" } : Jvm.MethodName) prog_1_method_6_code (1 : Nat) (Option.none : Option Jvm.ClassFile.FieldType)) ∈ lw_all := lw_g (lw_at lw_m1 36 rfl) rfl
theorem q96 : (Jvm.Cond.methodLink "WindCarver" (28 : Nat) ({ cls := "java/lang/Object", name := "<init>", desc := "()V" } : Jvm.MethodName)) ∈ lw_all := lw_g (lw_at lw_m1 37 rfl) rfl
theorem q99 : (Jvm.Cond.methodLink "WindCarver" (31 : Nat) ({ cls := "WindCarver", name := "shelves", desc := "()[LWindCarver$Shelf;" } : Jvm.MethodName)) ∈ lw_all := lw_g (lw_at lw_m1 40 rfl) rfl
theorem q100 : (Jvm.Cond.static ({ cls := "WindCarver", name := "shelves", desc := "()[LWindCarver$Shelf;" } : Jvm.MethodName)) ∈ lw_all := lw_g (lw_at lw_m1 41 rfl) rfl
theorem q101 : (Jvm.Cond.code ({ cls := "WindCarver", name := "shelves", desc := "()[LWindCarver$Shelf;" } : Jvm.MethodName) prog_1_method_5_code (2 : Nat) (Option.some (Jvm.ClassFile.FieldType.array (Jvm.ClassFile.FieldType.object "WindCarver$Shelf")))) ∈ lw_all := lw_g (lw_at lw_m1 42 rfl) rfl
theorem q102 : (Jvm.Cond.classLink "WindCarver" (23 : Nat) "WindCarver$Shelf") ∈ lw_all := lw_g (lw_at lw_m1 43 rfl) rfl
theorem q105 : (Jvm.Cond.methodLinkNest "WindCarver" (25 : Nat) ({ cls := "WindCarver$Shelf", name := "<init>", desc := "()V" } : Jvm.MethodName) "WindCarver") ∈ lw_tbl := lw_at lw_m1 46 rfl
theorem q110 : (Jvm.Cond.fieldLinkNest "WindCarver" (97 : Nat) "WindCarver$Shelf" "held" "Ljava/lang/Object;" "WindCarver") ∈ lw_tbl := lw_at lw_m1 51 rfl
theorem q114 : (Jvm.Cond.classLink "WindCarver" (43 : Nat) "WindCarver$Pass") ∈ lw_all := lw_g (lw_at lw_m1 55 rfl) rfl
theorem q116 : (Jvm.Cond.methodLinkNest "WindCarver" (45 : Nat) ({ cls := "WindCarver$Pass", name := "<init>", desc := "()V" } : Jvm.MethodName) "WindCarver") ∈ lw_tbl := lw_at lw_m1 57 rfl
theorem q124 : (Jvm.Cond.fieldLink "WindCarver" (181 : Nat) "WindCarver$Pass" "isTold" "Z") ∈ lw_all := lw_g (lw_at lw_m1 65 rfl) rfl
theorem q126 : (Jvm.Cond.fieldLink "WindCarver" (227 : Nat) "WindCarver$Pass" "hour" "I") ∈ lw_all := lw_g (lw_at lw_m1 67 rfl) rfl
theorem q129 : (Jvm.Cond.fieldLink "WindCarver" (221 : Nat) "WindCarver$Pass" "gusts" "[I") ∈ lw_all := lw_g (lw_at lw_m1 70 rfl) rfl
theorem q132 : (Jvm.Cond.fieldLink "WindCarver" (247 : Nat) "WindCarver$Pass" "rises" "[I") ∈ lw_all := lw_g (lw_at lw_m1 73 rfl) rfl
theorem q135 : (Jvm.Cond.fieldLink "WindCarver" (200 : Nat) "WindCarver$Pass" "works" "[LWindCarver$Work;") ∈ lw_all := lw_g (lw_at lw_m1 76 rfl) rfl
theorem q137 : (Jvm.Cond.fieldLink "WindCarver" (213 : Nat) "WindCarver$Pass" "open" "I") ∈ lw_all := lw_g (lw_at lw_m1 78 rfl) rfl
theorem q140 : (Jvm.Cond.fieldLink "WindCarver" (237 : Nat) "WindCarver$Pass" "felt" "[I") ∈ lw_all := lw_g (lw_at lw_m1 81 rfl) rfl
theorem q142 : (Jvm.Cond.fieldLink "WindCarver" (266 : Nat) "WindCarver$Pass" "leaves" "[I") ∈ lw_all := lw_g (lw_at lw_m1 83 rfl) rfl
theorem q144 : (Jvm.Cond.fieldLink "WindCarver" (263 : Nat) "WindCarver$Pass" "lost" "I") ∈ lw_all := lw_g (lw_at lw_m1 85 rfl) rfl
theorem q167 : (Jvm.Cond.classLink "WindCarver" (60 : Nat) "WindCarver$Trail") ∈ lw_all := lw_g (lw_at lw_m1 108 rfl) rfl
theorem q169 : (Jvm.Cond.methodLinkNest "WindCarver" (62 : Nat) ({ cls := "WindCarver$Trail", name := "<init>", desc := "()V" } : Jvm.MethodName) "WindCarver") ∈ lw_tbl := lw_at lw_m1 110 rfl
theorem q174 : (Jvm.Cond.fieldLinkNest "WindCarver" (335 : Nat) "WindCarver$Trail" "body" "[I" "WindCarver") ∈ lw_tbl := lw_at lw_m1 115 rfl
theorem q176 : (Jvm.Cond.fieldLinkNest "WindCarver" (333 : Nat) "WindCarver$Trail" "many" "I" "WindCarver") ∈ lw_tbl := lw_at lw_m1 117 rfl
theorem q182 : (Jvm.Cond.methodLink "WindCarver" (67 : Nat) ({ cls := "WindCarver", name := "walls", desc := "()[LWindCarver$Work;" } : Jvm.MethodName)) ∈ lw_all := lw_g (lw_at lw_m1 123 rfl) rfl
theorem q183 : (Jvm.Cond.static ({ cls := "WindCarver", name := "walls", desc := "()[LWindCarver$Work;" } : Jvm.MethodName)) ∈ lw_all := lw_g (lw_at lw_m1 124 rfl) rfl
theorem q184 : (Jvm.Cond.code ({ cls := "WindCarver", name := "walls", desc := "()[LWindCarver$Work;" } : Jvm.MethodName) prog_1_method_42_code (2 : Nat) (Option.some (Jvm.ClassFile.FieldType.array (Jvm.ClassFile.FieldType.object "WindCarver$Work")))) ∈ lw_all := lw_g (lw_at lw_m1 125 rfl) rfl
theorem q185 : (Jvm.Cond.classLink "WindCarver" (19 : Nat) "WindCarver$Work") ∈ lw_all := lw_g (lw_at lw_m1 126 rfl) rfl
theorem q186 : (Jvm.Cond.classLink "WindCarver" (1 : Nat) "WindCarver$Wall") ∈ lw_all := lw_g (lw_at lw_m1 127 rfl) rfl
theorem q188 : (Jvm.Cond.methodLink "WindCarver" (3 : Nat) ({ cls := "WindCarver$Wall", name := "<init>", desc := "(II)V" } : Jvm.MethodName)) ∈ lw_all := lw_g (lw_at lw_m1 129 rfl) rfl
theorem q202 : (Jvm.Cond.fieldLink "WindCarver" (35 : Nat) "WindCarver" "rows" "[LWindCarver$Shelf;") ∈ lw_all := lw_g (lw_at lw_m1 143 rfl) rfl
theorem q203 : (Jvm.Cond.fieldLink "WindCarver" (39 : Nat) "WindCarver" "tape" "[B") ∈ lw_all := lw_g (lw_at lw_m1 144 rfl) rfl
theorem q204 : (Jvm.Cond.fieldLink "WindCarver" (138 : Nat) "WindCarver" "taped" "I") ∈ lw_all := lw_g (lw_at lw_m1 145 rfl) rfl
theorem q205 : (Jvm.Cond.fieldLink "WindCarver" (155 : Nat) "WindCarver" "faultKind" "I") ∈ lw_all := lw_g (lw_at lw_m1 146 rfl) rfl
theorem q206 : (Jvm.Cond.fieldLink "WindCarver" (46 : Nat) "WindCarver" "pass" "LWindCarver$Pass;") ∈ lw_all := lw_g (lw_at lw_m1 147 rfl) rfl
theorem q207 : (Jvm.Cond.fieldLink "WindCarver" (50 : Nat) "WindCarver" "then" "LWindCarver$Pass;") ∈ lw_all := lw_g (lw_at lw_m1 148 rfl) rfl
theorem q208 : (Jvm.Cond.fieldLink "WindCarver" (53 : Nat) "WindCarver" "past" "[LWindCarver$Pass;") ∈ lw_all := lw_g (lw_at lw_m1 149 rfl) rfl
theorem q209 : (Jvm.Cond.fieldLink "WindCarver" (169 : Nat) "WindCarver" "acts" "I") ∈ lw_all := lw_g (lw_at lw_m1 150 rfl) rfl
theorem q210 : (Jvm.Cond.fieldLink "WindCarver" (57 : Nat) "WindCarver" "images" "[LWindCarver$Pass;") ∈ lw_all := lw_g (lw_at lw_m1 151 rfl) rfl
theorem q211 : (Jvm.Cond.fieldLink "WindCarver" (63 : Nat) "WindCarver" "trail" "LWindCarver$Trail;") ∈ lw_all := lw_g (lw_at lw_m1 152 rfl) rfl
theorem q212 : (Jvm.Cond.fieldLink "WindCarver" (75 : Nat) "WindCarver" "status" "I") ∈ lw_all := lw_g (lw_at lw_m1 153 rfl) rfl
theorem q213 : (Jvm.Cond.fieldLink "WindCarver" (71 : Nat) "WindCarver" "tried" "[LWindCarver$Work;") ∈ lw_all := lw_g (lw_at lw_m1 154 rfl) rfl
theorem q214 : (Jvm.Cond.laysFinal "WindCarver" "WindCarver" "rows" "[LWindCarver$Shelf;") ∈ lw_all := lw_g (lw_at lw_m1 155 rfl) rfl
theorem q215 : (Jvm.Cond.soleField "WindCarver" "rows") ∈ lw_all := lw_g (lw_at lw_m1 156 rfl) rfl
theorem q216 : (Jvm.Cond.laysFinal "WindCarver" "WindCarver" "tape" "[B") ∈ lw_all := lw_g (lw_at lw_m1 157 rfl) rfl
theorem q217 : (Jvm.Cond.soleField "WindCarver" "tape") ∈ lw_all := lw_g (lw_at lw_m1 158 rfl) rfl
theorem q218 : (Jvm.Cond.lays "WindCarver" "WindCarver" "taped" "I") ∈ lw_all := lw_g (lw_at lw_m1 159 rfl) rfl
theorem q219 : (Jvm.Cond.soleField "WindCarver" "taped") ∈ lw_all := lw_g (lw_at lw_m1 160 rfl) rfl
theorem q220 : (Jvm.Cond.lays "WindCarver" "WindCarver" "faultKind" "I") ∈ lw_all := lw_g (lw_at lw_m1 161 rfl) rfl
theorem q221 : (Jvm.Cond.soleField "WindCarver" "faultKind") ∈ lw_all := lw_g (lw_at lw_m1 162 rfl) rfl
theorem q222 : (Jvm.Cond.laysFinal "WindCarver" "WindCarver" "pass" "LWindCarver$Pass;") ∈ lw_all := lw_g (lw_at lw_m1 163 rfl) rfl
theorem q223 : (Jvm.Cond.soleField "WindCarver" "pass") ∈ lw_all := lw_g (lw_at lw_m1 164 rfl) rfl
theorem q224 : (Jvm.Cond.laysFinal "WindCarver" "WindCarver" "then" "LWindCarver$Pass;") ∈ lw_all := lw_g (lw_at lw_m1 165 rfl) rfl
theorem q225 : (Jvm.Cond.soleField "WindCarver" "then") ∈ lw_all := lw_g (lw_at lw_m1 166 rfl) rfl
theorem q226 : (Jvm.Cond.laysFinal "WindCarver" "WindCarver" "past" "[LWindCarver$Pass;") ∈ lw_all := lw_g (lw_at lw_m1 167 rfl) rfl
theorem q227 : (Jvm.Cond.soleField "WindCarver" "past") ∈ lw_all := lw_g (lw_at lw_m1 168 rfl) rfl
theorem q228 : (Jvm.Cond.lays "WindCarver" "WindCarver" "acts" "I") ∈ lw_all := lw_g (lw_at lw_m1 169 rfl) rfl
theorem q229 : (Jvm.Cond.soleField "WindCarver" "acts") ∈ lw_all := lw_g (lw_at lw_m1 170 rfl) rfl
theorem q230 : (Jvm.Cond.laysFinal "WindCarver" "WindCarver" "images" "[LWindCarver$Pass;") ∈ lw_all := lw_g (lw_at lw_m1 171 rfl) rfl
theorem q231 : (Jvm.Cond.soleField "WindCarver" "images") ∈ lw_all := lw_g (lw_at lw_m1 172 rfl) rfl
theorem q232 : (Jvm.Cond.lays "WindCarver" "WindCarver" "trail" "LWindCarver$Trail;") ∈ lw_all := lw_g (lw_at lw_m1 173 rfl) rfl
theorem q233 : (Jvm.Cond.soleField "WindCarver" "trail") ∈ lw_all := lw_g (lw_at lw_m1 174 rfl) rfl
theorem q234 : (Jvm.Cond.lays "WindCarver" "WindCarver" "status" "I") ∈ lw_all := lw_g (lw_at lw_m1 175 rfl) rfl
theorem q235 : (Jvm.Cond.soleField "WindCarver" "status") ∈ lw_all := lw_g (lw_at lw_m1 176 rfl) rfl
theorem q236 : (Jvm.Cond.laysFinal "WindCarver" "WindCarver" "tried" "[LWindCarver$Work;") ∈ lw_all := lw_g (lw_at lw_m1 177 rfl) rfl
theorem q237 : (Jvm.Cond.soleField "WindCarver" "tried") ∈ lw_all := lw_g (lw_at lw_m1 178 rfl) rfl
theorem q238 : (Jvm.Cond.superclass "WindCarver" "java/lang/Object") ∈ lw_all := lw_g (lw_at lw_m1 179 rfl) rfl
theorem q240 : (Jvm.Cond.instanceMethod ({ cls := "WindCarver", name := "row", desc := "(III)I" } : Jvm.MethodName)) ∈ lw_all := lw_g (lw_at lw_m1 181 rfl) rfl
theorem q241 : (Jvm.Cond.selects "WindCarver" ({ cls := "WindCarver", name := "row", desc := "(III)I" } : Jvm.MethodName) ({ cls := "WindCarver", name := "row", desc := "(III)I" } : Jvm.MethodName)) ∈ lw_all := lw_g (lw_at lw_m1 182 rfl) rfl
theorem q242 : (Jvm.Cond.codeWith ({ cls := "WindCarver", name := "row", desc := "(III)I" } : Jvm.MethodName) prog_1_method_11_code (5 : Nat) (Option.some Jvm.ClassFile.FieldType.int) [((28 : Nat), (47 : Nat), (48 : Nat), (105 : Nat))]) ∈ lw_all := lw_g (lw_at lw_m1 183 rfl) rfl
theorem q243 : (Jvm.Cond.classLink "WindCarver" (105 : Nat) "java/lang/NegativeArraySizeException") ∈ lw_all := lw_g (lw_at lw_m1 184 rfl) rfl
theorem q329 : (Jvm.Cond.methodLink "WindCarver" (86 : Nat) ({ cls := "WindCarver", name := "isRow", desc := "(I)Z" } : Jvm.MethodName)) ∈ lw_all := lw_g (lw_at lw_m2 30 rfl) rfl
theorem q330 : (Jvm.Cond.static ({ cls := "WindCarver", name := "isRow", desc := "(I)Z" } : Jvm.MethodName)) ∈ lw_all := lw_g (lw_at lw_m2 31 rfl) rfl
theorem q331 : (Jvm.Cond.code ({ cls := "WindCarver", name := "isRow", desc := "(I)Z" } : Jvm.MethodName) prog_1_method_9_code (1 : Nat) (Option.some Jvm.ClassFile.FieldType.boolean)) ∈ lw_all := lw_g (lw_at lw_m2 32 rfl) rfl
theorem q332 : (Jvm.Cond.constantLong "WindCarver" (80 : Nat) (7 : Int64)) ∈ lw_all := lw_g (lw_at lw_m2 33 rfl) rfl
theorem q333 : (Jvm.Cond.methodLink "WindCarver" (82 : Nat) ({ cls := "WindCarver", name := "isIn", desc := "(JJJ)Z" } : Jvm.MethodName)) ∈ lw_all := lw_g (lw_at lw_m2 34 rfl) rfl
theorem q334 : (Jvm.Cond.static ({ cls := "WindCarver", name := "isIn", desc := "(JJJ)Z" } : Jvm.MethodName)) ∈ lw_all := lw_g (lw_at lw_m2 35 rfl) rfl
theorem q335 : (Jvm.Cond.code ({ cls := "WindCarver", name := "isIn", desc := "(JJJ)Z" } : Jvm.MethodName) prog_1_method_1_code (6 : Nat) (Option.some Jvm.ClassFile.FieldType.boolean)) ∈ lw_all := lw_g (lw_at lw_m2 36 rfl) rfl
theorem q336 : (Jvm.Cond.constantLong "WindCarver" (90 : Nat) (2 : Int64)) ∈ lw_all := lw_g (lw_at lw_m2 37 rfl) rfl
theorem q337 : (Jvm.Cond.constant "WindCarver" (92 : Nat) (-1000001 : Int32)) ∈ lw_all := lw_g (lw_at lw_m2 38 rfl) rfl
theorem q338 : (Jvm.Cond.methodLink "WindCarver" (93 : Nat) ({ cls := "WindCarver", name := "newLane", desc := "(II)Ljava/lang/Object;" } : Jvm.MethodName)) ∈ lw_all := lw_g (lw_at lw_m2 39 rfl) rfl
theorem q339 : (Jvm.Cond.static ({ cls := "WindCarver", name := "newLane", desc := "(II)Ljava/lang/Object;" } : Jvm.MethodName)) ∈ lw_all := lw_g (lw_at lw_m2 40 rfl) rfl
theorem q340 : (Jvm.Cond.code ({ cls := "WindCarver", name := "newLane", desc := "(II)Ljava/lang/Object;" } : Jvm.MethodName) prog_1_method_10_code (2 : Nat) (Option.some (Jvm.ClassFile.FieldType.object "java/lang/Object"))) ∈ lw_all := lw_g (lw_at lw_m2 41 rfl) rfl
theorem q341 : (Jvm.Cond.methodLink "WindCarver" (101 : Nat) ({ cls := "WindCarver", name := "well", desc := "(I)I" } : Jvm.MethodName)) ∈ lw_all := lw_g (lw_at lw_m2 42 rfl) rfl
theorem q342 : (Jvm.Cond.privateMethod ({ cls := "WindCarver", name := "well", desc := "(I)I" } : Jvm.MethodName)) ∈ lw_tbl := lw_at lw_m2 43 rfl
theorem q343 : (Jvm.Cond.instanceMethod ({ cls := "WindCarver", name := "well", desc := "(I)I" } : Jvm.MethodName)) ∈ lw_all := lw_g (lw_at lw_m2 44 rfl) rfl
theorem q344 : (Jvm.Cond.code ({ cls := "WindCarver", name := "well", desc := "(I)I" } : Jvm.MethodName) prog_1_method_8_code (2 : Nat) (Option.some Jvm.ClassFile.FieldType.int)) ∈ lw_all := lw_g (lw_at lw_m2 45 rfl) rfl
theorem q345 : (Jvm.Cond.methodLink "WindCarver" (107 : Nat) ({ cls := "WindCarver", name := "found", desc := "(I)I" } : Jvm.MethodName)) ∈ lw_all := lw_g (lw_at lw_m2 46 rfl) rfl
theorem q346 : (Jvm.Cond.privateMethod ({ cls := "WindCarver", name := "found", desc := "(I)I" } : Jvm.MethodName)) ∈ lw_tbl := lw_at lw_m2 47 rfl
theorem q347 : (Jvm.Cond.instanceMethod ({ cls := "WindCarver", name := "found", desc := "(I)I" } : Jvm.MethodName)) ∈ lw_all := lw_g (lw_at lw_m2 48 rfl) rfl
theorem q348 : (Jvm.Cond.code ({ cls := "WindCarver", name := "found", desc := "(I)I" } : Jvm.MethodName) prog_1_method_7_code (2 : Nat) (Option.some Jvm.ClassFile.FieldType.int)) ∈ lw_all := lw_g (lw_at lw_m2 49 rfl) rfl
theorem q349 : (Jvm.Cond.constant "WindCarver" (79 : Nat) (-1000010 : Int32)) ∈ lw_all := lw_g (lw_at lw_m2 50 rfl) rfl
theorem q352 : (Jvm.Cond.instanceMethod ({ cls := "WindCarver", name := "set", desc := "(III)I" } : Jvm.MethodName)) ∈ lw_all := lw_g (lw_at lw_m2 53 rfl) rfl
theorem q353 : (Jvm.Cond.selects "WindCarver" ({ cls := "WindCarver", name := "set", desc := "(III)I" } : Jvm.MethodName) ({ cls := "WindCarver", name := "set", desc := "(III)I" } : Jvm.MethodName)) ∈ lw_all := lw_g (lw_at lw_m2 54 rfl) rfl
theorem q354 : (Jvm.Cond.codeWith ({ cls := "WindCarver", name := "set", desc := "(III)I" } : Jvm.MethodName) prog_1_method_12_code (5 : Nat) (Option.some Jvm.ClassFile.FieldType.int) [((10 : Nat), (25 : Nat), (26 : Nat), (114 : Nat)), ((10 : Nat), (25 : Nat), (34 : Nat), (116 : Nat))]) ∈ lw_all := lw_g (lw_at lw_m2 55 rfl) rfl
theorem q355 : (Jvm.Cond.classLink "WindCarver" (114 : Nat) "java/lang/NullPointerException") ∈ lw_all := lw_g (lw_at lw_m2 56 rfl) rfl
theorem q380 : (Jvm.Cond.classLink "WindCarver" (116 : Nat) "java/lang/ArrayIndexOutOfBoundsException") ∈ lw_all := lw_g (lw_at lw_m2 81 rfl) rfl
theorem q399 : (Jvm.Cond.methodLinkNest "WindCarver" (110 : Nat) ({ cls := "WindCarver$Shelf", name := "put", desc := "(II)I" } : Jvm.MethodName) "WindCarver") ∈ lw_tbl := lw_at lw_m2 100 rfl
theorem q411 : (Jvm.Cond.instanceMethod ({ cls := "WindCarver", name := "copy", desc := "(IIIII)I" } : Jvm.MethodName)) ∈ lw_all := lw_g (lw_at lw_m2 112 rfl) rfl
theorem q412 : (Jvm.Cond.selects "WindCarver" ({ cls := "WindCarver", name := "copy", desc := "(IIIII)I" } : Jvm.MethodName) ({ cls := "WindCarver", name := "copy", desc := "(IIIII)I" } : Jvm.MethodName)) ∈ lw_all := lw_g (lw_at lw_m2 113 rfl) rfl
theorem q413 : (Jvm.Cond.codeWith ({ cls := "WindCarver", name := "copy", desc := "(IIIII)I" } : Jvm.MethodName) prog_1_method_13_code (7 : Nat) (Option.some Jvm.ClassFile.FieldType.int) [((17 : Nat), (49 : Nat), (50 : Nat), (114 : Nat)), ((17 : Nat), (49 : Nat), (58 : Nat), (124 : Nat)), ((17 : Nat), (49 : Nat), (66 : Nat), (126 : Nat))]) ∈ lw_all := lw_g (lw_at lw_m2 114 rfl) rfl
theorem q414 : (Jvm.Cond.classLink "WindCarver" (124 : Nat) "java/lang/ArrayStoreException") ∈ lw_all := lw_g (lw_at lw_m2 115 rfl) rfl
theorem q428 : (Jvm.Cond.classLink "WindCarver" (126 : Nat) "java/lang/IndexOutOfBoundsException") ∈ lw_all := lw_g (lw_at lw_m2 129 rfl) rfl
theorem q429 : (Jvm.Cond.methodLink "WindCarver" (118 : Nat) ({ cls := "java/lang/System", name := "arraycopy", desc := "(Ljava/lang/Object;ILjava/lang/Object;II)V" } : Jvm.MethodName)) ∈ lw_all := lw_g (lw_at lw_m2 130 rfl) rfl
theorem q433 : (Jvm.Cond.instanceMethod ({ cls := "WindCarver", name := "drop", desc := "(I)I" } : Jvm.MethodName)) ∈ lw_all := lw_g (lw_at lw_m2 134 rfl) rfl
theorem q434 : (Jvm.Cond.selects "WindCarver" ({ cls := "WindCarver", name := "drop", desc := "(I)I" } : Jvm.MethodName) ({ cls := "WindCarver", name := "drop", desc := "(I)I" } : Jvm.MethodName)) ∈ lw_all := lw_g (lw_at lw_m2 135 rfl) rfl
theorem q435 : (Jvm.Cond.codeWith ({ cls := "WindCarver", name := "drop", desc := "(I)I" } : Jvm.MethodName) prog_1_method_14_code (5 : Nat) (Option.some Jvm.ClassFile.FieldType.int) [((10 : Nat), (24 : Nat), (36 : Nat), (114 : Nat)), ((10 : Nat), (24 : Nat), (55 : Nat), (0 : Nat)), ((36 : Nat), (43 : Nat), (55 : Nat), (0 : Nat)), ((55 : Nat), (57 : Nat), (55 : Nat), (0 : Nat))]) ∈ lw_all := lw_g (lw_at lw_m2 136 rfl) rfl
theorem q436 : (Jvm.Cond.methodLinkNest "WindCarver" (128 : Nat) ({ cls := "WindCarver$Shelf", name := "many", desc := "()I" } : Jvm.MethodName) "WindCarver") ∈ lw_tbl := lw_at lw_m2 137 rfl
theorem q441 : (Jvm.Cond.instanceMethod ({ cls := "WindCarver", name := "feed", desc := "(I)I" } : Jvm.MethodName)) ∈ lw_all := lw_g (lw_at lw_m2 142 rfl) rfl
theorem q442 : (Jvm.Cond.selects "WindCarver" ({ cls := "WindCarver", name := "feed", desc := "(I)I" } : Jvm.MethodName) ({ cls := "WindCarver", name := "feed", desc := "(I)I" } : Jvm.MethodName)) ∈ lw_all := lw_g (lw_at lw_m2 143 rfl) rfl
theorem q443 : (Jvm.Cond.code ({ cls := "WindCarver", name := "feed", desc := "(I)I" } : Jvm.MethodName) prog_1_method_16_code (2 : Nat) (Option.some Jvm.ClassFile.FieldType.int)) ∈ lw_all := lw_g (lw_at lw_m2 144 rfl) rfl
theorem q444 : (Jvm.Cond.constantLong "WindCarver" (136 : Nat) (255 : Int64)) ∈ lw_all := lw_g (lw_at lw_m2 145 rfl) rfl
theorem q445 : (Jvm.Cond.constant "WindCarver" (141 : Nat) (-1000003 : Int32)) ∈ lw_all := lw_g (lw_at lw_m2 146 rfl) rfl
theorem q447 : (Jvm.Cond.instanceMethod ({ cls := "WindCarver", name := "pass", desc := "()I" } : Jvm.MethodName)) ∈ lw_all := lw_g (lw_at lw_m2 148 rfl) rfl
theorem q448 : (Jvm.Cond.selects "WindCarver" ({ cls := "WindCarver", name := "pass", desc := "()I" } : Jvm.MethodName) ({ cls := "WindCarver", name := "pass", desc := "()I" } : Jvm.MethodName)) ∈ lw_all := lw_g (lw_at lw_m2 149 rfl) rfl
theorem q449 : (Jvm.Cond.codeWith ({ cls := "WindCarver", name := "pass", desc := "()I" } : Jvm.MethodName) prog_1_method_17_code (5 : Nat) (Option.some Jvm.ClassFile.FieldType.int) [((16 : Nat), (20 : Nat), (28 : Nat), (150 : Nat)), ((16 : Nat), (20 : Nat), (52 : Nat), (0 : Nat)), ((28 : Nat), (45 : Nat), (52 : Nat), (0 : Nat)), ((52 : Nat), (54 : Nat), (52 : Nat), (0 : Nat))]) ∈ lw_all := lw_g (lw_at lw_m2 150 rfl) rfl
theorem q450 : (Jvm.Cond.classLink "WindCarver" (150 : Nat) "WindCarver$Fault") ∈ lw_all := lw_g (lw_at lw_m2 151 rfl) rfl
theorem q451 : (Jvm.Cond.classLink "WindCarver" (142 : Nat) "WindCarver$Reader") ∈ lw_all := lw_g (lw_at lw_m2 152 rfl) rfl
theorem q453 : (Jvm.Cond.methodLink "WindCarver" (144 : Nat) ({ cls := "WindCarver$Reader", name := "<init>", desc := "([BI)V" } : Jvm.MethodName)) ∈ lw_all := lw_g (lw_at lw_m2 154 rfl) rfl
theorem q466 : (Jvm.Cond.fieldLink "WindCarver" (162 : Nat) "WindCarver$Reader" "made" "LWindCarver$Pass;") ∈ lw_all := lw_g (lw_at lw_m2 167 rfl) rfl
theorem q482 : (Jvm.Cond.methodLink "WindCarver" (147 : Nat) ({ cls := "WindCarver$Reader", name := "all", desc := "()V" } : Jvm.MethodName)) ∈ lw_all := lw_g (lw_at lw_m2 183 rfl) rfl
theorem q531 : (Jvm.Cond.fieldLink "WindCarver" (152 : Nat) "WindCarver$Fault" "kind" "I") ∈ lw_all := lw_g (lw_at lw_m2 232 rfl) rfl
theorem q533 : (Jvm.Cond.fieldLink "WindCarver" (159 : Nat) "WindCarver$Fault" "place" "I") ∈ lw_all := lw_g (lw_at lw_m2 234 rfl) rfl
theorem q650 : (Jvm.Cond.static ({ cls := "WindCarver", name := "workBy", desc := "(III)LWindCarver$Work;" } : Jvm.MethodName)) ∈ lw_all := lw_g (lw_at lw_m3 111 rfl) rfl
theorem q651 : (Jvm.Cond.code ({ cls := "WindCarver", name := "workBy", desc := "(III)LWindCarver$Work;" } : Jvm.MethodName) prog_1_method_3_code (3 : Nat) (Option.some (Jvm.ClassFile.FieldType.object "WindCarver$Work"))) ∈ lw_all := lw_g (lw_at lw_m3 112 rfl) rfl
theorem q652 : (Jvm.Cond.classLink "WindCarver" (7 : Nat) "WindCarver$Net") ∈ lw_all := lw_g (lw_at lw_m3 113 rfl) rfl
theorem q654 : (Jvm.Cond.methodLink "WindCarver" (9 : Nat) ({ cls := "WindCarver$Net", name := "<init>", desc := "(II)V" } : Jvm.MethodName)) ∈ lw_all := lw_g (lw_at lw_m3 115 rfl) rfl
theorem q661 : (Jvm.Cond.classLink "WindCarver" (10 : Nat) "WindCarver$Shutter") ∈ lw_all := lw_g (lw_at lw_m3 122 rfl) rfl
theorem q663 : (Jvm.Cond.methodLink "WindCarver" (12 : Nat) ({ cls := "WindCarver$Shutter", name := "<init>", desc := "(II)V" } : Jvm.MethodName)) ∈ lw_all := lw_g (lw_at lw_m3 124 rfl) rfl
theorem q670 : (Jvm.Cond.classLink "WindCarver" (13 : Nat) "WindCarver$Hand") ∈ lw_all := lw_g (lw_at lw_m3 131 rfl) rfl
theorem q672 : (Jvm.Cond.methodLink "WindCarver" (15 : Nat) ({ cls := "WindCarver$Hand", name := "<init>", desc := "(II)V" } : Jvm.MethodName)) ∈ lw_all := lw_g (lw_at lw_m3 133 rfl) rfl
theorem q679 : (Jvm.Cond.classLink "WindCarver" (16 : Nat) "WindCarver$Vane") ∈ lw_all := lw_g (lw_at lw_m3 140 rfl) rfl
theorem q681 : (Jvm.Cond.methodLink "WindCarver" (18 : Nat) ({ cls := "WindCarver$Vane", name := "<init>", desc := "(II)V" } : Jvm.MethodName)) ∈ lw_all := lw_g (lw_at lw_m3 142 rfl) rfl
theorem q688 : (Jvm.Cond.constant "WindCarver" (158 : Nat) (-1000100 : Int32)) ∈ lw_all := lw_g (lw_at lw_m3 149 rfl) rfl
theorem q689 : (Jvm.Cond.methodLink "WindCarver" (165 : Nat) ({ cls := "WindCarver$Pass", name := "become", desc := "(LWindCarver$Pass;)V" } : Jvm.MethodName)) ∈ lw_all := lw_g (lw_at lw_m3 150 rfl) rfl
theorem q694 : (Jvm.Cond.methodLink "WindCarver" (172 : Nat) ({ cls := "WindCarver$Pass", name := "many", desc := "()I" } : Jvm.MethodName)) ∈ lw_all := lw_g (lw_at lw_m3 155 rfl) rfl
theorem q696 : (Jvm.Cond.instanceMethod ({ cls := "WindCarver", name := "fault", desc := "()I" } : Jvm.MethodName)) ∈ lw_all := lw_g (lw_at lw_m3 157 rfl) rfl
theorem q697 : (Jvm.Cond.selects "WindCarver" ({ cls := "WindCarver", name := "fault", desc := "()I" } : Jvm.MethodName) ({ cls := "WindCarver", name := "fault", desc := "()I" } : Jvm.MethodName)) ∈ lw_all := lw_g (lw_at lw_m3 158 rfl) rfl
theorem q698 : (Jvm.Cond.code ({ cls := "WindCarver", name := "fault", desc := "()I" } : Jvm.MethodName) prog_1_method_18_code (1 : Nat) (Option.some Jvm.ClassFile.FieldType.int)) ∈ lw_all := lw_g (lw_at lw_m3 159 rfl) rfl
theorem q700 : (Jvm.Cond.instanceMethod ({ cls := "WindCarver", name := "setUp", desc := "(III)I" } : Jvm.MethodName)) ∈ lw_all := lw_g (lw_at lw_m3 161 rfl) rfl
theorem q701 : (Jvm.Cond.selects "WindCarver" ({ cls := "WindCarver", name := "setUp", desc := "(III)I" } : Jvm.MethodName) ({ cls := "WindCarver", name := "setUp", desc := "(III)I" } : Jvm.MethodName)) ∈ lw_all := lw_g (lw_at lw_m3 162 rfl) rfl
theorem q702 : (Jvm.Cond.code ({ cls := "WindCarver", name := "setUp", desc := "(III)I" } : Jvm.MethodName) prog_1_method_25_code (4 : Nat) (Option.some Jvm.ClassFile.FieldType.int)) ∈ lw_all := lw_g (lw_at lw_m3 163 rfl) rfl
theorem q703 : (Jvm.Cond.constant "WindCarver" (185 : Nat) (-1000002 : Int32)) ∈ lw_all := lw_g (lw_at lw_m3 164 rfl) rfl
theorem q704 : (Jvm.Cond.methodLink "WindCarver" (186 : Nat) ({ cls := "WindCarver", name := "isCell", desc := "(I)Z" } : Jvm.MethodName)) ∈ lw_all := lw_g (lw_at lw_m3 165 rfl) rfl
theorem q705 : (Jvm.Cond.static ({ cls := "WindCarver", name := "isCell", desc := "(I)Z" } : Jvm.MethodName)) ∈ lw_all := lw_g (lw_at lw_m3 166 rfl) rfl
theorem q706 : (Jvm.Cond.code ({ cls := "WindCarver", name := "isCell", desc := "(I)Z" } : Jvm.MethodName) prog_1_method_19_code (1 : Nat) (Option.some Jvm.ClassFile.FieldType.boolean)) ∈ lw_all := lw_g (lw_at lw_m3 167 rfl) rfl
theorem q707 : (Jvm.Cond.constantLong "WindCarver" (173 : Nat) (15 : Int64)) ∈ lw_all := lw_g (lw_at lw_m3 168 rfl) rfl
theorem q708 : (Jvm.Cond.methodLink "WindCarver" (189 : Nat) ({ cls := "WindCarver", name := "isKind", desc := "(I)Z" } : Jvm.MethodName)) ∈ lw_all := lw_g (lw_at lw_m3 169 rfl) rfl
theorem q709 : (Jvm.Cond.static ({ cls := "WindCarver", name := "isKind", desc := "(I)Z" } : Jvm.MethodName)) ∈ lw_all := lw_g (lw_at lw_m3 170 rfl) rfl
theorem q710 : (Jvm.Cond.code ({ cls := "WindCarver", name := "isKind", desc := "(I)Z" } : Jvm.MethodName) prog_1_method_21_code (1 : Nat) (Option.some Jvm.ClassFile.FieldType.boolean)) ∈ lw_all := lw_g (lw_at lw_m3 171 rfl) rfl
theorem q711 : (Jvm.Cond.constantLong "WindCarver" (177 : Nat) (5 : Int64)) ∈ lw_all := lw_g (lw_at lw_m3 172 rfl) rfl
theorem q712 : (Jvm.Cond.constantLong "WindCarver" (192 : Nat) (99 : Int64)) ∈ lw_all := lw_g (lw_at lw_m3 173 rfl) rfl
theorem q713 : (Jvm.Cond.methodLink "WindCarver" (194 : Nat) ({ cls := "WindCarver$Pass", name := "has", desc := "(I)Z" } : Jvm.MethodName)) ∈ lw_all := lw_g (lw_at lw_m3 174 rfl) rfl
theorem q714 : (Jvm.Cond.methodLink "WindCarver" (197 : Nat) ({ cls := "WindCarver", name := "keep", desc := "()V" } : Jvm.MethodName)) ∈ lw_all := lw_g (lw_at lw_m3 175 rfl) rfl
theorem q715 : (Jvm.Cond.privateMethod ({ cls := "WindCarver", name := "keep", desc := "()V" } : Jvm.MethodName)) ∈ lw_tbl := lw_at lw_m3 176 rfl
theorem q716 : (Jvm.Cond.instanceMethod ({ cls := "WindCarver", name := "keep", desc := "()V" } : Jvm.MethodName)) ∈ lw_all := lw_g (lw_at lw_m3 177 rfl) rfl
theorem q717 : (Jvm.Cond.code ({ cls := "WindCarver", name := "keep", desc := "()V" } : Jvm.MethodName) prog_1_method_24_code (3 : Nat) (Option.none : Option Jvm.ClassFile.FieldType)) ∈ lw_all := lw_g (lw_at lw_m3 178 rfl) rfl
theorem q718 : (Jvm.Cond.methodLink "WindCarver" (203 : Nat) ({ cls := "WindCarver", name := "workBy", desc := "(III)LWindCarver$Work;" } : Jvm.MethodName)) ∈ lw_all := lw_g (lw_at lw_m3 179 rfl) rfl
theorem q720 : (Jvm.Cond.instanceMethod ({ cls := "WindCarver", name := "take", desc := "(I)I" } : Jvm.MethodName)) ∈ lw_all := lw_g (lw_at lw_m3 181 rfl) rfl
theorem q721 : (Jvm.Cond.selects "WindCarver" ({ cls := "WindCarver", name := "take", desc := "(I)I" } : Jvm.MethodName) ({ cls := "WindCarver", name := "take", desc := "(I)I" } : Jvm.MethodName)) ∈ lw_all := lw_g (lw_at lw_m3 182 rfl) rfl
theorem q722 : (Jvm.Cond.code ({ cls := "WindCarver", name := "take", desc := "(I)I" } : Jvm.MethodName) prog_1_method_26_code (2 : Nat) (Option.some Jvm.ClassFile.FieldType.int)) ∈ lw_all := lw_g (lw_at lw_m3 183 rfl) rfl
theorem q723 : (Jvm.Cond.methodLink "WindCarver" (207 : Nat) ({ cls := "WindCarver$Pass", name := "clear", desc := "(I)V" } : Jvm.MethodName)) ∈ lw_all := lw_g (lw_at lw_m3 184 rfl) rfl
theorem q728 : (Jvm.Cond.instanceMethod ({ cls := "WindCarver", name := "turn", desc := "(I)I" } : Jvm.MethodName)) ∈ lw_all := lw_g (lw_at lw_m3 189 rfl) rfl
theorem q729 : (Jvm.Cond.selects "WindCarver" ({ cls := "WindCarver", name := "turn", desc := "(I)I" } : Jvm.MethodName) ({ cls := "WindCarver", name := "turn", desc := "(I)I" } : Jvm.MethodName)) ∈ lw_all := lw_g (lw_at lw_m3 190 rfl) rfl
theorem q730 : (Jvm.Cond.code ({ cls := "WindCarver", name := "turn", desc := "(I)I" } : Jvm.MethodName) prog_1_method_27_code (2 : Nat) (Option.some Jvm.ClassFile.FieldType.int)) ∈ lw_all := lw_g (lw_at lw_m3 191 rfl) rfl
theorem q731 : (Jvm.Cond.methodLink "WindCarver" (211 : Nat) ({ cls := "WindCarver$Work", name := "kind", desc := "()I" } : Jvm.MethodName)) ∈ lw_all := lw_g (lw_at lw_m3 192 rfl) rfl
theorem q750 : (Jvm.Cond.instanceMethod ({ cls := "WindCarver", name := "gust", desc := "(II)I" } : Jvm.MethodName)) ∈ lw_all := lw_g (lw_at lw_m3 211 rfl) rfl
theorem q751 : (Jvm.Cond.selects "WindCarver" ({ cls := "WindCarver", name := "gust", desc := "(II)I" } : Jvm.MethodName) ({ cls := "WindCarver", name := "gust", desc := "(II)I" } : Jvm.MethodName)) ∈ lw_all := lw_g (lw_at lw_m3 212 rfl) rfl
theorem q752 : (Jvm.Cond.code ({ cls := "WindCarver", name := "gust", desc := "(II)I" } : Jvm.MethodName) prog_1_method_28_code (4 : Nat) (Option.some Jvm.ClassFile.FieldType.int)) ∈ lw_all := lw_g (lw_at lw_m3 213 rfl) rfl
theorem q753 : (Jvm.Cond.methodLink "WindCarver" (216 : Nat) ({ cls := "WindCarver", name := "isSide", desc := "(I)Z" } : Jvm.MethodName)) ∈ lw_all := lw_g (lw_at lw_m3 214 rfl) rfl
theorem q754 : (Jvm.Cond.static ({ cls := "WindCarver", name := "isSide", desc := "(I)Z" } : Jvm.MethodName)) ∈ lw_all := lw_g (lw_at lw_m3 215 rfl) rfl
theorem q755 : (Jvm.Cond.code ({ cls := "WindCarver", name := "isSide", desc := "(I)Z" } : Jvm.MethodName) prog_1_method_20_code (1 : Nat) (Option.some Jvm.ClassFile.FieldType.boolean)) ∈ lw_all := lw_g (lw_at lw_m3 216 rfl) rfl
theorem q756 : (Jvm.Cond.constantLong "WindCarver" (175 : Nat) (3 : Int64)) ∈ lw_all := lw_g (lw_at lw_m3 217 rfl) rfl
theorem q757 : (Jvm.Cond.constantLong "WindCarver" (219 : Nat) (31 : Int64)) ∈ lw_all := lw_g (lw_at lw_m3 218 rfl) rfl
theorem q759 : (Jvm.Cond.instanceMethod ({ cls := "WindCarver", name := "hours", desc := "(I)I" } : Jvm.MethodName)) ∈ lw_all := lw_g (lw_at lw_m3 220 rfl) rfl
theorem q760 : (Jvm.Cond.selects "WindCarver" ({ cls := "WindCarver", name := "hours", desc := "(I)I" } : Jvm.MethodName) ({ cls := "WindCarver", name := "hours", desc := "(I)I" } : Jvm.MethodName)) ∈ lw_all := lw_g (lw_at lw_m3 221 rfl) rfl
theorem q761 : (Jvm.Cond.code ({ cls := "WindCarver", name := "hours", desc := "(I)I" } : Jvm.MethodName) prog_1_method_29_code (3 : Nat) (Option.some Jvm.ClassFile.FieldType.int)) ∈ lw_all := lw_g (lw_at lw_m3 222 rfl) rfl
theorem q762 : (Jvm.Cond.constantLong "WindCarver" (225 : Nat) (20 : Int64)) ∈ lw_all := lw_g (lw_at lw_m3 223 rfl) rfl
theorem q763 : (Jvm.Cond.methodLink "WindCarver" (230 : Nat) ({ cls := "WindCarver$Pass", name := "goOn", desc := "()I" } : Jvm.MethodName)) ∈ lw_all := lw_g (lw_at lw_m3 224 rfl) rfl
theorem q776 : (Jvm.Cond.static ({ cls := "WindCarver", name := "has", desc := "(II)Z" } : Jvm.MethodName)) ∈ lw_all := lw_g (lw_at lw_m3 237 rfl) rfl
theorem q777 : (Jvm.Cond.code ({ cls := "WindCarver", name := "has", desc := "(II)Z" } : Jvm.MethodName) prog_1_method_2_code (2 : Nat) (Option.some Jvm.ClassFile.FieldType.boolean)) ∈ lw_all := lw_g (lw_at lw_m3 238 rfl) rfl
theorem q825 : (Jvm.Cond.instanceMethod ({ cls := "WindCarver", name := "undo", desc := "()I" } : Jvm.MethodName)) ∈ lw_all := lw_g (lw_at lw_m4 46 rfl) rfl
theorem q826 : (Jvm.Cond.selects "WindCarver" ({ cls := "WindCarver", name := "undo", desc := "()I" } : Jvm.MethodName) ({ cls := "WindCarver", name := "undo", desc := "()I" } : Jvm.MethodName)) ∈ lw_all := lw_g (lw_at lw_m4 47 rfl) rfl
theorem q827 : (Jvm.Cond.code ({ cls := "WindCarver", name := "undo", desc := "()I" } : Jvm.MethodName) prog_1_method_30_code (1 : Nat) (Option.some Jvm.ClassFile.FieldType.int)) ∈ lw_all := lw_g (lw_at lw_m4 48 rfl) rfl
theorem q829 : (Jvm.Cond.instanceMethod ({ cls := "WindCarver", name := "cell", desc := "(II)I" } : Jvm.MethodName)) ∈ lw_all := lw_g (lw_at lw_m4 50 rfl) rfl
theorem q830 : (Jvm.Cond.selects "WindCarver" ({ cls := "WindCarver", name := "cell", desc := "(II)I" } : Jvm.MethodName) ({ cls := "WindCarver", name := "cell", desc := "(II)I" } : Jvm.MethodName)) ∈ lw_all := lw_g (lw_at lw_m4 51 rfl) rfl
theorem q831 : (Jvm.Cond.code ({ cls := "WindCarver", name := "cell", desc := "(II)I" } : Jvm.MethodName) prog_1_method_31_code (3 : Nat) (Option.some Jvm.ClassFile.FieldType.int)) ∈ lw_all := lw_g (lw_at lw_m4 52 rfl) rfl
theorem q832 : (Jvm.Cond.methodLink "WindCarver" (233 : Nat) ({ cls := "WindCarver", name := "blown", desc := "()LWindCarver$Pass;" } : Jvm.MethodName)) ∈ lw_all := lw_g (lw_at lw_m4 53 rfl) rfl
theorem q833 : (Jvm.Cond.privateMethod ({ cls := "WindCarver", name := "blown", desc := "()LWindCarver$Pass;" } : Jvm.MethodName)) ∈ lw_tbl := lw_at lw_m4 54 rfl
theorem q834 : (Jvm.Cond.instanceMethod ({ cls := "WindCarver", name := "blown", desc := "()LWindCarver$Pass;" } : Jvm.MethodName)) ∈ lw_all := lw_g (lw_at lw_m4 55 rfl) rfl
theorem q835 : (Jvm.Cond.code ({ cls := "WindCarver", name := "blown", desc := "()LWindCarver$Pass;" } : Jvm.MethodName) prog_1_method_34_code (2 : Nat) (Option.some (Jvm.ClassFile.FieldType.object "WindCarver$Pass"))) ∈ lw_all := lw_g (lw_at lw_m4 56 rfl) rfl
theorem q836 : (Jvm.Cond.methodLink "WindCarver" (250 : Nat) ({ cls := "WindCarver", name := "asNow", desc := "()LWindCarver$Pass;" } : Jvm.MethodName)) ∈ lw_all := lw_g (lw_at lw_m4 57 rfl) rfl
theorem q837 : (Jvm.Cond.privateMethod ({ cls := "WindCarver", name := "asNow", desc := "()LWindCarver$Pass;" } : Jvm.MethodName)) ∈ lw_tbl := lw_at lw_m4 58 rfl
theorem q838 : (Jvm.Cond.instanceMethod ({ cls := "WindCarver", name := "asNow", desc := "()LWindCarver$Pass;" } : Jvm.MethodName)) ∈ lw_all := lw_g (lw_at lw_m4 59 rfl) rfl
theorem q839 : (Jvm.Cond.code ({ cls := "WindCarver", name := "asNow", desc := "()LWindCarver$Pass;" } : Jvm.MethodName) prog_1_method_33_code (1 : Nat) (Option.some (Jvm.ClassFile.FieldType.object "WindCarver$Pass"))) ∈ lw_all := lw_g (lw_at lw_m4 60 rfl) rfl
theorem q840 : (Jvm.Cond.methodLink "WindCarver" (253 : Nat) ({ cls := "WindCarver$Pass", name := "blow", desc := "()V" } : Jvm.MethodName)) ∈ lw_all := lw_g (lw_at lw_m4 61 rfl) rfl
theorem q841 : (Jvm.Cond.constant "WindCarver" (240 : Nat) (-1000000 : Int32)) ∈ lw_all := lw_g (lw_at lw_m4 62 rfl) rfl
theorem q842 : (Jvm.Cond.methodLink "WindCarver" (241 : Nat) ({ cls := "WindCarver$Work", name := "holds", desc := "()I" } : Jvm.MethodName)) ∈ lw_all := lw_g (lw_at lw_m4 63 rfl) rfl
theorem q844 : (Jvm.Cond.instanceMethod ({ cls := "WindCarver", name := "wind", desc := "(II)I" } : Jvm.MethodName)) ∈ lw_all := lw_g (lw_at lw_m4 65 rfl) rfl
theorem q845 : (Jvm.Cond.selects "WindCarver" ({ cls := "WindCarver", name := "wind", desc := "(II)I" } : Jvm.MethodName) ({ cls := "WindCarver", name := "wind", desc := "(II)I" } : Jvm.MethodName)) ∈ lw_all := lw_g (lw_at lw_m4 66 rfl) rfl
theorem q846 : (Jvm.Cond.code ({ cls := "WindCarver", name := "wind", desc := "(II)I" } : Jvm.MethodName) prog_1_method_32_code (3 : Nat) (Option.some Jvm.ClassFile.FieldType.int)) ∈ lw_all := lw_g (lw_at lw_m4 67 rfl) rfl
theorem q847 : (Jvm.Cond.methodLink "WindCarver" (244 : Nat) ({ cls := "WindCarver", name := "isHalf", desc := "(I)Z" } : Jvm.MethodName)) ∈ lw_all := lw_g (lw_at lw_m4 68 rfl) rfl
theorem q848 : (Jvm.Cond.static ({ cls := "WindCarver", name := "isHalf", desc := "(I)Z" } : Jvm.MethodName)) ∈ lw_all := lw_g (lw_at lw_m4 69 rfl) rfl
theorem q849 : (Jvm.Cond.code ({ cls := "WindCarver", name := "isHalf", desc := "(I)Z" } : Jvm.MethodName) prog_1_method_23_code (1 : Nat) (Option.some Jvm.ClassFile.FieldType.boolean)) ∈ lw_all := lw_g (lw_at lw_m4 70 rfl) rfl
theorem q851 : (Jvm.Cond.instanceMethod ({ cls := "WindCarver", name := "felt", desc := "(II)I" } : Jvm.MethodName)) ∈ lw_all := lw_g (lw_at lw_m4 72 rfl) rfl
theorem q852 : (Jvm.Cond.selects "WindCarver" ({ cls := "WindCarver", name := "felt", desc := "(II)I" } : Jvm.MethodName) ({ cls := "WindCarver", name := "felt", desc := "(II)I" } : Jvm.MethodName)) ∈ lw_all := lw_g (lw_at lw_m4 73 rfl) rfl
theorem q853 : (Jvm.Cond.code ({ cls := "WindCarver", name := "felt", desc := "(II)I" } : Jvm.MethodName) prog_1_method_36_code (3 : Nat) (Option.some Jvm.ClassFile.FieldType.int)) ∈ lw_all := lw_g (lw_at lw_m4 74 rfl) rfl
theorem q854 : (Jvm.Cond.methodLink "WindCarver" (256 : Nat) ({ cls := "WindCarver", name := "isFar", desc := "(I)Z" } : Jvm.MethodName)) ∈ lw_all := lw_g (lw_at lw_m4 75 rfl) rfl
theorem q855 : (Jvm.Cond.static ({ cls := "WindCarver", name := "isFar", desc := "(I)Z" } : Jvm.MethodName)) ∈ lw_all := lw_g (lw_at lw_m4 76 rfl) rfl
theorem q856 : (Jvm.Cond.code ({ cls := "WindCarver", name := "isFar", desc := "(I)Z" } : Jvm.MethodName) prog_1_method_22_code (1 : Nat) (Option.some Jvm.ClassFile.FieldType.boolean)) ∈ lw_all := lw_g (lw_at lw_m4 77 rfl) rfl
theorem q857 : (Jvm.Cond.constantLong "WindCarver" (179 : Nat) (40 : Int64)) ∈ lw_all := lw_g (lw_at lw_m4 78 rfl) rfl
theorem q858 : (Jvm.Cond.methodLink "WindCarver" (259 : Nat) ({ cls := "WindCarver", name := "in", desc := "(I)LWindCarver$Pass;" } : Jvm.MethodName)) ∈ lw_all := lw_g (lw_at lw_m4 79 rfl) rfl
theorem q859 : (Jvm.Cond.privateMethod ({ cls := "WindCarver", name := "in", desc := "(I)LWindCarver$Pass;" } : Jvm.MethodName)) ∈ lw_tbl := lw_at lw_m4 80 rfl
theorem q860 : (Jvm.Cond.instanceMethod ({ cls := "WindCarver", name := "in", desc := "(I)LWindCarver$Pass;" } : Jvm.MethodName)) ∈ lw_all := lw_g (lw_at lw_m4 81 rfl) rfl
theorem q861 : (Jvm.Cond.code ({ cls := "WindCarver", name := "in", desc := "(I)LWindCarver$Pass;" } : Jvm.MethodName) prog_1_method_35_code (4 : Nat) (Option.some (Jvm.ClassFile.FieldType.object "WindCarver$Pass"))) ∈ lw_all := lw_g (lw_at lw_m4 82 rfl) rfl
theorem q863 : (Jvm.Cond.instanceMethod ({ cls := "WindCarver", name := "lost", desc := "(I)I" } : Jvm.MethodName)) ∈ lw_all := lw_g (lw_at lw_m4 84 rfl) rfl
theorem q864 : (Jvm.Cond.selects "WindCarver" ({ cls := "WindCarver", name := "lost", desc := "(I)I" } : Jvm.MethodName) ({ cls := "WindCarver", name := "lost", desc := "(I)I" } : Jvm.MethodName)) ∈ lw_all := lw_g (lw_at lw_m4 85 rfl) rfl
theorem q865 : (Jvm.Cond.code ({ cls := "WindCarver", name := "lost", desc := "(I)I" } : Jvm.MethodName) prog_1_method_37_code (2 : Nat) (Option.some Jvm.ClassFile.FieldType.int)) ∈ lw_all := lw_g (lw_at lw_m4 86 rfl) rfl
theorem q867 : (Jvm.Cond.instanceMethod ({ cls := "WindCarver", name := "leaves", desc := "(II)I" } : Jvm.MethodName)) ∈ lw_all := lw_g (lw_at lw_m4 88 rfl) rfl
theorem q868 : (Jvm.Cond.selects "WindCarver" ({ cls := "WindCarver", name := "leaves", desc := "(II)I" } : Jvm.MethodName) ({ cls := "WindCarver", name := "leaves", desc := "(II)I" } : Jvm.MethodName)) ∈ lw_all := lw_g (lw_at lw_m4 89 rfl) rfl
theorem q869 : (Jvm.Cond.code ({ cls := "WindCarver", name := "leaves", desc := "(II)I" } : Jvm.MethodName) prog_1_method_38_code (3 : Nat) (Option.some Jvm.ClassFile.FieldType.int)) ∈ lw_all := lw_g (lw_at lw_m4 90 rfl) rfl
theorem q871 : (Jvm.Cond.instanceMethod ({ cls := "WindCarver", name := "breaks", desc := "(I)I" } : Jvm.MethodName)) ∈ lw_all := lw_g (lw_at lw_m4 92 rfl) rfl
theorem q872 : (Jvm.Cond.selects "WindCarver" ({ cls := "WindCarver", name := "breaks", desc := "(I)I" } : Jvm.MethodName) ({ cls := "WindCarver", name := "breaks", desc := "(I)I" } : Jvm.MethodName)) ∈ lw_all := lw_g (lw_at lw_m4 93 rfl) rfl
theorem q873 : (Jvm.Cond.code ({ cls := "WindCarver", name := "breaks", desc := "(I)I" } : Jvm.MethodName) prog_1_method_39_code (5 : Nat) (Option.some Jvm.ClassFile.FieldType.int)) ∈ lw_all := lw_g (lw_at lw_m4 94 rfl) rfl
theorem q874 : (Jvm.Cond.methodLink "WindCarver" (269 : Nat) ({ cls := "java/lang/Integer", name := "numberOfTrailingZeros", desc := "(I)I" } : Jvm.MethodName)) ∈ lw_all := lw_g (lw_at lw_m4 95 rfl) rfl
theorem q879 : (Jvm.Cond.instanceMethod ({ cls := "WindCarver", name := "stands", desc := "(II)I" } : Jvm.MethodName)) ∈ lw_all := lw_g (lw_at lw_m4 100 rfl) rfl
theorem q880 : (Jvm.Cond.selects "WindCarver" ({ cls := "WindCarver", name := "stands", desc := "(II)I" } : Jvm.MethodName) ({ cls := "WindCarver", name := "stands", desc := "(II)I" } : Jvm.MethodName)) ∈ lw_all := lw_g (lw_at lw_m4 101 rfl) rfl
theorem q881 : (Jvm.Cond.codeWith ({ cls := "WindCarver", name := "stands", desc := "(II)I" } : Jvm.MethodName) prog_1_method_41_code (4 : Nat) (Option.some Jvm.ClassFile.FieldType.int) [((23 : Nat), (39 : Nat), (40 : Nat), (114 : Nat)), ((23 : Nat), (39 : Nat), (47 : Nat), (116 : Nat))]) ∈ lw_all := lw_g (lw_at lw_m4 102 rfl) rfl
theorem q882 : (Jvm.Cond.methodLink "WindCarver" (274 : Nat) ({ cls := "WindCarver", name := "items", desc := "(III)[I" } : Jvm.MethodName)) ∈ lw_all := lw_g (lw_at lw_m4 103 rfl) rfl
theorem q883 : (Jvm.Cond.privateMethod ({ cls := "WindCarver", name := "items", desc := "(III)[I" } : Jvm.MethodName)) ∈ lw_tbl := lw_at lw_m4 104 rfl
theorem q884 : (Jvm.Cond.instanceMethod ({ cls := "WindCarver", name := "items", desc := "(III)[I" } : Jvm.MethodName)) ∈ lw_all := lw_g (lw_at lw_m4 105 rfl) rfl
theorem q885 : (Jvm.Cond.code ({ cls := "WindCarver", name := "items", desc := "(III)[I" } : Jvm.MethodName) prog_1_method_15_code (7 : Nat) (Option.some (Jvm.ClassFile.FieldType.array Jvm.ClassFile.FieldType.int))) ∈ lw_all := lw_g (lw_at lw_m4 106 rfl) rfl
theorem q886 : (Jvm.Cond.methodLink "WindCarver" (132 : Nat) ({ cls := "java/lang/ArrayIndexOutOfBoundsException", name := "<init>", desc := "()V" } : Jvm.MethodName)) ∈ lw_all := lw_g (lw_at lw_m4 107 rfl) rfl
theorem q893 : (Jvm.Cond.methodLinkNest "WindCarver" (133 : Nat) ({ cls := "WindCarver$Shelf", name := "at", desc := "(I)I" } : Jvm.MethodName) "WindCarver") ∈ lw_tbl := lw_at lw_m4 114 rfl
theorem q894 : (Jvm.Cond.methodLink "WindCarver" (278 : Nat) ({ cls := "WindCarver", name := "standsBy", desc := "([I)I" } : Jvm.MethodName)) ∈ lw_all := lw_g (lw_at lw_m4 115 rfl) rfl
theorem q895 : (Jvm.Cond.privateMethod ({ cls := "WindCarver", name := "standsBy", desc := "([I)I" } : Jvm.MethodName)) ∈ lw_tbl := lw_at lw_m4 116 rfl
theorem q896 : (Jvm.Cond.instanceMethod ({ cls := "WindCarver", name := "standsBy", desc := "([I)I" } : Jvm.MethodName)) ∈ lw_all := lw_g (lw_at lw_m4 117 rfl) rfl
theorem q897 : (Jvm.Cond.code ({ cls := "WindCarver", name := "standsBy", desc := "([I)I" } : Jvm.MethodName) prog_1_method_40_code (5 : Nat) (Option.some Jvm.ClassFile.FieldType.int)) ∈ lw_all := lw_g (lw_at lw_m4 118 rfl) rfl
theorem q899 : (Jvm.Cond.instanceMethod ({ cls := "WindCarver", name := "walls", desc := "(III)I" } : Jvm.MethodName)) ∈ lw_all := lw_g (lw_at lw_m4 120 rfl) rfl
theorem q900 : (Jvm.Cond.selects "WindCarver" ({ cls := "WindCarver", name := "walls", desc := "(III)I" } : Jvm.MethodName) ({ cls := "WindCarver", name := "walls", desc := "(III)I" } : Jvm.MethodName)) ∈ lw_all := lw_g (lw_at lw_m4 121 rfl) rfl
theorem q901 : (Jvm.Cond.code ({ cls := "WindCarver", name := "walls", desc := "(III)I" } : Jvm.MethodName) prog_1_method_45_code (6 : Nat) (Option.some Jvm.ClassFile.FieldType.int)) ∈ lw_all := lw_g (lw_at lw_m4 122 rfl) rfl
theorem q902 : (Jvm.Cond.constantLong "WindCarver" (286 : Nat) (-1 : Int64)) ∈ lw_all := lw_g (lw_at lw_m4 123 rfl) rfl
theorem q903 : (Jvm.Cond.methodLink "WindCarver" (288 : Nat) ({ cls := "WindCarver", name := "wallsBy", desc := "(III)I" } : Jvm.MethodName)) ∈ lw_all := lw_g (lw_at lw_m4 124 rfl) rfl
theorem q904 : (Jvm.Cond.privateMethod ({ cls := "WindCarver", name := "wallsBy", desc := "(III)I" } : Jvm.MethodName)) ∈ lw_tbl := lw_at lw_m4 125 rfl
theorem q905 : (Jvm.Cond.instanceMethod ({ cls := "WindCarver", name := "wallsBy", desc := "(III)I" } : Jvm.MethodName)) ∈ lw_all := lw_g (lw_at lw_m4 126 rfl) rfl
theorem q906 : (Jvm.Cond.code ({ cls := "WindCarver", name := "wallsBy", desc := "(III)I" } : Jvm.MethodName) prog_1_method_44_code (6 : Nat) (Option.some Jvm.ClassFile.FieldType.int)) ∈ lw_all := lw_g (lw_at lw_m4 127 rfl) rfl
theorem q907 : (Jvm.Cond.methodLink "WindCarver" (282 : Nat) ({ cls := "WindCarver", name := "feltBy", desc := "(III)I" } : Jvm.MethodName)) ∈ lw_all := lw_g (lw_at lw_m4 128 rfl) rfl
theorem q908 : (Jvm.Cond.privateMethod ({ cls := "WindCarver", name := "feltBy", desc := "(III)I" } : Jvm.MethodName)) ∈ lw_tbl := lw_at lw_m4 129 rfl
theorem q909 : (Jvm.Cond.instanceMethod ({ cls := "WindCarver", name := "feltBy", desc := "(III)I" } : Jvm.MethodName)) ∈ lw_all := lw_g (lw_at lw_m4 130 rfl) rfl
theorem q910 : (Jvm.Cond.code ({ cls := "WindCarver", name := "feltBy", desc := "(III)I" } : Jvm.MethodName) prog_1_method_43_code (5 : Nat) (Option.some Jvm.ClassFile.FieldType.int)) ∈ lw_all := lw_g (lw_at lw_m4 131 rfl) rfl
theorem q912 : (Jvm.Cond.instanceMethod ({ cls := "WindCarver", name := "hidden", desc := "(IIII)I" } : Jvm.MethodName)) ∈ lw_all := lw_g (lw_at lw_m4 133 rfl) rfl
theorem q913 : (Jvm.Cond.selects "WindCarver" ({ cls := "WindCarver", name := "hidden", desc := "(IIII)I" } : Jvm.MethodName) ({ cls := "WindCarver", name := "hidden", desc := "(IIII)I" } : Jvm.MethodName)) ∈ lw_all := lw_g (lw_at lw_m4 134 rfl) rfl
theorem q914 : (Jvm.Cond.codeWith ({ cls := "WindCarver", name := "hidden", desc := "(IIII)I" } : Jvm.MethodName) prog_1_method_47_code (6 : Nat) (Option.some Jvm.ClassFile.FieldType.int) [((37 : Nat), (55 : Nat), (56 : Nat), (114 : Nat)), ((37 : Nat), (55 : Nat), (64 : Nat), (116 : Nat))]) ∈ lw_all := lw_g (lw_at lw_m4 135 rfl) rfl
theorem q915 : (Jvm.Cond.methodLink "WindCarver" (291 : Nat) ({ cls := "WindCarver", name := "hiddenBy", desc := "(II[I)I" } : Jvm.MethodName)) ∈ lw_all := lw_g (lw_at lw_m4 136 rfl) rfl
theorem q916 : (Jvm.Cond.privateMethod ({ cls := "WindCarver", name := "hiddenBy", desc := "(II[I)I" } : Jvm.MethodName)) ∈ lw_tbl := lw_at lw_m4 137 rfl
theorem q917 : (Jvm.Cond.instanceMethod ({ cls := "WindCarver", name := "hiddenBy", desc := "(II[I)I" } : Jvm.MethodName)) ∈ lw_all := lw_g (lw_at lw_m4 138 rfl) rfl
theorem q918 : (Jvm.Cond.code ({ cls := "WindCarver", name := "hiddenBy", desc := "(II[I)I" } : Jvm.MethodName) prog_1_method_46_code (9 : Nat) (Option.some Jvm.ClassFile.FieldType.int)) ∈ lw_all := lw_g (lw_at lw_m4 139 rfl) rfl
theorem q920 : (Jvm.Cond.instanceMethod ({ cls := "WindCarver", name := "most", desc := "(II)I" } : Jvm.MethodName)) ∈ lw_all := lw_g (lw_at lw_m4 141 rfl) rfl
theorem q921 : (Jvm.Cond.selects "WindCarver" ({ cls := "WindCarver", name := "most", desc := "(II)I" } : Jvm.MethodName) ({ cls := "WindCarver", name := "most", desc := "(II)I" } : Jvm.MethodName)) ∈ lw_all := lw_g (lw_at lw_m4 142 rfl) rfl
theorem q922 : (Jvm.Cond.code ({ cls := "WindCarver", name := "most", desc := "(II)I" } : Jvm.MethodName) prog_1_method_48_code (7 : Nat) (Option.some Jvm.ClassFile.FieldType.int)) ∈ lw_all := lw_g (lw_at lw_m4 143 rfl) rfl
theorem q923 : (Jvm.Cond.methodLink "WindCarver" (295 : Nat) ({ cls := "java/lang/Math", name := "max", desc := "(II)I" } : Jvm.MethodName)) ∈ lw_all := lw_g (lw_at lw_m4 144 rfl) rfl
theorem q925 : (Jvm.Cond.instanceMethod ({ cls := "WindCarver", name := "lots", desc := "(IIII)I" } : Jvm.MethodName)) ∈ lw_all := lw_g (lw_at lw_m4 146 rfl) rfl
theorem q926 : (Jvm.Cond.selects "WindCarver" ({ cls := "WindCarver", name := "lots", desc := "(IIII)I" } : Jvm.MethodName) ({ cls := "WindCarver", name := "lots", desc := "(IIII)I" } : Jvm.MethodName)) ∈ lw_all := lw_g (lw_at lw_m4 147 rfl) rfl
theorem q927 : (Jvm.Cond.code ({ cls := "WindCarver", name := "lots", desc := "(IIII)I" } : Jvm.MethodName) prog_1_method_51_code (11 : Nat) (Option.some Jvm.ClassFile.FieldType.int)) ∈ lw_all := lw_g (lw_at lw_m4 148 rfl) rfl
theorem q928 : (Jvm.Cond.constantLong "WindCarver" (303 : Nat) (10 : Int64)) ∈ lw_all := lw_g (lw_at lw_m4 149 rfl) rfl
theorem q929 : (Jvm.Cond.methodLink "WindCarver" (300 : Nat) ({ cls := "WindCarver", name := "has", desc := "(II)Z" } : Jvm.MethodName)) ∈ lw_all := lw_g (lw_at lw_m4 150 rfl) rfl
theorem q930 : (Jvm.Cond.methodLink "WindCarver" (305 : Nat) ({ cls := "WindCarver", name := "isFelt", desc := "(III)Z" } : Jvm.MethodName)) ∈ lw_all := lw_g (lw_at lw_m4 151 rfl) rfl
theorem q931 : (Jvm.Cond.privateMethod ({ cls := "WindCarver", name := "isFelt", desc := "(III)Z" } : Jvm.MethodName)) ∈ lw_tbl := lw_at lw_m4 152 rfl
theorem q932 : (Jvm.Cond.instanceMethod ({ cls := "WindCarver", name := "isFelt", desc := "(III)Z" } : Jvm.MethodName)) ∈ lw_all := lw_g (lw_at lw_m4 153 rfl) rfl
theorem q933 : (Jvm.Cond.code ({ cls := "WindCarver", name := "isFelt", desc := "(III)Z" } : Jvm.MethodName) prog_1_method_50_code (7 : Nat) (Option.some Jvm.ClassFile.FieldType.boolean)) ∈ lw_all := lw_g (lw_at lw_m4 154 rfl) rfl
theorem q934 : (Jvm.Cond.methodLink "WindCarver" (309 : Nat) ({ cls := "WindCarver", name := "common", desc := "(II)I" } : Jvm.MethodName)) ∈ lw_all := lw_g (lw_at lw_m4 155 rfl) rfl
theorem q935 : (Jvm.Cond.static ({ cls := "WindCarver", name := "common", desc := "(II)I" } : Jvm.MethodName)) ∈ lw_all := lw_g (lw_at lw_m4 156 rfl) rfl
theorem q936 : (Jvm.Cond.code ({ cls := "WindCarver", name := "common", desc := "(II)I" } : Jvm.MethodName) prog_1_method_49_code (5 : Nat) (Option.some Jvm.ClassFile.FieldType.int)) ∈ lw_all := lw_g (lw_at lw_m4 157 rfl) rfl
theorem q938 : (Jvm.Cond.instanceMethod ({ cls := "WindCarver", name := "image", desc := "(I)I" } : Jvm.MethodName)) ∈ lw_all := lw_g (lw_at lw_m4 159 rfl) rfl
theorem q939 : (Jvm.Cond.selects "WindCarver" ({ cls := "WindCarver", name := "image", desc := "(I)I" } : Jvm.MethodName) ({ cls := "WindCarver", name := "image", desc := "(I)I" } : Jvm.MethodName)) ∈ lw_all := lw_g (lw_at lw_m4 160 rfl) rfl
theorem q940 : (Jvm.Cond.code ({ cls := "WindCarver", name := "image", desc := "(I)I" } : Jvm.MethodName) prog_1_method_52_code (2 : Nat) (Option.some Jvm.ClassFile.FieldType.int)) ∈ lw_all := lw_g (lw_at lw_m4 161 rfl) rfl
theorem q942 : (Jvm.Cond.instanceMethod ({ cls := "WindCarver", name := "restore", desc := "(I)I" } : Jvm.MethodName)) ∈ lw_all := lw_g (lw_at lw_m4 163 rfl) rfl
theorem q943 : (Jvm.Cond.selects "WindCarver" ({ cls := "WindCarver", name := "restore", desc := "(I)I" } : Jvm.MethodName) ({ cls := "WindCarver", name := "restore", desc := "(I)I" } : Jvm.MethodName)) ∈ lw_all := lw_g (lw_at lw_m4 164 rfl) rfl
theorem q944 : (Jvm.Cond.code ({ cls := "WindCarver", name := "restore", desc := "(I)I" } : Jvm.MethodName) prog_1_method_53_code (2 : Nat) (Option.some Jvm.ClassFile.FieldType.int)) ∈ lw_all := lw_g (lw_at lw_m4 165 rfl) rfl
theorem q946 : (Jvm.Cond.instanceMethod ({ cls := "WindCarver", name := "kind", desc := "(I)I" } : Jvm.MethodName)) ∈ lw_all := lw_g (lw_at lw_m4 167 rfl) rfl
theorem q947 : (Jvm.Cond.selects "WindCarver" ({ cls := "WindCarver", name := "kind", desc := "(I)I" } : Jvm.MethodName) ({ cls := "WindCarver", name := "kind", desc := "(I)I" } : Jvm.MethodName)) ∈ lw_all := lw_g (lw_at lw_m4 168 rfl) rfl
theorem q948 : (Jvm.Cond.code ({ cls := "WindCarver", name := "kind", desc := "(I)I" } : Jvm.MethodName) prog_1_method_54_code (2 : Nat) (Option.some Jvm.ClassFile.FieldType.int)) ∈ lw_all := lw_g (lw_at lw_m4 169 rfl) rfl
theorem q950 : (Jvm.Cond.instanceMethod ({ cls := "WindCarver", name := "as", desc := "(II)I" } : Jvm.MethodName)) ∈ lw_all := lw_g (lw_at lw_m4 171 rfl) rfl
theorem q951 : (Jvm.Cond.selects "WindCarver" ({ cls := "WindCarver", name := "as", desc := "(II)I" } : Jvm.MethodName) ({ cls := "WindCarver", name := "as", desc := "(II)I" } : Jvm.MethodName)) ∈ lw_all := lw_g (lw_at lw_m4 172 rfl) rfl
theorem q952 : (Jvm.Cond.codeWith ({ cls := "WindCarver", name := "as", desc := "(II)I" } : Jvm.MethodName) prog_1_method_55_code (4 : Nat) (Option.some Jvm.ClassFile.FieldType.int) [((49 : Nat), (69 : Nat), (70 : Nat), (319 : Nat))]) ∈ lw_all := lw_g (lw_at lw_m4 173 rfl) rfl
theorem q953 : (Jvm.Cond.classLink "WindCarver" (319 : Nat) "java/lang/ClassCastException") ∈ lw_all := lw_g (lw_at lw_m4 174 rfl) rfl
theorem q967 : (Jvm.Cond.methodLink "WindCarver" (312 : Nat) ({ cls := "WindCarver", name := "taken", desc := "(Ljava/lang/Object;I)LWindCarver$Work;" } : Jvm.MethodName)) ∈ lw_all := lw_g (lw_at lw_m4 188 rfl) rfl
theorem q968 : (Jvm.Cond.static ({ cls := "WindCarver", name := "taken", desc := "(Ljava/lang/Object;I)LWindCarver$Work;" } : Jvm.MethodName)) ∈ lw_all := lw_g (lw_at lw_m4 189 rfl) rfl
theorem q969 : (Jvm.Cond.code ({ cls := "WindCarver", name := "taken", desc := "(Ljava/lang/Object;I)LWindCarver$Work;" } : Jvm.MethodName) prog_1_method_4_code (2 : Nat) (Option.some (Jvm.ClassFile.FieldType.object "WindCarver$Work"))) ∈ lw_all := lw_g (lw_at lw_m4 190 rfl) rfl
theorem q970 : (Jvm.Cond.methodLink "WindCarver" (316 : Nat) ({ cls := "WindCarver$Work", name := "cell", desc := "()I" } : Jvm.MethodName)) ∈ lw_all := lw_g (lw_at lw_m4 191 rfl) rfl
theorem q980 : (Jvm.Cond.instanceMethod ({ cls := "WindCarver", name := "ask", desc := "(II)I" } : Jvm.MethodName)) ∈ lw_all := lw_g (lw_at lw_m4 201 rfl) rfl
theorem q981 : (Jvm.Cond.selects "WindCarver" ({ cls := "WindCarver", name := "ask", desc := "(II)I" } : Jvm.MethodName) ({ cls := "WindCarver", name := "ask", desc := "(II)I" } : Jvm.MethodName)) ∈ lw_all := lw_g (lw_at lw_m4 202 rfl) rfl
theorem q982 : (Jvm.Cond.code ({ cls := "WindCarver", name := "ask", desc := "(II)I" } : Jvm.MethodName) prog_1_method_56_code (5 : Nat) (Option.some Jvm.ClassFile.FieldType.int)) ∈ lw_all := lw_g (lw_at lw_m4 203 rfl) rfl
theorem q983 : (Jvm.Cond.classLink "WindCarver" (321 : Nat) "WindCarver$Has") ∈ lw_all := lw_g (lw_at lw_m4 204 rfl) rfl
theorem q985 : (Jvm.Cond.methodLink "WindCarver" (323 : Nat) ({ cls := "WindCarver$Has", name := "<init>", desc := "(LWindCarver;I)V" } : Jvm.MethodName)) ∈ lw_all := lw_g (lw_at lw_m4 206 rfl) rfl
theorem q1095 : (Jvm.Cond.instanceMethod ({ cls := "WindCarver", name := "trace", desc := "(I)I" } : Jvm.MethodName)) ∈ lw_all := lw_g (lw_at lw_m5 76 rfl) rfl
theorem q1096 : (Jvm.Cond.selects "WindCarver" ({ cls := "WindCarver", name := "trace", desc := "(I)I" } : Jvm.MethodName) ({ cls := "WindCarver", name := "trace", desc := "(I)I" } : Jvm.MethodName)) ∈ lw_all := lw_g (lw_at lw_m5 77 rfl) rfl
theorem q1097 : (Jvm.Cond.code ({ cls := "WindCarver", name := "trace", desc := "(I)I" } : Jvm.MethodName) prog_1_method_57_code (2 : Nat) (Option.some Jvm.ClassFile.FieldType.int)) ∈ lw_all := lw_g (lw_at lw_m5 78 rfl) rfl
theorem q1099 : (Jvm.Cond.instanceMethod ({ cls := "WindCarver", name := "count", desc := "(I)I" } : Jvm.MethodName)) ∈ lw_all := lw_g (lw_at lw_m5 80 rfl) rfl
theorem q1100 : (Jvm.Cond.selects "WindCarver" ({ cls := "WindCarver", name := "count", desc := "(I)I" } : Jvm.MethodName) ({ cls := "WindCarver", name := "count", desc := "(I)I" } : Jvm.MethodName)) ∈ lw_all := lw_g (lw_at lw_m5 81 rfl) rfl
theorem q1101 : (Jvm.Cond.code ({ cls := "WindCarver", name := "count", desc := "(I)I" } : Jvm.MethodName) prog_1_method_59_code (4 : Nat) (Option.some Jvm.ClassFile.FieldType.int)) ∈ lw_all := lw_g (lw_at lw_m5 82 rfl) rfl
theorem q1102 : (Jvm.Cond.methodLink "WindCarver" (338 : Nat) ({ cls := "WindCarver", name := "leavesNow", desc := "()I" } : Jvm.MethodName)) ∈ lw_all := lw_g (lw_at lw_m5 83 rfl) rfl
theorem q1103 : (Jvm.Cond.privateMethod ({ cls := "WindCarver", name := "leavesNow", desc := "()I" } : Jvm.MethodName)) ∈ lw_tbl := lw_at lw_m5 84 rfl
theorem q1104 : (Jvm.Cond.instanceMethod ({ cls := "WindCarver", name := "leavesNow", desc := "()I" } : Jvm.MethodName)) ∈ lw_all := lw_g (lw_at lw_m5 85 rfl) rfl
theorem q1105 : (Jvm.Cond.code ({ cls := "WindCarver", name := "leavesNow", desc := "()I" } : Jvm.MethodName) prog_1_method_58_code (4 : Nat) (Option.some Jvm.ClassFile.FieldType.int)) ∈ lw_all := lw_g (lw_at lw_m5 86 rfl) rfl
theorem q1107 : (Jvm.Cond.instanceMethod ({ cls := "WindCarver", name := "status", desc := "()I" } : Jvm.MethodName)) ∈ lw_all := lw_g (lw_at lw_m5 88 rfl) rfl
theorem q1108 : (Jvm.Cond.selects "WindCarver" ({ cls := "WindCarver", name := "status", desc := "()I" } : Jvm.MethodName) ({ cls := "WindCarver", name := "status", desc := "()I" } : Jvm.MethodName)) ∈ lw_all := lw_g (lw_at lw_m5 89 rfl) rfl
theorem q1109 : (Jvm.Cond.code ({ cls := "WindCarver", name := "status", desc := "()I" } : Jvm.MethodName) prog_1_method_60_code (1 : Nat) (Option.some Jvm.ClassFile.FieldType.int)) ∈ lw_all := lw_g (lw_at lw_m5 90 rfl) rfl
theorem in_X0 : ∀ w ∈ wsX00, w ∈ lw_all := lw_in wsX00 [214, 216, 218, 220, 222, 224, 226, 228, 230, 232, 234, 236] (by decide +kernel) (by decide +kernel)
