/-! WindCarverModel -/
set_option maxRecDepth 100000
def RX6 : String := "WindCarverModel"
def TX6 : u_T := fun k => match k with
  | 0 => ("WindCarverModel", "lanes", "[I", true)
  | 1 => ("WindCarverModel", "sizes", "[I", true)
  | 2 => ("WindCarverModel", "items", "[I", true)
  | 3 => ("WindCarverModel", "status", "I", false)
  | 4 => ("WindCarverModel", "isThere", "Z", false)
  | 5 => ("WindCarverModel", "st", "[I", true)
  | 6 => ("WindCarverModel", "moved", "[I", true)
  | 7 => ("WindCarverModel", "tape", "[I", true)
  | 8 => ("WindCarverModel", "bytes", "I", false)
  | 9 => ("WindCarverModel", "latest", "I", false)
  | 10 => ("WindCarverModel", "place", "I", false)
  | 11 => ("WindCarverModel", "token", "I", false)
  | 12 => ("WindCarverModel", "value", "I", false)
  | 13 => ("WindCarverModel", "begins", "I", false)
  | 14 => ("WindCarverModel", "wrong", "I", false)
  | 15 => ("WindCarverModel", "read", "[I", true)
  | 16 => ("WindCarverModel", "works", "I", false)
  | 17 => ("WindCarverModel", "readX", "I", false)
  | 18 => ("WindCarverModel", "felt", "[I", true)
  | 19 => ("WindCarverModel", "lostNow", "I", false)
  | 20 => ("WindCarverModel", "brokenNow", "I", false)
  | 21 => ("WindCarverModel", "acts", "[I", true)
  | 22 => ("WindCarverModel", "actMany", "I", false)
  | 23 => ("WindCarverModel", "aside", "[I", true)
  | 24 => ("WindCarverModel", "isKept", "[Z", true)
  | 25 => ("WindCarverModel", "kept", "[I", true)
  | 26 => ("WindCarverModel", "trace", "[I", true)
  | _ => ("WindCarverModel", "traced", "I", false)
def tyX6 : Nat → FieldType := fun k => match k with
  | 0 => .array .int
  | 1 => .array .int
  | 2 => .array .int
  | 3 => .int
  | 4 => .boolean
  | 5 => .array .int
  | 6 => .array .int
  | 7 => .array .int
  | 8 => .int
  | 9 => .int
  | 10 => .int
  | 11 => .int
  | 12 => .int
  | 13 => .int
  | 14 => .int
  | 15 => .array .int
  | 16 => .int
  | 17 => .int
  | 18 => .array .int
  | 19 => .int
  | 20 => .int
  | 21 => .array .int
  | 22 => .int
  | 23 => .array .int
  | 24 => .array .boolean
  | 25 => .array .int
  | 26 => .array .int
  | _ => .int
abbrev wsX60 : List Cond := u_ws RX6 TX6 28
set_option maxRecDepth 100000 in
theorem nmX6 : ∀ a, a < 28 → ∀ b, b < 28 → a ≠ b → (TX6 a).2.1 ≠ (TX6 b).2.1 := by decide +kernel
set_option maxRecDepth 100000 in
theorem tyX6_ok : ∀ k, k < 28 → parseFieldDescriptor (TX6 k).2.2.1 = some (tyX6 k) := by decide +kernel
abbrev cX6_init : ByteArray := prog_17_method_1_code
def yX6_init : MethodName := ⟨RX6, "<init>", "()V"⟩
def dkwX6_init_5 : List UInt8 := [180, 0, 13, 27, 2, 79, 132, 1, 1, 167, 255, 240, 177]
abbrev dktX6_init_5 : List UInt8 := dkwX6_init_5 ++ []
def dkwX6_init_4 : List UInt8 := [16, 114, 188, 10, 181, 0, 44, 42, 16, 16, 188, 10, 181, 0, 47, 3, 60, 27, 16, 8, 162, 0, 16, 42]
abbrev dktX6_init_4 : List UInt8 := dkwX6_init_4 ++ dktX6_init_5
def dkwX6_init_3 : List UInt8 := [17, 5, 88, 188, 10, 181, 0, 34, 42, 16, 57, 188, 10, 181, 0, 37, 42, 5, 188, 4, 181, 0, 40, 42]
abbrev dktX6_init_3 : List UInt8 := dkwX6_init_3 ++ dktX6_init_4
def dkwX6_init_2 : List UInt8 := [188, 10, 181, 0, 25, 42, 16, 57, 188, 10, 181, 0, 28, 42, 16, 20, 188, 10, 181, 0, 31, 42]
abbrev dktX6_init_2 : List UInt8 := dkwX6_init_2 ++ dktX6_init_3
def dkwX6_init_1 : List UInt8 := [188, 10, 181, 0, 16, 42, 16, 57, 188, 10, 181, 0, 19, 42, 16, 40, 188, 10, 181, 0, 22, 42, 16, 120]
abbrev dktX6_init_1 : List UInt8 := dkwX6_init_1 ++ dktX6_init_2
def dkwX6_init_0 : List UInt8 := [42, 183, 0, 1, 42, 16, 8, 188, 10, 181, 0, 7, 42, 16, 8, 188, 10, 181, 0, 13, 42, 17, 1, 64]
abbrev dktX6_init_0 : List UInt8 := dkwX6_init_0 ++ dktX6_init_1
theorem dksX6_init_0 : cX6_init.data.toList.drop 0 = dktX6_init_0 := by decide +kernel
theorem dksX6_init_1 : cX6_init.data.toList.drop 24 = dktX6_init_1 := dk_seg dksX6_init_0 24 rfl rfl
theorem dksX6_init_2 : cX6_init.data.toList.drop 48 = dktX6_init_2 := dk_seg dksX6_init_1 24 rfl rfl
theorem dksX6_init_3 : cX6_init.data.toList.drop 70 = dktX6_init_3 := dk_seg dksX6_init_2 22 rfl rfl
theorem dksX6_init_4 : cX6_init.data.toList.drop 94 = dktX6_init_4 := dk_seg dksX6_init_3 24 rfl rfl
theorem dksX6_init_5 : cX6_init.data.toList.drop 118 = dktX6_init_5 := dk_seg dksX6_init_4 24 rfl rfl
theorem dX6_init_0 : decode cX6_init 0 = .ok (.aload_n 0, 1) := dk_42 (dk_at dksX6_init_0 0 rfl rfl)
theorem dX6_init_1 : decode cX6_init 1 = .ok (.invokespecial 1, 3) := dk_183 0 1 (dk_at dksX6_init_0 1 rfl rfl)
theorem dX6_init_4 : decode cX6_init 4 = .ok (.aload_n 0, 1) := dk_42 (dk_at dksX6_init_0 4 rfl rfl)
theorem dX6_init_5 : decode cX6_init 5 = .ok (.bipush 8, 2) := dk_16 8 (dk_at dksX6_init_0 5 rfl rfl)
theorem dX6_init_7 : decode cX6_init 7 = .ok (.newarray .int, 2) := dk_188_10 (dk_at dksX6_init_0 7 rfl rfl)
theorem dX6_init_9 : decode cX6_init 9 = .ok (.putfield 7, 3) := dk_181 0 7 (dk_at dksX6_init_0 9 rfl rfl)
theorem dX6_init_12 : decode cX6_init 12 = .ok (.aload_n 0, 1) := dk_42 (dk_at dksX6_init_0 12 rfl rfl)
theorem dX6_init_13 : decode cX6_init 13 = .ok (.bipush 8, 2) := dk_16 8 (dk_at dksX6_init_0 13 rfl rfl)
theorem dX6_init_15 : decode cX6_init 15 = .ok (.newarray .int, 2) := dk_188_10 (dk_at dksX6_init_0 15 rfl rfl)
theorem dX6_init_17 : decode cX6_init 17 = .ok (.putfield 13, 3) := dk_181 0 13 (dk_at dksX6_init_0 17 rfl rfl)
theorem dX6_init_20 : decode cX6_init 20 = .ok (.aload_n 0, 1) := dk_42 (dk_at dksX6_init_0 20 rfl rfl)
theorem dX6_init_21 : decode cX6_init 21 = .ok (.sipush 320, 3) := dk_17 1 64 (dk_at dksX6_init_0 21 rfl rfl)
theorem dX6_init_24 : decode cX6_init 24 = .ok (.newarray .int, 2) := dk_188_10 (dk_at dksX6_init_1 0 rfl rfl)
theorem dX6_init_26 : decode cX6_init 26 = .ok (.putfield 16, 3) := dk_181 0 16 (dk_at dksX6_init_1 2 rfl rfl)
theorem dX6_init_29 : decode cX6_init 29 = .ok (.aload_n 0, 1) := dk_42 (dk_at dksX6_init_1 5 rfl rfl)
theorem dX6_init_30 : decode cX6_init 30 = .ok (.bipush 57, 2) := dk_16 57 (dk_at dksX6_init_1 6 rfl rfl)
theorem dX6_init_32 : decode cX6_init 32 = .ok (.newarray .int, 2) := dk_188_10 (dk_at dksX6_init_1 8 rfl rfl)
theorem dX6_init_34 : decode cX6_init 34 = .ok (.putfield 19, 3) := dk_181 0 19 (dk_at dksX6_init_1 10 rfl rfl)
theorem dX6_init_37 : decode cX6_init 37 = .ok (.aload_n 0, 1) := dk_42 (dk_at dksX6_init_1 13 rfl rfl)
theorem dX6_init_38 : decode cX6_init 38 = .ok (.bipush 40, 2) := dk_16 40 (dk_at dksX6_init_1 14 rfl rfl)
theorem dX6_init_40 : decode cX6_init 40 = .ok (.newarray .int, 2) := dk_188_10 (dk_at dksX6_init_1 16 rfl rfl)
theorem dX6_init_42 : decode cX6_init 42 = .ok (.putfield 22, 3) := dk_181 0 22 (dk_at dksX6_init_1 18 rfl rfl)
theorem dX6_init_45 : decode cX6_init 45 = .ok (.aload_n 0, 1) := dk_42 (dk_at dksX6_init_1 21 rfl rfl)
theorem dX6_init_46 : decode cX6_init 46 = .ok (.bipush 120, 2) := dk_16 120 (dk_at dksX6_init_1 22 rfl rfl)
theorem dX6_init_48 : decode cX6_init 48 = .ok (.newarray .int, 2) := dk_188_10 (dk_at dksX6_init_2 0 rfl rfl)
theorem dX6_init_50 : decode cX6_init 50 = .ok (.putfield 25, 3) := dk_181 0 25 (dk_at dksX6_init_2 2 rfl rfl)
theorem dX6_init_53 : decode cX6_init 53 = .ok (.aload_n 0, 1) := dk_42 (dk_at dksX6_init_2 5 rfl rfl)
theorem dX6_init_54 : decode cX6_init 54 = .ok (.bipush 57, 2) := dk_16 57 (dk_at dksX6_init_2 6 rfl rfl)
theorem dX6_init_56 : decode cX6_init 56 = .ok (.newarray .int, 2) := dk_188_10 (dk_at dksX6_init_2 8 rfl rfl)
theorem dX6_init_58 : decode cX6_init 58 = .ok (.putfield 28, 3) := dk_181 0 28 (dk_at dksX6_init_2 10 rfl rfl)
theorem dX6_init_61 : decode cX6_init 61 = .ok (.aload_n 0, 1) := dk_42 (dk_at dksX6_init_2 13 rfl rfl)
theorem dX6_init_62 : decode cX6_init 62 = .ok (.bipush 20, 2) := dk_16 20 (dk_at dksX6_init_2 14 rfl rfl)
theorem dX6_init_64 : decode cX6_init 64 = .ok (.newarray .int, 2) := dk_188_10 (dk_at dksX6_init_2 16 rfl rfl)
theorem dX6_init_66 : decode cX6_init 66 = .ok (.putfield 31, 3) := dk_181 0 31 (dk_at dksX6_init_2 18 rfl rfl)
theorem dX6_init_69 : decode cX6_init 69 = .ok (.aload_n 0, 1) := dk_42 (dk_at dksX6_init_2 21 rfl rfl)
theorem dX6_init_70 : decode cX6_init 70 = .ok (.sipush 1368, 3) := dk_17 5 88 (dk_at dksX6_init_3 0 rfl rfl)
theorem dX6_init_73 : decode cX6_init 73 = .ok (.newarray .int, 2) := dk_188_10 (dk_at dksX6_init_3 3 rfl rfl)
theorem dX6_init_75 : decode cX6_init 75 = .ok (.putfield 34, 3) := dk_181 0 34 (dk_at dksX6_init_3 5 rfl rfl)
theorem dX6_init_78 : decode cX6_init 78 = .ok (.aload_n 0, 1) := dk_42 (dk_at dksX6_init_3 8 rfl rfl)
theorem dX6_init_79 : decode cX6_init 79 = .ok (.bipush 57, 2) := dk_16 57 (dk_at dksX6_init_3 9 rfl rfl)
theorem dX6_init_81 : decode cX6_init 81 = .ok (.newarray .int, 2) := dk_188_10 (dk_at dksX6_init_3 11 rfl rfl)
theorem dX6_init_83 : decode cX6_init 83 = .ok (.putfield 37, 3) := dk_181 0 37 (dk_at dksX6_init_3 13 rfl rfl)
theorem dX6_init_86 : decode cX6_init 86 = .ok (.aload_n 0, 1) := dk_42 (dk_at dksX6_init_3 16 rfl rfl)
theorem dX6_init_87 : decode cX6_init 87 = .ok (.iconst 2, 1) := dk_5 (dk_at dksX6_init_3 17 rfl rfl)
theorem dX6_init_88 : decode cX6_init 88 = .ok (.newarray .boolean, 2) := dk_188_4 (dk_at dksX6_init_3 18 rfl rfl)
theorem dX6_init_90 : decode cX6_init 90 = .ok (.putfield 40, 3) := dk_181 0 40 (dk_at dksX6_init_3 20 rfl rfl)
theorem dX6_init_93 : decode cX6_init 93 = .ok (.aload_n 0, 1) := dk_42 (dk_at dksX6_init_3 23 rfl rfl)
theorem dX6_init_94 : decode cX6_init 94 = .ok (.bipush 114, 2) := dk_16 114 (dk_at dksX6_init_4 0 rfl rfl)
theorem dX6_init_96 : decode cX6_init 96 = .ok (.newarray .int, 2) := dk_188_10 (dk_at dksX6_init_4 2 rfl rfl)
theorem dX6_init_98 : decode cX6_init 98 = .ok (.putfield 44, 3) := dk_181 0 44 (dk_at dksX6_init_4 4 rfl rfl)
theorem dX6_init_101 : decode cX6_init 101 = .ok (.aload_n 0, 1) := dk_42 (dk_at dksX6_init_4 7 rfl rfl)
theorem dX6_init_102 : decode cX6_init 102 = .ok (.bipush 16, 2) := dk_16 16 (dk_at dksX6_init_4 8 rfl rfl)
theorem dX6_init_104 : decode cX6_init 104 = .ok (.newarray .int, 2) := dk_188_10 (dk_at dksX6_init_4 10 rfl rfl)
theorem dX6_init_106 : decode cX6_init 106 = .ok (.putfield 47, 3) := dk_181 0 47 (dk_at dksX6_init_4 12 rfl rfl)
theorem dX6_init_109 : decode cX6_init 109 = .ok (.iconst 0, 1) := dk_3 (dk_at dksX6_init_4 15 rfl rfl)
theorem dX6_init_110 : decode cX6_init 110 = .ok (.istore_n 1, 1) := dk_60 (dk_at dksX6_init_4 16 rfl rfl)
theorem dX6_init_111 : decode cX6_init 111 = .ok (.iload_n 1, 1) := dk_27 (dk_at dksX6_init_4 17 rfl rfl)
theorem dX6_init_112 : decode cX6_init 112 = .ok (.bipush 8, 2) := dk_16 8 (dk_at dksX6_init_4 18 rfl rfl)
theorem dX6_init_114 : decode cX6_init 114 = .ok (.if_icmp .ge 16, 3) := dk_162 0 16 (dk_at dksX6_init_4 20 rfl rfl)
theorem dX6_init_117 : decode cX6_init 117 = .ok (.aload_n 0, 1) := dk_42 (dk_at dksX6_init_4 23 rfl rfl)
theorem dX6_init_118 : decode cX6_init 118 = .ok (.getfield 13, 3) := dk_180 0 13 (dk_at dksX6_init_5 0 rfl rfl)
theorem dX6_init_121 : decode cX6_init 121 = .ok (.iload_n 1, 1) := dk_27 (dk_at dksX6_init_5 3 rfl rfl)
theorem dX6_init_122 : decode cX6_init 122 = .ok (.iconst (-1), 1) := dk_2 (dk_at dksX6_init_5 4 rfl rfl)
theorem dX6_init_123 : decode cX6_init 123 = .ok (.iastore, 1) := dk_79 (dk_at dksX6_init_5 5 rfl rfl)
theorem dX6_init_124 : decode cX6_init 124 = .ok (.iinc 1 1, 3) := dk_132 1 1 (dk_at dksX6_init_5 6 rfl rfl)
theorem dX6_init_127 : decode cX6_init 127 = .ok (.goto (-16), 3) := dk_167 255 240 (dk_at dksX6_init_5 9 rfl rfl)
theorem dX6_init_130 : decode cX6_init 130 = .ok (.return_, 1) := dk_177 (dk_at dksX6_init_5 12 rfl rfl)
abbrev cX6_row : ByteArray := prog_17_method_7_code
def yX6_row : MethodName := ⟨RX6, "row", "(III)I"⟩
def dkwX6_row_3 : List UInt8 := [21, 4, 96, 3, 79, 132, 4, 1, 167, 255, 233, 42, 29, 182, 0, 72, 172]
abbrev dktX6_row_3 : List UInt8 := dkwX6_row_3 ++ []
def dkwX6_row_2 : List UInt8 := [180, 0, 13, 27, 29, 79, 3, 54, 4, 21, 4, 16, 40, 162, 0, 22, 42, 180, 0, 16, 16, 40, 27, 104]
abbrev dktX6_row_2 : List UInt8 := dkwX6_row_2 ++ dktX6_row_3
def dkwX6_row_1 : List UInt8 := [164, 0, 6, 18, 67, 172, 29, 156, 0, 9, 42, 7, 182, 0, 68, 172, 42, 180, 0, 7, 27, 28, 79, 42]
abbrev dktX6_row_1 : List UInt8 := dkwX6_row_1 ++ dktX6_row_2
def dkwX6_row_0 : List UInt8 := [27, 184, 0, 61, 153, 0, 21, 28, 133, 9, 20, 0, 65, 184, 0, 57, 153, 0, 9, 29, 16, 40]
abbrev dktX6_row_0 : List UInt8 := dkwX6_row_0 ++ dktX6_row_1
theorem dksX6_row_0 : cX6_row.data.toList.drop 0 = dktX6_row_0 := by decide +kernel
theorem dksX6_row_1 : cX6_row.data.toList.drop 22 = dktX6_row_1 := dk_seg dksX6_row_0 22 rfl rfl
theorem dksX6_row_2 : cX6_row.data.toList.drop 46 = dktX6_row_2 := dk_seg dksX6_row_1 24 rfl rfl
theorem dksX6_row_3 : cX6_row.data.toList.drop 70 = dktX6_row_3 := dk_seg dksX6_row_2 24 rfl rfl
theorem dX6_row_0 : decode cX6_row 0 = .ok (.iload_n 1, 1) := dk_27 (dk_at dksX6_row_0 0 rfl rfl)
theorem dX6_row_1 : decode cX6_row 1 = .ok (.invokestatic 61, 3) := dk_184 0 61 (dk_at dksX6_row_0 1 rfl rfl)
theorem dX6_row_4 : decode cX6_row 4 = .ok (.ifCond .eq 21, 3) := dk_153 0 21 (dk_at dksX6_row_0 4 rfl rfl)
theorem dX6_row_7 : decode cX6_row 7 = .ok (.iload_n 2, 1) := dk_28 (dk_at dksX6_row_0 7 rfl rfl)
theorem dX6_row_8 : decode cX6_row 8 = .ok (.i2l, 1) := dk_133 (dk_at dksX6_row_0 8 rfl rfl)
theorem dX6_row_9 : decode cX6_row 9 = .ok (.lconst 0, 1) := dk_9 (dk_at dksX6_row_0 9 rfl rfl)
theorem dX6_row_10 : decode cX6_row 10 = .ok (.ldc2_w 65, 3) := dk_20 0 65 (dk_at dksX6_row_0 10 rfl rfl)
theorem dX6_row_13 : decode cX6_row 13 = .ok (.invokestatic 57, 3) := dk_184 0 57 (dk_at dksX6_row_0 13 rfl rfl)
theorem dX6_row_16 : decode cX6_row 16 = .ok (.ifCond .eq 9, 3) := dk_153 0 9 (dk_at dksX6_row_0 16 rfl rfl)
theorem dX6_row_19 : decode cX6_row 19 = .ok (.iload_n 3, 1) := dk_29 (dk_at dksX6_row_0 19 rfl rfl)
theorem dX6_row_20 : decode cX6_row 20 = .ok (.bipush 40, 2) := dk_16 40 (dk_at dksX6_row_0 20 rfl rfl)
theorem dX6_row_22 : decode cX6_row 22 = .ok (.if_icmp .le 6, 3) := dk_164 0 6 (dk_at dksX6_row_1 0 rfl rfl)
theorem dX6_row_25 : decode cX6_row 25 = .ok (.ldc 67, 2) := dk_18 67 (dk_at dksX6_row_1 3 rfl rfl)
theorem dX6_row_27 : decode cX6_row 27 = .ok (.ireturn, 1) := dk_172 (dk_at dksX6_row_1 5 rfl rfl)
theorem dX6_row_28 : decode cX6_row 28 = .ok (.iload_n 3, 1) := dk_29 (dk_at dksX6_row_1 6 rfl rfl)
theorem dX6_row_29 : decode cX6_row 29 = .ok (.ifCond .ge 9, 3) := dk_156 0 9 (dk_at dksX6_row_1 7 rfl rfl)
theorem dX6_row_32 : decode cX6_row 32 = .ok (.aload_n 0, 1) := dk_42 (dk_at dksX6_row_1 10 rfl rfl)
theorem dX6_row_33 : decode cX6_row 33 = .ok (.iconst 4, 1) := dk_7 (dk_at dksX6_row_1 11 rfl rfl)
theorem dX6_row_34 : decode cX6_row 34 = .ok (.invokevirtual 68, 3) := dk_182 0 68 (dk_at dksX6_row_1 12 rfl rfl)
theorem dX6_row_37 : decode cX6_row 37 = .ok (.ireturn, 1) := dk_172 (dk_at dksX6_row_1 15 rfl rfl)
theorem dX6_row_38 : decode cX6_row 38 = .ok (.aload_n 0, 1) := dk_42 (dk_at dksX6_row_1 16 rfl rfl)
theorem dX6_row_39 : decode cX6_row 39 = .ok (.getfield 7, 3) := dk_180 0 7 (dk_at dksX6_row_1 17 rfl rfl)
theorem dX6_row_42 : decode cX6_row 42 = .ok (.iload_n 1, 1) := dk_27 (dk_at dksX6_row_1 20 rfl rfl)
theorem dX6_row_43 : decode cX6_row 43 = .ok (.iload_n 2, 1) := dk_28 (dk_at dksX6_row_1 21 rfl rfl)
theorem dX6_row_44 : decode cX6_row 44 = .ok (.iastore, 1) := dk_79 (dk_at dksX6_row_1 22 rfl rfl)
theorem dX6_row_45 : decode cX6_row 45 = .ok (.aload_n 0, 1) := dk_42 (dk_at dksX6_row_1 23 rfl rfl)
theorem dX6_row_46 : decode cX6_row 46 = .ok (.getfield 13, 3) := dk_180 0 13 (dk_at dksX6_row_2 0 rfl rfl)
theorem dX6_row_49 : decode cX6_row 49 = .ok (.iload_n 1, 1) := dk_27 (dk_at dksX6_row_2 3 rfl rfl)
theorem dX6_row_50 : decode cX6_row 50 = .ok (.iload_n 3, 1) := dk_29 (dk_at dksX6_row_2 4 rfl rfl)
theorem dX6_row_51 : decode cX6_row 51 = .ok (.iastore, 1) := dk_79 (dk_at dksX6_row_2 5 rfl rfl)
theorem dX6_row_52 : decode cX6_row 52 = .ok (.iconst 0, 1) := dk_3 (dk_at dksX6_row_2 6 rfl rfl)
theorem dX6_row_53 : decode cX6_row 53 = .ok (.istore 4, 2) := dk_54 4 (dk_at dksX6_row_2 7 rfl rfl)
theorem dX6_row_55 : decode cX6_row 55 = .ok (.iload 4, 2) := dk_21 4 (dk_at dksX6_row_2 9 rfl rfl)
theorem dX6_row_57 : decode cX6_row 57 = .ok (.bipush 40, 2) := dk_16 40 (dk_at dksX6_row_2 11 rfl rfl)
theorem dX6_row_59 : decode cX6_row 59 = .ok (.if_icmp .ge 22, 3) := dk_162 0 22 (dk_at dksX6_row_2 13 rfl rfl)
theorem dX6_row_62 : decode cX6_row 62 = .ok (.aload_n 0, 1) := dk_42 (dk_at dksX6_row_2 16 rfl rfl)
theorem dX6_row_63 : decode cX6_row 63 = .ok (.getfield 16, 3) := dk_180 0 16 (dk_at dksX6_row_2 17 rfl rfl)
theorem dX6_row_66 : decode cX6_row 66 = .ok (.bipush 40, 2) := dk_16 40 (dk_at dksX6_row_2 20 rfl rfl)
theorem dX6_row_68 : decode cX6_row 68 = .ok (.iload_n 1, 1) := dk_27 (dk_at dksX6_row_2 22 rfl rfl)
theorem dX6_row_69 : decode cX6_row 69 = .ok (.imul, 1) := dk_104 (dk_at dksX6_row_2 23 rfl rfl)
theorem dX6_row_70 : decode cX6_row 70 = .ok (.iload 4, 2) := dk_21 4 (dk_at dksX6_row_3 0 rfl rfl)
theorem dX6_row_72 : decode cX6_row 72 = .ok (.iadd, 1) := dk_96 (dk_at dksX6_row_3 2 rfl rfl)
theorem dX6_row_73 : decode cX6_row 73 = .ok (.iconst 0, 1) := dk_3 (dk_at dksX6_row_3 3 rfl rfl)
theorem dX6_row_74 : decode cX6_row 74 = .ok (.iastore, 1) := dk_79 (dk_at dksX6_row_3 4 rfl rfl)
theorem dX6_row_75 : decode cX6_row 75 = .ok (.iinc 4 1, 3) := dk_132 4 1 (dk_at dksX6_row_3 5 rfl rfl)
theorem dX6_row_78 : decode cX6_row 78 = .ok (.goto (-23), 3) := dk_167 255 233 (dk_at dksX6_row_3 8 rfl rfl)
theorem dX6_row_81 : decode cX6_row 81 = .ok (.aload_n 0, 1) := dk_42 (dk_at dksX6_row_3 11 rfl rfl)
theorem dX6_row_82 : decode cX6_row 82 = .ok (.iload_n 3, 1) := dk_29 (dk_at dksX6_row_3 12 rfl rfl)
theorem dX6_row_83 : decode cX6_row 83 = .ok (.invokevirtual 72, 3) := dk_182 0 72 (dk_at dksX6_row_3 13 rfl rfl)
theorem dX6_row_86 : decode cX6_row 86 = .ok (.ireturn, 1) := dk_172 (dk_at dksX6_row_3 16 rfl rfl)
abbrev cX6_isRow : ByteArray := prog_17_method_6_code
def yX6_isRow : MethodName := ⟨RX6, "isRow", "(I)Z"⟩
def dkwX6_isRow_0 : List UInt8 := [26, 133, 9, 20, 0, 55, 184, 0, 57, 172]
abbrev dktX6_isRow_0 : List UInt8 := dkwX6_isRow_0 ++ []
theorem dksX6_isRow_0 : cX6_isRow.data.toList.drop 0 = dktX6_isRow_0 := by decide +kernel
theorem dX6_isRow_0 : decode cX6_isRow 0 = .ok (.iload_n 0, 1) := dk_26 (dk_at dksX6_isRow_0 0 rfl rfl)
theorem dX6_isRow_1 : decode cX6_isRow 1 = .ok (.i2l, 1) := dk_133 (dk_at dksX6_isRow_0 1 rfl rfl)
theorem dX6_isRow_2 : decode cX6_isRow 2 = .ok (.lconst 0, 1) := dk_9 (dk_at dksX6_isRow_0 2 rfl rfl)
theorem dX6_isRow_3 : decode cX6_isRow 3 = .ok (.ldc2_w 55, 3) := dk_20 0 55 (dk_at dksX6_isRow_0 3 rfl rfl)
theorem dX6_isRow_6 : decode cX6_isRow 6 = .ok (.invokestatic 57, 3) := dk_184 0 57 (dk_at dksX6_isRow_0 6 rfl rfl)
theorem dX6_isRow_9 : decode cX6_isRow 9 = .ok (.ireturn, 1) := dk_172 (dk_at dksX6_isRow_0 9 rfl rfl)
abbrev cX6_in : ByteArray := prog_17_method_2_code
def yX6_in : MethodName := ⟨RX6, "in", "(JJJ)Z"⟩
def dkwX6_in_0 : List UInt8 := [30, 32, 148, 155, 0, 14, 30, 22, 4, 148, 157, 0, 7, 4, 167, 0, 4, 3, 172]
abbrev dktX6_in_0 : List UInt8 := dkwX6_in_0 ++ []
theorem dksX6_in_0 : cX6_in.data.toList.drop 0 = dktX6_in_0 := by decide +kernel
theorem dX6_in_0 : decode cX6_in 0 = .ok (.lload_n 0, 1) := dk_30 (dk_at dksX6_in_0 0 rfl rfl)
theorem dX6_in_1 : decode cX6_in 1 = .ok (.lload_n 2, 1) := dk_32 (dk_at dksX6_in_0 1 rfl rfl)
theorem dX6_in_2 : decode cX6_in 2 = .ok (.lcmp, 1) := dk_148 (dk_at dksX6_in_0 2 rfl rfl)
theorem dX6_in_3 : decode cX6_in 3 = .ok (.ifCond .lt 14, 3) := dk_155 0 14 (dk_at dksX6_in_0 3 rfl rfl)
theorem dX6_in_6 : decode cX6_in 6 = .ok (.lload_n 0, 1) := dk_30 (dk_at dksX6_in_0 6 rfl rfl)
theorem dX6_in_7 : decode cX6_in 7 = .ok (.lload 4, 2) := dk_22 4 (dk_at dksX6_in_0 7 rfl rfl)
theorem dX6_in_9 : decode cX6_in 9 = .ok (.lcmp, 1) := dk_148 (dk_at dksX6_in_0 9 rfl rfl)
theorem dX6_in_10 : decode cX6_in 10 = .ok (.ifCond .gt 7, 3) := dk_157 0 7 (dk_at dksX6_in_0 10 rfl rfl)
theorem dX6_in_13 : decode cX6_in 13 = .ok (.iconst 1, 1) := dk_4 (dk_at dksX6_in_0 13 rfl rfl)
theorem dX6_in_14 : decode cX6_in 14 = .ok (.goto 4, 3) := dk_167 0 4 (dk_at dksX6_in_0 14 rfl rfl)
theorem dX6_in_17 : decode cX6_in 17 = .ok (.iconst 0, 1) := dk_3 (dk_at dksX6_in_0 17 rfl rfl)
theorem dX6_in_18 : decode cX6_in 18 = .ok (.ireturn, 1) := dk_172 (dk_at dksX6_in_0 18 rfl rfl)
abbrev cX6_find : ByteArray := prog_17_method_4_code
def yX6_find : MethodName := ⟨RX6, "find", "(I)I"⟩
def dkwX6_find_0 : List UInt8 := [42, 27, 181, 0, 50, 18, 54, 27, 100, 172]
abbrev dktX6_find_0 : List UInt8 := dkwX6_find_0 ++ []
theorem dksX6_find_0 : cX6_find.data.toList.drop 0 = dktX6_find_0 := by decide +kernel
theorem dX6_find_0 : decode cX6_find 0 = .ok (.aload_n 0, 1) := dk_42 (dk_at dksX6_find_0 0 rfl rfl)
theorem dX6_find_1 : decode cX6_find 1 = .ok (.iload_n 1, 1) := dk_27 (dk_at dksX6_find_0 1 rfl rfl)
theorem dX6_find_2 : decode cX6_find 2 = .ok (.putfield 50, 3) := dk_181 0 50 (dk_at dksX6_find_0 2 rfl rfl)
theorem dX6_find_5 : decode cX6_find 5 = .ok (.ldc 54, 2) := dk_18 54 (dk_at dksX6_find_0 5 rfl rfl)
theorem dX6_find_7 : decode cX6_find 7 = .ok (.iload_n 1, 1) := dk_27 (dk_at dksX6_find_0 7 rfl rfl)
theorem dX6_find_8 : decode cX6_find 8 = .ok (.isub, 1) := dk_100 (dk_at dksX6_find_0 8 rfl rfl)
theorem dX6_find_9 : decode cX6_find 9 = .ok (.ireturn, 1) := dk_172 (dk_at dksX6_find_0 9 rfl rfl)
abbrev cX6_well : ByteArray := prog_17_method_5_code
def yX6_well : MethodName := ⟨RX6, "well", "(I)I"⟩
def dkwX6_well_0 : List UInt8 := [42, 3, 181, 0, 50, 27, 172]
abbrev dktX6_well_0 : List UInt8 := dkwX6_well_0 ++ []
theorem dksX6_well_0 : cX6_well.data.toList.drop 0 = dktX6_well_0 := by decide +kernel
theorem dX6_well_0 : decode cX6_well 0 = .ok (.aload_n 0, 1) := dk_42 (dk_at dksX6_well_0 0 rfl rfl)
theorem dX6_well_1 : decode cX6_well 1 = .ok (.iconst 0, 1) := dk_3 (dk_at dksX6_well_0 1 rfl rfl)
theorem dX6_well_2 : decode cX6_well 2 = .ok (.putfield 50, 3) := dk_181 0 50 (dk_at dksX6_well_0 2 rfl rfl)
theorem dX6_well_5 : decode cX6_well 5 = .ok (.iload_n 1, 1) := dk_27 (dk_at dksX6_well_0 5 rfl rfl)
theorem dX6_well_6 : decode cX6_well 6 = .ok (.ireturn, 1) := dk_172 (dk_at dksX6_well_0 6 rfl rfl)
abbrev cX6_set : ByteArray := prog_17_method_9_code
def yX6_set : MethodName := ⟨RX6, "set", "(III)I"⟩
def dkwX6_set_3 : List UInt8 := [180, 0, 16, 16, 40, 27, 104, 28, 96, 46, 182, 0, 72, 172]
abbrev dktX6_set_3 : List UInt8 := dkwX6_set_3 ++ []
def dkwX6_set_2 : List UInt8 := [172, 42, 180, 0, 16, 16, 40, 27, 104, 28, 96, 42, 180, 0, 7, 27, 46, 29, 184, 0, 75, 79, 42, 42]
abbrev dktX6_set_2 : List UInt8 := dkwX6_set_2 ++ dktX6_set_3
def dkwX6_set_1 : List UInt8 := [172, 28, 133, 9, 42, 180, 0, 13, 27, 46, 4, 100, 133, 184, 0, 57, 154, 0, 9, 42, 5, 182, 0, 68]
abbrev dktX6_set_1 : List UInt8 := dkwX6_set_1 ++ dktX6_set_2
def dkwX6_set_0 : List UInt8 := [27, 184, 0, 61, 154, 0, 6, 18, 67, 172, 42, 180, 0, 13, 27, 46, 156, 0, 9, 42, 4, 182, 0, 68]
abbrev dktX6_set_0 : List UInt8 := dkwX6_set_0 ++ dktX6_set_1
theorem dksX6_set_0 : cX6_set.data.toList.drop 0 = dktX6_set_0 := by decide +kernel
theorem dksX6_set_1 : cX6_set.data.toList.drop 24 = dktX6_set_1 := dk_seg dksX6_set_0 24 rfl rfl
theorem dksX6_set_2 : cX6_set.data.toList.drop 48 = dktX6_set_2 := dk_seg dksX6_set_1 24 rfl rfl
theorem dksX6_set_3 : cX6_set.data.toList.drop 72 = dktX6_set_3 := dk_seg dksX6_set_2 24 rfl rfl
theorem dX6_set_0 : decode cX6_set 0 = .ok (.iload_n 1, 1) := dk_27 (dk_at dksX6_set_0 0 rfl rfl)
theorem dX6_set_1 : decode cX6_set 1 = .ok (.invokestatic 61, 3) := dk_184 0 61 (dk_at dksX6_set_0 1 rfl rfl)
theorem dX6_set_4 : decode cX6_set 4 = .ok (.ifCond .ne 6, 3) := dk_154 0 6 (dk_at dksX6_set_0 4 rfl rfl)
theorem dX6_set_7 : decode cX6_set 7 = .ok (.ldc 67, 2) := dk_18 67 (dk_at dksX6_set_0 7 rfl rfl)
theorem dX6_set_9 : decode cX6_set 9 = .ok (.ireturn, 1) := dk_172 (dk_at dksX6_set_0 9 rfl rfl)
theorem dX6_set_10 : decode cX6_set 10 = .ok (.aload_n 0, 1) := dk_42 (dk_at dksX6_set_0 10 rfl rfl)
theorem dX6_set_11 : decode cX6_set 11 = .ok (.getfield 13, 3) := dk_180 0 13 (dk_at dksX6_set_0 11 rfl rfl)
theorem dX6_set_14 : decode cX6_set 14 = .ok (.iload_n 1, 1) := dk_27 (dk_at dksX6_set_0 14 rfl rfl)
theorem dX6_set_15 : decode cX6_set 15 = .ok (.iaload, 1) := dk_46 (dk_at dksX6_set_0 15 rfl rfl)
theorem dX6_set_16 : decode cX6_set 16 = .ok (.ifCond .ge 9, 3) := dk_156 0 9 (dk_at dksX6_set_0 16 rfl rfl)
theorem dX6_set_19 : decode cX6_set 19 = .ok (.aload_n 0, 1) := dk_42 (dk_at dksX6_set_0 19 rfl rfl)
theorem dX6_set_20 : decode cX6_set 20 = .ok (.iconst 1, 1) := dk_4 (dk_at dksX6_set_0 20 rfl rfl)
theorem dX6_set_21 : decode cX6_set 21 = .ok (.invokevirtual 68, 3) := dk_182 0 68 (dk_at dksX6_set_0 21 rfl rfl)
theorem dX6_set_24 : decode cX6_set 24 = .ok (.ireturn, 1) := dk_172 (dk_at dksX6_set_1 0 rfl rfl)
theorem dX6_set_25 : decode cX6_set 25 = .ok (.iload_n 2, 1) := dk_28 (dk_at dksX6_set_1 1 rfl rfl)
theorem dX6_set_26 : decode cX6_set 26 = .ok (.i2l, 1) := dk_133 (dk_at dksX6_set_1 2 rfl rfl)
theorem dX6_set_27 : decode cX6_set 27 = .ok (.lconst 0, 1) := dk_9 (dk_at dksX6_set_1 3 rfl rfl)
theorem dX6_set_28 : decode cX6_set 28 = .ok (.aload_n 0, 1) := dk_42 (dk_at dksX6_set_1 4 rfl rfl)
theorem dX6_set_29 : decode cX6_set 29 = .ok (.getfield 13, 3) := dk_180 0 13 (dk_at dksX6_set_1 5 rfl rfl)
theorem dX6_set_32 : decode cX6_set 32 = .ok (.iload_n 1, 1) := dk_27 (dk_at dksX6_set_1 8 rfl rfl)
theorem dX6_set_33 : decode cX6_set 33 = .ok (.iaload, 1) := dk_46 (dk_at dksX6_set_1 9 rfl rfl)
theorem dX6_set_34 : decode cX6_set 34 = .ok (.iconst 1, 1) := dk_4 (dk_at dksX6_set_1 10 rfl rfl)
theorem dX6_set_35 : decode cX6_set 35 = .ok (.isub, 1) := dk_100 (dk_at dksX6_set_1 11 rfl rfl)
theorem dX6_set_36 : decode cX6_set 36 = .ok (.i2l, 1) := dk_133 (dk_at dksX6_set_1 12 rfl rfl)
theorem dX6_set_37 : decode cX6_set 37 = .ok (.invokestatic 57, 3) := dk_184 0 57 (dk_at dksX6_set_1 13 rfl rfl)
theorem dX6_set_40 : decode cX6_set 40 = .ok (.ifCond .ne 9, 3) := dk_154 0 9 (dk_at dksX6_set_1 16 rfl rfl)
theorem dX6_set_43 : decode cX6_set 43 = .ok (.aload_n 0, 1) := dk_42 (dk_at dksX6_set_1 19 rfl rfl)
theorem dX6_set_44 : decode cX6_set 44 = .ok (.iconst 2, 1) := dk_5 (dk_at dksX6_set_1 20 rfl rfl)
theorem dX6_set_45 : decode cX6_set 45 = .ok (.invokevirtual 68, 3) := dk_182 0 68 (dk_at dksX6_set_1 21 rfl rfl)
theorem dX6_set_48 : decode cX6_set 48 = .ok (.ireturn, 1) := dk_172 (dk_at dksX6_set_2 0 rfl rfl)
theorem dX6_set_49 : decode cX6_set 49 = .ok (.aload_n 0, 1) := dk_42 (dk_at dksX6_set_2 1 rfl rfl)
theorem dX6_set_50 : decode cX6_set 50 = .ok (.getfield 16, 3) := dk_180 0 16 (dk_at dksX6_set_2 2 rfl rfl)
theorem dX6_set_53 : decode cX6_set 53 = .ok (.bipush 40, 2) := dk_16 40 (dk_at dksX6_set_2 5 rfl rfl)
theorem dX6_set_55 : decode cX6_set 55 = .ok (.iload_n 1, 1) := dk_27 (dk_at dksX6_set_2 7 rfl rfl)
theorem dX6_set_56 : decode cX6_set 56 = .ok (.imul, 1) := dk_104 (dk_at dksX6_set_2 8 rfl rfl)
theorem dX6_set_57 : decode cX6_set 57 = .ok (.iload_n 2, 1) := dk_28 (dk_at dksX6_set_2 9 rfl rfl)
theorem dX6_set_58 : decode cX6_set 58 = .ok (.iadd, 1) := dk_96 (dk_at dksX6_set_2 10 rfl rfl)
theorem dX6_set_59 : decode cX6_set 59 = .ok (.aload_n 0, 1) := dk_42 (dk_at dksX6_set_2 11 rfl rfl)
theorem dX6_set_60 : decode cX6_set 60 = .ok (.getfield 7, 3) := dk_180 0 7 (dk_at dksX6_set_2 12 rfl rfl)
theorem dX6_set_63 : decode cX6_set 63 = .ok (.iload_n 1, 1) := dk_27 (dk_at dksX6_set_2 15 rfl rfl)
theorem dX6_set_64 : decode cX6_set 64 = .ok (.iaload, 1) := dk_46 (dk_at dksX6_set_2 16 rfl rfl)
theorem dX6_set_65 : decode cX6_set 65 = .ok (.iload_n 3, 1) := dk_29 (dk_at dksX6_set_2 17 rfl rfl)
theorem dX6_set_66 : decode cX6_set 66 = .ok (.invokestatic 75, 3) := dk_184 0 75 (dk_at dksX6_set_2 18 rfl rfl)
theorem dX6_set_69 : decode cX6_set 69 = .ok (.iastore, 1) := dk_79 (dk_at dksX6_set_2 21 rfl rfl)
theorem dX6_set_70 : decode cX6_set 70 = .ok (.aload_n 0, 1) := dk_42 (dk_at dksX6_set_2 22 rfl rfl)
theorem dX6_set_71 : decode cX6_set 71 = .ok (.aload_n 0, 1) := dk_42 (dk_at dksX6_set_2 23 rfl rfl)
theorem dX6_set_72 : decode cX6_set 72 = .ok (.getfield 16, 3) := dk_180 0 16 (dk_at dksX6_set_3 0 rfl rfl)
theorem dX6_set_75 : decode cX6_set 75 = .ok (.bipush 40, 2) := dk_16 40 (dk_at dksX6_set_3 3 rfl rfl)
theorem dX6_set_77 : decode cX6_set 77 = .ok (.iload_n 1, 1) := dk_27 (dk_at dksX6_set_3 5 rfl rfl)
theorem dX6_set_78 : decode cX6_set 78 = .ok (.imul, 1) := dk_104 (dk_at dksX6_set_3 6 rfl rfl)
theorem dX6_set_79 : decode cX6_set 79 = .ok (.iload_n 2, 1) := dk_28 (dk_at dksX6_set_3 7 rfl rfl)
theorem dX6_set_80 : decode cX6_set 80 = .ok (.iadd, 1) := dk_96 (dk_at dksX6_set_3 8 rfl rfl)
theorem dX6_set_81 : decode cX6_set 81 = .ok (.iaload, 1) := dk_46 (dk_at dksX6_set_3 9 rfl rfl)
theorem dX6_set_82 : decode cX6_set 82 = .ok (.invokevirtual 72, 3) := dk_182 0 72 (dk_at dksX6_set_3 10 rfl rfl)
theorem dX6_set_85 : decode cX6_set 85 = .ok (.ireturn, 1) := dk_172 (dk_at dksX6_set_3 13 rfl rfl)
abbrev cX6_asLane : ByteArray := prog_17_method_8_code
def yX6_asLane : MethodName := ⟨RX6, "asLane", "(II)I"⟩
def dkwX6_asLane_1 : List UInt8 := [16, 16, 122, 167, 0, 4, 27, 172]
abbrev dktX6_asLane_1 : List UInt8 := dkwX6_asLane_1 ++ []
def dkwX6_asLane_0 : List UInt8 := [26, 154, 0, 13, 27, 16, 24, 120, 16, 24, 122, 167, 0, 19, 26, 4, 160, 0, 13, 27, 16, 16, 120]
abbrev dktX6_asLane_0 : List UInt8 := dkwX6_asLane_0 ++ dktX6_asLane_1
theorem dksX6_asLane_0 : cX6_asLane.data.toList.drop 0 = dktX6_asLane_0 := by decide +kernel
theorem dksX6_asLane_1 : cX6_asLane.data.toList.drop 23 = dktX6_asLane_1 := dk_seg dksX6_asLane_0 23 rfl rfl
theorem dX6_asLane_0 : decode cX6_asLane 0 = .ok (.iload_n 0, 1) := dk_26 (dk_at dksX6_asLane_0 0 rfl rfl)
theorem dX6_asLane_1 : decode cX6_asLane 1 = .ok (.ifCond .ne 13, 3) := dk_154 0 13 (dk_at dksX6_asLane_0 1 rfl rfl)
theorem dX6_asLane_4 : decode cX6_asLane 4 = .ok (.iload_n 1, 1) := dk_27 (dk_at dksX6_asLane_0 4 rfl rfl)
theorem dX6_asLane_5 : decode cX6_asLane 5 = .ok (.bipush 24, 2) := dk_16 24 (dk_at dksX6_asLane_0 5 rfl rfl)
theorem dX6_asLane_7 : decode cX6_asLane 7 = .ok (.ishl, 1) := dk_120 (dk_at dksX6_asLane_0 7 rfl rfl)
theorem dX6_asLane_8 : decode cX6_asLane 8 = .ok (.bipush 24, 2) := dk_16 24 (dk_at dksX6_asLane_0 8 rfl rfl)
theorem dX6_asLane_10 : decode cX6_asLane 10 = .ok (.ishr, 1) := dk_122 (dk_at dksX6_asLane_0 10 rfl rfl)
theorem dX6_asLane_11 : decode cX6_asLane 11 = .ok (.goto 19, 3) := dk_167 0 19 (dk_at dksX6_asLane_0 11 rfl rfl)
theorem dX6_asLane_14 : decode cX6_asLane 14 = .ok (.iload_n 0, 1) := dk_26 (dk_at dksX6_asLane_0 14 rfl rfl)
theorem dX6_asLane_15 : decode cX6_asLane 15 = .ok (.iconst 1, 1) := dk_4 (dk_at dksX6_asLane_0 15 rfl rfl)
theorem dX6_asLane_16 : decode cX6_asLane 16 = .ok (.if_icmp .ne 13, 3) := dk_160 0 13 (dk_at dksX6_asLane_0 16 rfl rfl)
theorem dX6_asLane_19 : decode cX6_asLane 19 = .ok (.iload_n 1, 1) := dk_27 (dk_at dksX6_asLane_0 19 rfl rfl)
theorem dX6_asLane_20 : decode cX6_asLane 20 = .ok (.bipush 16, 2) := dk_16 16 (dk_at dksX6_asLane_0 20 rfl rfl)
theorem dX6_asLane_22 : decode cX6_asLane 22 = .ok (.ishl, 1) := dk_120 (dk_at dksX6_asLane_0 22 rfl rfl)
theorem dX6_asLane_23 : decode cX6_asLane 23 = .ok (.bipush 16, 2) := dk_16 16 (dk_at dksX6_asLane_1 0 rfl rfl)
theorem dX6_asLane_25 : decode cX6_asLane 25 = .ok (.ishr, 1) := dk_122 (dk_at dksX6_asLane_1 2 rfl rfl)
theorem dX6_asLane_26 : decode cX6_asLane 26 = .ok (.goto 4, 3) := dk_167 0 4 (dk_at dksX6_asLane_1 3 rfl rfl)
theorem dX6_asLane_29 : decode cX6_asLane 29 = .ok (.iload_n 1, 1) := dk_27 (dk_at dksX6_asLane_1 6 rfl rfl)
theorem dX6_asLane_30 : decode cX6_asLane 30 = .ok (.ireturn, 1) := dk_172 (dk_at dksX6_asLane_1 7 rfl rfl)
abbrev cX6_copy : ByteArray := prog_17_method_10_code
def yX6_copy : MethodName := ⟨RX6, "copy", "(IIIII)I"⟩
def dkwX6_copy_8 : List UInt8 := [21, 5, 182, 0, 72, 172]
abbrev dktX6_copy_8 : List UInt8 := dkwX6_copy_8 ++ []
def dkwX6_copy_7 : List UInt8 := [29, 104, 21, 4, 96, 21, 6, 96, 42, 180, 0, 22, 21, 6, 46, 79, 132, 6, 1, 167, 255, 224, 42]
abbrev dktX6_copy_7 : List UInt8 := dkwX6_copy_7 ++ dktX6_copy_8
def dkwX6_copy_6 : List UInt8 := [46, 79, 132, 6, 1, 167, 255, 225, 3, 54, 6, 21, 6, 21, 5, 162, 0, 31, 42, 180, 0, 16, 16, 40]
abbrev dktX6_copy_6 : List UInt8 := dkwX6_copy_6 ++ dktX6_copy_7
def dkwX6_copy_5 : List UInt8 := [21, 5, 162, 0, 30, 42, 180, 0, 22, 21, 6, 42, 180, 0, 16, 16, 40, 27, 104, 28, 96, 21, 6, 96]
abbrev dktX6_copy_5 : List UInt8 := dkwX6_copy_5 ++ dktX6_copy_6
def dkwX6_copy_4 : List UInt8 := [29, 46, 133, 21, 5, 133, 101, 184, 0, 57, 154, 0, 9, 42, 5, 182, 0, 68, 172, 3, 54, 6, 21, 6]
abbrev dktX6_copy_4 : List UInt8 := dkwX6_copy_4 ++ dktX6_copy_5
def dkwX6_copy_3 : List UInt8 := [180, 0, 13, 27, 46, 133, 21, 5, 133, 101, 184, 0, 57, 153, 0, 24, 21, 4, 133, 9, 42, 180, 0, 13]
abbrev dktX6_copy_3 : List UInt8 := dkwX6_copy_3 ++ dktX6_copy_4
def dkwX6_copy_2 : List UInt8 := [42, 180, 0, 7, 29, 46, 159, 0, 9, 42, 8, 182, 0, 68, 172, 21, 5, 155, 0, 44, 28, 133, 9, 42]
abbrev dktX6_copy_2 : List UInt8 := dkwX6_copy_2 ++ dktX6_copy_3
def dkwX6_copy_1 : List UInt8 := [155, 0, 12, 42, 180, 0, 13, 29, 46, 156, 0, 9, 42, 4, 182, 0, 68, 172, 42, 180, 0, 7, 27, 46]
abbrev dktX6_copy_1 : List UInt8 := dkwX6_copy_1 ++ dktX6_copy_2
def dkwX6_copy_0 : List UInt8 := [27, 184, 0, 61, 153, 0, 10, 29, 184, 0, 61, 154, 0, 6, 18, 67, 172, 42, 180, 0, 13, 27, 46]
abbrev dktX6_copy_0 : List UInt8 := dkwX6_copy_0 ++ dktX6_copy_1
theorem dksX6_copy_0 : cX6_copy.data.toList.drop 0 = dktX6_copy_0 := by decide +kernel
theorem dksX6_copy_1 : cX6_copy.data.toList.drop 23 = dktX6_copy_1 := dk_seg dksX6_copy_0 23 rfl rfl
theorem dksX6_copy_2 : cX6_copy.data.toList.drop 47 = dktX6_copy_2 := dk_seg dksX6_copy_1 24 rfl rfl
theorem dksX6_copy_3 : cX6_copy.data.toList.drop 71 = dktX6_copy_3 := dk_seg dksX6_copy_2 24 rfl rfl
theorem dksX6_copy_4 : cX6_copy.data.toList.drop 95 = dktX6_copy_4 := dk_seg dksX6_copy_3 24 rfl rfl
theorem dksX6_copy_5 : cX6_copy.data.toList.drop 119 = dktX6_copy_5 := dk_seg dksX6_copy_4 24 rfl rfl
theorem dksX6_copy_6 : cX6_copy.data.toList.drop 143 = dktX6_copy_6 := dk_seg dksX6_copy_5 24 rfl rfl
theorem dksX6_copy_7 : cX6_copy.data.toList.drop 167 = dktX6_copy_7 := dk_seg dksX6_copy_6 24 rfl rfl
theorem dksX6_copy_8 : cX6_copy.data.toList.drop 190 = dktX6_copy_8 := dk_seg dksX6_copy_7 23 rfl rfl
theorem dX6_copy_0 : decode cX6_copy 0 = .ok (.iload_n 1, 1) := dk_27 (dk_at dksX6_copy_0 0 rfl rfl)
theorem dX6_copy_1 : decode cX6_copy 1 = .ok (.invokestatic 61, 3) := dk_184 0 61 (dk_at dksX6_copy_0 1 rfl rfl)
theorem dX6_copy_4 : decode cX6_copy 4 = .ok (.ifCond .eq 10, 3) := dk_153 0 10 (dk_at dksX6_copy_0 4 rfl rfl)
theorem dX6_copy_7 : decode cX6_copy 7 = .ok (.iload_n 3, 1) := dk_29 (dk_at dksX6_copy_0 7 rfl rfl)
theorem dX6_copy_8 : decode cX6_copy 8 = .ok (.invokestatic 61, 3) := dk_184 0 61 (dk_at dksX6_copy_0 8 rfl rfl)
theorem dX6_copy_11 : decode cX6_copy 11 = .ok (.ifCond .ne 6, 3) := dk_154 0 6 (dk_at dksX6_copy_0 11 rfl rfl)
theorem dX6_copy_14 : decode cX6_copy 14 = .ok (.ldc 67, 2) := dk_18 67 (dk_at dksX6_copy_0 14 rfl rfl)
theorem dX6_copy_16 : decode cX6_copy 16 = .ok (.ireturn, 1) := dk_172 (dk_at dksX6_copy_0 16 rfl rfl)
theorem dX6_copy_17 : decode cX6_copy 17 = .ok (.aload_n 0, 1) := dk_42 (dk_at dksX6_copy_0 17 rfl rfl)
theorem dX6_copy_18 : decode cX6_copy 18 = .ok (.getfield 13, 3) := dk_180 0 13 (dk_at dksX6_copy_0 18 rfl rfl)
theorem dX6_copy_21 : decode cX6_copy 21 = .ok (.iload_n 1, 1) := dk_27 (dk_at dksX6_copy_0 21 rfl rfl)
theorem dX6_copy_22 : decode cX6_copy 22 = .ok (.iaload, 1) := dk_46 (dk_at dksX6_copy_0 22 rfl rfl)
theorem dX6_copy_23 : decode cX6_copy 23 = .ok (.ifCond .lt 12, 3) := dk_155 0 12 (dk_at dksX6_copy_1 0 rfl rfl)
theorem dX6_copy_26 : decode cX6_copy 26 = .ok (.aload_n 0, 1) := dk_42 (dk_at dksX6_copy_1 3 rfl rfl)
theorem dX6_copy_27 : decode cX6_copy 27 = .ok (.getfield 13, 3) := dk_180 0 13 (dk_at dksX6_copy_1 4 rfl rfl)
theorem dX6_copy_30 : decode cX6_copy 30 = .ok (.iload_n 3, 1) := dk_29 (dk_at dksX6_copy_1 7 rfl rfl)
theorem dX6_copy_31 : decode cX6_copy 31 = .ok (.iaload, 1) := dk_46 (dk_at dksX6_copy_1 8 rfl rfl)
theorem dX6_copy_32 : decode cX6_copy 32 = .ok (.ifCond .ge 9, 3) := dk_156 0 9 (dk_at dksX6_copy_1 9 rfl rfl)
theorem dX6_copy_35 : decode cX6_copy 35 = .ok (.aload_n 0, 1) := dk_42 (dk_at dksX6_copy_1 12 rfl rfl)
theorem dX6_copy_36 : decode cX6_copy 36 = .ok (.iconst 1, 1) := dk_4 (dk_at dksX6_copy_1 13 rfl rfl)
theorem dX6_copy_37 : decode cX6_copy 37 = .ok (.invokevirtual 68, 3) := dk_182 0 68 (dk_at dksX6_copy_1 14 rfl rfl)
theorem dX6_copy_40 : decode cX6_copy 40 = .ok (.ireturn, 1) := dk_172 (dk_at dksX6_copy_1 17 rfl rfl)
theorem dX6_copy_41 : decode cX6_copy 41 = .ok (.aload_n 0, 1) := dk_42 (dk_at dksX6_copy_1 18 rfl rfl)
theorem dX6_copy_42 : decode cX6_copy 42 = .ok (.getfield 7, 3) := dk_180 0 7 (dk_at dksX6_copy_1 19 rfl rfl)
theorem dX6_copy_45 : decode cX6_copy 45 = .ok (.iload_n 1, 1) := dk_27 (dk_at dksX6_copy_1 22 rfl rfl)
theorem dX6_copy_46 : decode cX6_copy 46 = .ok (.iaload, 1) := dk_46 (dk_at dksX6_copy_1 23 rfl rfl)
theorem dX6_copy_47 : decode cX6_copy 47 = .ok (.aload_n 0, 1) := dk_42 (dk_at dksX6_copy_2 0 rfl rfl)
theorem dX6_copy_48 : decode cX6_copy 48 = .ok (.getfield 7, 3) := dk_180 0 7 (dk_at dksX6_copy_2 1 rfl rfl)
theorem dX6_copy_51 : decode cX6_copy 51 = .ok (.iload_n 3, 1) := dk_29 (dk_at dksX6_copy_2 4 rfl rfl)
theorem dX6_copy_52 : decode cX6_copy 52 = .ok (.iaload, 1) := dk_46 (dk_at dksX6_copy_2 5 rfl rfl)
theorem dX6_copy_53 : decode cX6_copy 53 = .ok (.if_icmp .eq 9, 3) := dk_159 0 9 (dk_at dksX6_copy_2 6 rfl rfl)
theorem dX6_copy_56 : decode cX6_copy 56 = .ok (.aload_n 0, 1) := dk_42 (dk_at dksX6_copy_2 9 rfl rfl)
theorem dX6_copy_57 : decode cX6_copy 57 = .ok (.iconst 5, 1) := dk_8 (dk_at dksX6_copy_2 10 rfl rfl)
theorem dX6_copy_58 : decode cX6_copy 58 = .ok (.invokevirtual 68, 3) := dk_182 0 68 (dk_at dksX6_copy_2 11 rfl rfl)
theorem dX6_copy_61 : decode cX6_copy 61 = .ok (.ireturn, 1) := dk_172 (dk_at dksX6_copy_2 14 rfl rfl)
theorem dX6_copy_62 : decode cX6_copy 62 = .ok (.iload 5, 2) := dk_21 5 (dk_at dksX6_copy_2 15 rfl rfl)
theorem dX6_copy_64 : decode cX6_copy 64 = .ok (.ifCond .lt 44, 3) := dk_155 0 44 (dk_at dksX6_copy_2 17 rfl rfl)
theorem dX6_copy_67 : decode cX6_copy 67 = .ok (.iload_n 2, 1) := dk_28 (dk_at dksX6_copy_2 20 rfl rfl)
theorem dX6_copy_68 : decode cX6_copy 68 = .ok (.i2l, 1) := dk_133 (dk_at dksX6_copy_2 21 rfl rfl)
theorem dX6_copy_69 : decode cX6_copy 69 = .ok (.lconst 0, 1) := dk_9 (dk_at dksX6_copy_2 22 rfl rfl)
theorem dX6_copy_70 : decode cX6_copy 70 = .ok (.aload_n 0, 1) := dk_42 (dk_at dksX6_copy_2 23 rfl rfl)
theorem dX6_copy_71 : decode cX6_copy 71 = .ok (.getfield 13, 3) := dk_180 0 13 (dk_at dksX6_copy_3 0 rfl rfl)
theorem dX6_copy_74 : decode cX6_copy 74 = .ok (.iload_n 1, 1) := dk_27 (dk_at dksX6_copy_3 3 rfl rfl)
theorem dX6_copy_75 : decode cX6_copy 75 = .ok (.iaload, 1) := dk_46 (dk_at dksX6_copy_3 4 rfl rfl)
theorem dX6_copy_76 : decode cX6_copy 76 = .ok (.i2l, 1) := dk_133 (dk_at dksX6_copy_3 5 rfl rfl)
theorem dX6_copy_77 : decode cX6_copy 77 = .ok (.iload 5, 2) := dk_21 5 (dk_at dksX6_copy_3 6 rfl rfl)
theorem dX6_copy_79 : decode cX6_copy 79 = .ok (.i2l, 1) := dk_133 (dk_at dksX6_copy_3 8 rfl rfl)
theorem dX6_copy_80 : decode cX6_copy 80 = .ok (.lsub, 1) := dk_101 (dk_at dksX6_copy_3 9 rfl rfl)
theorem dX6_copy_81 : decode cX6_copy 81 = .ok (.invokestatic 57, 3) := dk_184 0 57 (dk_at dksX6_copy_3 10 rfl rfl)
theorem dX6_copy_84 : decode cX6_copy 84 = .ok (.ifCond .eq 24, 3) := dk_153 0 24 (dk_at dksX6_copy_3 13 rfl rfl)
theorem dX6_copy_87 : decode cX6_copy 87 = .ok (.iload 4, 2) := dk_21 4 (dk_at dksX6_copy_3 16 rfl rfl)
theorem dX6_copy_89 : decode cX6_copy 89 = .ok (.i2l, 1) := dk_133 (dk_at dksX6_copy_3 18 rfl rfl)
theorem dX6_copy_90 : decode cX6_copy 90 = .ok (.lconst 0, 1) := dk_9 (dk_at dksX6_copy_3 19 rfl rfl)
theorem dX6_copy_91 : decode cX6_copy 91 = .ok (.aload_n 0, 1) := dk_42 (dk_at dksX6_copy_3 20 rfl rfl)
theorem dX6_copy_92 : decode cX6_copy 92 = .ok (.getfield 13, 3) := dk_180 0 13 (dk_at dksX6_copy_3 21 rfl rfl)
theorem dX6_copy_95 : decode cX6_copy 95 = .ok (.iload_n 3, 1) := dk_29 (dk_at dksX6_copy_4 0 rfl rfl)
theorem dX6_copy_96 : decode cX6_copy 96 = .ok (.iaload, 1) := dk_46 (dk_at dksX6_copy_4 1 rfl rfl)
theorem dX6_copy_97 : decode cX6_copy 97 = .ok (.i2l, 1) := dk_133 (dk_at dksX6_copy_4 2 rfl rfl)
theorem dX6_copy_98 : decode cX6_copy 98 = .ok (.iload 5, 2) := dk_21 5 (dk_at dksX6_copy_4 3 rfl rfl)
theorem dX6_copy_100 : decode cX6_copy 100 = .ok (.i2l, 1) := dk_133 (dk_at dksX6_copy_4 5 rfl rfl)
theorem dX6_copy_101 : decode cX6_copy 101 = .ok (.lsub, 1) := dk_101 (dk_at dksX6_copy_4 6 rfl rfl)
theorem dX6_copy_102 : decode cX6_copy 102 = .ok (.invokestatic 57, 3) := dk_184 0 57 (dk_at dksX6_copy_4 7 rfl rfl)
theorem dX6_copy_105 : decode cX6_copy 105 = .ok (.ifCond .ne 9, 3) := dk_154 0 9 (dk_at dksX6_copy_4 10 rfl rfl)
theorem dX6_copy_108 : decode cX6_copy 108 = .ok (.aload_n 0, 1) := dk_42 (dk_at dksX6_copy_4 13 rfl rfl)
theorem dX6_copy_109 : decode cX6_copy 109 = .ok (.iconst 2, 1) := dk_5 (dk_at dksX6_copy_4 14 rfl rfl)
theorem dX6_copy_110 : decode cX6_copy 110 = .ok (.invokevirtual 68, 3) := dk_182 0 68 (dk_at dksX6_copy_4 15 rfl rfl)
theorem dX6_copy_113 : decode cX6_copy 113 = .ok (.ireturn, 1) := dk_172 (dk_at dksX6_copy_4 18 rfl rfl)
theorem dX6_copy_114 : decode cX6_copy 114 = .ok (.iconst 0, 1) := dk_3 (dk_at dksX6_copy_4 19 rfl rfl)
theorem dX6_copy_115 : decode cX6_copy 115 = .ok (.istore 6, 2) := dk_54 6 (dk_at dksX6_copy_4 20 rfl rfl)
theorem dX6_copy_117 : decode cX6_copy 117 = .ok (.iload 6, 2) := dk_21 6 (dk_at dksX6_copy_4 22 rfl rfl)
theorem dX6_copy_119 : decode cX6_copy 119 = .ok (.iload 5, 2) := dk_21 5 (dk_at dksX6_copy_5 0 rfl rfl)
theorem dX6_copy_121 : decode cX6_copy 121 = .ok (.if_icmp .ge 30, 3) := dk_162 0 30 (dk_at dksX6_copy_5 2 rfl rfl)
theorem dX6_copy_124 : decode cX6_copy 124 = .ok (.aload_n 0, 1) := dk_42 (dk_at dksX6_copy_5 5 rfl rfl)
theorem dX6_copy_125 : decode cX6_copy 125 = .ok (.getfield 22, 3) := dk_180 0 22 (dk_at dksX6_copy_5 6 rfl rfl)
theorem dX6_copy_128 : decode cX6_copy 128 = .ok (.iload 6, 2) := dk_21 6 (dk_at dksX6_copy_5 9 rfl rfl)
theorem dX6_copy_130 : decode cX6_copy 130 = .ok (.aload_n 0, 1) := dk_42 (dk_at dksX6_copy_5 11 rfl rfl)
theorem dX6_copy_131 : decode cX6_copy 131 = .ok (.getfield 16, 3) := dk_180 0 16 (dk_at dksX6_copy_5 12 rfl rfl)
theorem dX6_copy_134 : decode cX6_copy 134 = .ok (.bipush 40, 2) := dk_16 40 (dk_at dksX6_copy_5 15 rfl rfl)
theorem dX6_copy_136 : decode cX6_copy 136 = .ok (.iload_n 1, 1) := dk_27 (dk_at dksX6_copy_5 17 rfl rfl)
theorem dX6_copy_137 : decode cX6_copy 137 = .ok (.imul, 1) := dk_104 (dk_at dksX6_copy_5 18 rfl rfl)
theorem dX6_copy_138 : decode cX6_copy 138 = .ok (.iload_n 2, 1) := dk_28 (dk_at dksX6_copy_5 19 rfl rfl)
theorem dX6_copy_139 : decode cX6_copy 139 = .ok (.iadd, 1) := dk_96 (dk_at dksX6_copy_5 20 rfl rfl)
theorem dX6_copy_140 : decode cX6_copy 140 = .ok (.iload 6, 2) := dk_21 6 (dk_at dksX6_copy_5 21 rfl rfl)
theorem dX6_copy_142 : decode cX6_copy 142 = .ok (.iadd, 1) := dk_96 (dk_at dksX6_copy_5 23 rfl rfl)
theorem dX6_copy_143 : decode cX6_copy 143 = .ok (.iaload, 1) := dk_46 (dk_at dksX6_copy_6 0 rfl rfl)
theorem dX6_copy_144 : decode cX6_copy 144 = .ok (.iastore, 1) := dk_79 (dk_at dksX6_copy_6 1 rfl rfl)
theorem dX6_copy_145 : decode cX6_copy 145 = .ok (.iinc 6 1, 3) := dk_132 6 1 (dk_at dksX6_copy_6 2 rfl rfl)
theorem dX6_copy_148 : decode cX6_copy 148 = .ok (.goto (-31), 3) := dk_167 255 225 (dk_at dksX6_copy_6 5 rfl rfl)
theorem dX6_copy_151 : decode cX6_copy 151 = .ok (.iconst 0, 1) := dk_3 (dk_at dksX6_copy_6 8 rfl rfl)
theorem dX6_copy_152 : decode cX6_copy 152 = .ok (.istore 6, 2) := dk_54 6 (dk_at dksX6_copy_6 9 rfl rfl)
theorem dX6_copy_154 : decode cX6_copy 154 = .ok (.iload 6, 2) := dk_21 6 (dk_at dksX6_copy_6 11 rfl rfl)
theorem dX6_copy_156 : decode cX6_copy 156 = .ok (.iload 5, 2) := dk_21 5 (dk_at dksX6_copy_6 13 rfl rfl)
theorem dX6_copy_158 : decode cX6_copy 158 = .ok (.if_icmp .ge 31, 3) := dk_162 0 31 (dk_at dksX6_copy_6 15 rfl rfl)
theorem dX6_copy_161 : decode cX6_copy 161 = .ok (.aload_n 0, 1) := dk_42 (dk_at dksX6_copy_6 18 rfl rfl)
theorem dX6_copy_162 : decode cX6_copy 162 = .ok (.getfield 16, 3) := dk_180 0 16 (dk_at dksX6_copy_6 19 rfl rfl)
theorem dX6_copy_165 : decode cX6_copy 165 = .ok (.bipush 40, 2) := dk_16 40 (dk_at dksX6_copy_6 22 rfl rfl)
theorem dX6_copy_167 : decode cX6_copy 167 = .ok (.iload_n 3, 1) := dk_29 (dk_at dksX6_copy_7 0 rfl rfl)
theorem dX6_copy_168 : decode cX6_copy 168 = .ok (.imul, 1) := dk_104 (dk_at dksX6_copy_7 1 rfl rfl)
theorem dX6_copy_169 : decode cX6_copy 169 = .ok (.iload 4, 2) := dk_21 4 (dk_at dksX6_copy_7 2 rfl rfl)
theorem dX6_copy_171 : decode cX6_copy 171 = .ok (.iadd, 1) := dk_96 (dk_at dksX6_copy_7 4 rfl rfl)
theorem dX6_copy_172 : decode cX6_copy 172 = .ok (.iload 6, 2) := dk_21 6 (dk_at dksX6_copy_7 5 rfl rfl)
theorem dX6_copy_174 : decode cX6_copy 174 = .ok (.iadd, 1) := dk_96 (dk_at dksX6_copy_7 7 rfl rfl)
theorem dX6_copy_175 : decode cX6_copy 175 = .ok (.aload_n 0, 1) := dk_42 (dk_at dksX6_copy_7 8 rfl rfl)
theorem dX6_copy_176 : decode cX6_copy 176 = .ok (.getfield 22, 3) := dk_180 0 22 (dk_at dksX6_copy_7 9 rfl rfl)
theorem dX6_copy_179 : decode cX6_copy 179 = .ok (.iload 6, 2) := dk_21 6 (dk_at dksX6_copy_7 12 rfl rfl)
theorem dX6_copy_181 : decode cX6_copy 181 = .ok (.iaload, 1) := dk_46 (dk_at dksX6_copy_7 14 rfl rfl)
theorem dX6_copy_182 : decode cX6_copy 182 = .ok (.iastore, 1) := dk_79 (dk_at dksX6_copy_7 15 rfl rfl)
theorem dX6_copy_183 : decode cX6_copy 183 = .ok (.iinc 6 1, 3) := dk_132 6 1 (dk_at dksX6_copy_7 16 rfl rfl)
theorem dX6_copy_186 : decode cX6_copy 186 = .ok (.goto (-32), 3) := dk_167 255 224 (dk_at dksX6_copy_7 19 rfl rfl)
theorem dX6_copy_189 : decode cX6_copy 189 = .ok (.aload_n 0, 1) := dk_42 (dk_at dksX6_copy_7 22 rfl rfl)
theorem dX6_copy_190 : decode cX6_copy 190 = .ok (.iload 5, 2) := dk_21 5 (dk_at dksX6_copy_8 0 rfl rfl)
theorem dX6_copy_192 : decode cX6_copy 192 = .ok (.invokevirtual 72, 3) := dk_182 0 72 (dk_at dksX6_copy_8 2 rfl rfl)
theorem dX6_copy_195 : decode cX6_copy 195 = .ok (.ireturn, 1) := dk_172 (dk_at dksX6_copy_8 5 rfl rfl)
abbrev cX6_drop : ByteArray := prog_17_method_11_code
def yX6_drop : MethodName := ⟨RX6, "drop", "(I)I"⟩
def dkwX6_drop_1 : List UInt8 := [172, 42, 180, 0, 13, 27, 46, 61, 42, 180, 0, 13, 27, 2, 79, 42, 28, 182, 0, 72, 172]
abbrev dktX6_drop_1 : List UInt8 := dkwX6_drop_1 ++ []
def dkwX6_drop_0 : List UInt8 := [27, 184, 0, 61, 154, 0, 6, 18, 67, 172, 42, 180, 0, 13, 27, 46, 156, 0, 9, 42, 4, 182, 0, 68]
abbrev dktX6_drop_0 : List UInt8 := dkwX6_drop_0 ++ dktX6_drop_1
theorem dksX6_drop_0 : cX6_drop.data.toList.drop 0 = dktX6_drop_0 := by decide +kernel
theorem dksX6_drop_1 : cX6_drop.data.toList.drop 24 = dktX6_drop_1 := dk_seg dksX6_drop_0 24 rfl rfl
theorem dX6_drop_0 : decode cX6_drop 0 = .ok (.iload_n 1, 1) := dk_27 (dk_at dksX6_drop_0 0 rfl rfl)
theorem dX6_drop_1 : decode cX6_drop 1 = .ok (.invokestatic 61, 3) := dk_184 0 61 (dk_at dksX6_drop_0 1 rfl rfl)
theorem dX6_drop_4 : decode cX6_drop 4 = .ok (.ifCond .ne 6, 3) := dk_154 0 6 (dk_at dksX6_drop_0 4 rfl rfl)
theorem dX6_drop_7 : decode cX6_drop 7 = .ok (.ldc 67, 2) := dk_18 67 (dk_at dksX6_drop_0 7 rfl rfl)
theorem dX6_drop_9 : decode cX6_drop 9 = .ok (.ireturn, 1) := dk_172 (dk_at dksX6_drop_0 9 rfl rfl)
theorem dX6_drop_10 : decode cX6_drop 10 = .ok (.aload_n 0, 1) := dk_42 (dk_at dksX6_drop_0 10 rfl rfl)
theorem dX6_drop_11 : decode cX6_drop 11 = .ok (.getfield 13, 3) := dk_180 0 13 (dk_at dksX6_drop_0 11 rfl rfl)
theorem dX6_drop_14 : decode cX6_drop 14 = .ok (.iload_n 1, 1) := dk_27 (dk_at dksX6_drop_0 14 rfl rfl)
theorem dX6_drop_15 : decode cX6_drop 15 = .ok (.iaload, 1) := dk_46 (dk_at dksX6_drop_0 15 rfl rfl)
theorem dX6_drop_16 : decode cX6_drop 16 = .ok (.ifCond .ge 9, 3) := dk_156 0 9 (dk_at dksX6_drop_0 16 rfl rfl)
theorem dX6_drop_19 : decode cX6_drop 19 = .ok (.aload_n 0, 1) := dk_42 (dk_at dksX6_drop_0 19 rfl rfl)
theorem dX6_drop_20 : decode cX6_drop 20 = .ok (.iconst 1, 1) := dk_4 (dk_at dksX6_drop_0 20 rfl rfl)
theorem dX6_drop_21 : decode cX6_drop 21 = .ok (.invokevirtual 68, 3) := dk_182 0 68 (dk_at dksX6_drop_0 21 rfl rfl)
theorem dX6_drop_24 : decode cX6_drop 24 = .ok (.ireturn, 1) := dk_172 (dk_at dksX6_drop_1 0 rfl rfl)
theorem dX6_drop_25 : decode cX6_drop 25 = .ok (.aload_n 0, 1) := dk_42 (dk_at dksX6_drop_1 1 rfl rfl)
theorem dX6_drop_26 : decode cX6_drop 26 = .ok (.getfield 13, 3) := dk_180 0 13 (dk_at dksX6_drop_1 2 rfl rfl)
theorem dX6_drop_29 : decode cX6_drop 29 = .ok (.iload_n 1, 1) := dk_27 (dk_at dksX6_drop_1 5 rfl rfl)
theorem dX6_drop_30 : decode cX6_drop 30 = .ok (.iaload, 1) := dk_46 (dk_at dksX6_drop_1 6 rfl rfl)
theorem dX6_drop_31 : decode cX6_drop 31 = .ok (.istore_n 2, 1) := dk_61 (dk_at dksX6_drop_1 7 rfl rfl)
theorem dX6_drop_32 : decode cX6_drop 32 = .ok (.aload_n 0, 1) := dk_42 (dk_at dksX6_drop_1 8 rfl rfl)
theorem dX6_drop_33 : decode cX6_drop 33 = .ok (.getfield 13, 3) := dk_180 0 13 (dk_at dksX6_drop_1 9 rfl rfl)
theorem dX6_drop_36 : decode cX6_drop 36 = .ok (.iload_n 1, 1) := dk_27 (dk_at dksX6_drop_1 12 rfl rfl)
theorem dX6_drop_37 : decode cX6_drop 37 = .ok (.iconst (-1), 1) := dk_2 (dk_at dksX6_drop_1 13 rfl rfl)
theorem dX6_drop_38 : decode cX6_drop 38 = .ok (.iastore, 1) := dk_79 (dk_at dksX6_drop_1 14 rfl rfl)
theorem dX6_drop_39 : decode cX6_drop 39 = .ok (.aload_n 0, 1) := dk_42 (dk_at dksX6_drop_1 15 rfl rfl)
theorem dX6_drop_40 : decode cX6_drop 40 = .ok (.iload_n 2, 1) := dk_28 (dk_at dksX6_drop_1 16 rfl rfl)
theorem dX6_drop_41 : decode cX6_drop 41 = .ok (.invokevirtual 72, 3) := dk_182 0 72 (dk_at dksX6_drop_1 17 rfl rfl)
theorem dX6_drop_44 : decode cX6_drop 44 = .ok (.ireturn, 1) := dk_172 (dk_at dksX6_drop_1 20 rfl rfl)
abbrev cX6_feed : ByteArray := prog_17_method_12_code
def yX6_feed : MethodName := ⟨RX6, "feed", "(I)I"⟩
def dkwX6_feed_2 : List UInt8 := [180, 0, 81, 172]
abbrev dktX6_feed_2 : List UInt8 := dkwX6_feed_2 ++ []
def dkwX6_feed_1 : List UInt8 := [18, 84, 172, 42, 180, 0, 25, 42, 180, 0, 81, 27, 79, 42, 89, 180, 0, 81, 4, 96, 181, 0, 81, 42]
abbrev dktX6_feed_1 : List UInt8 := dkwX6_feed_1 ++ dktX6_feed_2
def dkwX6_feed_0 : List UInt8 := [27, 133, 9, 20, 0, 79, 184, 0, 57, 154, 0, 6, 18, 67, 172, 42, 180, 0, 81, 16, 120, 160, 0, 6]
abbrev dktX6_feed_0 : List UInt8 := dkwX6_feed_0 ++ dktX6_feed_1
theorem dksX6_feed_0 : cX6_feed.data.toList.drop 0 = dktX6_feed_0 := by decide +kernel
theorem dksX6_feed_1 : cX6_feed.data.toList.drop 24 = dktX6_feed_1 := dk_seg dksX6_feed_0 24 rfl rfl
theorem dksX6_feed_2 : cX6_feed.data.toList.drop 48 = dktX6_feed_2 := dk_seg dksX6_feed_1 24 rfl rfl
theorem dX6_feed_0 : decode cX6_feed 0 = .ok (.iload_n 1, 1) := dk_27 (dk_at dksX6_feed_0 0 rfl rfl)
theorem dX6_feed_1 : decode cX6_feed 1 = .ok (.i2l, 1) := dk_133 (dk_at dksX6_feed_0 1 rfl rfl)
theorem dX6_feed_2 : decode cX6_feed 2 = .ok (.lconst 0, 1) := dk_9 (dk_at dksX6_feed_0 2 rfl rfl)
theorem dX6_feed_3 : decode cX6_feed 3 = .ok (.ldc2_w 79, 3) := dk_20 0 79 (dk_at dksX6_feed_0 3 rfl rfl)
theorem dX6_feed_6 : decode cX6_feed 6 = .ok (.invokestatic 57, 3) := dk_184 0 57 (dk_at dksX6_feed_0 6 rfl rfl)
theorem dX6_feed_9 : decode cX6_feed 9 = .ok (.ifCond .ne 6, 3) := dk_154 0 6 (dk_at dksX6_feed_0 9 rfl rfl)
theorem dX6_feed_12 : decode cX6_feed 12 = .ok (.ldc 67, 2) := dk_18 67 (dk_at dksX6_feed_0 12 rfl rfl)
theorem dX6_feed_14 : decode cX6_feed 14 = .ok (.ireturn, 1) := dk_172 (dk_at dksX6_feed_0 14 rfl rfl)
theorem dX6_feed_15 : decode cX6_feed 15 = .ok (.aload_n 0, 1) := dk_42 (dk_at dksX6_feed_0 15 rfl rfl)
theorem dX6_feed_16 : decode cX6_feed 16 = .ok (.getfield 81, 3) := dk_180 0 81 (dk_at dksX6_feed_0 16 rfl rfl)
theorem dX6_feed_19 : decode cX6_feed 19 = .ok (.bipush 120, 2) := dk_16 120 (dk_at dksX6_feed_0 19 rfl rfl)
theorem dX6_feed_21 : decode cX6_feed 21 = .ok (.if_icmp .ne 6, 3) := dk_160 0 6 (dk_at dksX6_feed_0 21 rfl rfl)
theorem dX6_feed_24 : decode cX6_feed 24 = .ok (.ldc 84, 2) := dk_18 84 (dk_at dksX6_feed_1 0 rfl rfl)
theorem dX6_feed_26 : decode cX6_feed 26 = .ok (.ireturn, 1) := dk_172 (dk_at dksX6_feed_1 2 rfl rfl)
theorem dX6_feed_27 : decode cX6_feed 27 = .ok (.aload_n 0, 1) := dk_42 (dk_at dksX6_feed_1 3 rfl rfl)
theorem dX6_feed_28 : decode cX6_feed 28 = .ok (.getfield 25, 3) := dk_180 0 25 (dk_at dksX6_feed_1 4 rfl rfl)
theorem dX6_feed_31 : decode cX6_feed 31 = .ok (.aload_n 0, 1) := dk_42 (dk_at dksX6_feed_1 7 rfl rfl)
theorem dX6_feed_32 : decode cX6_feed 32 = .ok (.getfield 81, 3) := dk_180 0 81 (dk_at dksX6_feed_1 8 rfl rfl)
theorem dX6_feed_35 : decode cX6_feed 35 = .ok (.iload_n 1, 1) := dk_27 (dk_at dksX6_feed_1 11 rfl rfl)
theorem dX6_feed_36 : decode cX6_feed 36 = .ok (.iastore, 1) := dk_79 (dk_at dksX6_feed_1 12 rfl rfl)
theorem dX6_feed_37 : decode cX6_feed 37 = .ok (.aload_n 0, 1) := dk_42 (dk_at dksX6_feed_1 13 rfl rfl)
theorem dX6_feed_38 : decode cX6_feed 38 = .ok (.dup, 1) := dk_89 (dk_at dksX6_feed_1 14 rfl rfl)
theorem dX6_feed_39 : decode cX6_feed 39 = .ok (.getfield 81, 3) := dk_180 0 81 (dk_at dksX6_feed_1 15 rfl rfl)
theorem dX6_feed_42 : decode cX6_feed 42 = .ok (.iconst 1, 1) := dk_4 (dk_at dksX6_feed_1 18 rfl rfl)
theorem dX6_feed_43 : decode cX6_feed 43 = .ok (.iadd, 1) := dk_96 (dk_at dksX6_feed_1 19 rfl rfl)
theorem dX6_feed_44 : decode cX6_feed 44 = .ok (.putfield 81, 3) := dk_181 0 81 (dk_at dksX6_feed_1 20 rfl rfl)
theorem dX6_feed_47 : decode cX6_feed 47 = .ok (.aload_n 0, 1) := dk_42 (dk_at dksX6_feed_1 23 rfl rfl)
theorem dX6_feed_48 : decode cX6_feed 48 = .ok (.getfield 81, 3) := dk_180 0 81 (dk_at dksX6_feed_2 0 rfl rfl)
theorem dX6_feed_51 : decode cX6_feed 51 = .ok (.ireturn, 1) := dk_172 (dk_at dksX6_feed_2 3 rfl rfl)
abbrev cX6_pass : ByteArray := prog_17_method_21_code
def yX6_pass : MethodName := ⟨RX6, "pass", "()I"⟩
def dkwX6_pass_2 : List UInt8 := [46, 79, 132, 2, 1, 167, 255, 235, 42, 4, 181, 0, 145, 42, 3, 181, 0, 149, 42, 180, 0, 124, 172]
abbrev dktX6_pass_2 : List UInt8 := dkwX6_pass_2 ++ []
def dkwX6_pass_1 : List UInt8 := [42, 180, 0, 88, 100, 172, 3, 61, 28, 16, 57, 162, 0, 21, 42, 180, 0, 19, 28, 42, 180, 0, 28, 28]
abbrev dktX6_pass_1 : List UInt8 := dkwX6_pass_1 ++ dktX6_pass_2
def dkwX6_pass_0 : List UInt8 := [42, 182, 0, 137, 60, 42, 3, 181, 0, 81, 27, 154, 0, 19, 42, 42, 180, 0, 105, 181, 0, 141, 18, 144]
abbrev dktX6_pass_0 : List UInt8 := dkwX6_pass_0 ++ dktX6_pass_1
theorem dksX6_pass_0 : cX6_pass.data.toList.drop 0 = dktX6_pass_0 := by decide +kernel
theorem dksX6_pass_1 : cX6_pass.data.toList.drop 24 = dktX6_pass_1 := dk_seg dksX6_pass_0 24 rfl rfl
theorem dksX6_pass_2 : cX6_pass.data.toList.drop 48 = dktX6_pass_2 := dk_seg dksX6_pass_1 24 rfl rfl
theorem dX6_pass_0 : decode cX6_pass 0 = .ok (.aload_n 0, 1) := dk_42 (dk_at dksX6_pass_0 0 rfl rfl)
theorem dX6_pass_1 : decode cX6_pass 1 = .ok (.invokevirtual 137, 3) := dk_182 0 137 (dk_at dksX6_pass_0 1 rfl rfl)
theorem dX6_pass_4 : decode cX6_pass 4 = .ok (.istore_n 1, 1) := dk_60 (dk_at dksX6_pass_0 4 rfl rfl)
theorem dX6_pass_5 : decode cX6_pass 5 = .ok (.aload_n 0, 1) := dk_42 (dk_at dksX6_pass_0 5 rfl rfl)
theorem dX6_pass_6 : decode cX6_pass 6 = .ok (.iconst 0, 1) := dk_3 (dk_at dksX6_pass_0 6 rfl rfl)
theorem dX6_pass_7 : decode cX6_pass 7 = .ok (.putfield 81, 3) := dk_181 0 81 (dk_at dksX6_pass_0 7 rfl rfl)
theorem dX6_pass_10 : decode cX6_pass 10 = .ok (.iload_n 1, 1) := dk_27 (dk_at dksX6_pass_0 10 rfl rfl)
theorem dX6_pass_11 : decode cX6_pass 11 = .ok (.ifCond .ne 19, 3) := dk_154 0 19 (dk_at dksX6_pass_0 11 rfl rfl)
theorem dX6_pass_14 : decode cX6_pass 14 = .ok (.aload_n 0, 1) := dk_42 (dk_at dksX6_pass_0 14 rfl rfl)
theorem dX6_pass_15 : decode cX6_pass 15 = .ok (.aload_n 0, 1) := dk_42 (dk_at dksX6_pass_0 15 rfl rfl)
theorem dX6_pass_16 : decode cX6_pass 16 = .ok (.getfield 105, 3) := dk_180 0 105 (dk_at dksX6_pass_0 16 rfl rfl)
theorem dX6_pass_19 : decode cX6_pass 19 = .ok (.putfield 141, 3) := dk_181 0 141 (dk_at dksX6_pass_0 19 rfl rfl)
theorem dX6_pass_22 : decode cX6_pass 22 = .ok (.ldc 144, 2) := dk_18 144 (dk_at dksX6_pass_0 22 rfl rfl)
theorem dX6_pass_24 : decode cX6_pass 24 = .ok (.aload_n 0, 1) := dk_42 (dk_at dksX6_pass_1 0 rfl rfl)
theorem dX6_pass_25 : decode cX6_pass 25 = .ok (.getfield 88, 3) := dk_180 0 88 (dk_at dksX6_pass_1 1 rfl rfl)
theorem dX6_pass_28 : decode cX6_pass 28 = .ok (.isub, 1) := dk_100 (dk_at dksX6_pass_1 4 rfl rfl)
theorem dX6_pass_29 : decode cX6_pass 29 = .ok (.ireturn, 1) := dk_172 (dk_at dksX6_pass_1 5 rfl rfl)
theorem dX6_pass_30 : decode cX6_pass 30 = .ok (.iconst 0, 1) := dk_3 (dk_at dksX6_pass_1 6 rfl rfl)
theorem dX6_pass_31 : decode cX6_pass 31 = .ok (.istore_n 2, 1) := dk_61 (dk_at dksX6_pass_1 7 rfl rfl)
theorem dX6_pass_32 : decode cX6_pass 32 = .ok (.iload_n 2, 1) := dk_28 (dk_at dksX6_pass_1 8 rfl rfl)
theorem dX6_pass_33 : decode cX6_pass 33 = .ok (.bipush 57, 2) := dk_16 57 (dk_at dksX6_pass_1 9 rfl rfl)
theorem dX6_pass_35 : decode cX6_pass 35 = .ok (.if_icmp .ge 21, 3) := dk_162 0 21 (dk_at dksX6_pass_1 11 rfl rfl)
theorem dX6_pass_38 : decode cX6_pass 38 = .ok (.aload_n 0, 1) := dk_42 (dk_at dksX6_pass_1 14 rfl rfl)
theorem dX6_pass_39 : decode cX6_pass 39 = .ok (.getfield 19, 3) := dk_180 0 19 (dk_at dksX6_pass_1 15 rfl rfl)
theorem dX6_pass_42 : decode cX6_pass 42 = .ok (.iload_n 2, 1) := dk_28 (dk_at dksX6_pass_1 18 rfl rfl)
theorem dX6_pass_43 : decode cX6_pass 43 = .ok (.aload_n 0, 1) := dk_42 (dk_at dksX6_pass_1 19 rfl rfl)
theorem dX6_pass_44 : decode cX6_pass 44 = .ok (.getfield 28, 3) := dk_180 0 28 (dk_at dksX6_pass_1 20 rfl rfl)
theorem dX6_pass_47 : decode cX6_pass 47 = .ok (.iload_n 2, 1) := dk_28 (dk_at dksX6_pass_1 23 rfl rfl)
theorem dX6_pass_48 : decode cX6_pass 48 = .ok (.iaload, 1) := dk_46 (dk_at dksX6_pass_2 0 rfl rfl)
theorem dX6_pass_49 : decode cX6_pass 49 = .ok (.iastore, 1) := dk_79 (dk_at dksX6_pass_2 1 rfl rfl)
theorem dX6_pass_50 : decode cX6_pass 50 = .ok (.iinc 2 1, 3) := dk_132 2 1 (dk_at dksX6_pass_2 2 rfl rfl)
theorem dX6_pass_53 : decode cX6_pass 53 = .ok (.goto (-21), 3) := dk_167 255 235 (dk_at dksX6_pass_2 5 rfl rfl)
theorem dX6_pass_56 : decode cX6_pass 56 = .ok (.aload_n 0, 1) := dk_42 (dk_at dksX6_pass_2 8 rfl rfl)
theorem dX6_pass_57 : decode cX6_pass 57 = .ok (.iconst 1, 1) := dk_4 (dk_at dksX6_pass_2 9 rfl rfl)
theorem dX6_pass_58 : decode cX6_pass 58 = .ok (.putfield 145, 3) := dk_181 0 145 (dk_at dksX6_pass_2 10 rfl rfl)
theorem dX6_pass_61 : decode cX6_pass 61 = .ok (.aload_n 0, 1) := dk_42 (dk_at dksX6_pass_2 13 rfl rfl)
theorem dX6_pass_62 : decode cX6_pass 62 = .ok (.iconst 0, 1) := dk_3 (dk_at dksX6_pass_2 14 rfl rfl)
theorem dX6_pass_63 : decode cX6_pass 63 = .ok (.putfield 149, 3) := dk_181 0 149 (dk_at dksX6_pass_2 15 rfl rfl)
theorem dX6_pass_66 : decode cX6_pass 66 = .ok (.aload_n 0, 1) := dk_42 (dk_at dksX6_pass_2 18 rfl rfl)
theorem dX6_pass_67 : decode cX6_pass 67 = .ok (.getfield 124, 3) := dk_180 0 124 (dk_at dksX6_pass_2 19 rfl rfl)
theorem dX6_pass_70 : decode cX6_pass 70 = .ok (.ireturn, 1) := dk_172 (dk_at dksX6_pass_2 22 rfl rfl)
abbrev cX6_readPass : ByteArray := prog_17_method_20_code
def yX6_readPass : MethodName := ⟨RX6, "readPass", "()Z"⟩
def dkwX6_readPass_6 : List UInt8 := [158, 0, 11, 42, 28, 182, 0, 134, 167, 0, 8, 42, 4, 182, 0, 111, 60, 167, 255, 159, 27, 172]
abbrev dktX6_readPass_6 : List UInt8 := dkwX6_readPass_6 ++ []
def dkwX6_readPass_5 : List UInt8 := [153, 0, 7, 7, 167, 0, 17, 42, 16, 118, 182, 0, 108, 153, 0, 7, 8, 167, 0, 4, 3, 61, 28]
abbrev dktX6_readPass_5 : List UInt8 := dkwX6_readPass_5 ++ dktX6_readPass_6
def dkwX6_readPass_4 : List UInt8 := [167, 0, 43, 42, 16, 115, 182, 0, 108, 153, 0, 7, 6, 167, 0, 30, 42, 16, 104, 182, 0, 108]
abbrev dktX6_readPass_4 : List UInt8 := dkwX6_readPass_4 ++ dktX6_readPass_5
def dkwX6_readPass_3 : List UInt8 := [16, 119, 182, 0, 108, 153, 0, 7, 4, 167, 0, 56, 42, 16, 110, 182, 0, 108, 153, 0, 7, 5]
abbrev dktX6_readPass_3 : List UInt8 := dkwX6_readPass_3 ++ dktX6_readPass_4
def dkwX6_readPass_2 : List UInt8 := [8, 182, 0, 130, 154, 0, 5, 3, 172, 4, 60, 27, 153, 0, 99, 42, 180, 0, 91, 6, 159, 0, 91, 42]
abbrev dktX6_readPass_2 : List UInt8 := dkwX6_readPass_2 ++ dktX6_readPass_3
def dkwX6_readPass_1 : List UInt8 := [79, 132, 1, 1, 167, 255, 240, 42, 182, 0, 114, 42, 16, 97, 4, 182, 0, 130, 153, 0, 13, 42, 16, 98]
abbrev dktX6_readPass_1 : List UInt8 := dkwX6_readPass_1 ++ dktX6_readPass_2
def dkwX6_readPass_0 : List UInt8 := [42, 3, 181, 0, 85, 42, 3, 181, 0, 124, 3, 60, 27, 16, 57, 162, 0, 16, 42, 180, 0, 28, 27, 3]
abbrev dktX6_readPass_0 : List UInt8 := dkwX6_readPass_0 ++ dktX6_readPass_1
theorem dksX6_readPass_0 : cX6_readPass.data.toList.drop 0 = dktX6_readPass_0 := by decide +kernel
theorem dksX6_readPass_1 : cX6_readPass.data.toList.drop 24 = dktX6_readPass_1 := dk_seg dksX6_readPass_0 24 rfl rfl
theorem dksX6_readPass_2 : cX6_readPass.data.toList.drop 48 = dktX6_readPass_2 := dk_seg dksX6_readPass_1 24 rfl rfl
theorem dksX6_readPass_3 : cX6_readPass.data.toList.drop 72 = dktX6_readPass_3 := dk_seg dksX6_readPass_2 24 rfl rfl
theorem dksX6_readPass_4 : cX6_readPass.data.toList.drop 94 = dktX6_readPass_4 := dk_seg dksX6_readPass_3 22 rfl rfl
theorem dksX6_readPass_5 : cX6_readPass.data.toList.drop 116 = dktX6_readPass_5 := dk_seg dksX6_readPass_4 22 rfl rfl
theorem dksX6_readPass_6 : cX6_readPass.data.toList.drop 139 = dktX6_readPass_6 := dk_seg dksX6_readPass_5 23 rfl rfl
theorem dX6_readPass_0 : decode cX6_readPass 0 = .ok (.aload_n 0, 1) := dk_42 (dk_at dksX6_readPass_0 0 rfl rfl)
theorem dX6_readPass_1 : decode cX6_readPass 1 = .ok (.iconst 0, 1) := dk_3 (dk_at dksX6_readPass_0 1 rfl rfl)
theorem dX6_readPass_2 : decode cX6_readPass 2 = .ok (.putfield 85, 3) := dk_181 0 85 (dk_at dksX6_readPass_0 2 rfl rfl)
theorem dX6_readPass_5 : decode cX6_readPass 5 = .ok (.aload_n 0, 1) := dk_42 (dk_at dksX6_readPass_0 5 rfl rfl)
theorem dX6_readPass_6 : decode cX6_readPass 6 = .ok (.iconst 0, 1) := dk_3 (dk_at dksX6_readPass_0 6 rfl rfl)
theorem dX6_readPass_7 : decode cX6_readPass 7 = .ok (.putfield 124, 3) := dk_181 0 124 (dk_at dksX6_readPass_0 7 rfl rfl)
theorem dX6_readPass_10 : decode cX6_readPass 10 = .ok (.iconst 0, 1) := dk_3 (dk_at dksX6_readPass_0 10 rfl rfl)
theorem dX6_readPass_11 : decode cX6_readPass 11 = .ok (.istore_n 1, 1) := dk_60 (dk_at dksX6_readPass_0 11 rfl rfl)
theorem dX6_readPass_12 : decode cX6_readPass 12 = .ok (.iload_n 1, 1) := dk_27 (dk_at dksX6_readPass_0 12 rfl rfl)
theorem dX6_readPass_13 : decode cX6_readPass 13 = .ok (.bipush 57, 2) := dk_16 57 (dk_at dksX6_readPass_0 13 rfl rfl)
theorem dX6_readPass_15 : decode cX6_readPass 15 = .ok (.if_icmp .ge 16, 3) := dk_162 0 16 (dk_at dksX6_readPass_0 15 rfl rfl)
theorem dX6_readPass_18 : decode cX6_readPass 18 = .ok (.aload_n 0, 1) := dk_42 (dk_at dksX6_readPass_0 18 rfl rfl)
theorem dX6_readPass_19 : decode cX6_readPass 19 = .ok (.getfield 28, 3) := dk_180 0 28 (dk_at dksX6_readPass_0 19 rfl rfl)
theorem dX6_readPass_22 : decode cX6_readPass 22 = .ok (.iload_n 1, 1) := dk_27 (dk_at dksX6_readPass_0 22 rfl rfl)
theorem dX6_readPass_23 : decode cX6_readPass 23 = .ok (.iconst 0, 1) := dk_3 (dk_at dksX6_readPass_0 23 rfl rfl)
theorem dX6_readPass_24 : decode cX6_readPass 24 = .ok (.iastore, 1) := dk_79 (dk_at dksX6_readPass_1 0 rfl rfl)
theorem dX6_readPass_25 : decode cX6_readPass 25 = .ok (.iinc 1 1, 3) := dk_132 1 1 (dk_at dksX6_readPass_1 1 rfl rfl)
theorem dX6_readPass_28 : decode cX6_readPass 28 = .ok (.goto (-16), 3) := dk_167 255 240 (dk_at dksX6_readPass_1 4 rfl rfl)
theorem dX6_readPass_31 : decode cX6_readPass 31 = .ok (.aload_n 0, 1) := dk_42 (dk_at dksX6_readPass_1 7 rfl rfl)
theorem dX6_readPass_32 : decode cX6_readPass 32 = .ok (.invokevirtual 114, 3) := dk_182 0 114 (dk_at dksX6_readPass_1 8 rfl rfl)
theorem dX6_readPass_35 : decode cX6_readPass 35 = .ok (.aload_n 0, 1) := dk_42 (dk_at dksX6_readPass_1 11 rfl rfl)
theorem dX6_readPass_36 : decode cX6_readPass 36 = .ok (.bipush 97, 2) := dk_16 97 (dk_at dksX6_readPass_1 12 rfl rfl)
theorem dX6_readPass_38 : decode cX6_readPass 38 = .ok (.iconst 1, 1) := dk_4 (dk_at dksX6_readPass_1 14 rfl rfl)
theorem dX6_readPass_39 : decode cX6_readPass 39 = .ok (.invokevirtual 130, 3) := dk_182 0 130 (dk_at dksX6_readPass_1 15 rfl rfl)
theorem dX6_readPass_42 : decode cX6_readPass 42 = .ok (.ifCond .eq 13, 3) := dk_153 0 13 (dk_at dksX6_readPass_1 18 rfl rfl)
theorem dX6_readPass_45 : decode cX6_readPass 45 = .ok (.aload_n 0, 1) := dk_42 (dk_at dksX6_readPass_1 21 rfl rfl)
theorem dX6_readPass_46 : decode cX6_readPass 46 = .ok (.bipush 98, 2) := dk_16 98 (dk_at dksX6_readPass_1 22 rfl rfl)
theorem dX6_readPass_48 : decode cX6_readPass 48 = .ok (.iconst 5, 1) := dk_8 (dk_at dksX6_readPass_2 0 rfl rfl)
theorem dX6_readPass_49 : decode cX6_readPass 49 = .ok (.invokevirtual 130, 3) := dk_182 0 130 (dk_at dksX6_readPass_2 1 rfl rfl)
theorem dX6_readPass_52 : decode cX6_readPass 52 = .ok (.ifCond .ne 5, 3) := dk_154 0 5 (dk_at dksX6_readPass_2 4 rfl rfl)
theorem dX6_readPass_55 : decode cX6_readPass 55 = .ok (.iconst 0, 1) := dk_3 (dk_at dksX6_readPass_2 7 rfl rfl)
theorem dX6_readPass_56 : decode cX6_readPass 56 = .ok (.ireturn, 1) := dk_172 (dk_at dksX6_readPass_2 8 rfl rfl)
theorem dX6_readPass_57 : decode cX6_readPass 57 = .ok (.iconst 1, 1) := dk_4 (dk_at dksX6_readPass_2 9 rfl rfl)
theorem dX6_readPass_58 : decode cX6_readPass 58 = .ok (.istore_n 1, 1) := dk_60 (dk_at dksX6_readPass_2 10 rfl rfl)
theorem dX6_readPass_59 : decode cX6_readPass 59 = .ok (.iload_n 1, 1) := dk_27 (dk_at dksX6_readPass_2 11 rfl rfl)
theorem dX6_readPass_60 : decode cX6_readPass 60 = .ok (.ifCond .eq 99, 3) := dk_153 0 99 (dk_at dksX6_readPass_2 12 rfl rfl)
theorem dX6_readPass_63 : decode cX6_readPass 63 = .ok (.aload_n 0, 1) := dk_42 (dk_at dksX6_readPass_2 15 rfl rfl)
theorem dX6_readPass_64 : decode cX6_readPass 64 = .ok (.getfield 91, 3) := dk_180 0 91 (dk_at dksX6_readPass_2 16 rfl rfl)
theorem dX6_readPass_67 : decode cX6_readPass 67 = .ok (.iconst 3, 1) := dk_6 (dk_at dksX6_readPass_2 19 rfl rfl)
theorem dX6_readPass_68 : decode cX6_readPass 68 = .ok (.if_icmp .eq 91, 3) := dk_159 0 91 (dk_at dksX6_readPass_2 20 rfl rfl)
theorem dX6_readPass_71 : decode cX6_readPass 71 = .ok (.aload_n 0, 1) := dk_42 (dk_at dksX6_readPass_2 23 rfl rfl)
theorem dX6_readPass_72 : decode cX6_readPass 72 = .ok (.bipush 119, 2) := dk_16 119 (dk_at dksX6_readPass_3 0 rfl rfl)
theorem dX6_readPass_74 : decode cX6_readPass 74 = .ok (.invokevirtual 108, 3) := dk_182 0 108 (dk_at dksX6_readPass_3 2 rfl rfl)
theorem dX6_readPass_77 : decode cX6_readPass 77 = .ok (.ifCond .eq 7, 3) := dk_153 0 7 (dk_at dksX6_readPass_3 5 rfl rfl)
theorem dX6_readPass_80 : decode cX6_readPass 80 = .ok (.iconst 1, 1) := dk_4 (dk_at dksX6_readPass_3 8 rfl rfl)
theorem dX6_readPass_81 : decode cX6_readPass 81 = .ok (.goto 56, 3) := dk_167 0 56 (dk_at dksX6_readPass_3 9 rfl rfl)
theorem dX6_readPass_84 : decode cX6_readPass 84 = .ok (.aload_n 0, 1) := dk_42 (dk_at dksX6_readPass_3 12 rfl rfl)
theorem dX6_readPass_85 : decode cX6_readPass 85 = .ok (.bipush 110, 2) := dk_16 110 (dk_at dksX6_readPass_3 13 rfl rfl)
theorem dX6_readPass_87 : decode cX6_readPass 87 = .ok (.invokevirtual 108, 3) := dk_182 0 108 (dk_at dksX6_readPass_3 15 rfl rfl)
theorem dX6_readPass_90 : decode cX6_readPass 90 = .ok (.ifCond .eq 7, 3) := dk_153 0 7 (dk_at dksX6_readPass_3 18 rfl rfl)
theorem dX6_readPass_93 : decode cX6_readPass 93 = .ok (.iconst 2, 1) := dk_5 (dk_at dksX6_readPass_3 21 rfl rfl)
theorem dX6_readPass_94 : decode cX6_readPass 94 = .ok (.goto 43, 3) := dk_167 0 43 (dk_at dksX6_readPass_4 0 rfl rfl)
theorem dX6_readPass_97 : decode cX6_readPass 97 = .ok (.aload_n 0, 1) := dk_42 (dk_at dksX6_readPass_4 3 rfl rfl)
theorem dX6_readPass_98 : decode cX6_readPass 98 = .ok (.bipush 115, 2) := dk_16 115 (dk_at dksX6_readPass_4 4 rfl rfl)
theorem dX6_readPass_100 : decode cX6_readPass 100 = .ok (.invokevirtual 108, 3) := dk_182 0 108 (dk_at dksX6_readPass_4 6 rfl rfl)
theorem dX6_readPass_103 : decode cX6_readPass 103 = .ok (.ifCond .eq 7, 3) := dk_153 0 7 (dk_at dksX6_readPass_4 9 rfl rfl)
theorem dX6_readPass_106 : decode cX6_readPass 106 = .ok (.iconst 3, 1) := dk_6 (dk_at dksX6_readPass_4 12 rfl rfl)
theorem dX6_readPass_107 : decode cX6_readPass 107 = .ok (.goto 30, 3) := dk_167 0 30 (dk_at dksX6_readPass_4 13 rfl rfl)
theorem dX6_readPass_110 : decode cX6_readPass 110 = .ok (.aload_n 0, 1) := dk_42 (dk_at dksX6_readPass_4 16 rfl rfl)
theorem dX6_readPass_111 : decode cX6_readPass 111 = .ok (.bipush 104, 2) := dk_16 104 (dk_at dksX6_readPass_4 17 rfl rfl)
theorem dX6_readPass_113 : decode cX6_readPass 113 = .ok (.invokevirtual 108, 3) := dk_182 0 108 (dk_at dksX6_readPass_4 19 rfl rfl)
theorem dX6_readPass_116 : decode cX6_readPass 116 = .ok (.ifCond .eq 7, 3) := dk_153 0 7 (dk_at dksX6_readPass_5 0 rfl rfl)
theorem dX6_readPass_119 : decode cX6_readPass 119 = .ok (.iconst 4, 1) := dk_7 (dk_at dksX6_readPass_5 3 rfl rfl)
theorem dX6_readPass_120 : decode cX6_readPass 120 = .ok (.goto 17, 3) := dk_167 0 17 (dk_at dksX6_readPass_5 4 rfl rfl)
theorem dX6_readPass_123 : decode cX6_readPass 123 = .ok (.aload_n 0, 1) := dk_42 (dk_at dksX6_readPass_5 7 rfl rfl)
theorem dX6_readPass_124 : decode cX6_readPass 124 = .ok (.bipush 118, 2) := dk_16 118 (dk_at dksX6_readPass_5 8 rfl rfl)
theorem dX6_readPass_126 : decode cX6_readPass 126 = .ok (.invokevirtual 108, 3) := dk_182 0 108 (dk_at dksX6_readPass_5 10 rfl rfl)
theorem dX6_readPass_129 : decode cX6_readPass 129 = .ok (.ifCond .eq 7, 3) := dk_153 0 7 (dk_at dksX6_readPass_5 13 rfl rfl)
theorem dX6_readPass_132 : decode cX6_readPass 132 = .ok (.iconst 5, 1) := dk_8 (dk_at dksX6_readPass_5 16 rfl rfl)
theorem dX6_readPass_133 : decode cX6_readPass 133 = .ok (.goto 4, 3) := dk_167 0 4 (dk_at dksX6_readPass_5 17 rfl rfl)
theorem dX6_readPass_136 : decode cX6_readPass 136 = .ok (.iconst 0, 1) := dk_3 (dk_at dksX6_readPass_5 20 rfl rfl)
theorem dX6_readPass_137 : decode cX6_readPass 137 = .ok (.istore_n 2, 1) := dk_61 (dk_at dksX6_readPass_5 21 rfl rfl)
theorem dX6_readPass_138 : decode cX6_readPass 138 = .ok (.iload_n 2, 1) := dk_28 (dk_at dksX6_readPass_5 22 rfl rfl)
theorem dX6_readPass_139 : decode cX6_readPass 139 = .ok (.ifCond .le 11, 3) := dk_158 0 11 (dk_at dksX6_readPass_6 0 rfl rfl)
theorem dX6_readPass_142 : decode cX6_readPass 142 = .ok (.aload_n 0, 1) := dk_42 (dk_at dksX6_readPass_6 3 rfl rfl)
theorem dX6_readPass_143 : decode cX6_readPass 143 = .ok (.iload_n 2, 1) := dk_28 (dk_at dksX6_readPass_6 4 rfl rfl)
theorem dX6_readPass_144 : decode cX6_readPass 144 = .ok (.invokevirtual 134, 3) := dk_182 0 134 (dk_at dksX6_readPass_6 5 rfl rfl)
theorem dX6_readPass_147 : decode cX6_readPass 147 = .ok (.goto 8, 3) := dk_167 0 8 (dk_at dksX6_readPass_6 8 rfl rfl)
theorem dX6_readPass_150 : decode cX6_readPass 150 = .ok (.aload_n 0, 1) := dk_42 (dk_at dksX6_readPass_6 11 rfl rfl)
theorem dX6_readPass_151 : decode cX6_readPass 151 = .ok (.iconst 1, 1) := dk_4 (dk_at dksX6_readPass_6 12 rfl rfl)
theorem dX6_readPass_152 : decode cX6_readPass 152 = .ok (.invokevirtual 111, 3) := dk_182 0 111 (dk_at dksX6_readPass_6 13 rfl rfl)
theorem dX6_readPass_155 : decode cX6_readPass 155 = .ok (.istore_n 1, 1) := dk_60 (dk_at dksX6_readPass_6 16 rfl rfl)
theorem dX6_readPass_156 : decode cX6_readPass 156 = .ok (.goto (-97), 3) := dk_167 255 159 (dk_at dksX6_readPass_6 17 rfl rfl)
theorem dX6_readPass_159 : decode cX6_readPass 159 = .ok (.iload_n 1, 1) := dk_27 (dk_at dksX6_readPass_6 20 rfl rfl)
theorem dX6_readPass_160 : decode cX6_readPass 160 = .ok (.ireturn, 1) := dk_172 (dk_at dksX6_readPass_6 21 rfl rfl)
abbrev cX6_nextToken : ByteArray := prog_17_method_13_code
def yX6_nextToken : MethodName := ⟨RX6, "nextToken", "()V"⟩
def dkwX6_nextToken_9 : List UInt8 := [4, 167, 0, 4, 3, 181, 0, 91, 42, 89, 180, 0, 85, 4, 96, 181, 0, 85, 177]
abbrev dktX6_nextToken_9 : List UInt8 := dkwX6_nextToken_9 ++ []
def dkwX6_nextToken_8 : List UInt8 := [184, 0, 57, 154, 0, 21, 42, 180, 0, 94, 16, 44, 159, 0, 12, 42, 180, 0, 94, 16, 59, 160, 0, 7]
abbrev dktX6_nextToken_8 : List UInt8 := dkwX6_nextToken_8 ++ dktX6_nextToken_9
def dkwX6_nextToken_7 : List UInt8 := [180, 0, 25, 42, 180, 0, 85, 46, 181, 0, 94, 42, 42, 180, 0, 94, 133, 20, 0, 101, 20, 0, 103]
abbrev dktX6_nextToken_7 : List UInt8 := dkwX6_nextToken_7 ++ dktX6_nextToken_8
def dkwX6_nextToken_6 : List UInt8 := [164, 0, 7, 3, 167, 0, 4, 5, 181, 0, 91, 167, 0, 77, 42, 180, 0, 91, 154, 0, 70, 42, 42]
abbrev dktX6_nextToken_6 : List UInt8 := dkwX6_nextToken_6 ++ dktX6_nextToken_7
def dkwX6_nextToken_5 : List UInt8 := [42, 180, 0, 85, 42, 180, 0, 88, 164, 0, 28, 42, 42, 180, 0, 85, 42, 180, 0, 88, 100, 5]
abbrev dktX6_nextToken_5 : List UInt8 := dkwX6_nextToken_5 ++ dktX6_nextToken_6
def dkwX6_nextToken_4 : List UInt8 := [180, 0, 85, 46, 96, 16, 48, 100, 181, 0, 94, 42, 89, 180, 0, 85, 4, 96, 181, 0, 85, 167, 255, 173]
abbrev dktX6_nextToken_4 : List UInt8 := dkwX6_nextToken_4 ++ dktX6_nextToken_5
def dkwX6_nextToken_3 : List UInt8 := [16, 99, 164, 0, 10, 42, 180, 0, 94, 167, 0, 23, 16, 10, 42, 180, 0, 94, 104, 42, 180, 0, 25, 42]
abbrev dktX6_nextToken_3 : List UInt8 := dkwX6_nextToken_3 ++ dktX6_nextToken_4
def dkwX6_nextToken_2 : List UInt8 := [42, 180, 0, 85, 46, 133, 20, 0, 97, 20, 0, 99, 184, 0, 57, 153, 0, 56, 42, 42, 180, 0, 94]
abbrev dktX6_nextToken_2 : List UInt8 := dkwX6_nextToken_2 ++ dktX6_nextToken_3
def dkwX6_nextToken_1 : List UInt8 := [3, 181, 0, 91, 42, 3, 181, 0, 94, 42, 180, 0, 85, 42, 180, 0, 81, 162, 0, 78, 42, 180, 0, 25]
abbrev dktX6_nextToken_1 : List UInt8 := dkwX6_nextToken_1 ++ dktX6_nextToken_2
def dkwX6_nextToken_0 : List UInt8 := [42, 42, 180, 0, 85, 181, 0, 88, 42, 42, 180, 0, 85, 42, 180, 0, 81, 160, 0, 7, 6, 167, 0, 4]
abbrev dktX6_nextToken_0 : List UInt8 := dkwX6_nextToken_0 ++ dktX6_nextToken_1
theorem dksX6_nextToken_0 : cX6_nextToken.data.toList.drop 0 = dktX6_nextToken_0 := by decide +kernel
theorem dksX6_nextToken_1 : cX6_nextToken.data.toList.drop 24 = dktX6_nextToken_1 := dk_seg dksX6_nextToken_0 24 rfl rfl
theorem dksX6_nextToken_2 : cX6_nextToken.data.toList.drop 48 = dktX6_nextToken_2 := dk_seg dksX6_nextToken_1 24 rfl rfl
theorem dksX6_nextToken_3 : cX6_nextToken.data.toList.drop 71 = dktX6_nextToken_3 := dk_seg dksX6_nextToken_2 23 rfl rfl
theorem dksX6_nextToken_4 : cX6_nextToken.data.toList.drop 95 = dktX6_nextToken_4 := dk_seg dksX6_nextToken_3 24 rfl rfl
theorem dksX6_nextToken_5 : cX6_nextToken.data.toList.drop 119 = dktX6_nextToken_5 := dk_seg dksX6_nextToken_4 24 rfl rfl
theorem dksX6_nextToken_6 : cX6_nextToken.data.toList.drop 141 = dktX6_nextToken_6 := dk_seg dksX6_nextToken_5 22 rfl rfl
theorem dksX6_nextToken_7 : cX6_nextToken.data.toList.drop 164 = dktX6_nextToken_7 := dk_seg dksX6_nextToken_6 23 rfl rfl
theorem dksX6_nextToken_8 : cX6_nextToken.data.toList.drop 187 = dktX6_nextToken_8 := dk_seg dksX6_nextToken_7 23 rfl rfl
theorem dksX6_nextToken_9 : cX6_nextToken.data.toList.drop 211 = dktX6_nextToken_9 := dk_seg dksX6_nextToken_8 24 rfl rfl
theorem dX6_nextToken_0 : decode cX6_nextToken 0 = .ok (.aload_n 0, 1) := dk_42 (dk_at dksX6_nextToken_0 0 rfl rfl)
theorem dX6_nextToken_1 : decode cX6_nextToken 1 = .ok (.aload_n 0, 1) := dk_42 (dk_at dksX6_nextToken_0 1 rfl rfl)
theorem dX6_nextToken_2 : decode cX6_nextToken 2 = .ok (.getfield 85, 3) := dk_180 0 85 (dk_at dksX6_nextToken_0 2 rfl rfl)
theorem dX6_nextToken_5 : decode cX6_nextToken 5 = .ok (.putfield 88, 3) := dk_181 0 88 (dk_at dksX6_nextToken_0 5 rfl rfl)
theorem dX6_nextToken_8 : decode cX6_nextToken 8 = .ok (.aload_n 0, 1) := dk_42 (dk_at dksX6_nextToken_0 8 rfl rfl)
theorem dX6_nextToken_9 : decode cX6_nextToken 9 = .ok (.aload_n 0, 1) := dk_42 (dk_at dksX6_nextToken_0 9 rfl rfl)
theorem dX6_nextToken_10 : decode cX6_nextToken 10 = .ok (.getfield 85, 3) := dk_180 0 85 (dk_at dksX6_nextToken_0 10 rfl rfl)
theorem dX6_nextToken_13 : decode cX6_nextToken 13 = .ok (.aload_n 0, 1) := dk_42 (dk_at dksX6_nextToken_0 13 rfl rfl)
theorem dX6_nextToken_14 : decode cX6_nextToken 14 = .ok (.getfield 81, 3) := dk_180 0 81 (dk_at dksX6_nextToken_0 14 rfl rfl)
theorem dX6_nextToken_17 : decode cX6_nextToken 17 = .ok (.if_icmp .ne 7, 3) := dk_160 0 7 (dk_at dksX6_nextToken_0 17 rfl rfl)
theorem dX6_nextToken_20 : decode cX6_nextToken 20 = .ok (.iconst 3, 1) := dk_6 (dk_at dksX6_nextToken_0 20 rfl rfl)
theorem dX6_nextToken_21 : decode cX6_nextToken 21 = .ok (.goto 4, 3) := dk_167 0 4 (dk_at dksX6_nextToken_0 21 rfl rfl)
theorem dX6_nextToken_24 : decode cX6_nextToken 24 = .ok (.iconst 0, 1) := dk_3 (dk_at dksX6_nextToken_1 0 rfl rfl)
theorem dX6_nextToken_25 : decode cX6_nextToken 25 = .ok (.putfield 91, 3) := dk_181 0 91 (dk_at dksX6_nextToken_1 1 rfl rfl)
theorem dX6_nextToken_28 : decode cX6_nextToken 28 = .ok (.aload_n 0, 1) := dk_42 (dk_at dksX6_nextToken_1 4 rfl rfl)
theorem dX6_nextToken_29 : decode cX6_nextToken 29 = .ok (.iconst 0, 1) := dk_3 (dk_at dksX6_nextToken_1 5 rfl rfl)
theorem dX6_nextToken_30 : decode cX6_nextToken 30 = .ok (.putfield 94, 3) := dk_181 0 94 (dk_at dksX6_nextToken_1 6 rfl rfl)
theorem dX6_nextToken_33 : decode cX6_nextToken 33 = .ok (.aload_n 0, 1) := dk_42 (dk_at dksX6_nextToken_1 9 rfl rfl)
theorem dX6_nextToken_34 : decode cX6_nextToken 34 = .ok (.getfield 85, 3) := dk_180 0 85 (dk_at dksX6_nextToken_1 10 rfl rfl)
theorem dX6_nextToken_37 : decode cX6_nextToken 37 = .ok (.aload_n 0, 1) := dk_42 (dk_at dksX6_nextToken_1 13 rfl rfl)
theorem dX6_nextToken_38 : decode cX6_nextToken 38 = .ok (.getfield 81, 3) := dk_180 0 81 (dk_at dksX6_nextToken_1 14 rfl rfl)
theorem dX6_nextToken_41 : decode cX6_nextToken 41 = .ok (.if_icmp .ge 78, 3) := dk_162 0 78 (dk_at dksX6_nextToken_1 17 rfl rfl)
theorem dX6_nextToken_44 : decode cX6_nextToken 44 = .ok (.aload_n 0, 1) := dk_42 (dk_at dksX6_nextToken_1 20 rfl rfl)
theorem dX6_nextToken_45 : decode cX6_nextToken 45 = .ok (.getfield 25, 3) := dk_180 0 25 (dk_at dksX6_nextToken_1 21 rfl rfl)
theorem dX6_nextToken_48 : decode cX6_nextToken 48 = .ok (.aload_n 0, 1) := dk_42 (dk_at dksX6_nextToken_2 0 rfl rfl)
theorem dX6_nextToken_49 : decode cX6_nextToken 49 = .ok (.getfield 85, 3) := dk_180 0 85 (dk_at dksX6_nextToken_2 1 rfl rfl)
theorem dX6_nextToken_52 : decode cX6_nextToken 52 = .ok (.iaload, 1) := dk_46 (dk_at dksX6_nextToken_2 4 rfl rfl)
theorem dX6_nextToken_53 : decode cX6_nextToken 53 = .ok (.i2l, 1) := dk_133 (dk_at dksX6_nextToken_2 5 rfl rfl)
theorem dX6_nextToken_54 : decode cX6_nextToken 54 = .ok (.ldc2_w 97, 3) := dk_20 0 97 (dk_at dksX6_nextToken_2 6 rfl rfl)
theorem dX6_nextToken_57 : decode cX6_nextToken 57 = .ok (.ldc2_w 99, 3) := dk_20 0 99 (dk_at dksX6_nextToken_2 9 rfl rfl)
theorem dX6_nextToken_60 : decode cX6_nextToken 60 = .ok (.invokestatic 57, 3) := dk_184 0 57 (dk_at dksX6_nextToken_2 12 rfl rfl)
theorem dX6_nextToken_63 : decode cX6_nextToken 63 = .ok (.ifCond .eq 56, 3) := dk_153 0 56 (dk_at dksX6_nextToken_2 15 rfl rfl)
theorem dX6_nextToken_66 : decode cX6_nextToken 66 = .ok (.aload_n 0, 1) := dk_42 (dk_at dksX6_nextToken_2 18 rfl rfl)
theorem dX6_nextToken_67 : decode cX6_nextToken 67 = .ok (.aload_n 0, 1) := dk_42 (dk_at dksX6_nextToken_2 19 rfl rfl)
theorem dX6_nextToken_68 : decode cX6_nextToken 68 = .ok (.getfield 94, 3) := dk_180 0 94 (dk_at dksX6_nextToken_2 20 rfl rfl)
theorem dX6_nextToken_71 : decode cX6_nextToken 71 = .ok (.bipush 99, 2) := dk_16 99 (dk_at dksX6_nextToken_3 0 rfl rfl)
theorem dX6_nextToken_73 : decode cX6_nextToken 73 = .ok (.if_icmp .le 10, 3) := dk_164 0 10 (dk_at dksX6_nextToken_3 2 rfl rfl)
theorem dX6_nextToken_76 : decode cX6_nextToken 76 = .ok (.aload_n 0, 1) := dk_42 (dk_at dksX6_nextToken_3 5 rfl rfl)
theorem dX6_nextToken_77 : decode cX6_nextToken 77 = .ok (.getfield 94, 3) := dk_180 0 94 (dk_at dksX6_nextToken_3 6 rfl rfl)
theorem dX6_nextToken_80 : decode cX6_nextToken 80 = .ok (.goto 23, 3) := dk_167 0 23 (dk_at dksX6_nextToken_3 9 rfl rfl)
theorem dX6_nextToken_83 : decode cX6_nextToken 83 = .ok (.bipush 10, 2) := dk_16 10 (dk_at dksX6_nextToken_3 12 rfl rfl)
theorem dX6_nextToken_85 : decode cX6_nextToken 85 = .ok (.aload_n 0, 1) := dk_42 (dk_at dksX6_nextToken_3 14 rfl rfl)
theorem dX6_nextToken_86 : decode cX6_nextToken 86 = .ok (.getfield 94, 3) := dk_180 0 94 (dk_at dksX6_nextToken_3 15 rfl rfl)
theorem dX6_nextToken_89 : decode cX6_nextToken 89 = .ok (.imul, 1) := dk_104 (dk_at dksX6_nextToken_3 18 rfl rfl)
theorem dX6_nextToken_90 : decode cX6_nextToken 90 = .ok (.aload_n 0, 1) := dk_42 (dk_at dksX6_nextToken_3 19 rfl rfl)
theorem dX6_nextToken_91 : decode cX6_nextToken 91 = .ok (.getfield 25, 3) := dk_180 0 25 (dk_at dksX6_nextToken_3 20 rfl rfl)
theorem dX6_nextToken_94 : decode cX6_nextToken 94 = .ok (.aload_n 0, 1) := dk_42 (dk_at dksX6_nextToken_3 23 rfl rfl)
theorem dX6_nextToken_95 : decode cX6_nextToken 95 = .ok (.getfield 85, 3) := dk_180 0 85 (dk_at dksX6_nextToken_4 0 rfl rfl)
theorem dX6_nextToken_98 : decode cX6_nextToken 98 = .ok (.iaload, 1) := dk_46 (dk_at dksX6_nextToken_4 3 rfl rfl)
theorem dX6_nextToken_99 : decode cX6_nextToken 99 = .ok (.iadd, 1) := dk_96 (dk_at dksX6_nextToken_4 4 rfl rfl)
theorem dX6_nextToken_100 : decode cX6_nextToken 100 = .ok (.bipush 48, 2) := dk_16 48 (dk_at dksX6_nextToken_4 5 rfl rfl)
theorem dX6_nextToken_102 : decode cX6_nextToken 102 = .ok (.isub, 1) := dk_100 (dk_at dksX6_nextToken_4 7 rfl rfl)
theorem dX6_nextToken_103 : decode cX6_nextToken 103 = .ok (.putfield 94, 3) := dk_181 0 94 (dk_at dksX6_nextToken_4 8 rfl rfl)
theorem dX6_nextToken_106 : decode cX6_nextToken 106 = .ok (.aload_n 0, 1) := dk_42 (dk_at dksX6_nextToken_4 11 rfl rfl)
theorem dX6_nextToken_107 : decode cX6_nextToken 107 = .ok (.dup, 1) := dk_89 (dk_at dksX6_nextToken_4 12 rfl rfl)
theorem dX6_nextToken_108 : decode cX6_nextToken 108 = .ok (.getfield 85, 3) := dk_180 0 85 (dk_at dksX6_nextToken_4 13 rfl rfl)
theorem dX6_nextToken_111 : decode cX6_nextToken 111 = .ok (.iconst 1, 1) := dk_4 (dk_at dksX6_nextToken_4 16 rfl rfl)
theorem dX6_nextToken_112 : decode cX6_nextToken 112 = .ok (.iadd, 1) := dk_96 (dk_at dksX6_nextToken_4 17 rfl rfl)
theorem dX6_nextToken_113 : decode cX6_nextToken 113 = .ok (.putfield 85, 3) := dk_181 0 85 (dk_at dksX6_nextToken_4 18 rfl rfl)
theorem dX6_nextToken_116 : decode cX6_nextToken 116 = .ok (.goto (-83), 3) := dk_167 255 173 (dk_at dksX6_nextToken_4 21 rfl rfl)
theorem dX6_nextToken_119 : decode cX6_nextToken 119 = .ok (.aload_n 0, 1) := dk_42 (dk_at dksX6_nextToken_5 0 rfl rfl)
theorem dX6_nextToken_120 : decode cX6_nextToken 120 = .ok (.getfield 85, 3) := dk_180 0 85 (dk_at dksX6_nextToken_5 1 rfl rfl)
theorem dX6_nextToken_123 : decode cX6_nextToken 123 = .ok (.aload_n 0, 1) := dk_42 (dk_at dksX6_nextToken_5 4 rfl rfl)
theorem dX6_nextToken_124 : decode cX6_nextToken 124 = .ok (.getfield 88, 3) := dk_180 0 88 (dk_at dksX6_nextToken_5 5 rfl rfl)
theorem dX6_nextToken_127 : decode cX6_nextToken 127 = .ok (.if_icmp .le 28, 3) := dk_164 0 28 (dk_at dksX6_nextToken_5 8 rfl rfl)
theorem dX6_nextToken_130 : decode cX6_nextToken 130 = .ok (.aload_n 0, 1) := dk_42 (dk_at dksX6_nextToken_5 11 rfl rfl)
theorem dX6_nextToken_131 : decode cX6_nextToken 131 = .ok (.aload_n 0, 1) := dk_42 (dk_at dksX6_nextToken_5 12 rfl rfl)
theorem dX6_nextToken_132 : decode cX6_nextToken 132 = .ok (.getfield 85, 3) := dk_180 0 85 (dk_at dksX6_nextToken_5 13 rfl rfl)
theorem dX6_nextToken_135 : decode cX6_nextToken 135 = .ok (.aload_n 0, 1) := dk_42 (dk_at dksX6_nextToken_5 16 rfl rfl)
theorem dX6_nextToken_136 : decode cX6_nextToken 136 = .ok (.getfield 88, 3) := dk_180 0 88 (dk_at dksX6_nextToken_5 17 rfl rfl)
theorem dX6_nextToken_139 : decode cX6_nextToken 139 = .ok (.isub, 1) := dk_100 (dk_at dksX6_nextToken_5 20 rfl rfl)
theorem dX6_nextToken_140 : decode cX6_nextToken 140 = .ok (.iconst 2, 1) := dk_5 (dk_at dksX6_nextToken_5 21 rfl rfl)
theorem dX6_nextToken_141 : decode cX6_nextToken 141 = .ok (.if_icmp .le 7, 3) := dk_164 0 7 (dk_at dksX6_nextToken_6 0 rfl rfl)
theorem dX6_nextToken_144 : decode cX6_nextToken 144 = .ok (.iconst 0, 1) := dk_3 (dk_at dksX6_nextToken_6 3 rfl rfl)
theorem dX6_nextToken_145 : decode cX6_nextToken 145 = .ok (.goto 4, 3) := dk_167 0 4 (dk_at dksX6_nextToken_6 4 rfl rfl)
theorem dX6_nextToken_148 : decode cX6_nextToken 148 = .ok (.iconst 2, 1) := dk_5 (dk_at dksX6_nextToken_6 7 rfl rfl)
theorem dX6_nextToken_149 : decode cX6_nextToken 149 = .ok (.putfield 91, 3) := dk_181 0 91 (dk_at dksX6_nextToken_6 8 rfl rfl)
theorem dX6_nextToken_152 : decode cX6_nextToken 152 = .ok (.goto 77, 3) := dk_167 0 77 (dk_at dksX6_nextToken_6 11 rfl rfl)
theorem dX6_nextToken_155 : decode cX6_nextToken 155 = .ok (.aload_n 0, 1) := dk_42 (dk_at dksX6_nextToken_6 14 rfl rfl)
theorem dX6_nextToken_156 : decode cX6_nextToken 156 = .ok (.getfield 91, 3) := dk_180 0 91 (dk_at dksX6_nextToken_6 15 rfl rfl)
theorem dX6_nextToken_159 : decode cX6_nextToken 159 = .ok (.ifCond .ne 70, 3) := dk_154 0 70 (dk_at dksX6_nextToken_6 18 rfl rfl)
theorem dX6_nextToken_162 : decode cX6_nextToken 162 = .ok (.aload_n 0, 1) := dk_42 (dk_at dksX6_nextToken_6 21 rfl rfl)
theorem dX6_nextToken_163 : decode cX6_nextToken 163 = .ok (.aload_n 0, 1) := dk_42 (dk_at dksX6_nextToken_6 22 rfl rfl)
theorem dX6_nextToken_164 : decode cX6_nextToken 164 = .ok (.getfield 25, 3) := dk_180 0 25 (dk_at dksX6_nextToken_7 0 rfl rfl)
theorem dX6_nextToken_167 : decode cX6_nextToken 167 = .ok (.aload_n 0, 1) := dk_42 (dk_at dksX6_nextToken_7 3 rfl rfl)
theorem dX6_nextToken_168 : decode cX6_nextToken 168 = .ok (.getfield 85, 3) := dk_180 0 85 (dk_at dksX6_nextToken_7 4 rfl rfl)
theorem dX6_nextToken_171 : decode cX6_nextToken 171 = .ok (.iaload, 1) := dk_46 (dk_at dksX6_nextToken_7 7 rfl rfl)
theorem dX6_nextToken_172 : decode cX6_nextToken 172 = .ok (.putfield 94, 3) := dk_181 0 94 (dk_at dksX6_nextToken_7 8 rfl rfl)
theorem dX6_nextToken_175 : decode cX6_nextToken 175 = .ok (.aload_n 0, 1) := dk_42 (dk_at dksX6_nextToken_7 11 rfl rfl)
theorem dX6_nextToken_176 : decode cX6_nextToken 176 = .ok (.aload_n 0, 1) := dk_42 (dk_at dksX6_nextToken_7 12 rfl rfl)
theorem dX6_nextToken_177 : decode cX6_nextToken 177 = .ok (.getfield 94, 3) := dk_180 0 94 (dk_at dksX6_nextToken_7 13 rfl rfl)
theorem dX6_nextToken_180 : decode cX6_nextToken 180 = .ok (.i2l, 1) := dk_133 (dk_at dksX6_nextToken_7 16 rfl rfl)
theorem dX6_nextToken_181 : decode cX6_nextToken 181 = .ok (.ldc2_w 101, 3) := dk_20 0 101 (dk_at dksX6_nextToken_7 17 rfl rfl)
theorem dX6_nextToken_184 : decode cX6_nextToken 184 = .ok (.ldc2_w 103, 3) := dk_20 0 103 (dk_at dksX6_nextToken_7 20 rfl rfl)
theorem dX6_nextToken_187 : decode cX6_nextToken 187 = .ok (.invokestatic 57, 3) := dk_184 0 57 (dk_at dksX6_nextToken_8 0 rfl rfl)
theorem dX6_nextToken_190 : decode cX6_nextToken 190 = .ok (.ifCond .ne 21, 3) := dk_154 0 21 (dk_at dksX6_nextToken_8 3 rfl rfl)
theorem dX6_nextToken_193 : decode cX6_nextToken 193 = .ok (.aload_n 0, 1) := dk_42 (dk_at dksX6_nextToken_8 6 rfl rfl)
theorem dX6_nextToken_194 : decode cX6_nextToken 194 = .ok (.getfield 94, 3) := dk_180 0 94 (dk_at dksX6_nextToken_8 7 rfl rfl)
theorem dX6_nextToken_197 : decode cX6_nextToken 197 = .ok (.bipush 44, 2) := dk_16 44 (dk_at dksX6_nextToken_8 10 rfl rfl)
theorem dX6_nextToken_199 : decode cX6_nextToken 199 = .ok (.if_icmp .eq 12, 3) := dk_159 0 12 (dk_at dksX6_nextToken_8 12 rfl rfl)
theorem dX6_nextToken_202 : decode cX6_nextToken 202 = .ok (.aload_n 0, 1) := dk_42 (dk_at dksX6_nextToken_8 15 rfl rfl)
theorem dX6_nextToken_203 : decode cX6_nextToken 203 = .ok (.getfield 94, 3) := dk_180 0 94 (dk_at dksX6_nextToken_8 16 rfl rfl)
theorem dX6_nextToken_206 : decode cX6_nextToken 206 = .ok (.bipush 59, 2) := dk_16 59 (dk_at dksX6_nextToken_8 19 rfl rfl)
theorem dX6_nextToken_208 : decode cX6_nextToken 208 = .ok (.if_icmp .ne 7, 3) := dk_160 0 7 (dk_at dksX6_nextToken_8 21 rfl rfl)
theorem dX6_nextToken_211 : decode cX6_nextToken 211 = .ok (.iconst 1, 1) := dk_4 (dk_at dksX6_nextToken_9 0 rfl rfl)
theorem dX6_nextToken_212 : decode cX6_nextToken 212 = .ok (.goto 4, 3) := dk_167 0 4 (dk_at dksX6_nextToken_9 1 rfl rfl)
theorem dX6_nextToken_215 : decode cX6_nextToken 215 = .ok (.iconst 0, 1) := dk_3 (dk_at dksX6_nextToken_9 4 rfl rfl)
theorem dX6_nextToken_216 : decode cX6_nextToken 216 = .ok (.putfield 91, 3) := dk_181 0 91 (dk_at dksX6_nextToken_9 5 rfl rfl)
theorem dX6_nextToken_219 : decode cX6_nextToken 219 = .ok (.aload_n 0, 1) := dk_42 (dk_at dksX6_nextToken_9 8 rfl rfl)
theorem dX6_nextToken_220 : decode cX6_nextToken 220 = .ok (.dup, 1) := dk_89 (dk_at dksX6_nextToken_9 9 rfl rfl)
theorem dX6_nextToken_221 : decode cX6_nextToken 221 = .ok (.getfield 85, 3) := dk_180 0 85 (dk_at dksX6_nextToken_9 10 rfl rfl)
theorem dX6_nextToken_224 : decode cX6_nextToken 224 = .ok (.iconst 1, 1) := dk_4 (dk_at dksX6_nextToken_9 13 rfl rfl)
theorem dX6_nextToken_225 : decode cX6_nextToken 225 = .ok (.iadd, 1) := dk_96 (dk_at dksX6_nextToken_9 14 rfl rfl)
theorem dX6_nextToken_226 : decode cX6_nextToken 226 = .ok (.putfield 85, 3) := dk_181 0 85 (dk_at dksX6_nextToken_9 15 rfl rfl)
theorem dX6_nextToken_229 : decode cX6_nextToken 229 = .ok (.return_, 1) := dk_177 (dk_at dksX6_nextToken_9 18 rfl rfl)
abbrev cX6_readFour : ByteArray := prog_17_method_18_code
def yX6_readFour : MethodName := ⟨RX6, "readFour", "(II)Z"⟩
def dkwX6_readFour_2 : List UInt8 := [167, 255, 218, 29, 172]
abbrev dktX6_readFour_2 : List UInt8 := dkwX6_readFour_2 ++ []
def dkwX6_readFour_1 : List UInt8 := [21, 4, 96, 21, 4, 6, 160, 0, 8, 16, 59, 167, 0, 5, 16, 44, 182, 0, 120, 62, 132, 4, 1]
abbrev dktX6_readFour_1 : List UInt8 := dkwX6_readFour_1 ++ dktX6_readFour_2
def dkwX6_readFour_0 : List UInt8 := [42, 27, 182, 0, 117, 62, 3, 54, 4, 21, 4, 7, 162, 0, 38, 29, 153, 0, 34, 42, 3, 16, 31, 28]
abbrev dktX6_readFour_0 : List UInt8 := dkwX6_readFour_0 ++ dktX6_readFour_1
theorem dksX6_readFour_0 : cX6_readFour.data.toList.drop 0 = dktX6_readFour_0 := by decide +kernel
theorem dksX6_readFour_1 : cX6_readFour.data.toList.drop 24 = dktX6_readFour_1 := dk_seg dksX6_readFour_0 24 rfl rfl
theorem dksX6_readFour_2 : cX6_readFour.data.toList.drop 47 = dktX6_readFour_2 := dk_seg dksX6_readFour_1 23 rfl rfl
theorem dX6_readFour_0 : decode cX6_readFour 0 = .ok (.aload_n 0, 1) := dk_42 (dk_at dksX6_readFour_0 0 rfl rfl)
theorem dX6_readFour_1 : decode cX6_readFour 1 = .ok (.iload_n 1, 1) := dk_27 (dk_at dksX6_readFour_0 1 rfl rfl)
theorem dX6_readFour_2 : decode cX6_readFour 2 = .ok (.invokevirtual 117, 3) := dk_182 0 117 (dk_at dksX6_readFour_0 2 rfl rfl)
theorem dX6_readFour_5 : decode cX6_readFour 5 = .ok (.istore_n 3, 1) := dk_62 (dk_at dksX6_readFour_0 5 rfl rfl)
theorem dX6_readFour_6 : decode cX6_readFour 6 = .ok (.iconst 0, 1) := dk_3 (dk_at dksX6_readFour_0 6 rfl rfl)
theorem dX6_readFour_7 : decode cX6_readFour 7 = .ok (.istore 4, 2) := dk_54 4 (dk_at dksX6_readFour_0 7 rfl rfl)
theorem dX6_readFour_9 : decode cX6_readFour 9 = .ok (.iload 4, 2) := dk_21 4 (dk_at dksX6_readFour_0 9 rfl rfl)
theorem dX6_readFour_11 : decode cX6_readFour 11 = .ok (.iconst 4, 1) := dk_7 (dk_at dksX6_readFour_0 11 rfl rfl)
theorem dX6_readFour_12 : decode cX6_readFour 12 = .ok (.if_icmp .ge 38, 3) := dk_162 0 38 (dk_at dksX6_readFour_0 12 rfl rfl)
theorem dX6_readFour_15 : decode cX6_readFour 15 = .ok (.iload_n 3, 1) := dk_29 (dk_at dksX6_readFour_0 15 rfl rfl)
theorem dX6_readFour_16 : decode cX6_readFour 16 = .ok (.ifCond .eq 34, 3) := dk_153 0 34 (dk_at dksX6_readFour_0 16 rfl rfl)
theorem dX6_readFour_19 : decode cX6_readFour 19 = .ok (.aload_n 0, 1) := dk_42 (dk_at dksX6_readFour_0 19 rfl rfl)
theorem dX6_readFour_20 : decode cX6_readFour 20 = .ok (.iconst 0, 1) := dk_3 (dk_at dksX6_readFour_0 20 rfl rfl)
theorem dX6_readFour_21 : decode cX6_readFour 21 = .ok (.bipush 31, 2) := dk_16 31 (dk_at dksX6_readFour_0 21 rfl rfl)
theorem dX6_readFour_23 : decode cX6_readFour 23 = .ok (.iload_n 2, 1) := dk_28 (dk_at dksX6_readFour_0 23 rfl rfl)
theorem dX6_readFour_24 : decode cX6_readFour 24 = .ok (.iload 4, 2) := dk_21 4 (dk_at dksX6_readFour_1 0 rfl rfl)
theorem dX6_readFour_26 : decode cX6_readFour 26 = .ok (.iadd, 1) := dk_96 (dk_at dksX6_readFour_1 2 rfl rfl)
theorem dX6_readFour_27 : decode cX6_readFour 27 = .ok (.iload 4, 2) := dk_21 4 (dk_at dksX6_readFour_1 3 rfl rfl)
theorem dX6_readFour_29 : decode cX6_readFour 29 = .ok (.iconst 3, 1) := dk_6 (dk_at dksX6_readFour_1 5 rfl rfl)
theorem dX6_readFour_30 : decode cX6_readFour 30 = .ok (.if_icmp .ne 8, 3) := dk_160 0 8 (dk_at dksX6_readFour_1 6 rfl rfl)
theorem dX6_readFour_33 : decode cX6_readFour 33 = .ok (.bipush 59, 2) := dk_16 59 (dk_at dksX6_readFour_1 9 rfl rfl)
theorem dX6_readFour_35 : decode cX6_readFour 35 = .ok (.goto 5, 3) := dk_167 0 5 (dk_at dksX6_readFour_1 11 rfl rfl)
theorem dX6_readFour_38 : decode cX6_readFour 38 = .ok (.bipush 44, 2) := dk_16 44 (dk_at dksX6_readFour_1 14 rfl rfl)
theorem dX6_readFour_40 : decode cX6_readFour 40 = .ok (.invokevirtual 120, 3) := dk_182 0 120 (dk_at dksX6_readFour_1 16 rfl rfl)
theorem dX6_readFour_43 : decode cX6_readFour 43 = .ok (.istore_n 3, 1) := dk_62 (dk_at dksX6_readFour_1 19 rfl rfl)
theorem dX6_readFour_44 : decode cX6_readFour 44 = .ok (.iinc 4 1, 3) := dk_132 4 1 (dk_at dksX6_readFour_1 20 rfl rfl)
theorem dX6_readFour_47 : decode cX6_readFour 47 = .ok (.goto (-38), 3) := dk_167 255 218 (dk_at dksX6_readFour_2 0 rfl rfl)
theorem dX6_readFour_50 : decode cX6_readFour 50 = .ok (.iload_n 3, 1) := dk_29 (dk_at dksX6_readFour_2 3 rfl rfl)
theorem dX6_readFour_51 : decode cX6_readFour 51 = .ok (.ireturn, 1) := dk_172 (dk_at dksX6_readFour_2 4 rfl rfl)
abbrev cX6_takes : ByteArray := prog_17_method_16_code
def yX6_takes : MethodName := ⟨RX6, "takes", "(I)Z"⟩
def dkwX6_takes_0 : List UInt8 := [42, 27, 182, 0, 108, 154, 0, 9, 42, 4, 182, 0, 111, 172, 42, 182, 0, 114, 4, 172]
abbrev dktX6_takes_0 : List UInt8 := dkwX6_takes_0 ++ []
theorem dksX6_takes_0 : cX6_takes.data.toList.drop 0 = dktX6_takes_0 := by decide +kernel
theorem dX6_takes_0 : decode cX6_takes 0 = .ok (.aload_n 0, 1) := dk_42 (dk_at dksX6_takes_0 0 rfl rfl)
theorem dX6_takes_1 : decode cX6_takes 1 = .ok (.iload_n 1, 1) := dk_27 (dk_at dksX6_takes_0 1 rfl rfl)
theorem dX6_takes_2 : decode cX6_takes 2 = .ok (.invokevirtual 108, 3) := dk_182 0 108 (dk_at dksX6_takes_0 2 rfl rfl)
theorem dX6_takes_5 : decode cX6_takes 5 = .ok (.ifCond .ne 9, 3) := dk_154 0 9 (dk_at dksX6_takes_0 5 rfl rfl)
theorem dX6_takes_8 : decode cX6_takes 8 = .ok (.aload_n 0, 1) := dk_42 (dk_at dksX6_takes_0 8 rfl rfl)
theorem dX6_takes_9 : decode cX6_takes 9 = .ok (.iconst 1, 1) := dk_4 (dk_at dksX6_takes_0 9 rfl rfl)
theorem dX6_takes_10 : decode cX6_takes 10 = .ok (.invokevirtual 111, 3) := dk_182 0 111 (dk_at dksX6_takes_0 10 rfl rfl)
theorem dX6_takes_13 : decode cX6_takes 13 = .ok (.ireturn, 1) := dk_172 (dk_at dksX6_takes_0 13 rfl rfl)
theorem dX6_takes_14 : decode cX6_takes 14 = .ok (.aload_n 0, 1) := dk_42 (dk_at dksX6_takes_0 14 rfl rfl)
theorem dX6_takes_15 : decode cX6_takes 15 = .ok (.invokevirtual 114, 3) := dk_182 0 114 (dk_at dksX6_takes_0 15 rfl rfl)
theorem dX6_takes_18 : decode cX6_takes 18 = .ok (.iconst 1, 1) := dk_4 (dk_at dksX6_takes_0 18 rfl rfl)
theorem dX6_takes_19 : decode cX6_takes 19 = .ok (.ireturn, 1) := dk_172 (dk_at dksX6_takes_0 19 rfl rfl)
abbrev cX6_isLetter : ByteArray := prog_17_method_15_code
def yX6_isLetter : MethodName := ⟨RX6, "isLetter", "(I)Z"⟩
def dkwX6_isLetter_0 : List UInt8 := [42, 180, 0, 91, 4, 160, 0, 15, 42, 180, 0, 94, 27, 160, 0, 7, 4, 167, 0, 4, 3, 172]
abbrev dktX6_isLetter_0 : List UInt8 := dkwX6_isLetter_0 ++ []
theorem dksX6_isLetter_0 : cX6_isLetter.data.toList.drop 0 = dktX6_isLetter_0 := by decide +kernel
theorem dX6_isLetter_0 : decode cX6_isLetter 0 = .ok (.aload_n 0, 1) := dk_42 (dk_at dksX6_isLetter_0 0 rfl rfl)
theorem dX6_isLetter_1 : decode cX6_isLetter 1 = .ok (.getfield 91, 3) := dk_180 0 91 (dk_at dksX6_isLetter_0 1 rfl rfl)
theorem dX6_isLetter_4 : decode cX6_isLetter 4 = .ok (.iconst 1, 1) := dk_4 (dk_at dksX6_isLetter_0 4 rfl rfl)
theorem dX6_isLetter_5 : decode cX6_isLetter 5 = .ok (.if_icmp .ne 15, 3) := dk_160 0 15 (dk_at dksX6_isLetter_0 5 rfl rfl)
theorem dX6_isLetter_8 : decode cX6_isLetter 8 = .ok (.aload_n 0, 1) := dk_42 (dk_at dksX6_isLetter_0 8 rfl rfl)
theorem dX6_isLetter_9 : decode cX6_isLetter 9 = .ok (.getfield 94, 3) := dk_180 0 94 (dk_at dksX6_isLetter_0 9 rfl rfl)
theorem dX6_isLetter_12 : decode cX6_isLetter 12 = .ok (.iload_n 1, 1) := dk_27 (dk_at dksX6_isLetter_0 12 rfl rfl)
theorem dX6_isLetter_13 : decode cX6_isLetter 13 = .ok (.if_icmp .ne 7, 3) := dk_160 0 7 (dk_at dksX6_isLetter_0 13 rfl rfl)
theorem dX6_isLetter_16 : decode cX6_isLetter 16 = .ok (.iconst 1, 1) := dk_4 (dk_at dksX6_isLetter_0 16 rfl rfl)
theorem dX6_isLetter_17 : decode cX6_isLetter 17 = .ok (.goto 4, 3) := dk_167 0 4 (dk_at dksX6_isLetter_0 17 rfl rfl)
theorem dX6_isLetter_20 : decode cX6_isLetter 20 = .ok (.iconst 0, 1) := dk_3 (dk_at dksX6_isLetter_0 20 rfl rfl)
theorem dX6_isLetter_21 : decode cX6_isLetter 21 = .ok (.ireturn, 1) := dk_172 (dk_at dksX6_isLetter_0 21 rfl rfl)
abbrev cX6_faults : ByteArray := prog_17_method_14_code
def yX6_faults : MethodName := ⟨RX6, "faults", "(I)Z"⟩
def dkwX6_faults_0 : List UInt8 := [42, 27, 181, 0, 105, 3, 172]
abbrev dktX6_faults_0 : List UInt8 := dkwX6_faults_0 ++ []
theorem dksX6_faults_0 : cX6_faults.data.toList.drop 0 = dktX6_faults_0 := by decide +kernel
theorem dX6_faults_0 : decode cX6_faults 0 = .ok (.aload_n 0, 1) := dk_42 (dk_at dksX6_faults_0 0 rfl rfl)
theorem dX6_faults_1 : decode cX6_faults 1 = .ok (.iload_n 1, 1) := dk_27 (dk_at dksX6_faults_0 1 rfl rfl)
theorem dX6_faults_2 : decode cX6_faults 2 = .ok (.putfield 105, 3) := dk_181 0 105 (dk_at dksX6_faults_0 2 rfl rfl)
theorem dX6_faults_5 : decode cX6_faults 5 = .ok (.iconst 0, 1) := dk_3 (dk_at dksX6_faults_0 5 rfl rfl)
theorem dX6_faults_6 : decode cX6_faults 6 = .ok (.ireturn, 1) := dk_172 (dk_at dksX6_faults_0 6 rfl rfl)
abbrev cX6_takesNumber : ByteArray := prog_17_method_17_code
def yX6_takesNumber : MethodName := ⟨RX6, "takesNumber", "(IIII)Z"⟩
def dkwX6_takesNumber_2 : List UInt8 := [180, 0, 94, 79, 42, 182, 0, 114, 42, 21, 4, 182, 0, 117, 172]
abbrev dktX6_takesNumber_2 : List UInt8 := dkwX6_takesNumber_2 ++ []
def dkwX6_takesNumber_1 : List UInt8 := [42, 180, 0, 91, 5, 160, 0, 7, 5, 167, 0, 4, 4, 182, 0, 111, 172, 42, 180, 0, 28, 29, 42]
abbrev dktX6_takesNumber_1 : List UInt8 := dkwX6_takesNumber_1 ++ dktX6_takesNumber_2
def dkwX6_takesNumber_0 : List UInt8 := [42, 180, 0, 91, 5, 160, 0, 18, 42, 180, 0, 94, 133, 27, 133, 28, 133, 184, 0, 57, 154, 0, 21, 42]
abbrev dktX6_takesNumber_0 : List UInt8 := dkwX6_takesNumber_0 ++ dktX6_takesNumber_1
theorem dksX6_takesNumber_0 : cX6_takesNumber.data.toList.drop 0 = dktX6_takesNumber_0 := by decide +kernel
theorem dksX6_takesNumber_1 : cX6_takesNumber.data.toList.drop 24 = dktX6_takesNumber_1 := dk_seg dksX6_takesNumber_0 24 rfl rfl
theorem dksX6_takesNumber_2 : cX6_takesNumber.data.toList.drop 47 = dktX6_takesNumber_2 := dk_seg dksX6_takesNumber_1 23 rfl rfl
theorem dX6_takesNumber_0 : decode cX6_takesNumber 0 = .ok (.aload_n 0, 1) := dk_42 (dk_at dksX6_takesNumber_0 0 rfl rfl)
theorem dX6_takesNumber_1 : decode cX6_takesNumber 1 = .ok (.getfield 91, 3) := dk_180 0 91 (dk_at dksX6_takesNumber_0 1 rfl rfl)
theorem dX6_takesNumber_4 : decode cX6_takesNumber 4 = .ok (.iconst 2, 1) := dk_5 (dk_at dksX6_takesNumber_0 4 rfl rfl)
theorem dX6_takesNumber_5 : decode cX6_takesNumber 5 = .ok (.if_icmp .ne 18, 3) := dk_160 0 18 (dk_at dksX6_takesNumber_0 5 rfl rfl)
theorem dX6_takesNumber_8 : decode cX6_takesNumber 8 = .ok (.aload_n 0, 1) := dk_42 (dk_at dksX6_takesNumber_0 8 rfl rfl)
theorem dX6_takesNumber_9 : decode cX6_takesNumber 9 = .ok (.getfield 94, 3) := dk_180 0 94 (dk_at dksX6_takesNumber_0 9 rfl rfl)
theorem dX6_takesNumber_12 : decode cX6_takesNumber 12 = .ok (.i2l, 1) := dk_133 (dk_at dksX6_takesNumber_0 12 rfl rfl)
theorem dX6_takesNumber_13 : decode cX6_takesNumber 13 = .ok (.iload_n 1, 1) := dk_27 (dk_at dksX6_takesNumber_0 13 rfl rfl)
theorem dX6_takesNumber_14 : decode cX6_takesNumber 14 = .ok (.i2l, 1) := dk_133 (dk_at dksX6_takesNumber_0 14 rfl rfl)
theorem dX6_takesNumber_15 : decode cX6_takesNumber 15 = .ok (.iload_n 2, 1) := dk_28 (dk_at dksX6_takesNumber_0 15 rfl rfl)
theorem dX6_takesNumber_16 : decode cX6_takesNumber 16 = .ok (.i2l, 1) := dk_133 (dk_at dksX6_takesNumber_0 16 rfl rfl)
theorem dX6_takesNumber_17 : decode cX6_takesNumber 17 = .ok (.invokestatic 57, 3) := dk_184 0 57 (dk_at dksX6_takesNumber_0 17 rfl rfl)
theorem dX6_takesNumber_20 : decode cX6_takesNumber 20 = .ok (.ifCond .ne 21, 3) := dk_154 0 21 (dk_at dksX6_takesNumber_0 20 rfl rfl)
theorem dX6_takesNumber_23 : decode cX6_takesNumber 23 = .ok (.aload_n 0, 1) := dk_42 (dk_at dksX6_takesNumber_0 23 rfl rfl)
theorem dX6_takesNumber_24 : decode cX6_takesNumber 24 = .ok (.aload_n 0, 1) := dk_42 (dk_at dksX6_takesNumber_1 0 rfl rfl)
theorem dX6_takesNumber_25 : decode cX6_takesNumber 25 = .ok (.getfield 91, 3) := dk_180 0 91 (dk_at dksX6_takesNumber_1 1 rfl rfl)
theorem dX6_takesNumber_28 : decode cX6_takesNumber 28 = .ok (.iconst 2, 1) := dk_5 (dk_at dksX6_takesNumber_1 4 rfl rfl)
theorem dX6_takesNumber_29 : decode cX6_takesNumber 29 = .ok (.if_icmp .ne 7, 3) := dk_160 0 7 (dk_at dksX6_takesNumber_1 5 rfl rfl)
theorem dX6_takesNumber_32 : decode cX6_takesNumber 32 = .ok (.iconst 2, 1) := dk_5 (dk_at dksX6_takesNumber_1 8 rfl rfl)
theorem dX6_takesNumber_33 : decode cX6_takesNumber 33 = .ok (.goto 4, 3) := dk_167 0 4 (dk_at dksX6_takesNumber_1 9 rfl rfl)
theorem dX6_takesNumber_36 : decode cX6_takesNumber 36 = .ok (.iconst 1, 1) := dk_4 (dk_at dksX6_takesNumber_1 12 rfl rfl)
theorem dX6_takesNumber_37 : decode cX6_takesNumber 37 = .ok (.invokevirtual 111, 3) := dk_182 0 111 (dk_at dksX6_takesNumber_1 13 rfl rfl)
theorem dX6_takesNumber_40 : decode cX6_takesNumber 40 = .ok (.ireturn, 1) := dk_172 (dk_at dksX6_takesNumber_1 16 rfl rfl)
theorem dX6_takesNumber_41 : decode cX6_takesNumber 41 = .ok (.aload_n 0, 1) := dk_42 (dk_at dksX6_takesNumber_1 17 rfl rfl)
theorem dX6_takesNumber_42 : decode cX6_takesNumber 42 = .ok (.getfield 28, 3) := dk_180 0 28 (dk_at dksX6_takesNumber_1 18 rfl rfl)
theorem dX6_takesNumber_45 : decode cX6_takesNumber 45 = .ok (.iload_n 3, 1) := dk_29 (dk_at dksX6_takesNumber_1 21 rfl rfl)
theorem dX6_takesNumber_46 : decode cX6_takesNumber 46 = .ok (.aload_n 0, 1) := dk_42 (dk_at dksX6_takesNumber_1 22 rfl rfl)
theorem dX6_takesNumber_47 : decode cX6_takesNumber 47 = .ok (.getfield 94, 3) := dk_180 0 94 (dk_at dksX6_takesNumber_2 0 rfl rfl)
theorem dX6_takesNumber_50 : decode cX6_takesNumber 50 = .ok (.iastore, 1) := dk_79 (dk_at dksX6_takesNumber_2 3 rfl rfl)
theorem dX6_takesNumber_51 : decode cX6_takesNumber 51 = .ok (.aload_n 0, 1) := dk_42 (dk_at dksX6_takesNumber_2 4 rfl rfl)
theorem dX6_takesNumber_52 : decode cX6_takesNumber 52 = .ok (.invokevirtual 114, 3) := dk_182 0 114 (dk_at dksX6_takesNumber_2 5 rfl rfl)
theorem dX6_takesNumber_55 : decode cX6_takesNumber 55 = .ok (.aload_n 0, 1) := dk_42 (dk_at dksX6_takesNumber_2 8 rfl rfl)
theorem dX6_takesNumber_56 : decode cX6_takesNumber 56 = .ok (.iload 4, 2) := dk_21 4 (dk_at dksX6_takesNumber_2 9 rfl rfl)
theorem dX6_takesNumber_58 : decode cX6_takesNumber 58 = .ok (.invokevirtual 117, 3) := dk_182 0 117 (dk_at dksX6_takesNumber_2 11 rfl rfl)
theorem dX6_takesNumber_61 : decode cX6_takesNumber 61 = .ok (.ireturn, 1) := dk_172 (dk_at dksX6_takesNumber_2 14 rfl rfl)
abbrev cX6_readWork : ByteArray := prog_17_method_19_code
def yX6_readWork : MethodName := ⟨RX6, "readWork", "(I)Z"⟩
def dkwX6_readWork_8 : List UInt8 := [182, 0, 120, 153, 0, 7, 4, 167, 0, 4, 3, 172]
abbrev dktX6_readWork_8 : List UInt8 := dkwX6_readWork_8 ++ []
def dkwX6_readWork_7 : List UInt8 := [4, 96, 181, 0, 124, 42, 16, 44, 182, 0, 117, 153, 0, 23, 42, 3, 16, 99, 16, 25, 28, 96, 16, 59]
abbrev dktX6_readWork_7 : List UInt8 := dkwX6_readWork_7 ++ dktX6_readWork_8
def dkwX6_readWork_6 : List UInt8 := [180, 0, 94, 96, 61, 42, 182, 0, 114, 42, 180, 0, 28, 16, 9, 28, 96, 27, 79, 42, 89, 180, 0, 124]
abbrev dktX6_readWork_6 : List UInt8 := dkwX6_readWork_6 ++ dktX6_readWork_7
def dkwX6_readWork_5 : List UInt8 := [180, 0, 91, 5, 160, 0, 7, 5, 167, 0, 4, 4, 182, 0, 111, 172, 7, 42, 180, 0, 127, 104, 42]
abbrev dktX6_readWork_5 : List UInt8 := dkwX6_readWork_5 ++ dktX6_readWork_6
def dkwX6_readWork_4 : List UInt8 := [180, 0, 28, 16, 9, 7, 42, 180, 0, 127, 104, 96, 42, 180, 0, 94, 96, 46, 158, 0, 21, 42, 42]
abbrev dktX6_readWork_4 : List UInt8 := dkwX6_readWork_4 ++ dktX6_readWork_5
def dkwX6_readWork_3 : List UInt8 := [154, 0, 5, 3, 172, 42, 180, 0, 91, 5, 160, 0, 33, 42, 180, 0, 94, 6, 163, 0, 25, 42]
abbrev dktX6_readWork_3 : List UInt8 := dkwX6_readWork_3 ++ dktX6_readWork_4
def dkwX6_readWork_2 : List UInt8 := [4, 182, 0, 111, 172, 42, 42, 180, 0, 94, 181, 0, 127, 42, 182, 0, 114, 42, 16, 44, 182, 0, 117]
abbrev dktX6_readWork_2 : List UInt8 := dkwX6_readWork_2 ++ dktX6_readWork_3
def dkwX6_readWork_1 : List UInt8 := [160, 0, 11, 42, 180, 0, 94, 6, 164, 0, 21, 42, 42, 180, 0, 91, 5, 160, 0, 7, 5, 167, 0, 4]
abbrev dktX6_readWork_1 : List UInt8 := dkwX6_readWork_1 ++ dktX6_readWork_2
def dkwX6_readWork_0 : List UInt8 := [42, 180, 0, 124, 16, 6, 160, 0, 9, 42, 6, 182, 0, 111, 172, 42, 182, 0, 114, 42, 180, 0, 91, 5]
abbrev dktX6_readWork_0 : List UInt8 := dkwX6_readWork_0 ++ dktX6_readWork_1
theorem dksX6_readWork_0 : cX6_readWork.data.toList.drop 0 = dktX6_readWork_0 := by decide +kernel
theorem dksX6_readWork_1 : cX6_readWork.data.toList.drop 24 = dktX6_readWork_1 := dk_seg dksX6_readWork_0 24 rfl rfl
theorem dksX6_readWork_2 : cX6_readWork.data.toList.drop 48 = dktX6_readWork_2 := dk_seg dksX6_readWork_1 24 rfl rfl
theorem dksX6_readWork_3 : cX6_readWork.data.toList.drop 71 = dktX6_readWork_3 := dk_seg dksX6_readWork_2 23 rfl rfl
theorem dksX6_readWork_4 : cX6_readWork.data.toList.drop 93 = dktX6_readWork_4 := dk_seg dksX6_readWork_3 22 rfl rfl
theorem dksX6_readWork_5 : cX6_readWork.data.toList.drop 116 = dktX6_readWork_5 := dk_seg dksX6_readWork_4 23 rfl rfl
theorem dksX6_readWork_6 : cX6_readWork.data.toList.drop 139 = dktX6_readWork_6 := dk_seg dksX6_readWork_5 23 rfl rfl
theorem dksX6_readWork_7 : cX6_readWork.data.toList.drop 163 = dktX6_readWork_7 := dk_seg dksX6_readWork_6 24 rfl rfl
theorem dksX6_readWork_8 : cX6_readWork.data.toList.drop 187 = dktX6_readWork_8 := dk_seg dksX6_readWork_7 24 rfl rfl
theorem dX6_readWork_0 : decode cX6_readWork 0 = .ok (.aload_n 0, 1) := dk_42 (dk_at dksX6_readWork_0 0 rfl rfl)
theorem dX6_readWork_1 : decode cX6_readWork 1 = .ok (.getfield 124, 3) := dk_180 0 124 (dk_at dksX6_readWork_0 1 rfl rfl)
theorem dX6_readWork_4 : decode cX6_readWork 4 = .ok (.bipush 6, 2) := dk_16 6 (dk_at dksX6_readWork_0 4 rfl rfl)
theorem dX6_readWork_6 : decode cX6_readWork 6 = .ok (.if_icmp .ne 9, 3) := dk_160 0 9 (dk_at dksX6_readWork_0 6 rfl rfl)
theorem dX6_readWork_9 : decode cX6_readWork 9 = .ok (.aload_n 0, 1) := dk_42 (dk_at dksX6_readWork_0 9 rfl rfl)
theorem dX6_readWork_10 : decode cX6_readWork 10 = .ok (.iconst 3, 1) := dk_6 (dk_at dksX6_readWork_0 10 rfl rfl)
theorem dX6_readWork_11 : decode cX6_readWork 11 = .ok (.invokevirtual 111, 3) := dk_182 0 111 (dk_at dksX6_readWork_0 11 rfl rfl)
theorem dX6_readWork_14 : decode cX6_readWork 14 = .ok (.ireturn, 1) := dk_172 (dk_at dksX6_readWork_0 14 rfl rfl)
theorem dX6_readWork_15 : decode cX6_readWork 15 = .ok (.aload_n 0, 1) := dk_42 (dk_at dksX6_readWork_0 15 rfl rfl)
theorem dX6_readWork_16 : decode cX6_readWork 16 = .ok (.invokevirtual 114, 3) := dk_182 0 114 (dk_at dksX6_readWork_0 16 rfl rfl)
theorem dX6_readWork_19 : decode cX6_readWork 19 = .ok (.aload_n 0, 1) := dk_42 (dk_at dksX6_readWork_0 19 rfl rfl)
theorem dX6_readWork_20 : decode cX6_readWork 20 = .ok (.getfield 91, 3) := dk_180 0 91 (dk_at dksX6_readWork_0 20 rfl rfl)
theorem dX6_readWork_23 : decode cX6_readWork 23 = .ok (.iconst 2, 1) := dk_5 (dk_at dksX6_readWork_0 23 rfl rfl)
theorem dX6_readWork_24 : decode cX6_readWork 24 = .ok (.if_icmp .ne 11, 3) := dk_160 0 11 (dk_at dksX6_readWork_1 0 rfl rfl)
theorem dX6_readWork_27 : decode cX6_readWork 27 = .ok (.aload_n 0, 1) := dk_42 (dk_at dksX6_readWork_1 3 rfl rfl)
theorem dX6_readWork_28 : decode cX6_readWork 28 = .ok (.getfield 94, 3) := dk_180 0 94 (dk_at dksX6_readWork_1 4 rfl rfl)
theorem dX6_readWork_31 : decode cX6_readWork 31 = .ok (.iconst 3, 1) := dk_6 (dk_at dksX6_readWork_1 7 rfl rfl)
theorem dX6_readWork_32 : decode cX6_readWork 32 = .ok (.if_icmp .le 21, 3) := dk_164 0 21 (dk_at dksX6_readWork_1 8 rfl rfl)
theorem dX6_readWork_35 : decode cX6_readWork 35 = .ok (.aload_n 0, 1) := dk_42 (dk_at dksX6_readWork_1 11 rfl rfl)
theorem dX6_readWork_36 : decode cX6_readWork 36 = .ok (.aload_n 0, 1) := dk_42 (dk_at dksX6_readWork_1 12 rfl rfl)
theorem dX6_readWork_37 : decode cX6_readWork 37 = .ok (.getfield 91, 3) := dk_180 0 91 (dk_at dksX6_readWork_1 13 rfl rfl)
theorem dX6_readWork_40 : decode cX6_readWork 40 = .ok (.iconst 2, 1) := dk_5 (dk_at dksX6_readWork_1 16 rfl rfl)
theorem dX6_readWork_41 : decode cX6_readWork 41 = .ok (.if_icmp .ne 7, 3) := dk_160 0 7 (dk_at dksX6_readWork_1 17 rfl rfl)
theorem dX6_readWork_44 : decode cX6_readWork 44 = .ok (.iconst 2, 1) := dk_5 (dk_at dksX6_readWork_1 20 rfl rfl)
theorem dX6_readWork_45 : decode cX6_readWork 45 = .ok (.goto 4, 3) := dk_167 0 4 (dk_at dksX6_readWork_1 21 rfl rfl)
theorem dX6_readWork_48 : decode cX6_readWork 48 = .ok (.iconst 1, 1) := dk_4 (dk_at dksX6_readWork_2 0 rfl rfl)
theorem dX6_readWork_49 : decode cX6_readWork 49 = .ok (.invokevirtual 111, 3) := dk_182 0 111 (dk_at dksX6_readWork_2 1 rfl rfl)
theorem dX6_readWork_52 : decode cX6_readWork 52 = .ok (.ireturn, 1) := dk_172 (dk_at dksX6_readWork_2 4 rfl rfl)
theorem dX6_readWork_53 : decode cX6_readWork 53 = .ok (.aload_n 0, 1) := dk_42 (dk_at dksX6_readWork_2 5 rfl rfl)
theorem dX6_readWork_54 : decode cX6_readWork 54 = .ok (.aload_n 0, 1) := dk_42 (dk_at dksX6_readWork_2 6 rfl rfl)
theorem dX6_readWork_55 : decode cX6_readWork 55 = .ok (.getfield 94, 3) := dk_180 0 94 (dk_at dksX6_readWork_2 7 rfl rfl)
theorem dX6_readWork_58 : decode cX6_readWork 58 = .ok (.putfield 127, 3) := dk_181 0 127 (dk_at dksX6_readWork_2 10 rfl rfl)
theorem dX6_readWork_61 : decode cX6_readWork 61 = .ok (.aload_n 0, 1) := dk_42 (dk_at dksX6_readWork_2 13 rfl rfl)
theorem dX6_readWork_62 : decode cX6_readWork 62 = .ok (.invokevirtual 114, 3) := dk_182 0 114 (dk_at dksX6_readWork_2 14 rfl rfl)
theorem dX6_readWork_65 : decode cX6_readWork 65 = .ok (.aload_n 0, 1) := dk_42 (dk_at dksX6_readWork_2 17 rfl rfl)
theorem dX6_readWork_66 : decode cX6_readWork 66 = .ok (.bipush 44, 2) := dk_16 44 (dk_at dksX6_readWork_2 18 rfl rfl)
theorem dX6_readWork_68 : decode cX6_readWork 68 = .ok (.invokevirtual 117, 3) := dk_182 0 117 (dk_at dksX6_readWork_2 20 rfl rfl)
theorem dX6_readWork_71 : decode cX6_readWork 71 = .ok (.ifCond .ne 5, 3) := dk_154 0 5 (dk_at dksX6_readWork_3 0 rfl rfl)
theorem dX6_readWork_74 : decode cX6_readWork 74 = .ok (.iconst 0, 1) := dk_3 (dk_at dksX6_readWork_3 3 rfl rfl)
theorem dX6_readWork_75 : decode cX6_readWork 75 = .ok (.ireturn, 1) := dk_172 (dk_at dksX6_readWork_3 4 rfl rfl)
theorem dX6_readWork_76 : decode cX6_readWork 76 = .ok (.aload_n 0, 1) := dk_42 (dk_at dksX6_readWork_3 5 rfl rfl)
theorem dX6_readWork_77 : decode cX6_readWork 77 = .ok (.getfield 91, 3) := dk_180 0 91 (dk_at dksX6_readWork_3 6 rfl rfl)
theorem dX6_readWork_80 : decode cX6_readWork 80 = .ok (.iconst 2, 1) := dk_5 (dk_at dksX6_readWork_3 9 rfl rfl)
theorem dX6_readWork_81 : decode cX6_readWork 81 = .ok (.if_icmp .ne 33, 3) := dk_160 0 33 (dk_at dksX6_readWork_3 10 rfl rfl)
theorem dX6_readWork_84 : decode cX6_readWork 84 = .ok (.aload_n 0, 1) := dk_42 (dk_at dksX6_readWork_3 13 rfl rfl)
theorem dX6_readWork_85 : decode cX6_readWork 85 = .ok (.getfield 94, 3) := dk_180 0 94 (dk_at dksX6_readWork_3 14 rfl rfl)
theorem dX6_readWork_88 : decode cX6_readWork 88 = .ok (.iconst 3, 1) := dk_6 (dk_at dksX6_readWork_3 17 rfl rfl)
theorem dX6_readWork_89 : decode cX6_readWork 89 = .ok (.if_icmp .gt 25, 3) := dk_163 0 25 (dk_at dksX6_readWork_3 18 rfl rfl)
theorem dX6_readWork_92 : decode cX6_readWork 92 = .ok (.aload_n 0, 1) := dk_42 (dk_at dksX6_readWork_3 21 rfl rfl)
theorem dX6_readWork_93 : decode cX6_readWork 93 = .ok (.getfield 28, 3) := dk_180 0 28 (dk_at dksX6_readWork_4 0 rfl rfl)
theorem dX6_readWork_96 : decode cX6_readWork 96 = .ok (.bipush 9, 2) := dk_16 9 (dk_at dksX6_readWork_4 3 rfl rfl)
theorem dX6_readWork_98 : decode cX6_readWork 98 = .ok (.iconst 4, 1) := dk_7 (dk_at dksX6_readWork_4 5 rfl rfl)
theorem dX6_readWork_99 : decode cX6_readWork 99 = .ok (.aload_n 0, 1) := dk_42 (dk_at dksX6_readWork_4 6 rfl rfl)
theorem dX6_readWork_100 : decode cX6_readWork 100 = .ok (.getfield 127, 3) := dk_180 0 127 (dk_at dksX6_readWork_4 7 rfl rfl)
theorem dX6_readWork_103 : decode cX6_readWork 103 = .ok (.imul, 1) := dk_104 (dk_at dksX6_readWork_4 10 rfl rfl)
theorem dX6_readWork_104 : decode cX6_readWork 104 = .ok (.iadd, 1) := dk_96 (dk_at dksX6_readWork_4 11 rfl rfl)
theorem dX6_readWork_105 : decode cX6_readWork 105 = .ok (.aload_n 0, 1) := dk_42 (dk_at dksX6_readWork_4 12 rfl rfl)
theorem dX6_readWork_106 : decode cX6_readWork 106 = .ok (.getfield 94, 3) := dk_180 0 94 (dk_at dksX6_readWork_4 13 rfl rfl)
theorem dX6_readWork_109 : decode cX6_readWork 109 = .ok (.iadd, 1) := dk_96 (dk_at dksX6_readWork_4 16 rfl rfl)
theorem dX6_readWork_110 : decode cX6_readWork 110 = .ok (.iaload, 1) := dk_46 (dk_at dksX6_readWork_4 17 rfl rfl)
theorem dX6_readWork_111 : decode cX6_readWork 111 = .ok (.ifCond .le 21, 3) := dk_158 0 21 (dk_at dksX6_readWork_4 18 rfl rfl)
theorem dX6_readWork_114 : decode cX6_readWork 114 = .ok (.aload_n 0, 1) := dk_42 (dk_at dksX6_readWork_4 21 rfl rfl)
theorem dX6_readWork_115 : decode cX6_readWork 115 = .ok (.aload_n 0, 1) := dk_42 (dk_at dksX6_readWork_4 22 rfl rfl)
theorem dX6_readWork_116 : decode cX6_readWork 116 = .ok (.getfield 91, 3) := dk_180 0 91 (dk_at dksX6_readWork_5 0 rfl rfl)
theorem dX6_readWork_119 : decode cX6_readWork 119 = .ok (.iconst 2, 1) := dk_5 (dk_at dksX6_readWork_5 3 rfl rfl)
theorem dX6_readWork_120 : decode cX6_readWork 120 = .ok (.if_icmp .ne 7, 3) := dk_160 0 7 (dk_at dksX6_readWork_5 4 rfl rfl)
theorem dX6_readWork_123 : decode cX6_readWork 123 = .ok (.iconst 2, 1) := dk_5 (dk_at dksX6_readWork_5 7 rfl rfl)
theorem dX6_readWork_124 : decode cX6_readWork 124 = .ok (.goto 4, 3) := dk_167 0 4 (dk_at dksX6_readWork_5 8 rfl rfl)
theorem dX6_readWork_127 : decode cX6_readWork 127 = .ok (.iconst 1, 1) := dk_4 (dk_at dksX6_readWork_5 11 rfl rfl)
theorem dX6_readWork_128 : decode cX6_readWork 128 = .ok (.invokevirtual 111, 3) := dk_182 0 111 (dk_at dksX6_readWork_5 12 rfl rfl)
theorem dX6_readWork_131 : decode cX6_readWork 131 = .ok (.ireturn, 1) := dk_172 (dk_at dksX6_readWork_5 15 rfl rfl)
theorem dX6_readWork_132 : decode cX6_readWork 132 = .ok (.iconst 4, 1) := dk_7 (dk_at dksX6_readWork_5 16 rfl rfl)
theorem dX6_readWork_133 : decode cX6_readWork 133 = .ok (.aload_n 0, 1) := dk_42 (dk_at dksX6_readWork_5 17 rfl rfl)
theorem dX6_readWork_134 : decode cX6_readWork 134 = .ok (.getfield 127, 3) := dk_180 0 127 (dk_at dksX6_readWork_5 18 rfl rfl)
theorem dX6_readWork_137 : decode cX6_readWork 137 = .ok (.imul, 1) := dk_104 (dk_at dksX6_readWork_5 21 rfl rfl)
theorem dX6_readWork_138 : decode cX6_readWork 138 = .ok (.aload_n 0, 1) := dk_42 (dk_at dksX6_readWork_5 22 rfl rfl)
theorem dX6_readWork_139 : decode cX6_readWork 139 = .ok (.getfield 94, 3) := dk_180 0 94 (dk_at dksX6_readWork_6 0 rfl rfl)
theorem dX6_readWork_142 : decode cX6_readWork 142 = .ok (.iadd, 1) := dk_96 (dk_at dksX6_readWork_6 3 rfl rfl)
theorem dX6_readWork_143 : decode cX6_readWork 143 = .ok (.istore_n 2, 1) := dk_61 (dk_at dksX6_readWork_6 4 rfl rfl)
theorem dX6_readWork_144 : decode cX6_readWork 144 = .ok (.aload_n 0, 1) := dk_42 (dk_at dksX6_readWork_6 5 rfl rfl)
theorem dX6_readWork_145 : decode cX6_readWork 145 = .ok (.invokevirtual 114, 3) := dk_182 0 114 (dk_at dksX6_readWork_6 6 rfl rfl)
theorem dX6_readWork_148 : decode cX6_readWork 148 = .ok (.aload_n 0, 1) := dk_42 (dk_at dksX6_readWork_6 9 rfl rfl)
theorem dX6_readWork_149 : decode cX6_readWork 149 = .ok (.getfield 28, 3) := dk_180 0 28 (dk_at dksX6_readWork_6 10 rfl rfl)
theorem dX6_readWork_152 : decode cX6_readWork 152 = .ok (.bipush 9, 2) := dk_16 9 (dk_at dksX6_readWork_6 13 rfl rfl)
theorem dX6_readWork_154 : decode cX6_readWork 154 = .ok (.iload_n 2, 1) := dk_28 (dk_at dksX6_readWork_6 15 rfl rfl)
theorem dX6_readWork_155 : decode cX6_readWork 155 = .ok (.iadd, 1) := dk_96 (dk_at dksX6_readWork_6 16 rfl rfl)
theorem dX6_readWork_156 : decode cX6_readWork 156 = .ok (.iload_n 1, 1) := dk_27 (dk_at dksX6_readWork_6 17 rfl rfl)
theorem dX6_readWork_157 : decode cX6_readWork 157 = .ok (.iastore, 1) := dk_79 (dk_at dksX6_readWork_6 18 rfl rfl)
theorem dX6_readWork_158 : decode cX6_readWork 158 = .ok (.aload_n 0, 1) := dk_42 (dk_at dksX6_readWork_6 19 rfl rfl)
theorem dX6_readWork_159 : decode cX6_readWork 159 = .ok (.dup, 1) := dk_89 (dk_at dksX6_readWork_6 20 rfl rfl)
theorem dX6_readWork_160 : decode cX6_readWork 160 = .ok (.getfield 124, 3) := dk_180 0 124 (dk_at dksX6_readWork_6 21 rfl rfl)
theorem dX6_readWork_163 : decode cX6_readWork 163 = .ok (.iconst 1, 1) := dk_4 (dk_at dksX6_readWork_7 0 rfl rfl)
theorem dX6_readWork_164 : decode cX6_readWork 164 = .ok (.iadd, 1) := dk_96 (dk_at dksX6_readWork_7 1 rfl rfl)
theorem dX6_readWork_165 : decode cX6_readWork 165 = .ok (.putfield 124, 3) := dk_181 0 124 (dk_at dksX6_readWork_7 2 rfl rfl)
theorem dX6_readWork_168 : decode cX6_readWork 168 = .ok (.aload_n 0, 1) := dk_42 (dk_at dksX6_readWork_7 5 rfl rfl)
theorem dX6_readWork_169 : decode cX6_readWork 169 = .ok (.bipush 44, 2) := dk_16 44 (dk_at dksX6_readWork_7 6 rfl rfl)
theorem dX6_readWork_171 : decode cX6_readWork 171 = .ok (.invokevirtual 117, 3) := dk_182 0 117 (dk_at dksX6_readWork_7 8 rfl rfl)
theorem dX6_readWork_174 : decode cX6_readWork 174 = .ok (.ifCond .eq 23, 3) := dk_153 0 23 (dk_at dksX6_readWork_7 11 rfl rfl)
theorem dX6_readWork_177 : decode cX6_readWork 177 = .ok (.aload_n 0, 1) := dk_42 (dk_at dksX6_readWork_7 14 rfl rfl)
theorem dX6_readWork_178 : decode cX6_readWork 178 = .ok (.iconst 0, 1) := dk_3 (dk_at dksX6_readWork_7 15 rfl rfl)
theorem dX6_readWork_179 : decode cX6_readWork 179 = .ok (.bipush 99, 2) := dk_16 99 (dk_at dksX6_readWork_7 16 rfl rfl)
theorem dX6_readWork_181 : decode cX6_readWork 181 = .ok (.bipush 25, 2) := dk_16 25 (dk_at dksX6_readWork_7 18 rfl rfl)
theorem dX6_readWork_183 : decode cX6_readWork 183 = .ok (.iload_n 2, 1) := dk_28 (dk_at dksX6_readWork_7 20 rfl rfl)
theorem dX6_readWork_184 : decode cX6_readWork 184 = .ok (.iadd, 1) := dk_96 (dk_at dksX6_readWork_7 21 rfl rfl)
theorem dX6_readWork_185 : decode cX6_readWork 185 = .ok (.bipush 59, 2) := dk_16 59 (dk_at dksX6_readWork_7 22 rfl rfl)
theorem dX6_readWork_187 : decode cX6_readWork 187 = .ok (.invokevirtual 120, 3) := dk_182 0 120 (dk_at dksX6_readWork_8 0 rfl rfl)
theorem dX6_readWork_190 : decode cX6_readWork 190 = .ok (.ifCond .eq 7, 3) := dk_153 0 7 (dk_at dksX6_readWork_8 3 rfl rfl)
theorem dX6_readWork_193 : decode cX6_readWork 193 = .ok (.iconst 1, 1) := dk_4 (dk_at dksX6_readWork_8 6 rfl rfl)
theorem dX6_readWork_194 : decode cX6_readWork 194 = .ok (.goto 4, 3) := dk_167 0 4 (dk_at dksX6_readWork_8 7 rfl rfl)
theorem dX6_readWork_197 : decode cX6_readWork 197 = .ok (.iconst 0, 1) := dk_3 (dk_at dksX6_readWork_8 10 rfl rfl)
theorem dX6_readWork_198 : decode cX6_readWork 198 = .ok (.ireturn, 1) := dk_172 (dk_at dksX6_readWork_8 11 rfl rfl)
abbrev cX6_fault : ByteArray := prog_17_method_22_code
def yX6_fault : MethodName := ⟨RX6, "fault", "()I"⟩
theorem dX6_fault_0 : decode cX6_fault 0 = .ok (.aload_n 0, 1) := by decide +kernel
theorem dX6_fault_1 : decode cX6_fault 1 = .ok (.getfield 141, 3) := by decide +kernel
theorem dX6_fault_4 : decode cX6_fault 4 = .ok (.ireturn, 1) := by decide +kernel
abbrev cX6_setUp : ByteArray := prog_17_method_33_code
def yX6_setUp : MethodName := ⟨RX6, "setUp", "(III)I"⟩
def dkwX6_setUp_4 : List UInt8 := [180, 0, 19, 16, 41, 27, 96, 3, 79, 42, 182, 0, 187, 172]
abbrev dktX6_setUp_4 : List UInt8 := dkwX6_setUp_4 ++ []
def dkwX6_setUp_3 : List UInt8 := [182, 0, 191, 42, 180, 0, 19, 16, 9, 27, 96, 28, 79, 42, 180, 0, 19, 16, 25, 27, 96, 29, 79, 42]
abbrev dktX6_setUp_3 : List UInt8 := dkwX6_setUp_3 ++ dktX6_setUp_4
def dkwX6_setUp_2 : List UInt8 := [182, 0, 172, 153, 0, 6, 18, 179, 172, 42, 182, 0, 187, 16, 6, 160, 0, 6, 18, 84, 172, 42]
abbrev dktX6_setUp_2 : List UInt8 := dkwX6_setUp_2 ++ dktX6_setUp_3
def dkwX6_setUp_1 : List UInt8 := [184, 0, 57, 153, 0, 15, 29, 133, 9, 20, 0, 185, 184, 0, 57, 154, 0, 6, 18, 67, 172, 42, 27]
abbrev dktX6_setUp_1 : List UInt8 := dkwX6_setUp_1 ++ dktX6_setUp_2
def dkwX6_setUp_0 : List UInt8 := [42, 180, 0, 145, 154, 0, 6, 18, 179, 172, 27, 184, 0, 180, 153, 0, 27, 28, 133, 10, 20, 0, 183]
abbrev dktX6_setUp_0 : List UInt8 := dkwX6_setUp_0 ++ dktX6_setUp_1
theorem dksX6_setUp_0 : cX6_setUp.data.toList.drop 0 = dktX6_setUp_0 := by decide +kernel
theorem dksX6_setUp_1 : cX6_setUp.data.toList.drop 23 = dktX6_setUp_1 := dk_seg dksX6_setUp_0 23 rfl rfl
theorem dksX6_setUp_2 : cX6_setUp.data.toList.drop 46 = dktX6_setUp_2 := dk_seg dksX6_setUp_1 23 rfl rfl
theorem dksX6_setUp_3 : cX6_setUp.data.toList.drop 68 = dktX6_setUp_3 := dk_seg dksX6_setUp_2 22 rfl rfl
theorem dksX6_setUp_4 : cX6_setUp.data.toList.drop 92 = dktX6_setUp_4 := dk_seg dksX6_setUp_3 24 rfl rfl
theorem dX6_setUp_0 : decode cX6_setUp 0 = .ok (.aload_n 0, 1) := dk_42 (dk_at dksX6_setUp_0 0 rfl rfl)
theorem dX6_setUp_1 : decode cX6_setUp 1 = .ok (.getfield 145, 3) := dk_180 0 145 (dk_at dksX6_setUp_0 1 rfl rfl)
theorem dX6_setUp_4 : decode cX6_setUp 4 = .ok (.ifCond .ne 6, 3) := dk_154 0 6 (dk_at dksX6_setUp_0 4 rfl rfl)
theorem dX6_setUp_7 : decode cX6_setUp 7 = .ok (.ldc 179, 2) := dk_18 179 (dk_at dksX6_setUp_0 7 rfl rfl)
theorem dX6_setUp_9 : decode cX6_setUp 9 = .ok (.ireturn, 1) := dk_172 (dk_at dksX6_setUp_0 9 rfl rfl)
theorem dX6_setUp_10 : decode cX6_setUp 10 = .ok (.iload_n 1, 1) := dk_27 (dk_at dksX6_setUp_0 10 rfl rfl)
theorem dX6_setUp_11 : decode cX6_setUp 11 = .ok (.invokestatic 180, 3) := dk_184 0 180 (dk_at dksX6_setUp_0 11 rfl rfl)
theorem dX6_setUp_14 : decode cX6_setUp 14 = .ok (.ifCond .eq 27, 3) := dk_153 0 27 (dk_at dksX6_setUp_0 14 rfl rfl)
theorem dX6_setUp_17 : decode cX6_setUp 17 = .ok (.iload_n 2, 1) := dk_28 (dk_at dksX6_setUp_0 17 rfl rfl)
theorem dX6_setUp_18 : decode cX6_setUp 18 = .ok (.i2l, 1) := dk_133 (dk_at dksX6_setUp_0 18 rfl rfl)
theorem dX6_setUp_19 : decode cX6_setUp 19 = .ok (.lconst 1, 1) := dk_10 (dk_at dksX6_setUp_0 19 rfl rfl)
theorem dX6_setUp_20 : decode cX6_setUp 20 = .ok (.ldc2_w 183, 3) := dk_20 0 183 (dk_at dksX6_setUp_0 20 rfl rfl)
theorem dX6_setUp_23 : decode cX6_setUp 23 = .ok (.invokestatic 57, 3) := dk_184 0 57 (dk_at dksX6_setUp_1 0 rfl rfl)
theorem dX6_setUp_26 : decode cX6_setUp 26 = .ok (.ifCond .eq 15, 3) := dk_153 0 15 (dk_at dksX6_setUp_1 3 rfl rfl)
theorem dX6_setUp_29 : decode cX6_setUp 29 = .ok (.iload_n 3, 1) := dk_29 (dk_at dksX6_setUp_1 6 rfl rfl)
theorem dX6_setUp_30 : decode cX6_setUp 30 = .ok (.i2l, 1) := dk_133 (dk_at dksX6_setUp_1 7 rfl rfl)
theorem dX6_setUp_31 : decode cX6_setUp 31 = .ok (.lconst 0, 1) := dk_9 (dk_at dksX6_setUp_1 8 rfl rfl)
theorem dX6_setUp_32 : decode cX6_setUp 32 = .ok (.ldc2_w 185, 3) := dk_20 0 185 (dk_at dksX6_setUp_1 9 rfl rfl)
theorem dX6_setUp_35 : decode cX6_setUp 35 = .ok (.invokestatic 57, 3) := dk_184 0 57 (dk_at dksX6_setUp_1 12 rfl rfl)
theorem dX6_setUp_38 : decode cX6_setUp 38 = .ok (.ifCond .ne 6, 3) := dk_154 0 6 (dk_at dksX6_setUp_1 15 rfl rfl)
theorem dX6_setUp_41 : decode cX6_setUp 41 = .ok (.ldc 67, 2) := dk_18 67 (dk_at dksX6_setUp_1 18 rfl rfl)
theorem dX6_setUp_43 : decode cX6_setUp 43 = .ok (.ireturn, 1) := dk_172 (dk_at dksX6_setUp_1 20 rfl rfl)
theorem dX6_setUp_44 : decode cX6_setUp 44 = .ok (.aload_n 0, 1) := dk_42 (dk_at dksX6_setUp_1 21 rfl rfl)
theorem dX6_setUp_45 : decode cX6_setUp 45 = .ok (.iload_n 1, 1) := dk_27 (dk_at dksX6_setUp_1 22 rfl rfl)
theorem dX6_setUp_46 : decode cX6_setUp 46 = .ok (.invokevirtual 172, 3) := dk_182 0 172 (dk_at dksX6_setUp_2 0 rfl rfl)
theorem dX6_setUp_49 : decode cX6_setUp 49 = .ok (.ifCond .eq 6, 3) := dk_153 0 6 (dk_at dksX6_setUp_2 3 rfl rfl)
theorem dX6_setUp_52 : decode cX6_setUp 52 = .ok (.ldc 179, 2) := dk_18 179 (dk_at dksX6_setUp_2 6 rfl rfl)
theorem dX6_setUp_54 : decode cX6_setUp 54 = .ok (.ireturn, 1) := dk_172 (dk_at dksX6_setUp_2 8 rfl rfl)
theorem dX6_setUp_55 : decode cX6_setUp 55 = .ok (.aload_n 0, 1) := dk_42 (dk_at dksX6_setUp_2 9 rfl rfl)
theorem dX6_setUp_56 : decode cX6_setUp 56 = .ok (.invokevirtual 187, 3) := dk_182 0 187 (dk_at dksX6_setUp_2 10 rfl rfl)
theorem dX6_setUp_59 : decode cX6_setUp 59 = .ok (.bipush 6, 2) := dk_16 6 (dk_at dksX6_setUp_2 13 rfl rfl)
theorem dX6_setUp_61 : decode cX6_setUp 61 = .ok (.if_icmp .ne 6, 3) := dk_160 0 6 (dk_at dksX6_setUp_2 15 rfl rfl)
theorem dX6_setUp_64 : decode cX6_setUp 64 = .ok (.ldc 84, 2) := dk_18 84 (dk_at dksX6_setUp_2 18 rfl rfl)
theorem dX6_setUp_66 : decode cX6_setUp 66 = .ok (.ireturn, 1) := dk_172 (dk_at dksX6_setUp_2 20 rfl rfl)
theorem dX6_setUp_67 : decode cX6_setUp 67 = .ok (.aload_n 0, 1) := dk_42 (dk_at dksX6_setUp_2 21 rfl rfl)
theorem dX6_setUp_68 : decode cX6_setUp 68 = .ok (.invokevirtual 191, 3) := dk_182 0 191 (dk_at dksX6_setUp_3 0 rfl rfl)
theorem dX6_setUp_71 : decode cX6_setUp 71 = .ok (.aload_n 0, 1) := dk_42 (dk_at dksX6_setUp_3 3 rfl rfl)
theorem dX6_setUp_72 : decode cX6_setUp 72 = .ok (.getfield 19, 3) := dk_180 0 19 (dk_at dksX6_setUp_3 4 rfl rfl)
theorem dX6_setUp_75 : decode cX6_setUp 75 = .ok (.bipush 9, 2) := dk_16 9 (dk_at dksX6_setUp_3 7 rfl rfl)
theorem dX6_setUp_77 : decode cX6_setUp 77 = .ok (.iload_n 1, 1) := dk_27 (dk_at dksX6_setUp_3 9 rfl rfl)
theorem dX6_setUp_78 : decode cX6_setUp 78 = .ok (.iadd, 1) := dk_96 (dk_at dksX6_setUp_3 10 rfl rfl)
theorem dX6_setUp_79 : decode cX6_setUp 79 = .ok (.iload_n 2, 1) := dk_28 (dk_at dksX6_setUp_3 11 rfl rfl)
theorem dX6_setUp_80 : decode cX6_setUp 80 = .ok (.iastore, 1) := dk_79 (dk_at dksX6_setUp_3 12 rfl rfl)
theorem dX6_setUp_81 : decode cX6_setUp 81 = .ok (.aload_n 0, 1) := dk_42 (dk_at dksX6_setUp_3 13 rfl rfl)
theorem dX6_setUp_82 : decode cX6_setUp 82 = .ok (.getfield 19, 3) := dk_180 0 19 (dk_at dksX6_setUp_3 14 rfl rfl)
theorem dX6_setUp_85 : decode cX6_setUp 85 = .ok (.bipush 25, 2) := dk_16 25 (dk_at dksX6_setUp_3 17 rfl rfl)
theorem dX6_setUp_87 : decode cX6_setUp 87 = .ok (.iload_n 1, 1) := dk_27 (dk_at dksX6_setUp_3 19 rfl rfl)
theorem dX6_setUp_88 : decode cX6_setUp 88 = .ok (.iadd, 1) := dk_96 (dk_at dksX6_setUp_3 20 rfl rfl)
theorem dX6_setUp_89 : decode cX6_setUp 89 = .ok (.iload_n 3, 1) := dk_29 (dk_at dksX6_setUp_3 21 rfl rfl)
theorem dX6_setUp_90 : decode cX6_setUp 90 = .ok (.iastore, 1) := dk_79 (dk_at dksX6_setUp_3 22 rfl rfl)
theorem dX6_setUp_91 : decode cX6_setUp 91 = .ok (.aload_n 0, 1) := dk_42 (dk_at dksX6_setUp_3 23 rfl rfl)
theorem dX6_setUp_92 : decode cX6_setUp 92 = .ok (.getfield 19, 3) := dk_180 0 19 (dk_at dksX6_setUp_4 0 rfl rfl)
theorem dX6_setUp_95 : decode cX6_setUp 95 = .ok (.bipush 41, 2) := dk_16 41 (dk_at dksX6_setUp_4 3 rfl rfl)
theorem dX6_setUp_97 : decode cX6_setUp 97 = .ok (.iload_n 1, 1) := dk_27 (dk_at dksX6_setUp_4 5 rfl rfl)
theorem dX6_setUp_98 : decode cX6_setUp 98 = .ok (.iadd, 1) := dk_96 (dk_at dksX6_setUp_4 6 rfl rfl)
theorem dX6_setUp_99 : decode cX6_setUp 99 = .ok (.iconst 0, 1) := dk_3 (dk_at dksX6_setUp_4 7 rfl rfl)
theorem dX6_setUp_100 : decode cX6_setUp 100 = .ok (.iastore, 1) := dk_79 (dk_at dksX6_setUp_4 8 rfl rfl)
theorem dX6_setUp_101 : decode cX6_setUp 101 = .ok (.aload_n 0, 1) := dk_42 (dk_at dksX6_setUp_4 9 rfl rfl)
theorem dX6_setUp_102 : decode cX6_setUp 102 = .ok (.invokevirtual 187, 3) := dk_182 0 187 (dk_at dksX6_setUp_4 10 rfl rfl)
theorem dX6_setUp_105 : decode cX6_setUp 105 = .ok (.ireturn, 1) := dk_172 (dk_at dksX6_setUp_4 13 rfl rfl)
abbrev cX6_isCell : ByteArray := prog_17_method_23_code
def yX6_isCell : MethodName := ⟨RX6, "isCell", "(I)Z"⟩
def dkwX6_isCell_0 : List UInt8 := [26, 133, 9, 20, 0, 152, 184, 0, 57, 172]
abbrev dktX6_isCell_0 : List UInt8 := dkwX6_isCell_0 ++ []
theorem dksX6_isCell_0 : cX6_isCell.data.toList.drop 0 = dktX6_isCell_0 := by decide +kernel
theorem dX6_isCell_0 : decode cX6_isCell 0 = .ok (.iload_n 0, 1) := dk_26 (dk_at dksX6_isCell_0 0 rfl rfl)
theorem dX6_isCell_1 : decode cX6_isCell 1 = .ok (.i2l, 1) := dk_133 (dk_at dksX6_isCell_0 1 rfl rfl)
theorem dX6_isCell_2 : decode cX6_isCell 2 = .ok (.lconst 0, 1) := dk_9 (dk_at dksX6_isCell_0 2 rfl rfl)
theorem dX6_isCell_3 : decode cX6_isCell 3 = .ok (.ldc2_w 152, 3) := dk_20 0 152 (dk_at dksX6_isCell_0 3 rfl rfl)
theorem dX6_isCell_6 : decode cX6_isCell 6 = .ok (.invokestatic 57, 3) := dk_184 0 57 (dk_at dksX6_isCell_0 6 rfl rfl)
theorem dX6_isCell_9 : decode cX6_isCell 9 = .ok (.ireturn, 1) := dk_172 (dk_at dksX6_isCell_0 9 rfl rfl)
abbrev cX6_isWork : ByteArray := prog_17_method_25_code
def yX6_isWork : MethodName := ⟨RX6, "isWork", "(I)Z"⟩
def dkwX6_isWork_0 : List UInt8 := [42, 180, 0, 19, 16, 9, 27, 96, 46, 158, 0, 7, 4, 167, 0, 4, 3, 172]
abbrev dktX6_isWork_0 : List UInt8 := dkwX6_isWork_0 ++ []
theorem dksX6_isWork_0 : cX6_isWork.data.toList.drop 0 = dktX6_isWork_0 := by decide +kernel
theorem dX6_isWork_0 : decode cX6_isWork 0 = .ok (.aload_n 0, 1) := dk_42 (dk_at dksX6_isWork_0 0 rfl rfl)
theorem dX6_isWork_1 : decode cX6_isWork 1 = .ok (.getfield 19, 3) := dk_180 0 19 (dk_at dksX6_isWork_0 1 rfl rfl)
theorem dX6_isWork_4 : decode cX6_isWork 4 = .ok (.bipush 9, 2) := dk_16 9 (dk_at dksX6_isWork_0 4 rfl rfl)
theorem dX6_isWork_6 : decode cX6_isWork 6 = .ok (.iload_n 1, 1) := dk_27 (dk_at dksX6_isWork_0 6 rfl rfl)
theorem dX6_isWork_7 : decode cX6_isWork 7 = .ok (.iadd, 1) := dk_96 (dk_at dksX6_isWork_0 7 rfl rfl)
theorem dX6_isWork_8 : decode cX6_isWork 8 = .ok (.iaload, 1) := dk_46 (dk_at dksX6_isWork_0 8 rfl rfl)
theorem dX6_isWork_9 : decode cX6_isWork 9 = .ok (.ifCond .le 7, 3) := dk_158 0 7 (dk_at dksX6_isWork_0 9 rfl rfl)
theorem dX6_isWork_12 : decode cX6_isWork 12 = .ok (.iconst 1, 1) := dk_4 (dk_at dksX6_isWork_0 12 rfl rfl)
theorem dX6_isWork_13 : decode cX6_isWork 13 = .ok (.goto 4, 3) := dk_167 0 4 (dk_at dksX6_isWork_0 13 rfl rfl)
theorem dX6_isWork_16 : decode cX6_isWork 16 = .ok (.iconst 0, 1) := dk_3 (dk_at dksX6_isWork_0 16 rfl rfl)
theorem dX6_isWork_17 : decode cX6_isWork 17 = .ok (.ireturn, 1) := dk_172 (dk_at dksX6_isWork_0 17 rfl rfl)
abbrev cX6_workMany : ByteArray := prog_17_method_31_code
def yX6_workMany : MethodName := ⟨RX6, "workMany", "()I"⟩
def dkwX6_workMany_1 : List UInt8 := [96, 60, 132, 2, 1, 167, 255, 231, 27, 172]
abbrev dktX6_workMany_1 : List UInt8 := dkwX6_workMany_1 ++ []
def dkwX6_workMany_0 : List UInt8 := [3, 60, 3, 61, 28, 16, 16, 162, 0, 25, 27, 42, 28, 182, 0, 172, 153, 0, 7, 4, 167, 0, 4, 3]
abbrev dktX6_workMany_0 : List UInt8 := dkwX6_workMany_0 ++ dktX6_workMany_1
theorem dksX6_workMany_0 : cX6_workMany.data.toList.drop 0 = dktX6_workMany_0 := by decide +kernel
theorem dksX6_workMany_1 : cX6_workMany.data.toList.drop 24 = dktX6_workMany_1 := dk_seg dksX6_workMany_0 24 rfl rfl
theorem dX6_workMany_0 : decode cX6_workMany 0 = .ok (.iconst 0, 1) := dk_3 (dk_at dksX6_workMany_0 0 rfl rfl)
theorem dX6_workMany_1 : decode cX6_workMany 1 = .ok (.istore_n 1, 1) := dk_60 (dk_at dksX6_workMany_0 1 rfl rfl)
theorem dX6_workMany_2 : decode cX6_workMany 2 = .ok (.iconst 0, 1) := dk_3 (dk_at dksX6_workMany_0 2 rfl rfl)
theorem dX6_workMany_3 : decode cX6_workMany 3 = .ok (.istore_n 2, 1) := dk_61 (dk_at dksX6_workMany_0 3 rfl rfl)
theorem dX6_workMany_4 : decode cX6_workMany 4 = .ok (.iload_n 2, 1) := dk_28 (dk_at dksX6_workMany_0 4 rfl rfl)
theorem dX6_workMany_5 : decode cX6_workMany 5 = .ok (.bipush 16, 2) := dk_16 16 (dk_at dksX6_workMany_0 5 rfl rfl)
theorem dX6_workMany_7 : decode cX6_workMany 7 = .ok (.if_icmp .ge 25, 3) := dk_162 0 25 (dk_at dksX6_workMany_0 7 rfl rfl)
theorem dX6_workMany_10 : decode cX6_workMany 10 = .ok (.iload_n 1, 1) := dk_27 (dk_at dksX6_workMany_0 10 rfl rfl)
theorem dX6_workMany_11 : decode cX6_workMany 11 = .ok (.aload_n 0, 1) := dk_42 (dk_at dksX6_workMany_0 11 rfl rfl)
theorem dX6_workMany_12 : decode cX6_workMany 12 = .ok (.iload_n 2, 1) := dk_28 (dk_at dksX6_workMany_0 12 rfl rfl)
theorem dX6_workMany_13 : decode cX6_workMany 13 = .ok (.invokevirtual 172, 3) := dk_182 0 172 (dk_at dksX6_workMany_0 13 rfl rfl)
theorem dX6_workMany_16 : decode cX6_workMany 16 = .ok (.ifCond .eq 7, 3) := dk_153 0 7 (dk_at dksX6_workMany_0 16 rfl rfl)
theorem dX6_workMany_19 : decode cX6_workMany 19 = .ok (.iconst 1, 1) := dk_4 (dk_at dksX6_workMany_0 19 rfl rfl)
theorem dX6_workMany_20 : decode cX6_workMany 20 = .ok (.goto 4, 3) := dk_167 0 4 (dk_at dksX6_workMany_0 20 rfl rfl)
theorem dX6_workMany_23 : decode cX6_workMany 23 = .ok (.iconst 0, 1) := dk_3 (dk_at dksX6_workMany_0 23 rfl rfl)
theorem dX6_workMany_24 : decode cX6_workMany 24 = .ok (.iadd, 1) := dk_96 (dk_at dksX6_workMany_1 0 rfl rfl)
theorem dX6_workMany_25 : decode cX6_workMany 25 = .ok (.istore_n 1, 1) := dk_60 (dk_at dksX6_workMany_1 1 rfl rfl)
theorem dX6_workMany_26 : decode cX6_workMany 26 = .ok (.iinc 2 1, 3) := dk_132 2 1 (dk_at dksX6_workMany_1 2 rfl rfl)
theorem dX6_workMany_29 : decode cX6_workMany 29 = .ok (.goto (-25), 3) := dk_167 255 231 (dk_at dksX6_workMany_1 5 rfl rfl)
theorem dX6_workMany_32 : decode cX6_workMany 32 = .ok (.iload_n 1, 1) := dk_27 (dk_at dksX6_workMany_1 8 rfl rfl)
theorem dX6_workMany_33 : decode cX6_workMany 33 = .ok (.ireturn, 1) := dk_172 (dk_at dksX6_workMany_1 9 rfl rfl)
abbrev cX6_note : ByteArray := prog_17_method_32_code
def yX6_note : MethodName := ⟨RX6, "note", "()V"⟩
def dkwX6_note_3 : List UInt8 := [42, 180, 0, 19, 27, 46, 79, 132, 1, 1, 167, 255, 227, 42, 89, 180, 0, 149, 4, 96, 181, 0, 149, 177]
abbrev dktX6_note_3 : List UInt8 := dkwX6_note_3 ++ []
def dkwX6_note_2 : List UInt8 := [181, 0, 149, 3, 60, 27, 16, 57, 162, 0, 29, 42, 180, 0, 34, 16, 57, 42, 180, 0, 149, 104, 27, 96]
abbrev dktX6_note_2 : List UInt8 := dkwX6_note_2 ++ dktX6_note_3
def dkwX6_note_1 : List UInt8 := [180, 0, 34, 27, 16, 57, 96, 46, 79, 132, 1, 1, 167, 255, 231, 42, 89, 180, 0, 149, 4, 100]
abbrev dktX6_note_1 : List UInt8 := dkwX6_note_1 ++ dktX6_note_2
def dkwX6_note_0 : List UInt8 := [42, 180, 0, 149, 16, 24, 160, 0, 43, 3, 60, 27, 17, 5, 31, 162, 0, 24, 42, 180, 0, 34, 27, 42]
abbrev dktX6_note_0 : List UInt8 := dkwX6_note_0 ++ dktX6_note_1
theorem dksX6_note_0 : cX6_note.data.toList.drop 0 = dktX6_note_0 := by decide +kernel
theorem dksX6_note_1 : cX6_note.data.toList.drop 24 = dktX6_note_1 := dk_seg dksX6_note_0 24 rfl rfl
theorem dksX6_note_2 : cX6_note.data.toList.drop 46 = dktX6_note_2 := dk_seg dksX6_note_1 22 rfl rfl
theorem dksX6_note_3 : cX6_note.data.toList.drop 70 = dktX6_note_3 := dk_seg dksX6_note_2 24 rfl rfl
theorem dX6_note_0 : decode cX6_note 0 = .ok (.aload_n 0, 1) := dk_42 (dk_at dksX6_note_0 0 rfl rfl)
theorem dX6_note_1 : decode cX6_note 1 = .ok (.getfield 149, 3) := dk_180 0 149 (dk_at dksX6_note_0 1 rfl rfl)
theorem dX6_note_4 : decode cX6_note 4 = .ok (.bipush 24, 2) := dk_16 24 (dk_at dksX6_note_0 4 rfl rfl)
theorem dX6_note_6 : decode cX6_note 6 = .ok (.if_icmp .ne 43, 3) := dk_160 0 43 (dk_at dksX6_note_0 6 rfl rfl)
theorem dX6_note_9 : decode cX6_note 9 = .ok (.iconst 0, 1) := dk_3 (dk_at dksX6_note_0 9 rfl rfl)
theorem dX6_note_10 : decode cX6_note 10 = .ok (.istore_n 1, 1) := dk_60 (dk_at dksX6_note_0 10 rfl rfl)
theorem dX6_note_11 : decode cX6_note 11 = .ok (.iload_n 1, 1) := dk_27 (dk_at dksX6_note_0 11 rfl rfl)
theorem dX6_note_12 : decode cX6_note 12 = .ok (.sipush 1311, 3) := dk_17 5 31 (dk_at dksX6_note_0 12 rfl rfl)
theorem dX6_note_15 : decode cX6_note 15 = .ok (.if_icmp .ge 24, 3) := dk_162 0 24 (dk_at dksX6_note_0 15 rfl rfl)
theorem dX6_note_18 : decode cX6_note 18 = .ok (.aload_n 0, 1) := dk_42 (dk_at dksX6_note_0 18 rfl rfl)
theorem dX6_note_19 : decode cX6_note 19 = .ok (.getfield 34, 3) := dk_180 0 34 (dk_at dksX6_note_0 19 rfl rfl)
theorem dX6_note_22 : decode cX6_note 22 = .ok (.iload_n 1, 1) := dk_27 (dk_at dksX6_note_0 22 rfl rfl)
theorem dX6_note_23 : decode cX6_note 23 = .ok (.aload_n 0, 1) := dk_42 (dk_at dksX6_note_0 23 rfl rfl)
theorem dX6_note_24 : decode cX6_note 24 = .ok (.getfield 34, 3) := dk_180 0 34 (dk_at dksX6_note_1 0 rfl rfl)
theorem dX6_note_27 : decode cX6_note 27 = .ok (.iload_n 1, 1) := dk_27 (dk_at dksX6_note_1 3 rfl rfl)
theorem dX6_note_28 : decode cX6_note 28 = .ok (.bipush 57, 2) := dk_16 57 (dk_at dksX6_note_1 4 rfl rfl)
theorem dX6_note_30 : decode cX6_note 30 = .ok (.iadd, 1) := dk_96 (dk_at dksX6_note_1 6 rfl rfl)
theorem dX6_note_31 : decode cX6_note 31 = .ok (.iaload, 1) := dk_46 (dk_at dksX6_note_1 7 rfl rfl)
theorem dX6_note_32 : decode cX6_note 32 = .ok (.iastore, 1) := dk_79 (dk_at dksX6_note_1 8 rfl rfl)
theorem dX6_note_33 : decode cX6_note 33 = .ok (.iinc 1 1, 3) := dk_132 1 1 (dk_at dksX6_note_1 9 rfl rfl)
theorem dX6_note_36 : decode cX6_note 36 = .ok (.goto (-25), 3) := dk_167 255 231 (dk_at dksX6_note_1 12 rfl rfl)
theorem dX6_note_39 : decode cX6_note 39 = .ok (.aload_n 0, 1) := dk_42 (dk_at dksX6_note_1 15 rfl rfl)
theorem dX6_note_40 : decode cX6_note 40 = .ok (.dup, 1) := dk_89 (dk_at dksX6_note_1 16 rfl rfl)
theorem dX6_note_41 : decode cX6_note 41 = .ok (.getfield 149, 3) := dk_180 0 149 (dk_at dksX6_note_1 17 rfl rfl)
theorem dX6_note_44 : decode cX6_note 44 = .ok (.iconst 1, 1) := dk_4 (dk_at dksX6_note_1 20 rfl rfl)
theorem dX6_note_45 : decode cX6_note 45 = .ok (.isub, 1) := dk_100 (dk_at dksX6_note_1 21 rfl rfl)
theorem dX6_note_46 : decode cX6_note 46 = .ok (.putfield 149, 3) := dk_181 0 149 (dk_at dksX6_note_2 0 rfl rfl)
theorem dX6_note_49 : decode cX6_note 49 = .ok (.iconst 0, 1) := dk_3 (dk_at dksX6_note_2 3 rfl rfl)
theorem dX6_note_50 : decode cX6_note 50 = .ok (.istore_n 1, 1) := dk_60 (dk_at dksX6_note_2 4 rfl rfl)
theorem dX6_note_51 : decode cX6_note 51 = .ok (.iload_n 1, 1) := dk_27 (dk_at dksX6_note_2 5 rfl rfl)
theorem dX6_note_52 : decode cX6_note 52 = .ok (.bipush 57, 2) := dk_16 57 (dk_at dksX6_note_2 6 rfl rfl)
theorem dX6_note_54 : decode cX6_note 54 = .ok (.if_icmp .ge 29, 3) := dk_162 0 29 (dk_at dksX6_note_2 8 rfl rfl)
theorem dX6_note_57 : decode cX6_note 57 = .ok (.aload_n 0, 1) := dk_42 (dk_at dksX6_note_2 11 rfl rfl)
theorem dX6_note_58 : decode cX6_note 58 = .ok (.getfield 34, 3) := dk_180 0 34 (dk_at dksX6_note_2 12 rfl rfl)
theorem dX6_note_61 : decode cX6_note 61 = .ok (.bipush 57, 2) := dk_16 57 (dk_at dksX6_note_2 15 rfl rfl)
theorem dX6_note_63 : decode cX6_note 63 = .ok (.aload_n 0, 1) := dk_42 (dk_at dksX6_note_2 17 rfl rfl)
theorem dX6_note_64 : decode cX6_note 64 = .ok (.getfield 149, 3) := dk_180 0 149 (dk_at dksX6_note_2 18 rfl rfl)
theorem dX6_note_67 : decode cX6_note 67 = .ok (.imul, 1) := dk_104 (dk_at dksX6_note_2 21 rfl rfl)
theorem dX6_note_68 : decode cX6_note 68 = .ok (.iload_n 1, 1) := dk_27 (dk_at dksX6_note_2 22 rfl rfl)
theorem dX6_note_69 : decode cX6_note 69 = .ok (.iadd, 1) := dk_96 (dk_at dksX6_note_2 23 rfl rfl)
theorem dX6_note_70 : decode cX6_note 70 = .ok (.aload_n 0, 1) := dk_42 (dk_at dksX6_note_3 0 rfl rfl)
theorem dX6_note_71 : decode cX6_note 71 = .ok (.getfield 19, 3) := dk_180 0 19 (dk_at dksX6_note_3 1 rfl rfl)
theorem dX6_note_74 : decode cX6_note 74 = .ok (.iload_n 1, 1) := dk_27 (dk_at dksX6_note_3 4 rfl rfl)
theorem dX6_note_75 : decode cX6_note 75 = .ok (.iaload, 1) := dk_46 (dk_at dksX6_note_3 5 rfl rfl)
theorem dX6_note_76 : decode cX6_note 76 = .ok (.iastore, 1) := dk_79 (dk_at dksX6_note_3 6 rfl rfl)
theorem dX6_note_77 : decode cX6_note 77 = .ok (.iinc 1 1, 3) := dk_132 1 1 (dk_at dksX6_note_3 7 rfl rfl)
theorem dX6_note_80 : decode cX6_note 80 = .ok (.goto (-29), 3) := dk_167 255 227 (dk_at dksX6_note_3 10 rfl rfl)
theorem dX6_note_83 : decode cX6_note 83 = .ok (.aload_n 0, 1) := dk_42 (dk_at dksX6_note_3 13 rfl rfl)
theorem dX6_note_84 : decode cX6_note 84 = .ok (.dup, 1) := dk_89 (dk_at dksX6_note_3 14 rfl rfl)
theorem dX6_note_85 : decode cX6_note 85 = .ok (.getfield 149, 3) := dk_180 0 149 (dk_at dksX6_note_3 15 rfl rfl)
theorem dX6_note_88 : decode cX6_note 88 = .ok (.iconst 1, 1) := dk_4 (dk_at dksX6_note_3 18 rfl rfl)
theorem dX6_note_89 : decode cX6_note 89 = .ok (.iadd, 1) := dk_96 (dk_at dksX6_note_3 19 rfl rfl)
theorem dX6_note_90 : decode cX6_note 90 = .ok (.putfield 149, 3) := dk_181 0 149 (dk_at dksX6_note_3 20 rfl rfl)
theorem dX6_note_93 : decode cX6_note 93 = .ok (.return_, 1) := dk_177 (dk_at dksX6_note_3 23 rfl rfl)
abbrev cX6_take : ByteArray := prog_17_method_34_code
def yX6_take : MethodName := ⟨RX6, "take", "(I)I"⟩
def dkwX6_take_1 : List UInt8 := [182, 0, 172, 154, 0, 6, 18, 179, 172, 42, 182, 0, 191, 42, 27, 182, 0, 175, 42, 182, 0, 187, 172]
abbrev dktX6_take_1 : List UInt8 := dkwX6_take_1 ++ []
def dkwX6_take_0 : List UInt8 := [42, 180, 0, 145, 154, 0, 6, 18, 179, 172, 27, 184, 0, 180, 154, 0, 6, 18, 67, 172, 42, 27]
abbrev dktX6_take_0 : List UInt8 := dkwX6_take_0 ++ dktX6_take_1
theorem dksX6_take_0 : cX6_take.data.toList.drop 0 = dktX6_take_0 := by decide +kernel
theorem dksX6_take_1 : cX6_take.data.toList.drop 22 = dktX6_take_1 := dk_seg dksX6_take_0 22 rfl rfl
theorem dX6_take_0 : decode cX6_take 0 = .ok (.aload_n 0, 1) := dk_42 (dk_at dksX6_take_0 0 rfl rfl)
theorem dX6_take_1 : decode cX6_take 1 = .ok (.getfield 145, 3) := dk_180 0 145 (dk_at dksX6_take_0 1 rfl rfl)
theorem dX6_take_4 : decode cX6_take 4 = .ok (.ifCond .ne 6, 3) := dk_154 0 6 (dk_at dksX6_take_0 4 rfl rfl)
theorem dX6_take_7 : decode cX6_take 7 = .ok (.ldc 179, 2) := dk_18 179 (dk_at dksX6_take_0 7 rfl rfl)
theorem dX6_take_9 : decode cX6_take 9 = .ok (.ireturn, 1) := dk_172 (dk_at dksX6_take_0 9 rfl rfl)
theorem dX6_take_10 : decode cX6_take 10 = .ok (.iload_n 1, 1) := dk_27 (dk_at dksX6_take_0 10 rfl rfl)
theorem dX6_take_11 : decode cX6_take 11 = .ok (.invokestatic 180, 3) := dk_184 0 180 (dk_at dksX6_take_0 11 rfl rfl)
theorem dX6_take_14 : decode cX6_take 14 = .ok (.ifCond .ne 6, 3) := dk_154 0 6 (dk_at dksX6_take_0 14 rfl rfl)
theorem dX6_take_17 : decode cX6_take 17 = .ok (.ldc 67, 2) := dk_18 67 (dk_at dksX6_take_0 17 rfl rfl)
theorem dX6_take_19 : decode cX6_take 19 = .ok (.ireturn, 1) := dk_172 (dk_at dksX6_take_0 19 rfl rfl)
theorem dX6_take_20 : decode cX6_take 20 = .ok (.aload_n 0, 1) := dk_42 (dk_at dksX6_take_0 20 rfl rfl)
theorem dX6_take_21 : decode cX6_take 21 = .ok (.iload_n 1, 1) := dk_27 (dk_at dksX6_take_0 21 rfl rfl)
theorem dX6_take_22 : decode cX6_take 22 = .ok (.invokevirtual 172, 3) := dk_182 0 172 (dk_at dksX6_take_1 0 rfl rfl)
theorem dX6_take_25 : decode cX6_take 25 = .ok (.ifCond .ne 6, 3) := dk_154 0 6 (dk_at dksX6_take_1 3 rfl rfl)
theorem dX6_take_28 : decode cX6_take 28 = .ok (.ldc 179, 2) := dk_18 179 (dk_at dksX6_take_1 6 rfl rfl)
theorem dX6_take_30 : decode cX6_take 30 = .ok (.ireturn, 1) := dk_172 (dk_at dksX6_take_1 8 rfl rfl)
theorem dX6_take_31 : decode cX6_take 31 = .ok (.aload_n 0, 1) := dk_42 (dk_at dksX6_take_1 9 rfl rfl)
theorem dX6_take_32 : decode cX6_take 32 = .ok (.invokevirtual 191, 3) := dk_182 0 191 (dk_at dksX6_take_1 10 rfl rfl)
theorem dX6_take_35 : decode cX6_take 35 = .ok (.aload_n 0, 1) := dk_42 (dk_at dksX6_take_1 13 rfl rfl)
theorem dX6_take_36 : decode cX6_take 36 = .ok (.iload_n 1, 1) := dk_27 (dk_at dksX6_take_1 14 rfl rfl)
theorem dX6_take_37 : decode cX6_take 37 = .ok (.invokevirtual 175, 3) := dk_182 0 175 (dk_at dksX6_take_1 15 rfl rfl)
theorem dX6_take_40 : decode cX6_take 40 = .ok (.aload_n 0, 1) := dk_42 (dk_at dksX6_take_1 18 rfl rfl)
theorem dX6_take_41 : decode cX6_take 41 = .ok (.invokevirtual 187, 3) := dk_182 0 187 (dk_at dksX6_take_1 19 rfl rfl)
theorem dX6_take_44 : decode cX6_take 44 = .ok (.ireturn, 1) := dk_172 (dk_at dksX6_take_1 22 rfl rfl)
abbrev cX6_clear : ByteArray := prog_17_method_29_code
def yX6_clear : MethodName := ⟨RX6, "clear", "(I)V"⟩
def dkwX6_clear_1 : List UInt8 := [16, 41, 27, 96, 3, 79, 177]
abbrev dktX6_clear_1 : List UInt8 := dkwX6_clear_1 ++ []
def dkwX6_clear_0 : List UInt8 := [42, 180, 0, 19, 16, 9, 27, 96, 3, 79, 42, 180, 0, 19, 16, 25, 27, 96, 3, 79, 42, 180, 0, 19]
abbrev dktX6_clear_0 : List UInt8 := dkwX6_clear_0 ++ dktX6_clear_1
theorem dksX6_clear_0 : cX6_clear.data.toList.drop 0 = dktX6_clear_0 := by decide +kernel
theorem dksX6_clear_1 : cX6_clear.data.toList.drop 24 = dktX6_clear_1 := dk_seg dksX6_clear_0 24 rfl rfl
theorem dX6_clear_0 : decode cX6_clear 0 = .ok (.aload_n 0, 1) := dk_42 (dk_at dksX6_clear_0 0 rfl rfl)
theorem dX6_clear_1 : decode cX6_clear 1 = .ok (.getfield 19, 3) := dk_180 0 19 (dk_at dksX6_clear_0 1 rfl rfl)
theorem dX6_clear_4 : decode cX6_clear 4 = .ok (.bipush 9, 2) := dk_16 9 (dk_at dksX6_clear_0 4 rfl rfl)
theorem dX6_clear_6 : decode cX6_clear 6 = .ok (.iload_n 1, 1) := dk_27 (dk_at dksX6_clear_0 6 rfl rfl)
theorem dX6_clear_7 : decode cX6_clear 7 = .ok (.iadd, 1) := dk_96 (dk_at dksX6_clear_0 7 rfl rfl)
theorem dX6_clear_8 : decode cX6_clear 8 = .ok (.iconst 0, 1) := dk_3 (dk_at dksX6_clear_0 8 rfl rfl)
theorem dX6_clear_9 : decode cX6_clear 9 = .ok (.iastore, 1) := dk_79 (dk_at dksX6_clear_0 9 rfl rfl)
theorem dX6_clear_10 : decode cX6_clear 10 = .ok (.aload_n 0, 1) := dk_42 (dk_at dksX6_clear_0 10 rfl rfl)
theorem dX6_clear_11 : decode cX6_clear 11 = .ok (.getfield 19, 3) := dk_180 0 19 (dk_at dksX6_clear_0 11 rfl rfl)
theorem dX6_clear_14 : decode cX6_clear 14 = .ok (.bipush 25, 2) := dk_16 25 (dk_at dksX6_clear_0 14 rfl rfl)
theorem dX6_clear_16 : decode cX6_clear 16 = .ok (.iload_n 1, 1) := dk_27 (dk_at dksX6_clear_0 16 rfl rfl)
theorem dX6_clear_17 : decode cX6_clear 17 = .ok (.iadd, 1) := dk_96 (dk_at dksX6_clear_0 17 rfl rfl)
theorem dX6_clear_18 : decode cX6_clear 18 = .ok (.iconst 0, 1) := dk_3 (dk_at dksX6_clear_0 18 rfl rfl)
theorem dX6_clear_19 : decode cX6_clear 19 = .ok (.iastore, 1) := dk_79 (dk_at dksX6_clear_0 19 rfl rfl)
theorem dX6_clear_20 : decode cX6_clear 20 = .ok (.aload_n 0, 1) := dk_42 (dk_at dksX6_clear_0 20 rfl rfl)
theorem dX6_clear_21 : decode cX6_clear 21 = .ok (.getfield 19, 3) := dk_180 0 19 (dk_at dksX6_clear_0 21 rfl rfl)
theorem dX6_clear_24 : decode cX6_clear 24 = .ok (.bipush 41, 2) := dk_16 41 (dk_at dksX6_clear_1 0 rfl rfl)
theorem dX6_clear_26 : decode cX6_clear 26 = .ok (.iload_n 1, 1) := dk_27 (dk_at dksX6_clear_1 2 rfl rfl)
theorem dX6_clear_27 : decode cX6_clear 27 = .ok (.iadd, 1) := dk_96 (dk_at dksX6_clear_1 3 rfl rfl)
theorem dX6_clear_28 : decode cX6_clear 28 = .ok (.iconst 0, 1) := dk_3 (dk_at dksX6_clear_1 4 rfl rfl)
theorem dX6_clear_29 : decode cX6_clear 29 = .ok (.iastore, 1) := dk_79 (dk_at dksX6_clear_1 5 rfl rfl)
theorem dX6_clear_30 : decode cX6_clear 30 = .ok (.return_, 1) := dk_177 (dk_at dksX6_clear_1 6 rfl rfl)
abbrev cX6_turn : ByteArray := prog_17_method_35_code
def yX6_turn : MethodName := ⟨RX6, "turn", "(I)I"⟩
def dkwX6_turn_2 : List UInt8 := [4, 42, 180, 0, 19, 16, 41, 27, 96, 46, 100, 79, 42, 180, 0, 19, 16, 41, 27, 96, 46, 172]
abbrev dktX6_turn_2 : List UInt8 := dkwX6_turn_2 ++ []
def dkwX6_turn_1 : List UInt8 := [16, 9, 27, 96, 46, 6, 159, 0, 6, 18, 179, 172, 42, 182, 0, 191, 42, 180, 0, 19, 16, 41, 27, 96]
abbrev dktX6_turn_1 : List UInt8 := dkwX6_turn_1 ++ dktX6_turn_2
def dkwX6_turn_0 : List UInt8 := [42, 180, 0, 145, 154, 0, 6, 18, 179, 172, 27, 184, 0, 180, 154, 0, 6, 18, 67, 172, 42, 180, 0, 19]
abbrev dktX6_turn_0 : List UInt8 := dkwX6_turn_0 ++ dktX6_turn_1
theorem dksX6_turn_0 : cX6_turn.data.toList.drop 0 = dktX6_turn_0 := by decide +kernel
theorem dksX6_turn_1 : cX6_turn.data.toList.drop 24 = dktX6_turn_1 := dk_seg dksX6_turn_0 24 rfl rfl
theorem dksX6_turn_2 : cX6_turn.data.toList.drop 48 = dktX6_turn_2 := dk_seg dksX6_turn_1 24 rfl rfl
theorem dX6_turn_0 : decode cX6_turn 0 = .ok (.aload_n 0, 1) := dk_42 (dk_at dksX6_turn_0 0 rfl rfl)
theorem dX6_turn_1 : decode cX6_turn 1 = .ok (.getfield 145, 3) := dk_180 0 145 (dk_at dksX6_turn_0 1 rfl rfl)
theorem dX6_turn_4 : decode cX6_turn 4 = .ok (.ifCond .ne 6, 3) := dk_154 0 6 (dk_at dksX6_turn_0 4 rfl rfl)
theorem dX6_turn_7 : decode cX6_turn 7 = .ok (.ldc 179, 2) := dk_18 179 (dk_at dksX6_turn_0 7 rfl rfl)
theorem dX6_turn_9 : decode cX6_turn 9 = .ok (.ireturn, 1) := dk_172 (dk_at dksX6_turn_0 9 rfl rfl)
theorem dX6_turn_10 : decode cX6_turn 10 = .ok (.iload_n 1, 1) := dk_27 (dk_at dksX6_turn_0 10 rfl rfl)
theorem dX6_turn_11 : decode cX6_turn 11 = .ok (.invokestatic 180, 3) := dk_184 0 180 (dk_at dksX6_turn_0 11 rfl rfl)
theorem dX6_turn_14 : decode cX6_turn 14 = .ok (.ifCond .ne 6, 3) := dk_154 0 6 (dk_at dksX6_turn_0 14 rfl rfl)
theorem dX6_turn_17 : decode cX6_turn 17 = .ok (.ldc 67, 2) := dk_18 67 (dk_at dksX6_turn_0 17 rfl rfl)
theorem dX6_turn_19 : decode cX6_turn 19 = .ok (.ireturn, 1) := dk_172 (dk_at dksX6_turn_0 19 rfl rfl)
theorem dX6_turn_20 : decode cX6_turn 20 = .ok (.aload_n 0, 1) := dk_42 (dk_at dksX6_turn_0 20 rfl rfl)
theorem dX6_turn_21 : decode cX6_turn 21 = .ok (.getfield 19, 3) := dk_180 0 19 (dk_at dksX6_turn_0 21 rfl rfl)
theorem dX6_turn_24 : decode cX6_turn 24 = .ok (.bipush 9, 2) := dk_16 9 (dk_at dksX6_turn_1 0 rfl rfl)
theorem dX6_turn_26 : decode cX6_turn 26 = .ok (.iload_n 1, 1) := dk_27 (dk_at dksX6_turn_1 2 rfl rfl)
theorem dX6_turn_27 : decode cX6_turn 27 = .ok (.iadd, 1) := dk_96 (dk_at dksX6_turn_1 3 rfl rfl)
theorem dX6_turn_28 : decode cX6_turn 28 = .ok (.iaload, 1) := dk_46 (dk_at dksX6_turn_1 4 rfl rfl)
theorem dX6_turn_29 : decode cX6_turn 29 = .ok (.iconst 3, 1) := dk_6 (dk_at dksX6_turn_1 5 rfl rfl)
theorem dX6_turn_30 : decode cX6_turn 30 = .ok (.if_icmp .eq 6, 3) := dk_159 0 6 (dk_at dksX6_turn_1 6 rfl rfl)
theorem dX6_turn_33 : decode cX6_turn 33 = .ok (.ldc 179, 2) := dk_18 179 (dk_at dksX6_turn_1 9 rfl rfl)
theorem dX6_turn_35 : decode cX6_turn 35 = .ok (.ireturn, 1) := dk_172 (dk_at dksX6_turn_1 11 rfl rfl)
theorem dX6_turn_36 : decode cX6_turn 36 = .ok (.aload_n 0, 1) := dk_42 (dk_at dksX6_turn_1 12 rfl rfl)
theorem dX6_turn_37 : decode cX6_turn 37 = .ok (.invokevirtual 191, 3) := dk_182 0 191 (dk_at dksX6_turn_1 13 rfl rfl)
theorem dX6_turn_40 : decode cX6_turn 40 = .ok (.aload_n 0, 1) := dk_42 (dk_at dksX6_turn_1 16 rfl rfl)
theorem dX6_turn_41 : decode cX6_turn 41 = .ok (.getfield 19, 3) := dk_180 0 19 (dk_at dksX6_turn_1 17 rfl rfl)
theorem dX6_turn_44 : decode cX6_turn 44 = .ok (.bipush 41, 2) := dk_16 41 (dk_at dksX6_turn_1 20 rfl rfl)
theorem dX6_turn_46 : decode cX6_turn 46 = .ok (.iload_n 1, 1) := dk_27 (dk_at dksX6_turn_1 22 rfl rfl)
theorem dX6_turn_47 : decode cX6_turn 47 = .ok (.iadd, 1) := dk_96 (dk_at dksX6_turn_1 23 rfl rfl)
theorem dX6_turn_48 : decode cX6_turn 48 = .ok (.iconst 1, 1) := dk_4 (dk_at dksX6_turn_2 0 rfl rfl)
theorem dX6_turn_49 : decode cX6_turn 49 = .ok (.aload_n 0, 1) := dk_42 (dk_at dksX6_turn_2 1 rfl rfl)
theorem dX6_turn_50 : decode cX6_turn 50 = .ok (.getfield 19, 3) := dk_180 0 19 (dk_at dksX6_turn_2 2 rfl rfl)
theorem dX6_turn_53 : decode cX6_turn 53 = .ok (.bipush 41, 2) := dk_16 41 (dk_at dksX6_turn_2 5 rfl rfl)
theorem dX6_turn_55 : decode cX6_turn 55 = .ok (.iload_n 1, 1) := dk_27 (dk_at dksX6_turn_2 7 rfl rfl)
theorem dX6_turn_56 : decode cX6_turn 56 = .ok (.iadd, 1) := dk_96 (dk_at dksX6_turn_2 8 rfl rfl)
theorem dX6_turn_57 : decode cX6_turn 57 = .ok (.iaload, 1) := dk_46 (dk_at dksX6_turn_2 9 rfl rfl)
theorem dX6_turn_58 : decode cX6_turn 58 = .ok (.isub, 1) := dk_100 (dk_at dksX6_turn_2 10 rfl rfl)
theorem dX6_turn_59 : decode cX6_turn 59 = .ok (.iastore, 1) := dk_79 (dk_at dksX6_turn_2 11 rfl rfl)
theorem dX6_turn_60 : decode cX6_turn 60 = .ok (.aload_n 0, 1) := dk_42 (dk_at dksX6_turn_2 12 rfl rfl)
theorem dX6_turn_61 : decode cX6_turn 61 = .ok (.getfield 19, 3) := dk_180 0 19 (dk_at dksX6_turn_2 13 rfl rfl)
theorem dX6_turn_64 : decode cX6_turn 64 = .ok (.bipush 41, 2) := dk_16 41 (dk_at dksX6_turn_2 16 rfl rfl)
theorem dX6_turn_66 : decode cX6_turn 66 = .ok (.iload_n 1, 1) := dk_27 (dk_at dksX6_turn_2 18 rfl rfl)
theorem dX6_turn_67 : decode cX6_turn 67 = .ok (.iadd, 1) := dk_96 (dk_at dksX6_turn_2 19 rfl rfl)
theorem dX6_turn_68 : decode cX6_turn 68 = .ok (.iaload, 1) := dk_46 (dk_at dksX6_turn_2 20 rfl rfl)
theorem dX6_turn_69 : decode cX6_turn 69 = .ok (.ireturn, 1) := dk_172 (dk_at dksX6_turn_2 21 rfl rfl)
abbrev cX6_gust : ByteArray := prog_17_method_36_code
def yX6_gust : MethodName := ⟨RX6, "gust", "(II)I"⟩
def dkwX6_gust_2 : List UInt8 := [180, 0, 19, 4, 27, 96, 28, 79, 29, 172]
abbrev dktX6_gust_2 : List UInt8 := dkwX6_gust_2 ++ []
def dkwX6_gust_1 : List UInt8 := [184, 0, 57, 154, 0, 6, 18, 67, 172, 42, 182, 0, 191, 42, 180, 0, 19, 4, 27, 96, 46, 62, 42]
abbrev dktX6_gust_1 : List UInt8 := dkwX6_gust_1 ++ dktX6_gust_2
def dkwX6_gust_0 : List UInt8 := [42, 180, 0, 145, 154, 0, 6, 18, 179, 172, 27, 184, 0, 156, 153, 0, 15, 28, 133, 9, 20, 0, 194]
abbrev dktX6_gust_0 : List UInt8 := dkwX6_gust_0 ++ dktX6_gust_1
theorem dksX6_gust_0 : cX6_gust.data.toList.drop 0 = dktX6_gust_0 := by decide +kernel
theorem dksX6_gust_1 : cX6_gust.data.toList.drop 23 = dktX6_gust_1 := dk_seg dksX6_gust_0 23 rfl rfl
theorem dksX6_gust_2 : cX6_gust.data.toList.drop 46 = dktX6_gust_2 := dk_seg dksX6_gust_1 23 rfl rfl
theorem dX6_gust_0 : decode cX6_gust 0 = .ok (.aload_n 0, 1) := dk_42 (dk_at dksX6_gust_0 0 rfl rfl)
theorem dX6_gust_1 : decode cX6_gust 1 = .ok (.getfield 145, 3) := dk_180 0 145 (dk_at dksX6_gust_0 1 rfl rfl)
theorem dX6_gust_4 : decode cX6_gust 4 = .ok (.ifCond .ne 6, 3) := dk_154 0 6 (dk_at dksX6_gust_0 4 rfl rfl)
theorem dX6_gust_7 : decode cX6_gust 7 = .ok (.ldc 179, 2) := dk_18 179 (dk_at dksX6_gust_0 7 rfl rfl)
theorem dX6_gust_9 : decode cX6_gust 9 = .ok (.ireturn, 1) := dk_172 (dk_at dksX6_gust_0 9 rfl rfl)
theorem dX6_gust_10 : decode cX6_gust 10 = .ok (.iload_n 1, 1) := dk_27 (dk_at dksX6_gust_0 10 rfl rfl)
theorem dX6_gust_11 : decode cX6_gust 11 = .ok (.invokestatic 156, 3) := dk_184 0 156 (dk_at dksX6_gust_0 11 rfl rfl)
theorem dX6_gust_14 : decode cX6_gust 14 = .ok (.ifCond .eq 15, 3) := dk_153 0 15 (dk_at dksX6_gust_0 14 rfl rfl)
theorem dX6_gust_17 : decode cX6_gust 17 = .ok (.iload_n 2, 1) := dk_28 (dk_at dksX6_gust_0 17 rfl rfl)
theorem dX6_gust_18 : decode cX6_gust 18 = .ok (.i2l, 1) := dk_133 (dk_at dksX6_gust_0 18 rfl rfl)
theorem dX6_gust_19 : decode cX6_gust 19 = .ok (.lconst 0, 1) := dk_9 (dk_at dksX6_gust_0 19 rfl rfl)
theorem dX6_gust_20 : decode cX6_gust 20 = .ok (.ldc2_w 194, 3) := dk_20 0 194 (dk_at dksX6_gust_0 20 rfl rfl)
theorem dX6_gust_23 : decode cX6_gust 23 = .ok (.invokestatic 57, 3) := dk_184 0 57 (dk_at dksX6_gust_1 0 rfl rfl)
theorem dX6_gust_26 : decode cX6_gust 26 = .ok (.ifCond .ne 6, 3) := dk_154 0 6 (dk_at dksX6_gust_1 3 rfl rfl)
theorem dX6_gust_29 : decode cX6_gust 29 = .ok (.ldc 67, 2) := dk_18 67 (dk_at dksX6_gust_1 6 rfl rfl)
theorem dX6_gust_31 : decode cX6_gust 31 = .ok (.ireturn, 1) := dk_172 (dk_at dksX6_gust_1 8 rfl rfl)
theorem dX6_gust_32 : decode cX6_gust 32 = .ok (.aload_n 0, 1) := dk_42 (dk_at dksX6_gust_1 9 rfl rfl)
theorem dX6_gust_33 : decode cX6_gust 33 = .ok (.invokevirtual 191, 3) := dk_182 0 191 (dk_at dksX6_gust_1 10 rfl rfl)
theorem dX6_gust_36 : decode cX6_gust 36 = .ok (.aload_n 0, 1) := dk_42 (dk_at dksX6_gust_1 13 rfl rfl)
theorem dX6_gust_37 : decode cX6_gust 37 = .ok (.getfield 19, 3) := dk_180 0 19 (dk_at dksX6_gust_1 14 rfl rfl)
theorem dX6_gust_40 : decode cX6_gust 40 = .ok (.iconst 1, 1) := dk_4 (dk_at dksX6_gust_1 17 rfl rfl)
theorem dX6_gust_41 : decode cX6_gust 41 = .ok (.iload_n 1, 1) := dk_27 (dk_at dksX6_gust_1 18 rfl rfl)
theorem dX6_gust_42 : decode cX6_gust 42 = .ok (.iadd, 1) := dk_96 (dk_at dksX6_gust_1 19 rfl rfl)
theorem dX6_gust_43 : decode cX6_gust 43 = .ok (.iaload, 1) := dk_46 (dk_at dksX6_gust_1 20 rfl rfl)
theorem dX6_gust_44 : decode cX6_gust 44 = .ok (.istore_n 3, 1) := dk_62 (dk_at dksX6_gust_1 21 rfl rfl)
theorem dX6_gust_45 : decode cX6_gust 45 = .ok (.aload_n 0, 1) := dk_42 (dk_at dksX6_gust_1 22 rfl rfl)
theorem dX6_gust_46 : decode cX6_gust 46 = .ok (.getfield 19, 3) := dk_180 0 19 (dk_at dksX6_gust_2 0 rfl rfl)
theorem dX6_gust_49 : decode cX6_gust 49 = .ok (.iconst 1, 1) := dk_4 (dk_at dksX6_gust_2 3 rfl rfl)
theorem dX6_gust_50 : decode cX6_gust 50 = .ok (.iload_n 1, 1) := dk_27 (dk_at dksX6_gust_2 4 rfl rfl)
theorem dX6_gust_51 : decode cX6_gust 51 = .ok (.iadd, 1) := dk_96 (dk_at dksX6_gust_2 5 rfl rfl)
theorem dX6_gust_52 : decode cX6_gust 52 = .ok (.iload_n 2, 1) := dk_28 (dk_at dksX6_gust_2 6 rfl rfl)
theorem dX6_gust_53 : decode cX6_gust 53 = .ok (.iastore, 1) := dk_79 (dk_at dksX6_gust_2 7 rfl rfl)
theorem dX6_gust_54 : decode cX6_gust 54 = .ok (.iload_n 3, 1) := dk_29 (dk_at dksX6_gust_2 8 rfl rfl)
theorem dX6_gust_55 : decode cX6_gust 55 = .ok (.ireturn, 1) := dk_172 (dk_at dksX6_gust_2 9 rfl rfl)
abbrev cX6_isRowOfPass : ByteArray := prog_17_method_24_code
def yX6_isRowOfPass : MethodName := ⟨RX6, "isRowOfPass", "(I)Z"⟩
def dkwX6_isRowOfPass_0 : List UInt8 := [26, 133, 9, 20, 0, 154, 184, 0, 57, 172]
abbrev dktX6_isRowOfPass_0 : List UInt8 := dkwX6_isRowOfPass_0 ++ []
theorem dksX6_isRowOfPass_0 : cX6_isRowOfPass.data.toList.drop 0 = dktX6_isRowOfPass_0 := by decide +kernel
theorem dX6_isRowOfPass_0 : decode cX6_isRowOfPass 0 = .ok (.iload_n 0, 1) := dk_26 (dk_at dksX6_isRowOfPass_0 0 rfl rfl)
theorem dX6_isRowOfPass_1 : decode cX6_isRowOfPass 1 = .ok (.i2l, 1) := dk_133 (dk_at dksX6_isRowOfPass_0 1 rfl rfl)
theorem dX6_isRowOfPass_2 : decode cX6_isRowOfPass 2 = .ok (.lconst 0, 1) := dk_9 (dk_at dksX6_isRowOfPass_0 2 rfl rfl)
theorem dX6_isRowOfPass_3 : decode cX6_isRowOfPass 3 = .ok (.ldc2_w 154, 3) := dk_20 0 154 (dk_at dksX6_isRowOfPass_0 3 rfl rfl)
theorem dX6_isRowOfPass_6 : decode cX6_isRowOfPass 6 = .ok (.invokestatic 57, 3) := dk_184 0 57 (dk_at dksX6_isRowOfPass_0 6 rfl rfl)
theorem dX6_isRowOfPass_9 : decode cX6_isRowOfPass 9 = .ok (.ireturn, 1) := dk_172 (dk_at dksX6_isRowOfPass_0 9 rfl rfl)
abbrev cX6_hours : ByteArray := prog_17_method_37_code
def yX6_hours : MethodName := ⟨RX6, "hours", "(I)I"⟩
def dkwX6_hours_2 : List UInt8 := [162, 0, 17, 42, 182, 0, 191, 42, 182, 0, 198, 132, 2, 1, 167, 255, 240, 42, 182, 0, 187, 172]
abbrev dktX6_hours_2 : List UInt8 := dkwX6_hours_2 ++ []
def dkwX6_hours_1 : List UInt8 := [172, 42, 180, 0, 19, 3, 46, 27, 96, 17, 3, 231, 164, 0, 6, 18, 84, 172, 3, 61, 28, 27]
abbrev dktX6_hours_1 : List UInt8 := dkwX6_hours_1 ++ dktX6_hours_2
def dkwX6_hours_0 : List UInt8 := [42, 180, 0, 145, 154, 0, 6, 18, 179, 172, 27, 133, 10, 20, 0, 196, 184, 0, 57, 154, 0, 6, 18, 67]
abbrev dktX6_hours_0 : List UInt8 := dkwX6_hours_0 ++ dktX6_hours_1
theorem dksX6_hours_0 : cX6_hours.data.toList.drop 0 = dktX6_hours_0 := by decide +kernel
theorem dksX6_hours_1 : cX6_hours.data.toList.drop 24 = dktX6_hours_1 := dk_seg dksX6_hours_0 24 rfl rfl
theorem dksX6_hours_2 : cX6_hours.data.toList.drop 46 = dktX6_hours_2 := dk_seg dksX6_hours_1 22 rfl rfl
theorem dX6_hours_0 : decode cX6_hours 0 = .ok (.aload_n 0, 1) := dk_42 (dk_at dksX6_hours_0 0 rfl rfl)
theorem dX6_hours_1 : decode cX6_hours 1 = .ok (.getfield 145, 3) := dk_180 0 145 (dk_at dksX6_hours_0 1 rfl rfl)
theorem dX6_hours_4 : decode cX6_hours 4 = .ok (.ifCond .ne 6, 3) := dk_154 0 6 (dk_at dksX6_hours_0 4 rfl rfl)
theorem dX6_hours_7 : decode cX6_hours 7 = .ok (.ldc 179, 2) := dk_18 179 (dk_at dksX6_hours_0 7 rfl rfl)
theorem dX6_hours_9 : decode cX6_hours 9 = .ok (.ireturn, 1) := dk_172 (dk_at dksX6_hours_0 9 rfl rfl)
theorem dX6_hours_10 : decode cX6_hours 10 = .ok (.iload_n 1, 1) := dk_27 (dk_at dksX6_hours_0 10 rfl rfl)
theorem dX6_hours_11 : decode cX6_hours 11 = .ok (.i2l, 1) := dk_133 (dk_at dksX6_hours_0 11 rfl rfl)
theorem dX6_hours_12 : decode cX6_hours 12 = .ok (.lconst 1, 1) := dk_10 (dk_at dksX6_hours_0 12 rfl rfl)
theorem dX6_hours_13 : decode cX6_hours 13 = .ok (.ldc2_w 196, 3) := dk_20 0 196 (dk_at dksX6_hours_0 13 rfl rfl)
theorem dX6_hours_16 : decode cX6_hours 16 = .ok (.invokestatic 57, 3) := dk_184 0 57 (dk_at dksX6_hours_0 16 rfl rfl)
theorem dX6_hours_19 : decode cX6_hours 19 = .ok (.ifCond .ne 6, 3) := dk_154 0 6 (dk_at dksX6_hours_0 19 rfl rfl)
theorem dX6_hours_22 : decode cX6_hours 22 = .ok (.ldc 67, 2) := dk_18 67 (dk_at dksX6_hours_0 22 rfl rfl)
theorem dX6_hours_24 : decode cX6_hours 24 = .ok (.ireturn, 1) := dk_172 (dk_at dksX6_hours_1 0 rfl rfl)
theorem dX6_hours_25 : decode cX6_hours 25 = .ok (.aload_n 0, 1) := dk_42 (dk_at dksX6_hours_1 1 rfl rfl)
theorem dX6_hours_26 : decode cX6_hours 26 = .ok (.getfield 19, 3) := dk_180 0 19 (dk_at dksX6_hours_1 2 rfl rfl)
theorem dX6_hours_29 : decode cX6_hours 29 = .ok (.iconst 0, 1) := dk_3 (dk_at dksX6_hours_1 5 rfl rfl)
theorem dX6_hours_30 : decode cX6_hours 30 = .ok (.iaload, 1) := dk_46 (dk_at dksX6_hours_1 6 rfl rfl)
theorem dX6_hours_31 : decode cX6_hours 31 = .ok (.iload_n 1, 1) := dk_27 (dk_at dksX6_hours_1 7 rfl rfl)
theorem dX6_hours_32 : decode cX6_hours 32 = .ok (.iadd, 1) := dk_96 (dk_at dksX6_hours_1 8 rfl rfl)
theorem dX6_hours_33 : decode cX6_hours 33 = .ok (.sipush 999, 3) := dk_17 3 231 (dk_at dksX6_hours_1 9 rfl rfl)
theorem dX6_hours_36 : decode cX6_hours 36 = .ok (.if_icmp .le 6, 3) := dk_164 0 6 (dk_at dksX6_hours_1 12 rfl rfl)
theorem dX6_hours_39 : decode cX6_hours 39 = .ok (.ldc 84, 2) := dk_18 84 (dk_at dksX6_hours_1 15 rfl rfl)
theorem dX6_hours_41 : decode cX6_hours 41 = .ok (.ireturn, 1) := dk_172 (dk_at dksX6_hours_1 17 rfl rfl)
theorem dX6_hours_42 : decode cX6_hours 42 = .ok (.iconst 0, 1) := dk_3 (dk_at dksX6_hours_1 18 rfl rfl)
theorem dX6_hours_43 : decode cX6_hours 43 = .ok (.istore_n 2, 1) := dk_61 (dk_at dksX6_hours_1 19 rfl rfl)
theorem dX6_hours_44 : decode cX6_hours 44 = .ok (.iload_n 2, 1) := dk_28 (dk_at dksX6_hours_1 20 rfl rfl)
theorem dX6_hours_45 : decode cX6_hours 45 = .ok (.iload_n 1, 1) := dk_27 (dk_at dksX6_hours_1 21 rfl rfl)
theorem dX6_hours_46 : decode cX6_hours 46 = .ok (.if_icmp .ge 17, 3) := dk_162 0 17 (dk_at dksX6_hours_2 0 rfl rfl)
theorem dX6_hours_49 : decode cX6_hours 49 = .ok (.aload_n 0, 1) := dk_42 (dk_at dksX6_hours_2 3 rfl rfl)
theorem dX6_hours_50 : decode cX6_hours 50 = .ok (.invokevirtual 191, 3) := dk_182 0 191 (dk_at dksX6_hours_2 4 rfl rfl)
theorem dX6_hours_53 : decode cX6_hours 53 = .ok (.aload_n 0, 1) := dk_42 (dk_at dksX6_hours_2 7 rfl rfl)
theorem dX6_hours_54 : decode cX6_hours 54 = .ok (.invokevirtual 198, 3) := dk_182 0 198 (dk_at dksX6_hours_2 8 rfl rfl)
theorem dX6_hours_57 : decode cX6_hours 57 = .ok (.iinc 2 1, 3) := dk_132 2 1 (dk_at dksX6_hours_2 11 rfl rfl)
theorem dX6_hours_60 : decode cX6_hours 60 = .ok (.goto (-16), 3) := dk_167 255 240 (dk_at dksX6_hours_2 14 rfl rfl)
theorem dX6_hours_63 : decode cX6_hours 63 = .ok (.aload_n 0, 1) := dk_42 (dk_at dksX6_hours_2 17 rfl rfl)
theorem dX6_hours_64 : decode cX6_hours 64 = .ok (.invokevirtual 187, 3) := dk_182 0 187 (dk_at dksX6_hours_2 18 rfl rfl)
theorem dX6_hours_67 : decode cX6_hours 67 = .ok (.ireturn, 1) := dk_172 (dk_at dksX6_hours_2 21 rfl rfl)
abbrev cX6_oneHour : ByteArray := prog_17_method_30_code
def yX6_oneHour : MethodName := ⟨RX6, "oneHour", "()V"⟩
def dkwX6_oneHour_5 : List UInt8 := [167, 255, 220, 177]
abbrev dktX6_oneHour_5 : List UInt8 := dkwX6_oneHour_5 ++ []
def dkwX6_oneHour_4 : List UInt8 := [180, 0, 19, 4, 27, 96, 46, 42, 180, 0, 19, 8, 27, 96, 46, 96, 16, 32, 112, 79, 132, 1, 1]
abbrev dktX6_oneHour_4 : List UInt8 := dkwX6_oneHour_4 ++ dktX6_oneHour_5
def dkwX6_oneHour_3 : List UInt8 := [180, 0, 19, 3, 92, 46, 4, 96, 79, 3, 60, 27, 7, 162, 0, 37, 42, 180, 0, 19, 4, 27, 96, 42]
abbrev dktX6_oneHour_3 : List UInt8 := dkwX6_oneHour_3 ++ dktX6_oneHour_4
def dkwX6_oneHour_2 : List UInt8 := [180, 0, 169, 4, 27, 120, 128, 181, 0, 169, 42, 27, 182, 0, 175, 132, 1, 1, 167, 255, 204, 42]
abbrev dktX6_oneHour_2 : List UInt8 := dkwX6_oneHour_2 ++ dktX6_oneHour_3
def dkwX6_oneHour_1 : List UInt8 := [153, 0, 38, 42, 180, 0, 31, 27, 46, 42, 180, 0, 19, 16, 25, 27, 96, 46, 164, 0, 20, 42, 89]
abbrev dktX6_oneHour_1 : List UInt8 := dkwX6_oneHour_1 ++ dktX6_oneHour_2
def dkwX6_oneHour_0 : List UInt8 := [42, 182, 0, 166, 42, 3, 181, 0, 169, 3, 60, 27, 16, 16, 162, 0, 52, 42, 27, 182, 0, 172]
abbrev dktX6_oneHour_0 : List UInt8 := dkwX6_oneHour_0 ++ dktX6_oneHour_1
theorem dksX6_oneHour_0 : cX6_oneHour.data.toList.drop 0 = dktX6_oneHour_0 := by decide +kernel
theorem dksX6_oneHour_1 : cX6_oneHour.data.toList.drop 22 = dktX6_oneHour_1 := dk_seg dksX6_oneHour_0 22 rfl rfl
theorem dksX6_oneHour_2 : cX6_oneHour.data.toList.drop 45 = dktX6_oneHour_2 := dk_seg dksX6_oneHour_1 23 rfl rfl
theorem dksX6_oneHour_3 : cX6_oneHour.data.toList.drop 67 = dktX6_oneHour_3 := dk_seg dksX6_oneHour_2 22 rfl rfl
theorem dksX6_oneHour_4 : cX6_oneHour.data.toList.drop 91 = dktX6_oneHour_4 := dk_seg dksX6_oneHour_3 24 rfl rfl
theorem dksX6_oneHour_5 : cX6_oneHour.data.toList.drop 114 = dktX6_oneHour_5 := dk_seg dksX6_oneHour_4 23 rfl rfl
theorem dX6_oneHour_0 : decode cX6_oneHour 0 = .ok (.aload_n 0, 1) := dk_42 (dk_at dksX6_oneHour_0 0 rfl rfl)
theorem dX6_oneHour_1 : decode cX6_oneHour 1 = .ok (.invokevirtual 166, 3) := dk_182 0 166 (dk_at dksX6_oneHour_0 1 rfl rfl)
theorem dX6_oneHour_4 : decode cX6_oneHour 4 = .ok (.aload_n 0, 1) := dk_42 (dk_at dksX6_oneHour_0 4 rfl rfl)
theorem dX6_oneHour_5 : decode cX6_oneHour 5 = .ok (.iconst 0, 1) := dk_3 (dk_at dksX6_oneHour_0 5 rfl rfl)
theorem dX6_oneHour_6 : decode cX6_oneHour 6 = .ok (.putfield 169, 3) := dk_181 0 169 (dk_at dksX6_oneHour_0 6 rfl rfl)
theorem dX6_oneHour_9 : decode cX6_oneHour 9 = .ok (.iconst 0, 1) := dk_3 (dk_at dksX6_oneHour_0 9 rfl rfl)
theorem dX6_oneHour_10 : decode cX6_oneHour 10 = .ok (.istore_n 1, 1) := dk_60 (dk_at dksX6_oneHour_0 10 rfl rfl)
theorem dX6_oneHour_11 : decode cX6_oneHour 11 = .ok (.iload_n 1, 1) := dk_27 (dk_at dksX6_oneHour_0 11 rfl rfl)
theorem dX6_oneHour_12 : decode cX6_oneHour 12 = .ok (.bipush 16, 2) := dk_16 16 (dk_at dksX6_oneHour_0 12 rfl rfl)
theorem dX6_oneHour_14 : decode cX6_oneHour 14 = .ok (.if_icmp .ge 52, 3) := dk_162 0 52 (dk_at dksX6_oneHour_0 14 rfl rfl)
theorem dX6_oneHour_17 : decode cX6_oneHour 17 = .ok (.aload_n 0, 1) := dk_42 (dk_at dksX6_oneHour_0 17 rfl rfl)
theorem dX6_oneHour_18 : decode cX6_oneHour 18 = .ok (.iload_n 1, 1) := dk_27 (dk_at dksX6_oneHour_0 18 rfl rfl)
theorem dX6_oneHour_19 : decode cX6_oneHour 19 = .ok (.invokevirtual 172, 3) := dk_182 0 172 (dk_at dksX6_oneHour_0 19 rfl rfl)
theorem dX6_oneHour_22 : decode cX6_oneHour 22 = .ok (.ifCond .eq 38, 3) := dk_153 0 38 (dk_at dksX6_oneHour_1 0 rfl rfl)
theorem dX6_oneHour_25 : decode cX6_oneHour 25 = .ok (.aload_n 0, 1) := dk_42 (dk_at dksX6_oneHour_1 3 rfl rfl)
theorem dX6_oneHour_26 : decode cX6_oneHour 26 = .ok (.getfield 31, 3) := dk_180 0 31 (dk_at dksX6_oneHour_1 4 rfl rfl)
theorem dX6_oneHour_29 : decode cX6_oneHour 29 = .ok (.iload_n 1, 1) := dk_27 (dk_at dksX6_oneHour_1 7 rfl rfl)
theorem dX6_oneHour_30 : decode cX6_oneHour 30 = .ok (.iaload, 1) := dk_46 (dk_at dksX6_oneHour_1 8 rfl rfl)
theorem dX6_oneHour_31 : decode cX6_oneHour 31 = .ok (.aload_n 0, 1) := dk_42 (dk_at dksX6_oneHour_1 9 rfl rfl)
theorem dX6_oneHour_32 : decode cX6_oneHour 32 = .ok (.getfield 19, 3) := dk_180 0 19 (dk_at dksX6_oneHour_1 10 rfl rfl)
theorem dX6_oneHour_35 : decode cX6_oneHour 35 = .ok (.bipush 25, 2) := dk_16 25 (dk_at dksX6_oneHour_1 13 rfl rfl)
theorem dX6_oneHour_37 : decode cX6_oneHour 37 = .ok (.iload_n 1, 1) := dk_27 (dk_at dksX6_oneHour_1 15 rfl rfl)
theorem dX6_oneHour_38 : decode cX6_oneHour 38 = .ok (.iadd, 1) := dk_96 (dk_at dksX6_oneHour_1 16 rfl rfl)
theorem dX6_oneHour_39 : decode cX6_oneHour 39 = .ok (.iaload, 1) := dk_46 (dk_at dksX6_oneHour_1 17 rfl rfl)
theorem dX6_oneHour_40 : decode cX6_oneHour 40 = .ok (.if_icmp .le 20, 3) := dk_164 0 20 (dk_at dksX6_oneHour_1 18 rfl rfl)
theorem dX6_oneHour_43 : decode cX6_oneHour 43 = .ok (.aload_n 0, 1) := dk_42 (dk_at dksX6_oneHour_1 21 rfl rfl)
theorem dX6_oneHour_44 : decode cX6_oneHour 44 = .ok (.dup, 1) := dk_89 (dk_at dksX6_oneHour_1 22 rfl rfl)
theorem dX6_oneHour_45 : decode cX6_oneHour 45 = .ok (.getfield 169, 3) := dk_180 0 169 (dk_at dksX6_oneHour_2 0 rfl rfl)
theorem dX6_oneHour_48 : decode cX6_oneHour 48 = .ok (.iconst 1, 1) := dk_4 (dk_at dksX6_oneHour_2 3 rfl rfl)
theorem dX6_oneHour_49 : decode cX6_oneHour 49 = .ok (.iload_n 1, 1) := dk_27 (dk_at dksX6_oneHour_2 4 rfl rfl)
theorem dX6_oneHour_50 : decode cX6_oneHour 50 = .ok (.ishl, 1) := dk_120 (dk_at dksX6_oneHour_2 5 rfl rfl)
theorem dX6_oneHour_51 : decode cX6_oneHour 51 = .ok (.ior, 1) := dk_128 (dk_at dksX6_oneHour_2 6 rfl rfl)
theorem dX6_oneHour_52 : decode cX6_oneHour 52 = .ok (.putfield 169, 3) := dk_181 0 169 (dk_at dksX6_oneHour_2 7 rfl rfl)
theorem dX6_oneHour_55 : decode cX6_oneHour 55 = .ok (.aload_n 0, 1) := dk_42 (dk_at dksX6_oneHour_2 10 rfl rfl)
theorem dX6_oneHour_56 : decode cX6_oneHour 56 = .ok (.iload_n 1, 1) := dk_27 (dk_at dksX6_oneHour_2 11 rfl rfl)
theorem dX6_oneHour_57 : decode cX6_oneHour 57 = .ok (.invokevirtual 175, 3) := dk_182 0 175 (dk_at dksX6_oneHour_2 12 rfl rfl)
theorem dX6_oneHour_60 : decode cX6_oneHour 60 = .ok (.iinc 1 1, 3) := dk_132 1 1 (dk_at dksX6_oneHour_2 15 rfl rfl)
theorem dX6_oneHour_63 : decode cX6_oneHour 63 = .ok (.goto (-52), 3) := dk_167 255 204 (dk_at dksX6_oneHour_2 18 rfl rfl)
theorem dX6_oneHour_66 : decode cX6_oneHour 66 = .ok (.aload_n 0, 1) := dk_42 (dk_at dksX6_oneHour_2 21 rfl rfl)
theorem dX6_oneHour_67 : decode cX6_oneHour 67 = .ok (.getfield 19, 3) := dk_180 0 19 (dk_at dksX6_oneHour_3 0 rfl rfl)
theorem dX6_oneHour_70 : decode cX6_oneHour 70 = .ok (.iconst 0, 1) := dk_3 (dk_at dksX6_oneHour_3 3 rfl rfl)
theorem dX6_oneHour_71 : decode cX6_oneHour 71 = .ok (.dup2, 1) := dk_92 (dk_at dksX6_oneHour_3 4 rfl rfl)
theorem dX6_oneHour_72 : decode cX6_oneHour 72 = .ok (.iaload, 1) := dk_46 (dk_at dksX6_oneHour_3 5 rfl rfl)
theorem dX6_oneHour_73 : decode cX6_oneHour 73 = .ok (.iconst 1, 1) := dk_4 (dk_at dksX6_oneHour_3 6 rfl rfl)
theorem dX6_oneHour_74 : decode cX6_oneHour 74 = .ok (.iadd, 1) := dk_96 (dk_at dksX6_oneHour_3 7 rfl rfl)
theorem dX6_oneHour_75 : decode cX6_oneHour 75 = .ok (.iastore, 1) := dk_79 (dk_at dksX6_oneHour_3 8 rfl rfl)
theorem dX6_oneHour_76 : decode cX6_oneHour 76 = .ok (.iconst 0, 1) := dk_3 (dk_at dksX6_oneHour_3 9 rfl rfl)
theorem dX6_oneHour_77 : decode cX6_oneHour 77 = .ok (.istore_n 1, 1) := dk_60 (dk_at dksX6_oneHour_3 10 rfl rfl)
theorem dX6_oneHour_78 : decode cX6_oneHour 78 = .ok (.iload_n 1, 1) := dk_27 (dk_at dksX6_oneHour_3 11 rfl rfl)
theorem dX6_oneHour_79 : decode cX6_oneHour 79 = .ok (.iconst 4, 1) := dk_7 (dk_at dksX6_oneHour_3 12 rfl rfl)
theorem dX6_oneHour_80 : decode cX6_oneHour 80 = .ok (.if_icmp .ge 37, 3) := dk_162 0 37 (dk_at dksX6_oneHour_3 13 rfl rfl)
theorem dX6_oneHour_83 : decode cX6_oneHour 83 = .ok (.aload_n 0, 1) := dk_42 (dk_at dksX6_oneHour_3 16 rfl rfl)
theorem dX6_oneHour_84 : decode cX6_oneHour 84 = .ok (.getfield 19, 3) := dk_180 0 19 (dk_at dksX6_oneHour_3 17 rfl rfl)
theorem dX6_oneHour_87 : decode cX6_oneHour 87 = .ok (.iconst 1, 1) := dk_4 (dk_at dksX6_oneHour_3 20 rfl rfl)
theorem dX6_oneHour_88 : decode cX6_oneHour 88 = .ok (.iload_n 1, 1) := dk_27 (dk_at dksX6_oneHour_3 21 rfl rfl)
theorem dX6_oneHour_89 : decode cX6_oneHour 89 = .ok (.iadd, 1) := dk_96 (dk_at dksX6_oneHour_3 22 rfl rfl)
theorem dX6_oneHour_90 : decode cX6_oneHour 90 = .ok (.aload_n 0, 1) := dk_42 (dk_at dksX6_oneHour_3 23 rfl rfl)
theorem dX6_oneHour_91 : decode cX6_oneHour 91 = .ok (.getfield 19, 3) := dk_180 0 19 (dk_at dksX6_oneHour_4 0 rfl rfl)
theorem dX6_oneHour_94 : decode cX6_oneHour 94 = .ok (.iconst 1, 1) := dk_4 (dk_at dksX6_oneHour_4 3 rfl rfl)
theorem dX6_oneHour_95 : decode cX6_oneHour 95 = .ok (.iload_n 1, 1) := dk_27 (dk_at dksX6_oneHour_4 4 rfl rfl)
theorem dX6_oneHour_96 : decode cX6_oneHour 96 = .ok (.iadd, 1) := dk_96 (dk_at dksX6_oneHour_4 5 rfl rfl)
theorem dX6_oneHour_97 : decode cX6_oneHour 97 = .ok (.iaload, 1) := dk_46 (dk_at dksX6_oneHour_4 6 rfl rfl)
theorem dX6_oneHour_98 : decode cX6_oneHour 98 = .ok (.aload_n 0, 1) := dk_42 (dk_at dksX6_oneHour_4 7 rfl rfl)
theorem dX6_oneHour_99 : decode cX6_oneHour 99 = .ok (.getfield 19, 3) := dk_180 0 19 (dk_at dksX6_oneHour_4 8 rfl rfl)
theorem dX6_oneHour_102 : decode cX6_oneHour 102 = .ok (.iconst 5, 1) := dk_8 (dk_at dksX6_oneHour_4 11 rfl rfl)
theorem dX6_oneHour_103 : decode cX6_oneHour 103 = .ok (.iload_n 1, 1) := dk_27 (dk_at dksX6_oneHour_4 12 rfl rfl)
theorem dX6_oneHour_104 : decode cX6_oneHour 104 = .ok (.iadd, 1) := dk_96 (dk_at dksX6_oneHour_4 13 rfl rfl)
theorem dX6_oneHour_105 : decode cX6_oneHour 105 = .ok (.iaload, 1) := dk_46 (dk_at dksX6_oneHour_4 14 rfl rfl)
theorem dX6_oneHour_106 : decode cX6_oneHour 106 = .ok (.iadd, 1) := dk_96 (dk_at dksX6_oneHour_4 15 rfl rfl)
theorem dX6_oneHour_107 : decode cX6_oneHour 107 = .ok (.bipush 32, 2) := dk_16 32 (dk_at dksX6_oneHour_4 16 rfl rfl)
theorem dX6_oneHour_109 : decode cX6_oneHour 109 = .ok (.irem, 1) := dk_112 (dk_at dksX6_oneHour_4 18 rfl rfl)
theorem dX6_oneHour_110 : decode cX6_oneHour 110 = .ok (.iastore, 1) := dk_79 (dk_at dksX6_oneHour_4 19 rfl rfl)
theorem dX6_oneHour_111 : decode cX6_oneHour 111 = .ok (.iinc 1 1, 3) := dk_132 1 1 (dk_at dksX6_oneHour_4 20 rfl rfl)
theorem dX6_oneHour_114 : decode cX6_oneHour 114 = .ok (.goto (-36), 3) := dk_167 255 220 (dk_at dksX6_oneHour_5 0 rfl rfl)
theorem dX6_oneHour_117 : decode cX6_oneHour 117 = .ok (.return_, 1) := dk_177 (dk_at dksX6_oneHour_5 3 rfl rfl)
abbrev cX6_blow : ByteArray := prog_17_method_27_code
def yX6_blow : MethodName := ⟨RX6, "blow", "()V"⟩
def dkwX6_blow_9 : List UInt8 := [182, 0, 162, 132, 1, 1, 167, 255, 82, 177]
abbrev dktX6_blow_9 : List UInt8 := dkwX6_blow_9 ++ []
def dkwX6_blow_8 : List UInt8 := [42, 28, 29, 4, 100, 21, 8, 182, 0, 162, 42, 28, 29, 4, 96, 21, 4, 21, 7, 100, 21, 8, 100]
abbrev dktX6_blow_8 : List UInt8 := dkwX6_blow_8 ++ dktX6_blow_9
def dkwX6_blow_7 : List UInt8 := [167, 0, 14, 3, 167, 0, 10, 21, 4, 21, 7, 100, 5, 108, 54, 8, 42, 28, 29, 21, 7, 182, 0, 162]
abbrev dktX6_blow_7 : List UInt8 := dkwX6_blow_7 ++ dktX6_blow_8
def dkwX6_blow_6 : List UInt8 := [21, 4, 5, 108, 167, 0, 4, 3, 54, 7, 21, 5, 7, 161, 0, 17, 21, 6, 153, 0, 8, 21, 4]
abbrev dktX6_blow_6 : List UInt8 := dkwX6_blow_6 ++ dktX6_blow_7
def dkwX6_blow_5 : List UInt8 := [42, 180, 0, 19, 16, 41, 27, 96, 46, 4, 160, 0, 8, 21, 4, 167, 0, 17, 21, 5, 5, 160, 0, 10]
abbrev dktX6_blow_5 : List UInt8 := dkwX6_blow_5 ++ dktX6_blow_6
def dkwX6_blow_4 : List UInt8 := [46, 5, 112, 154, 0, 7, 4, 167, 0, 4, 3, 54, 6, 21, 5, 153, 0, 22, 21, 5, 6, 160, 0, 21]
abbrev dktX6_blow_4 : List UInt8 := dkwX6_blow_4 ++ dktX6_blow_5
def dkwX6_blow_3 : List UInt8 := [16, 9, 27, 96, 46, 54, 5, 21, 5, 7, 159, 0, 20, 21, 5, 8, 160, 0, 18, 42, 180, 0, 19, 3]
abbrev dktX6_blow_3 : List UInt8 := dkwX6_blow_3 ++ dktX6_blow_4
def dkwX6_blow_2 : List UInt8 := [162, 0, 174, 27, 7, 108, 61, 27, 7, 112, 62, 42, 180, 0, 31, 27, 46, 54, 4, 42, 180, 0, 19]
abbrev dktX6_blow_2 : List UInt8 := dkwX6_blow_2 ++ dktX6_blow_3
def dkwX6_blow_1 : List UInt8 := [180, 0, 19, 4, 27, 96, 46, 167, 0, 4, 3, 79, 132, 1, 1, 167, 255, 224, 3, 60, 27, 16, 16]
abbrev dktX6_blow_1 : List UInt8 := dkwX6_blow_1 ++ dktX6_blow_2
def dkwX6_blow_0 : List UInt8 := [42, 3, 181, 0, 159, 3, 60, 27, 16, 20, 162, 0, 32, 42, 180, 0, 31, 27, 27, 7, 162, 0, 14, 42]
abbrev dktX6_blow_0 : List UInt8 := dkwX6_blow_0 ++ dktX6_blow_1
theorem dksX6_blow_0 : cX6_blow.data.toList.drop 0 = dktX6_blow_0 := by decide +kernel
theorem dksX6_blow_1 : cX6_blow.data.toList.drop 24 = dktX6_blow_1 := dk_seg dksX6_blow_0 24 rfl rfl
theorem dksX6_blow_2 : cX6_blow.data.toList.drop 47 = dktX6_blow_2 := dk_seg dksX6_blow_1 23 rfl rfl
theorem dksX6_blow_3 : cX6_blow.data.toList.drop 70 = dktX6_blow_3 := dk_seg dksX6_blow_2 23 rfl rfl
theorem dksX6_blow_4 : cX6_blow.data.toList.drop 94 = dktX6_blow_4 := dk_seg dksX6_blow_3 24 rfl rfl
theorem dksX6_blow_5 : cX6_blow.data.toList.drop 118 = dktX6_blow_5 := dk_seg dksX6_blow_4 24 rfl rfl
theorem dksX6_blow_6 : cX6_blow.data.toList.drop 142 = dktX6_blow_6 := dk_seg dksX6_blow_5 24 rfl rfl
theorem dksX6_blow_7 : cX6_blow.data.toList.drop 165 = dktX6_blow_7 := dk_seg dksX6_blow_6 23 rfl rfl
theorem dksX6_blow_8 : cX6_blow.data.toList.drop 189 = dktX6_blow_8 := dk_seg dksX6_blow_7 24 rfl rfl
theorem dksX6_blow_9 : cX6_blow.data.toList.drop 212 = dktX6_blow_9 := dk_seg dksX6_blow_8 23 rfl rfl
theorem dX6_blow_0 : decode cX6_blow 0 = .ok (.aload_n 0, 1) := dk_42 (dk_at dksX6_blow_0 0 rfl rfl)
theorem dX6_blow_1 : decode cX6_blow 1 = .ok (.iconst 0, 1) := dk_3 (dk_at dksX6_blow_0 1 rfl rfl)
theorem dX6_blow_2 : decode cX6_blow 2 = .ok (.putfield 159, 3) := dk_181 0 159 (dk_at dksX6_blow_0 2 rfl rfl)
theorem dX6_blow_5 : decode cX6_blow 5 = .ok (.iconst 0, 1) := dk_3 (dk_at dksX6_blow_0 5 rfl rfl)
theorem dX6_blow_6 : decode cX6_blow 6 = .ok (.istore_n 1, 1) := dk_60 (dk_at dksX6_blow_0 6 rfl rfl)
theorem dX6_blow_7 : decode cX6_blow 7 = .ok (.iload_n 1, 1) := dk_27 (dk_at dksX6_blow_0 7 rfl rfl)
theorem dX6_blow_8 : decode cX6_blow 8 = .ok (.bipush 20, 2) := dk_16 20 (dk_at dksX6_blow_0 8 rfl rfl)
theorem dX6_blow_10 : decode cX6_blow 10 = .ok (.if_icmp .ge 32, 3) := dk_162 0 32 (dk_at dksX6_blow_0 10 rfl rfl)
theorem dX6_blow_13 : decode cX6_blow 13 = .ok (.aload_n 0, 1) := dk_42 (dk_at dksX6_blow_0 13 rfl rfl)
theorem dX6_blow_14 : decode cX6_blow 14 = .ok (.getfield 31, 3) := dk_180 0 31 (dk_at dksX6_blow_0 14 rfl rfl)
theorem dX6_blow_17 : decode cX6_blow 17 = .ok (.iload_n 1, 1) := dk_27 (dk_at dksX6_blow_0 17 rfl rfl)
theorem dX6_blow_18 : decode cX6_blow 18 = .ok (.iload_n 1, 1) := dk_27 (dk_at dksX6_blow_0 18 rfl rfl)
theorem dX6_blow_19 : decode cX6_blow 19 = .ok (.iconst 4, 1) := dk_7 (dk_at dksX6_blow_0 19 rfl rfl)
theorem dX6_blow_20 : decode cX6_blow 20 = .ok (.if_icmp .ge 14, 3) := dk_162 0 14 (dk_at dksX6_blow_0 20 rfl rfl)
theorem dX6_blow_23 : decode cX6_blow 23 = .ok (.aload_n 0, 1) := dk_42 (dk_at dksX6_blow_0 23 rfl rfl)
theorem dX6_blow_24 : decode cX6_blow 24 = .ok (.getfield 19, 3) := dk_180 0 19 (dk_at dksX6_blow_1 0 rfl rfl)
theorem dX6_blow_27 : decode cX6_blow 27 = .ok (.iconst 1, 1) := dk_4 (dk_at dksX6_blow_1 3 rfl rfl)
theorem dX6_blow_28 : decode cX6_blow 28 = .ok (.iload_n 1, 1) := dk_27 (dk_at dksX6_blow_1 4 rfl rfl)
theorem dX6_blow_29 : decode cX6_blow 29 = .ok (.iadd, 1) := dk_96 (dk_at dksX6_blow_1 5 rfl rfl)
theorem dX6_blow_30 : decode cX6_blow 30 = .ok (.iaload, 1) := dk_46 (dk_at dksX6_blow_1 6 rfl rfl)
theorem dX6_blow_31 : decode cX6_blow 31 = .ok (.goto 4, 3) := dk_167 0 4 (dk_at dksX6_blow_1 7 rfl rfl)
theorem dX6_blow_34 : decode cX6_blow 34 = .ok (.iconst 0, 1) := dk_3 (dk_at dksX6_blow_1 10 rfl rfl)
theorem dX6_blow_35 : decode cX6_blow 35 = .ok (.iastore, 1) := dk_79 (dk_at dksX6_blow_1 11 rfl rfl)
theorem dX6_blow_36 : decode cX6_blow 36 = .ok (.iinc 1 1, 3) := dk_132 1 1 (dk_at dksX6_blow_1 12 rfl rfl)
theorem dX6_blow_39 : decode cX6_blow 39 = .ok (.goto (-32), 3) := dk_167 255 224 (dk_at dksX6_blow_1 15 rfl rfl)
theorem dX6_blow_42 : decode cX6_blow 42 = .ok (.iconst 0, 1) := dk_3 (dk_at dksX6_blow_1 18 rfl rfl)
theorem dX6_blow_43 : decode cX6_blow 43 = .ok (.istore_n 1, 1) := dk_60 (dk_at dksX6_blow_1 19 rfl rfl)
theorem dX6_blow_44 : decode cX6_blow 44 = .ok (.iload_n 1, 1) := dk_27 (dk_at dksX6_blow_1 20 rfl rfl)
theorem dX6_blow_45 : decode cX6_blow 45 = .ok (.bipush 16, 2) := dk_16 16 (dk_at dksX6_blow_1 21 rfl rfl)
theorem dX6_blow_47 : decode cX6_blow 47 = .ok (.if_icmp .ge 174, 3) := dk_162 0 174 (dk_at dksX6_blow_2 0 rfl rfl)
theorem dX6_blow_50 : decode cX6_blow 50 = .ok (.iload_n 1, 1) := dk_27 (dk_at dksX6_blow_2 3 rfl rfl)
theorem dX6_blow_51 : decode cX6_blow 51 = .ok (.iconst 4, 1) := dk_7 (dk_at dksX6_blow_2 4 rfl rfl)
theorem dX6_blow_52 : decode cX6_blow 52 = .ok (.idiv, 1) := dk_108 (dk_at dksX6_blow_2 5 rfl rfl)
theorem dX6_blow_53 : decode cX6_blow 53 = .ok (.istore_n 2, 1) := dk_61 (dk_at dksX6_blow_2 6 rfl rfl)
theorem dX6_blow_54 : decode cX6_blow 54 = .ok (.iload_n 1, 1) := dk_27 (dk_at dksX6_blow_2 7 rfl rfl)
theorem dX6_blow_55 : decode cX6_blow 55 = .ok (.iconst 4, 1) := dk_7 (dk_at dksX6_blow_2 8 rfl rfl)
theorem dX6_blow_56 : decode cX6_blow 56 = .ok (.irem, 1) := dk_112 (dk_at dksX6_blow_2 9 rfl rfl)
theorem dX6_blow_57 : decode cX6_blow 57 = .ok (.istore_n 3, 1) := dk_62 (dk_at dksX6_blow_2 10 rfl rfl)
theorem dX6_blow_58 : decode cX6_blow 58 = .ok (.aload_n 0, 1) := dk_42 (dk_at dksX6_blow_2 11 rfl rfl)
theorem dX6_blow_59 : decode cX6_blow 59 = .ok (.getfield 31, 3) := dk_180 0 31 (dk_at dksX6_blow_2 12 rfl rfl)
theorem dX6_blow_62 : decode cX6_blow 62 = .ok (.iload_n 1, 1) := dk_27 (dk_at dksX6_blow_2 15 rfl rfl)
theorem dX6_blow_63 : decode cX6_blow 63 = .ok (.iaload, 1) := dk_46 (dk_at dksX6_blow_2 16 rfl rfl)
theorem dX6_blow_64 : decode cX6_blow 64 = .ok (.istore 4, 2) := dk_54 4 (dk_at dksX6_blow_2 17 rfl rfl)
theorem dX6_blow_66 : decode cX6_blow 66 = .ok (.aload_n 0, 1) := dk_42 (dk_at dksX6_blow_2 19 rfl rfl)
theorem dX6_blow_67 : decode cX6_blow 67 = .ok (.getfield 19, 3) := dk_180 0 19 (dk_at dksX6_blow_2 20 rfl rfl)
theorem dX6_blow_70 : decode cX6_blow 70 = .ok (.bipush 9, 2) := dk_16 9 (dk_at dksX6_blow_3 0 rfl rfl)
theorem dX6_blow_72 : decode cX6_blow 72 = .ok (.iload_n 1, 1) := dk_27 (dk_at dksX6_blow_3 2 rfl rfl)
theorem dX6_blow_73 : decode cX6_blow 73 = .ok (.iadd, 1) := dk_96 (dk_at dksX6_blow_3 3 rfl rfl)
theorem dX6_blow_74 : decode cX6_blow 74 = .ok (.iaload, 1) := dk_46 (dk_at dksX6_blow_3 4 rfl rfl)
theorem dX6_blow_75 : decode cX6_blow 75 = .ok (.istore 5, 2) := dk_54 5 (dk_at dksX6_blow_3 5 rfl rfl)
theorem dX6_blow_77 : decode cX6_blow 77 = .ok (.iload 5, 2) := dk_21 5 (dk_at dksX6_blow_3 7 rfl rfl)
theorem dX6_blow_79 : decode cX6_blow 79 = .ok (.iconst 4, 1) := dk_7 (dk_at dksX6_blow_3 9 rfl rfl)
theorem dX6_blow_80 : decode cX6_blow 80 = .ok (.if_icmp .eq 20, 3) := dk_159 0 20 (dk_at dksX6_blow_3 10 rfl rfl)
theorem dX6_blow_83 : decode cX6_blow 83 = .ok (.iload 5, 2) := dk_21 5 (dk_at dksX6_blow_3 13 rfl rfl)
theorem dX6_blow_85 : decode cX6_blow 85 = .ok (.iconst 5, 1) := dk_8 (dk_at dksX6_blow_3 15 rfl rfl)
theorem dX6_blow_86 : decode cX6_blow 86 = .ok (.if_icmp .ne 18, 3) := dk_160 0 18 (dk_at dksX6_blow_3 16 rfl rfl)
theorem dX6_blow_89 : decode cX6_blow 89 = .ok (.aload_n 0, 1) := dk_42 (dk_at dksX6_blow_3 19 rfl rfl)
theorem dX6_blow_90 : decode cX6_blow 90 = .ok (.getfield 19, 3) := dk_180 0 19 (dk_at dksX6_blow_3 20 rfl rfl)
theorem dX6_blow_93 : decode cX6_blow 93 = .ok (.iconst 0, 1) := dk_3 (dk_at dksX6_blow_3 23 rfl rfl)
theorem dX6_blow_94 : decode cX6_blow 94 = .ok (.iaload, 1) := dk_46 (dk_at dksX6_blow_4 0 rfl rfl)
theorem dX6_blow_95 : decode cX6_blow 95 = .ok (.iconst 2, 1) := dk_5 (dk_at dksX6_blow_4 1 rfl rfl)
theorem dX6_blow_96 : decode cX6_blow 96 = .ok (.irem, 1) := dk_112 (dk_at dksX6_blow_4 2 rfl rfl)
theorem dX6_blow_97 : decode cX6_blow 97 = .ok (.ifCond .ne 7, 3) := dk_154 0 7 (dk_at dksX6_blow_4 3 rfl rfl)
theorem dX6_blow_100 : decode cX6_blow 100 = .ok (.iconst 1, 1) := dk_4 (dk_at dksX6_blow_4 6 rfl rfl)
theorem dX6_blow_101 : decode cX6_blow 101 = .ok (.goto 4, 3) := dk_167 0 4 (dk_at dksX6_blow_4 7 rfl rfl)
theorem dX6_blow_104 : decode cX6_blow 104 = .ok (.iconst 0, 1) := dk_3 (dk_at dksX6_blow_4 10 rfl rfl)
theorem dX6_blow_105 : decode cX6_blow 105 = .ok (.istore 6, 2) := dk_54 6 (dk_at dksX6_blow_4 11 rfl rfl)
theorem dX6_blow_107 : decode cX6_blow 107 = .ok (.iload 5, 2) := dk_21 5 (dk_at dksX6_blow_4 13 rfl rfl)
theorem dX6_blow_109 : decode cX6_blow 109 = .ok (.ifCond .eq 22, 3) := dk_153 0 22 (dk_at dksX6_blow_4 15 rfl rfl)
theorem dX6_blow_112 : decode cX6_blow 112 = .ok (.iload 5, 2) := dk_21 5 (dk_at dksX6_blow_4 18 rfl rfl)
theorem dX6_blow_114 : decode cX6_blow 114 = .ok (.iconst 3, 1) := dk_6 (dk_at dksX6_blow_4 20 rfl rfl)
theorem dX6_blow_115 : decode cX6_blow 115 = .ok (.if_icmp .ne 21, 3) := dk_160 0 21 (dk_at dksX6_blow_4 21 rfl rfl)
theorem dX6_blow_118 : decode cX6_blow 118 = .ok (.aload_n 0, 1) := dk_42 (dk_at dksX6_blow_5 0 rfl rfl)
theorem dX6_blow_119 : decode cX6_blow 119 = .ok (.getfield 19, 3) := dk_180 0 19 (dk_at dksX6_blow_5 1 rfl rfl)
theorem dX6_blow_122 : decode cX6_blow 122 = .ok (.bipush 41, 2) := dk_16 41 (dk_at dksX6_blow_5 4 rfl rfl)
theorem dX6_blow_124 : decode cX6_blow 124 = .ok (.iload_n 1, 1) := dk_27 (dk_at dksX6_blow_5 6 rfl rfl)
theorem dX6_blow_125 : decode cX6_blow 125 = .ok (.iadd, 1) := dk_96 (dk_at dksX6_blow_5 7 rfl rfl)
theorem dX6_blow_126 : decode cX6_blow 126 = .ok (.iaload, 1) := dk_46 (dk_at dksX6_blow_5 8 rfl rfl)
theorem dX6_blow_127 : decode cX6_blow 127 = .ok (.iconst 1, 1) := dk_4 (dk_at dksX6_blow_5 9 rfl rfl)
theorem dX6_blow_128 : decode cX6_blow 128 = .ok (.if_icmp .ne 8, 3) := dk_160 0 8 (dk_at dksX6_blow_5 10 rfl rfl)
theorem dX6_blow_131 : decode cX6_blow 131 = .ok (.iload 4, 2) := dk_21 4 (dk_at dksX6_blow_5 13 rfl rfl)
theorem dX6_blow_133 : decode cX6_blow 133 = .ok (.goto 17, 3) := dk_167 0 17 (dk_at dksX6_blow_5 15 rfl rfl)
theorem dX6_blow_136 : decode cX6_blow 136 = .ok (.iload 5, 2) := dk_21 5 (dk_at dksX6_blow_5 18 rfl rfl)
theorem dX6_blow_138 : decode cX6_blow 138 = .ok (.iconst 2, 1) := dk_5 (dk_at dksX6_blow_5 20 rfl rfl)
theorem dX6_blow_139 : decode cX6_blow 139 = .ok (.if_icmp .ne 10, 3) := dk_160 0 10 (dk_at dksX6_blow_5 21 rfl rfl)
theorem dX6_blow_142 : decode cX6_blow 142 = .ok (.iload 4, 2) := dk_21 4 (dk_at dksX6_blow_6 0 rfl rfl)
theorem dX6_blow_144 : decode cX6_blow 144 = .ok (.iconst 2, 1) := dk_5 (dk_at dksX6_blow_6 2 rfl rfl)
theorem dX6_blow_145 : decode cX6_blow 145 = .ok (.idiv, 1) := dk_108 (dk_at dksX6_blow_6 3 rfl rfl)
theorem dX6_blow_146 : decode cX6_blow 146 = .ok (.goto 4, 3) := dk_167 0 4 (dk_at dksX6_blow_6 4 rfl rfl)
theorem dX6_blow_149 : decode cX6_blow 149 = .ok (.iconst 0, 1) := dk_3 (dk_at dksX6_blow_6 7 rfl rfl)
theorem dX6_blow_150 : decode cX6_blow 150 = .ok (.istore 7, 2) := dk_54 7 (dk_at dksX6_blow_6 8 rfl rfl)
theorem dX6_blow_152 : decode cX6_blow 152 = .ok (.iload 5, 2) := dk_21 5 (dk_at dksX6_blow_6 10 rfl rfl)
theorem dX6_blow_154 : decode cX6_blow 154 = .ok (.iconst 4, 1) := dk_7 (dk_at dksX6_blow_6 12 rfl rfl)
theorem dX6_blow_155 : decode cX6_blow 155 = .ok (.if_icmp .lt 17, 3) := dk_161 0 17 (dk_at dksX6_blow_6 13 rfl rfl)
theorem dX6_blow_158 : decode cX6_blow 158 = .ok (.iload 6, 2) := dk_21 6 (dk_at dksX6_blow_6 16 rfl rfl)
theorem dX6_blow_160 : decode cX6_blow 160 = .ok (.ifCond .eq 8, 3) := dk_153 0 8 (dk_at dksX6_blow_6 18 rfl rfl)
theorem dX6_blow_163 : decode cX6_blow 163 = .ok (.iload 4, 2) := dk_21 4 (dk_at dksX6_blow_6 21 rfl rfl)
theorem dX6_blow_165 : decode cX6_blow 165 = .ok (.goto 14, 3) := dk_167 0 14 (dk_at dksX6_blow_7 0 rfl rfl)
theorem dX6_blow_168 : decode cX6_blow 168 = .ok (.iconst 0, 1) := dk_3 (dk_at dksX6_blow_7 3 rfl rfl)
theorem dX6_blow_169 : decode cX6_blow 169 = .ok (.goto 10, 3) := dk_167 0 10 (dk_at dksX6_blow_7 4 rfl rfl)
theorem dX6_blow_172 : decode cX6_blow 172 = .ok (.iload 4, 2) := dk_21 4 (dk_at dksX6_blow_7 7 rfl rfl)
theorem dX6_blow_174 : decode cX6_blow 174 = .ok (.iload 7, 2) := dk_21 7 (dk_at dksX6_blow_7 9 rfl rfl)
theorem dX6_blow_176 : decode cX6_blow 176 = .ok (.isub, 1) := dk_100 (dk_at dksX6_blow_7 11 rfl rfl)
theorem dX6_blow_177 : decode cX6_blow 177 = .ok (.iconst 2, 1) := dk_5 (dk_at dksX6_blow_7 12 rfl rfl)
theorem dX6_blow_178 : decode cX6_blow 178 = .ok (.idiv, 1) := dk_108 (dk_at dksX6_blow_7 13 rfl rfl)
theorem dX6_blow_179 : decode cX6_blow 179 = .ok (.istore 8, 2) := dk_54 8 (dk_at dksX6_blow_7 14 rfl rfl)
theorem dX6_blow_181 : decode cX6_blow 181 = .ok (.aload_n 0, 1) := dk_42 (dk_at dksX6_blow_7 16 rfl rfl)
theorem dX6_blow_182 : decode cX6_blow 182 = .ok (.iload_n 2, 1) := dk_28 (dk_at dksX6_blow_7 17 rfl rfl)
theorem dX6_blow_183 : decode cX6_blow 183 = .ok (.iload_n 3, 1) := dk_29 (dk_at dksX6_blow_7 18 rfl rfl)
theorem dX6_blow_184 : decode cX6_blow 184 = .ok (.iload 7, 2) := dk_21 7 (dk_at dksX6_blow_7 19 rfl rfl)
theorem dX6_blow_186 : decode cX6_blow 186 = .ok (.invokevirtual 162, 3) := dk_182 0 162 (dk_at dksX6_blow_7 21 rfl rfl)
theorem dX6_blow_189 : decode cX6_blow 189 = .ok (.aload_n 0, 1) := dk_42 (dk_at dksX6_blow_8 0 rfl rfl)
theorem dX6_blow_190 : decode cX6_blow 190 = .ok (.iload_n 2, 1) := dk_28 (dk_at dksX6_blow_8 1 rfl rfl)
theorem dX6_blow_191 : decode cX6_blow 191 = .ok (.iload_n 3, 1) := dk_29 (dk_at dksX6_blow_8 2 rfl rfl)
theorem dX6_blow_192 : decode cX6_blow 192 = .ok (.iconst 1, 1) := dk_4 (dk_at dksX6_blow_8 3 rfl rfl)
theorem dX6_blow_193 : decode cX6_blow 193 = .ok (.isub, 1) := dk_100 (dk_at dksX6_blow_8 4 rfl rfl)
theorem dX6_blow_194 : decode cX6_blow 194 = .ok (.iload 8, 2) := dk_21 8 (dk_at dksX6_blow_8 5 rfl rfl)
theorem dX6_blow_196 : decode cX6_blow 196 = .ok (.invokevirtual 162, 3) := dk_182 0 162 (dk_at dksX6_blow_8 7 rfl rfl)
theorem dX6_blow_199 : decode cX6_blow 199 = .ok (.aload_n 0, 1) := dk_42 (dk_at dksX6_blow_8 10 rfl rfl)
theorem dX6_blow_200 : decode cX6_blow 200 = .ok (.iload_n 2, 1) := dk_28 (dk_at dksX6_blow_8 11 rfl rfl)
theorem dX6_blow_201 : decode cX6_blow 201 = .ok (.iload_n 3, 1) := dk_29 (dk_at dksX6_blow_8 12 rfl rfl)
theorem dX6_blow_202 : decode cX6_blow 202 = .ok (.iconst 1, 1) := dk_4 (dk_at dksX6_blow_8 13 rfl rfl)
theorem dX6_blow_203 : decode cX6_blow 203 = .ok (.iadd, 1) := dk_96 (dk_at dksX6_blow_8 14 rfl rfl)
theorem dX6_blow_204 : decode cX6_blow 204 = .ok (.iload 4, 2) := dk_21 4 (dk_at dksX6_blow_8 15 rfl rfl)
theorem dX6_blow_206 : decode cX6_blow 206 = .ok (.iload 7, 2) := dk_21 7 (dk_at dksX6_blow_8 17 rfl rfl)
theorem dX6_blow_208 : decode cX6_blow 208 = .ok (.isub, 1) := dk_100 (dk_at dksX6_blow_8 19 rfl rfl)
theorem dX6_blow_209 : decode cX6_blow 209 = .ok (.iload 8, 2) := dk_21 8 (dk_at dksX6_blow_8 20 rfl rfl)
theorem dX6_blow_211 : decode cX6_blow 211 = .ok (.isub, 1) := dk_100 (dk_at dksX6_blow_8 22 rfl rfl)
theorem dX6_blow_212 : decode cX6_blow 212 = .ok (.invokevirtual 162, 3) := dk_182 0 162 (dk_at dksX6_blow_9 0 rfl rfl)
theorem dX6_blow_215 : decode cX6_blow 215 = .ok (.iinc 1 1, 3) := dk_132 1 1 (dk_at dksX6_blow_9 3 rfl rfl)
theorem dX6_blow_218 : decode cX6_blow 218 = .ok (.goto (-174), 3) := dk_167 255 82 (dk_at dksX6_blow_9 6 rfl rfl)
theorem dX6_blow_221 : decode cX6_blow 221 = .ok (.return_, 1) := dk_177 (dk_at dksX6_blow_9 9 rfl rfl)
abbrev cX6_goes : ByteArray := prog_17_method_26_code
def yX6_goes : MethodName := ⟨RX6, "goes", "(III)V"⟩
def dkwX6_goes_1 : List UInt8 := [167, 0, 13, 42, 89, 180, 0, 159, 29, 96, 181, 0, 159, 177]
abbrev dktX6_goes_1 : List UInt8 := dkwX6_goes_1 ++ []
def dkwX6_goes_0 : List UInt8 := [28, 184, 0, 156, 153, 0, 22, 42, 180, 0, 31, 7, 27, 104, 7, 96, 28, 96, 92, 46, 29, 96, 79]
abbrev dktX6_goes_0 : List UInt8 := dkwX6_goes_0 ++ dktX6_goes_1
theorem dksX6_goes_0 : cX6_goes.data.toList.drop 0 = dktX6_goes_0 := by decide +kernel
theorem dksX6_goes_1 : cX6_goes.data.toList.drop 23 = dktX6_goes_1 := dk_seg dksX6_goes_0 23 rfl rfl
theorem dX6_goes_0 : decode cX6_goes 0 = .ok (.iload_n 2, 1) := dk_28 (dk_at dksX6_goes_0 0 rfl rfl)
theorem dX6_goes_1 : decode cX6_goes 1 = .ok (.invokestatic 156, 3) := dk_184 0 156 (dk_at dksX6_goes_0 1 rfl rfl)
theorem dX6_goes_4 : decode cX6_goes 4 = .ok (.ifCond .eq 22, 3) := dk_153 0 22 (dk_at dksX6_goes_0 4 rfl rfl)
theorem dX6_goes_7 : decode cX6_goes 7 = .ok (.aload_n 0, 1) := dk_42 (dk_at dksX6_goes_0 7 rfl rfl)
theorem dX6_goes_8 : decode cX6_goes 8 = .ok (.getfield 31, 3) := dk_180 0 31 (dk_at dksX6_goes_0 8 rfl rfl)
theorem dX6_goes_11 : decode cX6_goes 11 = .ok (.iconst 4, 1) := dk_7 (dk_at dksX6_goes_0 11 rfl rfl)
theorem dX6_goes_12 : decode cX6_goes 12 = .ok (.iload_n 1, 1) := dk_27 (dk_at dksX6_goes_0 12 rfl rfl)
theorem dX6_goes_13 : decode cX6_goes 13 = .ok (.imul, 1) := dk_104 (dk_at dksX6_goes_0 13 rfl rfl)
theorem dX6_goes_14 : decode cX6_goes 14 = .ok (.iconst 4, 1) := dk_7 (dk_at dksX6_goes_0 14 rfl rfl)
theorem dX6_goes_15 : decode cX6_goes 15 = .ok (.iadd, 1) := dk_96 (dk_at dksX6_goes_0 15 rfl rfl)
theorem dX6_goes_16 : decode cX6_goes 16 = .ok (.iload_n 2, 1) := dk_28 (dk_at dksX6_goes_0 16 rfl rfl)
theorem dX6_goes_17 : decode cX6_goes 17 = .ok (.iadd, 1) := dk_96 (dk_at dksX6_goes_0 17 rfl rfl)
theorem dX6_goes_18 : decode cX6_goes 18 = .ok (.dup2, 1) := dk_92 (dk_at dksX6_goes_0 18 rfl rfl)
theorem dX6_goes_19 : decode cX6_goes 19 = .ok (.iaload, 1) := dk_46 (dk_at dksX6_goes_0 19 rfl rfl)
theorem dX6_goes_20 : decode cX6_goes 20 = .ok (.iload_n 3, 1) := dk_29 (dk_at dksX6_goes_0 20 rfl rfl)
theorem dX6_goes_21 : decode cX6_goes 21 = .ok (.iadd, 1) := dk_96 (dk_at dksX6_goes_0 21 rfl rfl)
theorem dX6_goes_22 : decode cX6_goes 22 = .ok (.iastore, 1) := dk_79 (dk_at dksX6_goes_0 22 rfl rfl)
theorem dX6_goes_23 : decode cX6_goes 23 = .ok (.goto 13, 3) := dk_167 0 13 (dk_at dksX6_goes_1 0 rfl rfl)
theorem dX6_goes_26 : decode cX6_goes 26 = .ok (.aload_n 0, 1) := dk_42 (dk_at dksX6_goes_1 3 rfl rfl)
theorem dX6_goes_27 : decode cX6_goes 27 = .ok (.dup, 1) := dk_89 (dk_at dksX6_goes_1 4 rfl rfl)
theorem dX6_goes_28 : decode cX6_goes 28 = .ok (.getfield 159, 3) := dk_180 0 159 (dk_at dksX6_goes_1 5 rfl rfl)
theorem dX6_goes_31 : decode cX6_goes 31 = .ok (.iload_n 3, 1) := dk_29 (dk_at dksX6_goes_1 8 rfl rfl)
theorem dX6_goes_32 : decode cX6_goes 32 = .ok (.iadd, 1) := dk_96 (dk_at dksX6_goes_1 9 rfl rfl)
theorem dX6_goes_33 : decode cX6_goes 33 = .ok (.putfield 159, 3) := dk_181 0 159 (dk_at dksX6_goes_1 10 rfl rfl)
theorem dX6_goes_36 : decode cX6_goes 36 = .ok (.return_, 1) := dk_177 (dk_at dksX6_goes_1 13 rfl rfl)
abbrev cX6_undo : ByteArray := prog_17_method_38_code
def yX6_undo : MethodName := ⟨RX6, "undo", "()I"⟩
def dkwX6_undo_2 : List UInt8 := [79, 132, 1, 1, 167, 255, 227, 42, 180, 0, 149, 172]
abbrev dktX6_undo_2 : List UInt8 := dkwX6_undo_2 ++ []
def dkwX6_undo_1 : List UInt8 := [16, 57, 162, 0, 29, 42, 180, 0, 19, 27, 42, 180, 0, 34, 16, 57, 42, 180, 0, 149, 104, 27, 96, 46]
abbrev dktX6_undo_1 : List UInt8 := dkwX6_undo_1 ++ dktX6_undo_2
def dkwX6_undo_0 : List UInt8 := [42, 180, 0, 149, 154, 0, 6, 18, 179, 172, 42, 89, 180, 0, 149, 4, 100, 181, 0, 149, 3, 60, 27]
abbrev dktX6_undo_0 : List UInt8 := dkwX6_undo_0 ++ dktX6_undo_1
theorem dksX6_undo_0 : cX6_undo.data.toList.drop 0 = dktX6_undo_0 := by decide +kernel
theorem dksX6_undo_1 : cX6_undo.data.toList.drop 23 = dktX6_undo_1 := dk_seg dksX6_undo_0 23 rfl rfl
theorem dksX6_undo_2 : cX6_undo.data.toList.drop 47 = dktX6_undo_2 := dk_seg dksX6_undo_1 24 rfl rfl
theorem dX6_undo_0 : decode cX6_undo 0 = .ok (.aload_n 0, 1) := dk_42 (dk_at dksX6_undo_0 0 rfl rfl)
theorem dX6_undo_1 : decode cX6_undo 1 = .ok (.getfield 149, 3) := dk_180 0 149 (dk_at dksX6_undo_0 1 rfl rfl)
theorem dX6_undo_4 : decode cX6_undo 4 = .ok (.ifCond .ne 6, 3) := dk_154 0 6 (dk_at dksX6_undo_0 4 rfl rfl)
theorem dX6_undo_7 : decode cX6_undo 7 = .ok (.ldc 179, 2) := dk_18 179 (dk_at dksX6_undo_0 7 rfl rfl)
theorem dX6_undo_9 : decode cX6_undo 9 = .ok (.ireturn, 1) := dk_172 (dk_at dksX6_undo_0 9 rfl rfl)
theorem dX6_undo_10 : decode cX6_undo 10 = .ok (.aload_n 0, 1) := dk_42 (dk_at dksX6_undo_0 10 rfl rfl)
theorem dX6_undo_11 : decode cX6_undo 11 = .ok (.dup, 1) := dk_89 (dk_at dksX6_undo_0 11 rfl rfl)
theorem dX6_undo_12 : decode cX6_undo 12 = .ok (.getfield 149, 3) := dk_180 0 149 (dk_at dksX6_undo_0 12 rfl rfl)
theorem dX6_undo_15 : decode cX6_undo 15 = .ok (.iconst 1, 1) := dk_4 (dk_at dksX6_undo_0 15 rfl rfl)
theorem dX6_undo_16 : decode cX6_undo 16 = .ok (.isub, 1) := dk_100 (dk_at dksX6_undo_0 16 rfl rfl)
theorem dX6_undo_17 : decode cX6_undo 17 = .ok (.putfield 149, 3) := dk_181 0 149 (dk_at dksX6_undo_0 17 rfl rfl)
theorem dX6_undo_20 : decode cX6_undo 20 = .ok (.iconst 0, 1) := dk_3 (dk_at dksX6_undo_0 20 rfl rfl)
theorem dX6_undo_21 : decode cX6_undo 21 = .ok (.istore_n 1, 1) := dk_60 (dk_at dksX6_undo_0 21 rfl rfl)
theorem dX6_undo_22 : decode cX6_undo 22 = .ok (.iload_n 1, 1) := dk_27 (dk_at dksX6_undo_0 22 rfl rfl)
theorem dX6_undo_23 : decode cX6_undo 23 = .ok (.bipush 57, 2) := dk_16 57 (dk_at dksX6_undo_1 0 rfl rfl)
theorem dX6_undo_25 : decode cX6_undo 25 = .ok (.if_icmp .ge 29, 3) := dk_162 0 29 (dk_at dksX6_undo_1 2 rfl rfl)
theorem dX6_undo_28 : decode cX6_undo 28 = .ok (.aload_n 0, 1) := dk_42 (dk_at dksX6_undo_1 5 rfl rfl)
theorem dX6_undo_29 : decode cX6_undo 29 = .ok (.getfield 19, 3) := dk_180 0 19 (dk_at dksX6_undo_1 6 rfl rfl)
theorem dX6_undo_32 : decode cX6_undo 32 = .ok (.iload_n 1, 1) := dk_27 (dk_at dksX6_undo_1 9 rfl rfl)
theorem dX6_undo_33 : decode cX6_undo 33 = .ok (.aload_n 0, 1) := dk_42 (dk_at dksX6_undo_1 10 rfl rfl)
theorem dX6_undo_34 : decode cX6_undo 34 = .ok (.getfield 34, 3) := dk_180 0 34 (dk_at dksX6_undo_1 11 rfl rfl)
theorem dX6_undo_37 : decode cX6_undo 37 = .ok (.bipush 57, 2) := dk_16 57 (dk_at dksX6_undo_1 14 rfl rfl)
theorem dX6_undo_39 : decode cX6_undo 39 = .ok (.aload_n 0, 1) := dk_42 (dk_at dksX6_undo_1 16 rfl rfl)
theorem dX6_undo_40 : decode cX6_undo 40 = .ok (.getfield 149, 3) := dk_180 0 149 (dk_at dksX6_undo_1 17 rfl rfl)
theorem dX6_undo_43 : decode cX6_undo 43 = .ok (.imul, 1) := dk_104 (dk_at dksX6_undo_1 20 rfl rfl)
theorem dX6_undo_44 : decode cX6_undo 44 = .ok (.iload_n 1, 1) := dk_27 (dk_at dksX6_undo_1 21 rfl rfl)
theorem dX6_undo_45 : decode cX6_undo 45 = .ok (.iadd, 1) := dk_96 (dk_at dksX6_undo_1 22 rfl rfl)
theorem dX6_undo_46 : decode cX6_undo 46 = .ok (.iaload, 1) := dk_46 (dk_at dksX6_undo_1 23 rfl rfl)
theorem dX6_undo_47 : decode cX6_undo 47 = .ok (.iastore, 1) := dk_79 (dk_at dksX6_undo_2 0 rfl rfl)
theorem dX6_undo_48 : decode cX6_undo 48 = .ok (.iinc 1 1, 3) := dk_132 1 1 (dk_at dksX6_undo_2 1 rfl rfl)
theorem dX6_undo_51 : decode cX6_undo 51 = .ok (.goto (-29), 3) := dk_167 255 227 (dk_at dksX6_undo_2 4 rfl rfl)
theorem dX6_undo_54 : decode cX6_undo 54 = .ok (.aload_n 0, 1) := dk_42 (dk_at dksX6_undo_2 7 rfl rfl)
theorem dX6_undo_55 : decode cX6_undo 55 = .ok (.getfield 149, 3) := dk_180 0 149 (dk_at dksX6_undo_2 8 rfl rfl)
theorem dX6_undo_58 : decode cX6_undo 58 = .ok (.ireturn, 1) := dk_172 (dk_at dksX6_undo_2 11 rfl rfl)
abbrev cX6_cell : ByteArray := prog_17_method_39_code
def yX6_cell : MethodName := ⟨RX6, "cell", "(II)I"⟩
def dkwX6_cell_3 : List UInt8 := [160, 0, 8, 16, 25, 167, 0, 5, 16, 41, 27, 96, 46, 172]
abbrev dktX6_cell_3 : List UInt8 := dkwX6_cell_3 ++ []
def dkwX6_cell_2 : List UInt8 := [154, 0, 8, 18, 204, 167, 0, 32, 42, 180, 0, 19, 28, 4, 160, 0, 8, 16, 9, 167, 0, 15, 28, 5]
abbrev dktX6_cell_2 : List UInt8 := dkwX6_cell_2 ++ dktX6_cell_3
def dkwX6_cell_1 : List UInt8 := [184, 0, 57, 154, 0, 6, 18, 67, 172, 28, 154, 0, 9, 42, 27, 182, 0, 201, 172, 42, 27, 182, 0, 172]
abbrev dktX6_cell_1 : List UInt8 := dkwX6_cell_1 ++ dktX6_cell_2
def dkwX6_cell_0 : List UInt8 := [42, 180, 0, 145, 154, 0, 6, 18, 179, 172, 27, 184, 0, 180, 153, 0, 15, 28, 133, 9, 20, 0, 154]
abbrev dktX6_cell_0 : List UInt8 := dkwX6_cell_0 ++ dktX6_cell_1
theorem dksX6_cell_0 : cX6_cell.data.toList.drop 0 = dktX6_cell_0 := by decide +kernel
theorem dksX6_cell_1 : cX6_cell.data.toList.drop 23 = dktX6_cell_1 := dk_seg dksX6_cell_0 23 rfl rfl
theorem dksX6_cell_2 : cX6_cell.data.toList.drop 47 = dktX6_cell_2 := dk_seg dksX6_cell_1 24 rfl rfl
theorem dksX6_cell_3 : cX6_cell.data.toList.drop 71 = dktX6_cell_3 := dk_seg dksX6_cell_2 24 rfl rfl
theorem dX6_cell_0 : decode cX6_cell 0 = .ok (.aload_n 0, 1) := dk_42 (dk_at dksX6_cell_0 0 rfl rfl)
theorem dX6_cell_1 : decode cX6_cell 1 = .ok (.getfield 145, 3) := dk_180 0 145 (dk_at dksX6_cell_0 1 rfl rfl)
theorem dX6_cell_4 : decode cX6_cell 4 = .ok (.ifCond .ne 6, 3) := dk_154 0 6 (dk_at dksX6_cell_0 4 rfl rfl)
theorem dX6_cell_7 : decode cX6_cell 7 = .ok (.ldc 179, 2) := dk_18 179 (dk_at dksX6_cell_0 7 rfl rfl)
theorem dX6_cell_9 : decode cX6_cell 9 = .ok (.ireturn, 1) := dk_172 (dk_at dksX6_cell_0 9 rfl rfl)
theorem dX6_cell_10 : decode cX6_cell 10 = .ok (.iload_n 1, 1) := dk_27 (dk_at dksX6_cell_0 10 rfl rfl)
theorem dX6_cell_11 : decode cX6_cell 11 = .ok (.invokestatic 180, 3) := dk_184 0 180 (dk_at dksX6_cell_0 11 rfl rfl)
theorem dX6_cell_14 : decode cX6_cell 14 = .ok (.ifCond .eq 15, 3) := dk_153 0 15 (dk_at dksX6_cell_0 14 rfl rfl)
theorem dX6_cell_17 : decode cX6_cell 17 = .ok (.iload_n 2, 1) := dk_28 (dk_at dksX6_cell_0 17 rfl rfl)
theorem dX6_cell_18 : decode cX6_cell 18 = .ok (.i2l, 1) := dk_133 (dk_at dksX6_cell_0 18 rfl rfl)
theorem dX6_cell_19 : decode cX6_cell 19 = .ok (.lconst 0, 1) := dk_9 (dk_at dksX6_cell_0 19 rfl rfl)
theorem dX6_cell_20 : decode cX6_cell 20 = .ok (.ldc2_w 154, 3) := dk_20 0 154 (dk_at dksX6_cell_0 20 rfl rfl)
theorem dX6_cell_23 : decode cX6_cell 23 = .ok (.invokestatic 57, 3) := dk_184 0 57 (dk_at dksX6_cell_1 0 rfl rfl)
theorem dX6_cell_26 : decode cX6_cell 26 = .ok (.ifCond .ne 6, 3) := dk_154 0 6 (dk_at dksX6_cell_1 3 rfl rfl)
theorem dX6_cell_29 : decode cX6_cell 29 = .ok (.ldc 67, 2) := dk_18 67 (dk_at dksX6_cell_1 6 rfl rfl)
theorem dX6_cell_31 : decode cX6_cell 31 = .ok (.ireturn, 1) := dk_172 (dk_at dksX6_cell_1 8 rfl rfl)
theorem dX6_cell_32 : decode cX6_cell 32 = .ok (.iload_n 2, 1) := dk_28 (dk_at dksX6_cell_1 9 rfl rfl)
theorem dX6_cell_33 : decode cX6_cell 33 = .ok (.ifCond .ne 9, 3) := dk_154 0 9 (dk_at dksX6_cell_1 10 rfl rfl)
theorem dX6_cell_36 : decode cX6_cell 36 = .ok (.aload_n 0, 1) := dk_42 (dk_at dksX6_cell_1 13 rfl rfl)
theorem dX6_cell_37 : decode cX6_cell 37 = .ok (.iload_n 1, 1) := dk_27 (dk_at dksX6_cell_1 14 rfl rfl)
theorem dX6_cell_38 : decode cX6_cell 38 = .ok (.invokevirtual 201, 3) := dk_182 0 201 (dk_at dksX6_cell_1 15 rfl rfl)
theorem dX6_cell_41 : decode cX6_cell 41 = .ok (.ireturn, 1) := dk_172 (dk_at dksX6_cell_1 18 rfl rfl)
theorem dX6_cell_42 : decode cX6_cell 42 = .ok (.aload_n 0, 1) := dk_42 (dk_at dksX6_cell_1 19 rfl rfl)
theorem dX6_cell_43 : decode cX6_cell 43 = .ok (.iload_n 1, 1) := dk_27 (dk_at dksX6_cell_1 20 rfl rfl)
theorem dX6_cell_44 : decode cX6_cell 44 = .ok (.invokevirtual 172, 3) := dk_182 0 172 (dk_at dksX6_cell_1 21 rfl rfl)
theorem dX6_cell_47 : decode cX6_cell 47 = .ok (.ifCond .ne 8, 3) := dk_154 0 8 (dk_at dksX6_cell_2 0 rfl rfl)
theorem dX6_cell_50 : decode cX6_cell 50 = .ok (.ldc 204, 2) := dk_18 204 (dk_at dksX6_cell_2 3 rfl rfl)
theorem dX6_cell_52 : decode cX6_cell 52 = .ok (.goto 32, 3) := dk_167 0 32 (dk_at dksX6_cell_2 5 rfl rfl)
theorem dX6_cell_55 : decode cX6_cell 55 = .ok (.aload_n 0, 1) := dk_42 (dk_at dksX6_cell_2 8 rfl rfl)
theorem dX6_cell_56 : decode cX6_cell 56 = .ok (.getfield 19, 3) := dk_180 0 19 (dk_at dksX6_cell_2 9 rfl rfl)
theorem dX6_cell_59 : decode cX6_cell 59 = .ok (.iload_n 2, 1) := dk_28 (dk_at dksX6_cell_2 12 rfl rfl)
theorem dX6_cell_60 : decode cX6_cell 60 = .ok (.iconst 1, 1) := dk_4 (dk_at dksX6_cell_2 13 rfl rfl)
theorem dX6_cell_61 : decode cX6_cell 61 = .ok (.if_icmp .ne 8, 3) := dk_160 0 8 (dk_at dksX6_cell_2 14 rfl rfl)
theorem dX6_cell_64 : decode cX6_cell 64 = .ok (.bipush 9, 2) := dk_16 9 (dk_at dksX6_cell_2 17 rfl rfl)
theorem dX6_cell_66 : decode cX6_cell 66 = .ok (.goto 15, 3) := dk_167 0 15 (dk_at dksX6_cell_2 19 rfl rfl)
theorem dX6_cell_69 : decode cX6_cell 69 = .ok (.iload_n 2, 1) := dk_28 (dk_at dksX6_cell_2 22 rfl rfl)
theorem dX6_cell_70 : decode cX6_cell 70 = .ok (.iconst 2, 1) := dk_5 (dk_at dksX6_cell_2 23 rfl rfl)
theorem dX6_cell_71 : decode cX6_cell 71 = .ok (.if_icmp .ne 8, 3) := dk_160 0 8 (dk_at dksX6_cell_3 0 rfl rfl)
theorem dX6_cell_74 : decode cX6_cell 74 = .ok (.bipush 25, 2) := dk_16 25 (dk_at dksX6_cell_3 3 rfl rfl)
theorem dX6_cell_76 : decode cX6_cell 76 = .ok (.goto 5, 3) := dk_167 0 5 (dk_at dksX6_cell_3 5 rfl rfl)
theorem dX6_cell_79 : decode cX6_cell 79 = .ok (.bipush 41, 2) := dk_16 41 (dk_at dksX6_cell_3 8 rfl rfl)
theorem dX6_cell_81 : decode cX6_cell 81 = .ok (.iload_n 1, 1) := dk_27 (dk_at dksX6_cell_3 10 rfl rfl)
theorem dX6_cell_82 : decode cX6_cell 82 = .ok (.iadd, 1) := dk_96 (dk_at dksX6_cell_3 11 rfl rfl)
theorem dX6_cell_83 : decode cX6_cell 83 = .ok (.iaload, 1) := dk_46 (dk_at dksX6_cell_3 12 rfl rfl)
theorem dX6_cell_84 : decode cX6_cell 84 = .ok (.ireturn, 1) := dk_172 (dk_at dksX6_cell_3 13 rfl rfl)
abbrev cX6_feltNow : ByteArray := prog_17_method_28_code
def yX6_feltNow : MethodName := ⟨RX6, "feltNow", "(I)I"⟩
def dkwX6_feltNow_0 : List UInt8 := [42, 182, 0, 166, 42, 180, 0, 31, 27, 46, 172]
abbrev dktX6_feltNow_0 : List UInt8 := dkwX6_feltNow_0 ++ []
theorem dksX6_feltNow_0 : cX6_feltNow.data.toList.drop 0 = dktX6_feltNow_0 := by decide +kernel
theorem dX6_feltNow_0 : decode cX6_feltNow 0 = .ok (.aload_n 0, 1) := dk_42 (dk_at dksX6_feltNow_0 0 rfl rfl)
theorem dX6_feltNow_1 : decode cX6_feltNow 1 = .ok (.invokevirtual 166, 3) := dk_182 0 166 (dk_at dksX6_feltNow_0 1 rfl rfl)
theorem dX6_feltNow_4 : decode cX6_feltNow 4 = .ok (.aload_n 0, 1) := dk_42 (dk_at dksX6_feltNow_0 4 rfl rfl)
theorem dX6_feltNow_5 : decode cX6_feltNow 5 = .ok (.getfield 31, 3) := dk_180 0 31 (dk_at dksX6_feltNow_0 5 rfl rfl)
theorem dX6_feltNow_8 : decode cX6_feltNow 8 = .ok (.iload_n 1, 1) := dk_27 (dk_at dksX6_feltNow_0 8 rfl rfl)
theorem dX6_feltNow_9 : decode cX6_feltNow 9 = .ok (.iaload, 1) := dk_46 (dk_at dksX6_feltNow_0 9 rfl rfl)
theorem dX6_feltNow_10 : decode cX6_feltNow 10 = .ok (.ireturn, 1) := dk_172 (dk_at dksX6_feltNow_0 10 rfl rfl)
abbrev cX6_wind : ByteArray := prog_17_method_40_code
def yX6_wind : MethodName := ⟨RX6, "wind", "(II)I"⟩
def dkwX6_wind_2 : List UInt8 := [180, 0, 19, 8, 27, 96, 46, 172]
abbrev dktX6_wind_2 : List UInt8 := dkwX6_wind_2 ++ []
def dkwX6_wind_1 : List UInt8 := [154, 0, 6, 18, 67, 172, 28, 154, 0, 14, 42, 180, 0, 19, 4, 27, 96, 46, 167, 0, 11, 42]
abbrev dktX6_wind_1 : List UInt8 := dkwX6_wind_1 ++ dktX6_wind_2
def dkwX6_wind_0 : List UInt8 := [42, 180, 0, 145, 154, 0, 6, 18, 179, 172, 27, 184, 0, 156, 153, 0, 13, 28, 133, 9, 10, 184, 0, 57]
abbrev dktX6_wind_0 : List UInt8 := dkwX6_wind_0 ++ dktX6_wind_1
theorem dksX6_wind_0 : cX6_wind.data.toList.drop 0 = dktX6_wind_0 := by decide +kernel
theorem dksX6_wind_1 : cX6_wind.data.toList.drop 24 = dktX6_wind_1 := dk_seg dksX6_wind_0 24 rfl rfl
theorem dksX6_wind_2 : cX6_wind.data.toList.drop 46 = dktX6_wind_2 := dk_seg dksX6_wind_1 22 rfl rfl
theorem dX6_wind_0 : decode cX6_wind 0 = .ok (.aload_n 0, 1) := dk_42 (dk_at dksX6_wind_0 0 rfl rfl)
theorem dX6_wind_1 : decode cX6_wind 1 = .ok (.getfield 145, 3) := dk_180 0 145 (dk_at dksX6_wind_0 1 rfl rfl)
theorem dX6_wind_4 : decode cX6_wind 4 = .ok (.ifCond .ne 6, 3) := dk_154 0 6 (dk_at dksX6_wind_0 4 rfl rfl)
theorem dX6_wind_7 : decode cX6_wind 7 = .ok (.ldc 179, 2) := dk_18 179 (dk_at dksX6_wind_0 7 rfl rfl)
theorem dX6_wind_9 : decode cX6_wind 9 = .ok (.ireturn, 1) := dk_172 (dk_at dksX6_wind_0 9 rfl rfl)
theorem dX6_wind_10 : decode cX6_wind 10 = .ok (.iload_n 1, 1) := dk_27 (dk_at dksX6_wind_0 10 rfl rfl)
theorem dX6_wind_11 : decode cX6_wind 11 = .ok (.invokestatic 156, 3) := dk_184 0 156 (dk_at dksX6_wind_0 11 rfl rfl)
theorem dX6_wind_14 : decode cX6_wind 14 = .ok (.ifCond .eq 13, 3) := dk_153 0 13 (dk_at dksX6_wind_0 14 rfl rfl)
theorem dX6_wind_17 : decode cX6_wind 17 = .ok (.iload_n 2, 1) := dk_28 (dk_at dksX6_wind_0 17 rfl rfl)
theorem dX6_wind_18 : decode cX6_wind 18 = .ok (.i2l, 1) := dk_133 (dk_at dksX6_wind_0 18 rfl rfl)
theorem dX6_wind_19 : decode cX6_wind 19 = .ok (.lconst 0, 1) := dk_9 (dk_at dksX6_wind_0 19 rfl rfl)
theorem dX6_wind_20 : decode cX6_wind 20 = .ok (.lconst 1, 1) := dk_10 (dk_at dksX6_wind_0 20 rfl rfl)
theorem dX6_wind_21 : decode cX6_wind 21 = .ok (.invokestatic 57, 3) := dk_184 0 57 (dk_at dksX6_wind_0 21 rfl rfl)
theorem dX6_wind_24 : decode cX6_wind 24 = .ok (.ifCond .ne 6, 3) := dk_154 0 6 (dk_at dksX6_wind_1 0 rfl rfl)
theorem dX6_wind_27 : decode cX6_wind 27 = .ok (.ldc 67, 2) := dk_18 67 (dk_at dksX6_wind_1 3 rfl rfl)
theorem dX6_wind_29 : decode cX6_wind 29 = .ok (.ireturn, 1) := dk_172 (dk_at dksX6_wind_1 5 rfl rfl)
theorem dX6_wind_30 : decode cX6_wind 30 = .ok (.iload_n 2, 1) := dk_28 (dk_at dksX6_wind_1 6 rfl rfl)
theorem dX6_wind_31 : decode cX6_wind 31 = .ok (.ifCond .ne 14, 3) := dk_154 0 14 (dk_at dksX6_wind_1 7 rfl rfl)
theorem dX6_wind_34 : decode cX6_wind 34 = .ok (.aload_n 0, 1) := dk_42 (dk_at dksX6_wind_1 10 rfl rfl)
theorem dX6_wind_35 : decode cX6_wind 35 = .ok (.getfield 19, 3) := dk_180 0 19 (dk_at dksX6_wind_1 11 rfl rfl)
theorem dX6_wind_38 : decode cX6_wind 38 = .ok (.iconst 1, 1) := dk_4 (dk_at dksX6_wind_1 14 rfl rfl)
theorem dX6_wind_39 : decode cX6_wind 39 = .ok (.iload_n 1, 1) := dk_27 (dk_at dksX6_wind_1 15 rfl rfl)
theorem dX6_wind_40 : decode cX6_wind 40 = .ok (.iadd, 1) := dk_96 (dk_at dksX6_wind_1 16 rfl rfl)
theorem dX6_wind_41 : decode cX6_wind 41 = .ok (.iaload, 1) := dk_46 (dk_at dksX6_wind_1 17 rfl rfl)
theorem dX6_wind_42 : decode cX6_wind 42 = .ok (.goto 11, 3) := dk_167 0 11 (dk_at dksX6_wind_1 18 rfl rfl)
theorem dX6_wind_45 : decode cX6_wind 45 = .ok (.aload_n 0, 1) := dk_42 (dk_at dksX6_wind_1 21 rfl rfl)
theorem dX6_wind_46 : decode cX6_wind 46 = .ok (.getfield 19, 3) := dk_180 0 19 (dk_at dksX6_wind_2 0 rfl rfl)
theorem dX6_wind_49 : decode cX6_wind 49 = .ok (.iconst 5, 1) := dk_8 (dk_at dksX6_wind_2 3 rfl rfl)
theorem dX6_wind_50 : decode cX6_wind 50 = .ok (.iload_n 1, 1) := dk_27 (dk_at dksX6_wind_2 4 rfl rfl)
theorem dX6_wind_51 : decode cX6_wind 51 = .ok (.iadd, 1) := dk_96 (dk_at dksX6_wind_2 5 rfl rfl)
theorem dX6_wind_52 : decode cX6_wind 52 = .ok (.iaload, 1) := dk_46 (dk_at dksX6_wind_2 6 rfl rfl)
theorem dX6_wind_53 : decode cX6_wind 53 = .ok (.ireturn, 1) := dk_172 (dk_at dksX6_wind_2 7 rfl rfl)
abbrev cX6_felt : ByteArray := prog_17_method_44_code
def yX6_felt : MethodName := ⟨RX6, "felt", "(II)I"⟩
def dkwX6_felt_1 : List UInt8 := [184, 0, 57, 154, 0, 6, 18, 67, 172, 42, 28, 182, 0, 213, 42, 180, 0, 31, 27, 46, 172]
abbrev dktX6_felt_1 : List UInt8 := dkwX6_felt_1 ++ []
def dkwX6_felt_0 : List UInt8 := [42, 180, 0, 145, 154, 0, 6, 18, 179, 172, 27, 184, 0, 180, 153, 0, 15, 28, 133, 9, 20, 0, 211]
abbrev dktX6_felt_0 : List UInt8 := dkwX6_felt_0 ++ dktX6_felt_1
theorem dksX6_felt_0 : cX6_felt.data.toList.drop 0 = dktX6_felt_0 := by decide +kernel
theorem dksX6_felt_1 : cX6_felt.data.toList.drop 23 = dktX6_felt_1 := dk_seg dksX6_felt_0 23 rfl rfl
theorem dX6_felt_0 : decode cX6_felt 0 = .ok (.aload_n 0, 1) := dk_42 (dk_at dksX6_felt_0 0 rfl rfl)
theorem dX6_felt_1 : decode cX6_felt 1 = .ok (.getfield 145, 3) := dk_180 0 145 (dk_at dksX6_felt_0 1 rfl rfl)
theorem dX6_felt_4 : decode cX6_felt 4 = .ok (.ifCond .ne 6, 3) := dk_154 0 6 (dk_at dksX6_felt_0 4 rfl rfl)
theorem dX6_felt_7 : decode cX6_felt 7 = .ok (.ldc 179, 2) := dk_18 179 (dk_at dksX6_felt_0 7 rfl rfl)
theorem dX6_felt_9 : decode cX6_felt 9 = .ok (.ireturn, 1) := dk_172 (dk_at dksX6_felt_0 9 rfl rfl)
theorem dX6_felt_10 : decode cX6_felt 10 = .ok (.iload_n 1, 1) := dk_27 (dk_at dksX6_felt_0 10 rfl rfl)
theorem dX6_felt_11 : decode cX6_felt 11 = .ok (.invokestatic 180, 3) := dk_184 0 180 (dk_at dksX6_felt_0 11 rfl rfl)
theorem dX6_felt_14 : decode cX6_felt 14 = .ok (.ifCond .eq 15, 3) := dk_153 0 15 (dk_at dksX6_felt_0 14 rfl rfl)
theorem dX6_felt_17 : decode cX6_felt 17 = .ok (.iload_n 2, 1) := dk_28 (dk_at dksX6_felt_0 17 rfl rfl)
theorem dX6_felt_18 : decode cX6_felt 18 = .ok (.i2l, 1) := dk_133 (dk_at dksX6_felt_0 18 rfl rfl)
theorem dX6_felt_19 : decode cX6_felt 19 = .ok (.lconst 0, 1) := dk_9 (dk_at dksX6_felt_0 19 rfl rfl)
theorem dX6_felt_20 : decode cX6_felt 20 = .ok (.ldc2_w 211, 3) := dk_20 0 211 (dk_at dksX6_felt_0 20 rfl rfl)
theorem dX6_felt_23 : decode cX6_felt 23 = .ok (.invokestatic 57, 3) := dk_184 0 57 (dk_at dksX6_felt_1 0 rfl rfl)
theorem dX6_felt_26 : decode cX6_felt 26 = .ok (.ifCond .ne 6, 3) := dk_154 0 6 (dk_at dksX6_felt_1 3 rfl rfl)
theorem dX6_felt_29 : decode cX6_felt 29 = .ok (.ldc 67, 2) := dk_18 67 (dk_at dksX6_felt_1 6 rfl rfl)
theorem dX6_felt_31 : decode cX6_felt 31 = .ok (.ireturn, 1) := dk_172 (dk_at dksX6_felt_1 8 rfl rfl)
theorem dX6_felt_32 : decode cX6_felt 32 = .ok (.aload_n 0, 1) := dk_42 (dk_at dksX6_felt_1 9 rfl rfl)
theorem dX6_felt_33 : decode cX6_felt 33 = .ok (.iload_n 2, 1) := dk_28 (dk_at dksX6_felt_1 10 rfl rfl)
theorem dX6_felt_34 : decode cX6_felt 34 = .ok (.invokevirtual 213, 3) := dk_182 0 213 (dk_at dksX6_felt_1 11 rfl rfl)
theorem dX6_felt_37 : decode cX6_felt 37 = .ok (.aload_n 0, 1) := dk_42 (dk_at dksX6_felt_1 14 rfl rfl)
theorem dX6_felt_38 : decode cX6_felt 38 = .ok (.getfield 31, 3) := dk_180 0 31 (dk_at dksX6_felt_1 15 rfl rfl)
theorem dX6_felt_41 : decode cX6_felt 41 = .ok (.iload_n 1, 1) := dk_27 (dk_at dksX6_felt_1 18 rfl rfl)
theorem dX6_felt_42 : decode cX6_felt 42 = .ok (.iaload, 1) := dk_46 (dk_at dksX6_felt_1 19 rfl rfl)
theorem dX6_felt_43 : decode cX6_felt 43 = .ok (.ireturn, 1) := dk_172 (dk_at dksX6_felt_1 20 rfl rfl)
abbrev cX6_blowIn : ByteArray := prog_17_method_43_code
def yX6_blowIn : MethodName := ⟨RX6, "blowIn", "(I)V"⟩
def dkwX6_blowIn_1 : List UInt8 := [182, 0, 166, 42, 182, 0, 208, 177]
abbrev dktX6_blowIn_1 : List UInt8 := dkwX6_blowIn_1 ++ []
def dkwX6_blowIn_0 : List UInt8 := [42, 182, 0, 205, 3, 61, 28, 27, 162, 0, 13, 42, 182, 0, 198, 132, 2, 1, 167, 255, 244, 42]
abbrev dktX6_blowIn_0 : List UInt8 := dkwX6_blowIn_0 ++ dktX6_blowIn_1
theorem dksX6_blowIn_0 : cX6_blowIn.data.toList.drop 0 = dktX6_blowIn_0 := by decide +kernel
theorem dksX6_blowIn_1 : cX6_blowIn.data.toList.drop 22 = dktX6_blowIn_1 := dk_seg dksX6_blowIn_0 22 rfl rfl
theorem dX6_blowIn_0 : decode cX6_blowIn 0 = .ok (.aload_n 0, 1) := dk_42 (dk_at dksX6_blowIn_0 0 rfl rfl)
theorem dX6_blowIn_1 : decode cX6_blowIn 1 = .ok (.invokevirtual 205, 3) := dk_182 0 205 (dk_at dksX6_blowIn_0 1 rfl rfl)
theorem dX6_blowIn_4 : decode cX6_blowIn 4 = .ok (.iconst 0, 1) := dk_3 (dk_at dksX6_blowIn_0 4 rfl rfl)
theorem dX6_blowIn_5 : decode cX6_blowIn 5 = .ok (.istore_n 2, 1) := dk_61 (dk_at dksX6_blowIn_0 5 rfl rfl)
theorem dX6_blowIn_6 : decode cX6_blowIn 6 = .ok (.iload_n 2, 1) := dk_28 (dk_at dksX6_blowIn_0 6 rfl rfl)
theorem dX6_blowIn_7 : decode cX6_blowIn 7 = .ok (.iload_n 1, 1) := dk_27 (dk_at dksX6_blowIn_0 7 rfl rfl)
theorem dX6_blowIn_8 : decode cX6_blowIn 8 = .ok (.if_icmp .ge 13, 3) := dk_162 0 13 (dk_at dksX6_blowIn_0 8 rfl rfl)
theorem dX6_blowIn_11 : decode cX6_blowIn 11 = .ok (.aload_n 0, 1) := dk_42 (dk_at dksX6_blowIn_0 11 rfl rfl)
theorem dX6_blowIn_12 : decode cX6_blowIn 12 = .ok (.invokevirtual 198, 3) := dk_182 0 198 (dk_at dksX6_blowIn_0 12 rfl rfl)
theorem dX6_blowIn_15 : decode cX6_blowIn 15 = .ok (.iinc 2 1, 3) := dk_132 2 1 (dk_at dksX6_blowIn_0 15 rfl rfl)
theorem dX6_blowIn_18 : decode cX6_blowIn 18 = .ok (.goto (-12), 3) := dk_167 255 244 (dk_at dksX6_blowIn_0 18 rfl rfl)
theorem dX6_blowIn_21 : decode cX6_blowIn 21 = .ok (.aload_n 0, 1) := dk_42 (dk_at dksX6_blowIn_0 21 rfl rfl)
theorem dX6_blowIn_22 : decode cX6_blowIn 22 = .ok (.invokevirtual 166, 3) := dk_182 0 166 (dk_at dksX6_blowIn_1 0 rfl rfl)
theorem dX6_blowIn_25 : decode cX6_blowIn 25 = .ok (.aload_n 0, 1) := dk_42 (dk_at dksX6_blowIn_1 3 rfl rfl)
theorem dX6_blowIn_26 : decode cX6_blowIn 26 = .ok (.invokevirtual 208, 3) := dk_182 0 208 (dk_at dksX6_blowIn_1 4 rfl rfl)
theorem dX6_blowIn_29 : decode cX6_blowIn 29 = .ok (.return_, 1) := dk_177 (dk_at dksX6_blowIn_1 7 rfl rfl)
abbrev cX6_putAside : ByteArray := prog_17_method_41_code
def yX6_putAside : MethodName := ⟨RX6, "putAside", "()V"⟩
def dkwX6_putAside_1 : List UInt8 := [167, 255, 235, 177]
abbrev dktX6_putAside_1 : List UInt8 := dkwX6_putAside_1 ++ []
def dkwX6_putAside_0 : List UInt8 := [3, 60, 27, 16, 57, 162, 0, 21, 42, 180, 0, 37, 27, 42, 180, 0, 19, 27, 46, 79, 132, 1, 1]
abbrev dktX6_putAside_0 : List UInt8 := dkwX6_putAside_0 ++ dktX6_putAside_1
theorem dksX6_putAside_0 : cX6_putAside.data.toList.drop 0 = dktX6_putAside_0 := by decide +kernel
theorem dksX6_putAside_1 : cX6_putAside.data.toList.drop 23 = dktX6_putAside_1 := dk_seg dksX6_putAside_0 23 rfl rfl
theorem dX6_putAside_0 : decode cX6_putAside 0 = .ok (.iconst 0, 1) := dk_3 (dk_at dksX6_putAside_0 0 rfl rfl)
theorem dX6_putAside_1 : decode cX6_putAside 1 = .ok (.istore_n 1, 1) := dk_60 (dk_at dksX6_putAside_0 1 rfl rfl)
theorem dX6_putAside_2 : decode cX6_putAside 2 = .ok (.iload_n 1, 1) := dk_27 (dk_at dksX6_putAside_0 2 rfl rfl)
theorem dX6_putAside_3 : decode cX6_putAside 3 = .ok (.bipush 57, 2) := dk_16 57 (dk_at dksX6_putAside_0 3 rfl rfl)
theorem dX6_putAside_5 : decode cX6_putAside 5 = .ok (.if_icmp .ge 21, 3) := dk_162 0 21 (dk_at dksX6_putAside_0 5 rfl rfl)
theorem dX6_putAside_8 : decode cX6_putAside 8 = .ok (.aload_n 0, 1) := dk_42 (dk_at dksX6_putAside_0 8 rfl rfl)
theorem dX6_putAside_9 : decode cX6_putAside 9 = .ok (.getfield 37, 3) := dk_180 0 37 (dk_at dksX6_putAside_0 9 rfl rfl)
theorem dX6_putAside_12 : decode cX6_putAside 12 = .ok (.iload_n 1, 1) := dk_27 (dk_at dksX6_putAside_0 12 rfl rfl)
theorem dX6_putAside_13 : decode cX6_putAside 13 = .ok (.aload_n 0, 1) := dk_42 (dk_at dksX6_putAside_0 13 rfl rfl)
theorem dX6_putAside_14 : decode cX6_putAside 14 = .ok (.getfield 19, 3) := dk_180 0 19 (dk_at dksX6_putAside_0 14 rfl rfl)
theorem dX6_putAside_17 : decode cX6_putAside 17 = .ok (.iload_n 1, 1) := dk_27 (dk_at dksX6_putAside_0 17 rfl rfl)
theorem dX6_putAside_18 : decode cX6_putAside 18 = .ok (.iaload, 1) := dk_46 (dk_at dksX6_putAside_0 18 rfl rfl)
theorem dX6_putAside_19 : decode cX6_putAside 19 = .ok (.iastore, 1) := dk_79 (dk_at dksX6_putAside_0 19 rfl rfl)
theorem dX6_putAside_20 : decode cX6_putAside 20 = .ok (.iinc 1 1, 3) := dk_132 1 1 (dk_at dksX6_putAside_0 20 rfl rfl)
theorem dX6_putAside_23 : decode cX6_putAside 23 = .ok (.goto (-21), 3) := dk_167 255 235 (dk_at dksX6_putAside_1 0 rfl rfl)
theorem dX6_putAside_26 : decode cX6_putAside 26 = .ok (.return_, 1) := dk_177 (dk_at dksX6_putAside_1 3 rfl rfl)
abbrev cX6_takeBack : ByteArray := prog_17_method_42_code
def yX6_takeBack : MethodName := ⟨RX6, "takeBack", "()V"⟩
def dkwX6_takeBack_1 : List UInt8 := [167, 255, 235, 177]
abbrev dktX6_takeBack_1 : List UInt8 := dkwX6_takeBack_1 ++ []
def dkwX6_takeBack_0 : List UInt8 := [3, 60, 27, 16, 57, 162, 0, 21, 42, 180, 0, 19, 27, 42, 180, 0, 37, 27, 46, 79, 132, 1, 1]
abbrev dktX6_takeBack_0 : List UInt8 := dkwX6_takeBack_0 ++ dktX6_takeBack_1
theorem dksX6_takeBack_0 : cX6_takeBack.data.toList.drop 0 = dktX6_takeBack_0 := by decide +kernel
theorem dksX6_takeBack_1 : cX6_takeBack.data.toList.drop 23 = dktX6_takeBack_1 := dk_seg dksX6_takeBack_0 23 rfl rfl
theorem dX6_takeBack_0 : decode cX6_takeBack 0 = .ok (.iconst 0, 1) := dk_3 (dk_at dksX6_takeBack_0 0 rfl rfl)
theorem dX6_takeBack_1 : decode cX6_takeBack 1 = .ok (.istore_n 1, 1) := dk_60 (dk_at dksX6_takeBack_0 1 rfl rfl)
theorem dX6_takeBack_2 : decode cX6_takeBack 2 = .ok (.iload_n 1, 1) := dk_27 (dk_at dksX6_takeBack_0 2 rfl rfl)
theorem dX6_takeBack_3 : decode cX6_takeBack 3 = .ok (.bipush 57, 2) := dk_16 57 (dk_at dksX6_takeBack_0 3 rfl rfl)
theorem dX6_takeBack_5 : decode cX6_takeBack 5 = .ok (.if_icmp .ge 21, 3) := dk_162 0 21 (dk_at dksX6_takeBack_0 5 rfl rfl)
theorem dX6_takeBack_8 : decode cX6_takeBack 8 = .ok (.aload_n 0, 1) := dk_42 (dk_at dksX6_takeBack_0 8 rfl rfl)
theorem dX6_takeBack_9 : decode cX6_takeBack 9 = .ok (.getfield 19, 3) := dk_180 0 19 (dk_at dksX6_takeBack_0 9 rfl rfl)
theorem dX6_takeBack_12 : decode cX6_takeBack 12 = .ok (.iload_n 1, 1) := dk_27 (dk_at dksX6_takeBack_0 12 rfl rfl)
theorem dX6_takeBack_13 : decode cX6_takeBack 13 = .ok (.aload_n 0, 1) := dk_42 (dk_at dksX6_takeBack_0 13 rfl rfl)
theorem dX6_takeBack_14 : decode cX6_takeBack 14 = .ok (.getfield 37, 3) := dk_180 0 37 (dk_at dksX6_takeBack_0 14 rfl rfl)
theorem dX6_takeBack_17 : decode cX6_takeBack 17 = .ok (.iload_n 1, 1) := dk_27 (dk_at dksX6_takeBack_0 17 rfl rfl)
theorem dX6_takeBack_18 : decode cX6_takeBack 18 = .ok (.iaload, 1) := dk_46 (dk_at dksX6_takeBack_0 18 rfl rfl)
theorem dX6_takeBack_19 : decode cX6_takeBack 19 = .ok (.iastore, 1) := dk_79 (dk_at dksX6_takeBack_0 19 rfl rfl)
theorem dX6_takeBack_20 : decode cX6_takeBack 20 = .ok (.iinc 1 1, 3) := dk_132 1 1 (dk_at dksX6_takeBack_0 20 rfl rfl)
theorem dX6_takeBack_23 : decode cX6_takeBack 23 = .ok (.goto (-21), 3) := dk_167 255 235 (dk_at dksX6_takeBack_1 0 rfl rfl)
theorem dX6_takeBack_26 : decode cX6_takeBack 26 = .ok (.return_, 1) := dk_177 (dk_at dksX6_takeBack_1 3 rfl rfl)
abbrev cX6_lost : ByteArray := prog_17_method_45_code
def yX6_lost : MethodName := ⟨RX6, "lost", "(I)I"⟩
def dkwX6_lost_1 : List UInt8 := [172, 42, 27, 182, 0, 213, 42, 180, 0, 159, 172]
abbrev dktX6_lost_1 : List UInt8 := dkwX6_lost_1 ++ []
def dkwX6_lost_0 : List UInt8 := [42, 180, 0, 145, 154, 0, 6, 18, 179, 172, 27, 133, 9, 20, 0, 211, 184, 0, 57, 154, 0, 6, 18, 67]
abbrev dktX6_lost_0 : List UInt8 := dkwX6_lost_0 ++ dktX6_lost_1
theorem dksX6_lost_0 : cX6_lost.data.toList.drop 0 = dktX6_lost_0 := by decide +kernel
theorem dksX6_lost_1 : cX6_lost.data.toList.drop 24 = dktX6_lost_1 := dk_seg dksX6_lost_0 24 rfl rfl
theorem dX6_lost_0 : decode cX6_lost 0 = .ok (.aload_n 0, 1) := dk_42 (dk_at dksX6_lost_0 0 rfl rfl)
theorem dX6_lost_1 : decode cX6_lost 1 = .ok (.getfield 145, 3) := dk_180 0 145 (dk_at dksX6_lost_0 1 rfl rfl)
theorem dX6_lost_4 : decode cX6_lost 4 = .ok (.ifCond .ne 6, 3) := dk_154 0 6 (dk_at dksX6_lost_0 4 rfl rfl)
theorem dX6_lost_7 : decode cX6_lost 7 = .ok (.ldc 179, 2) := dk_18 179 (dk_at dksX6_lost_0 7 rfl rfl)
theorem dX6_lost_9 : decode cX6_lost 9 = .ok (.ireturn, 1) := dk_172 (dk_at dksX6_lost_0 9 rfl rfl)
theorem dX6_lost_10 : decode cX6_lost 10 = .ok (.iload_n 1, 1) := dk_27 (dk_at dksX6_lost_0 10 rfl rfl)
theorem dX6_lost_11 : decode cX6_lost 11 = .ok (.i2l, 1) := dk_133 (dk_at dksX6_lost_0 11 rfl rfl)
theorem dX6_lost_12 : decode cX6_lost 12 = .ok (.lconst 0, 1) := dk_9 (dk_at dksX6_lost_0 12 rfl rfl)
theorem dX6_lost_13 : decode cX6_lost 13 = .ok (.ldc2_w 211, 3) := dk_20 0 211 (dk_at dksX6_lost_0 13 rfl rfl)
theorem dX6_lost_16 : decode cX6_lost 16 = .ok (.invokestatic 57, 3) := dk_184 0 57 (dk_at dksX6_lost_0 16 rfl rfl)
theorem dX6_lost_19 : decode cX6_lost 19 = .ok (.ifCond .ne 6, 3) := dk_154 0 6 (dk_at dksX6_lost_0 19 rfl rfl)
theorem dX6_lost_22 : decode cX6_lost 22 = .ok (.ldc 67, 2) := dk_18 67 (dk_at dksX6_lost_0 22 rfl rfl)
theorem dX6_lost_24 : decode cX6_lost 24 = .ok (.ireturn, 1) := dk_172 (dk_at dksX6_lost_1 0 rfl rfl)
theorem dX6_lost_25 : decode cX6_lost 25 = .ok (.aload_n 0, 1) := dk_42 (dk_at dksX6_lost_1 1 rfl rfl)
theorem dX6_lost_26 : decode cX6_lost 26 = .ok (.iload_n 1, 1) := dk_27 (dk_at dksX6_lost_1 2 rfl rfl)
theorem dX6_lost_27 : decode cX6_lost 27 = .ok (.invokevirtual 213, 3) := dk_182 0 213 (dk_at dksX6_lost_1 3 rfl rfl)
theorem dX6_lost_30 : decode cX6_lost 30 = .ok (.aload_n 0, 1) := dk_42 (dk_at dksX6_lost_1 6 rfl rfl)
theorem dX6_lost_31 : decode cX6_lost 31 = .ok (.getfield 159, 3) := dk_180 0 159 (dk_at dksX6_lost_1 7 rfl rfl)
theorem dX6_lost_34 : decode cX6_lost 34 = .ok (.ireturn, 1) := dk_172 (dk_at dksX6_lost_1 10 rfl rfl)
abbrev cX6_leaves : ByteArray := prog_17_method_46_code
def yX6_leaves : MethodName := ⟨RX6, "leaves", "(II)I"⟩
def dkwX6_leaves_1 : List UInt8 := [184, 0, 57, 154, 0, 6, 18, 67, 172, 42, 28, 182, 0, 213, 42, 180, 0, 31, 16, 16, 27, 96, 46, 172]
abbrev dktX6_leaves_1 : List UInt8 := dkwX6_leaves_1 ++ []
def dkwX6_leaves_0 : List UInt8 := [42, 180, 0, 145, 154, 0, 6, 18, 179, 172, 27, 184, 0, 156, 153, 0, 15, 28, 133, 9, 20, 0, 211]
abbrev dktX6_leaves_0 : List UInt8 := dkwX6_leaves_0 ++ dktX6_leaves_1
theorem dksX6_leaves_0 : cX6_leaves.data.toList.drop 0 = dktX6_leaves_0 := by decide +kernel
theorem dksX6_leaves_1 : cX6_leaves.data.toList.drop 23 = dktX6_leaves_1 := dk_seg dksX6_leaves_0 23 rfl rfl
theorem dX6_leaves_0 : decode cX6_leaves 0 = .ok (.aload_n 0, 1) := dk_42 (dk_at dksX6_leaves_0 0 rfl rfl)
theorem dX6_leaves_1 : decode cX6_leaves 1 = .ok (.getfield 145, 3) := dk_180 0 145 (dk_at dksX6_leaves_0 1 rfl rfl)
theorem dX6_leaves_4 : decode cX6_leaves 4 = .ok (.ifCond .ne 6, 3) := dk_154 0 6 (dk_at dksX6_leaves_0 4 rfl rfl)
theorem dX6_leaves_7 : decode cX6_leaves 7 = .ok (.ldc 179, 2) := dk_18 179 (dk_at dksX6_leaves_0 7 rfl rfl)
theorem dX6_leaves_9 : decode cX6_leaves 9 = .ok (.ireturn, 1) := dk_172 (dk_at dksX6_leaves_0 9 rfl rfl)
theorem dX6_leaves_10 : decode cX6_leaves 10 = .ok (.iload_n 1, 1) := dk_27 (dk_at dksX6_leaves_0 10 rfl rfl)
theorem dX6_leaves_11 : decode cX6_leaves 11 = .ok (.invokestatic 156, 3) := dk_184 0 156 (dk_at dksX6_leaves_0 11 rfl rfl)
theorem dX6_leaves_14 : decode cX6_leaves 14 = .ok (.ifCond .eq 15, 3) := dk_153 0 15 (dk_at dksX6_leaves_0 14 rfl rfl)
theorem dX6_leaves_17 : decode cX6_leaves 17 = .ok (.iload_n 2, 1) := dk_28 (dk_at dksX6_leaves_0 17 rfl rfl)
theorem dX6_leaves_18 : decode cX6_leaves 18 = .ok (.i2l, 1) := dk_133 (dk_at dksX6_leaves_0 18 rfl rfl)
theorem dX6_leaves_19 : decode cX6_leaves 19 = .ok (.lconst 0, 1) := dk_9 (dk_at dksX6_leaves_0 19 rfl rfl)
theorem dX6_leaves_20 : decode cX6_leaves 20 = .ok (.ldc2_w 211, 3) := dk_20 0 211 (dk_at dksX6_leaves_0 20 rfl rfl)
theorem dX6_leaves_23 : decode cX6_leaves 23 = .ok (.invokestatic 57, 3) := dk_184 0 57 (dk_at dksX6_leaves_1 0 rfl rfl)
theorem dX6_leaves_26 : decode cX6_leaves 26 = .ok (.ifCond .ne 6, 3) := dk_154 0 6 (dk_at dksX6_leaves_1 3 rfl rfl)
theorem dX6_leaves_29 : decode cX6_leaves 29 = .ok (.ldc 67, 2) := dk_18 67 (dk_at dksX6_leaves_1 6 rfl rfl)
theorem dX6_leaves_31 : decode cX6_leaves 31 = .ok (.ireturn, 1) := dk_172 (dk_at dksX6_leaves_1 8 rfl rfl)
theorem dX6_leaves_32 : decode cX6_leaves 32 = .ok (.aload_n 0, 1) := dk_42 (dk_at dksX6_leaves_1 9 rfl rfl)
theorem dX6_leaves_33 : decode cX6_leaves 33 = .ok (.iload_n 2, 1) := dk_28 (dk_at dksX6_leaves_1 10 rfl rfl)
theorem dX6_leaves_34 : decode cX6_leaves 34 = .ok (.invokevirtual 213, 3) := dk_182 0 213 (dk_at dksX6_leaves_1 11 rfl rfl)
theorem dX6_leaves_37 : decode cX6_leaves 37 = .ok (.aload_n 0, 1) := dk_42 (dk_at dksX6_leaves_1 14 rfl rfl)
theorem dX6_leaves_38 : decode cX6_leaves 38 = .ok (.getfield 31, 3) := dk_180 0 31 (dk_at dksX6_leaves_1 15 rfl rfl)
theorem dX6_leaves_41 : decode cX6_leaves 41 = .ok (.bipush 16, 2) := dk_16 16 (dk_at dksX6_leaves_1 18 rfl rfl)
theorem dX6_leaves_43 : decode cX6_leaves 43 = .ok (.iload_n 1, 1) := dk_27 (dk_at dksX6_leaves_1 20 rfl rfl)
theorem dX6_leaves_44 : decode cX6_leaves 44 = .ok (.iadd, 1) := dk_96 (dk_at dksX6_leaves_1 21 rfl rfl)
theorem dX6_leaves_45 : decode cX6_leaves 45 = .ok (.iaload, 1) := dk_46 (dk_at dksX6_leaves_1 22 rfl rfl)
theorem dX6_leaves_46 : decode cX6_leaves 46 = .ok (.ireturn, 1) := dk_172 (dk_at dksX6_leaves_1 23 rfl rfl)
abbrev cX6_breaks : ByteArray := prog_17_method_47_code
def yX6_breaks : MethodName := ⟨RX6, "breaks", "(I)I"⟩
def dkwX6_breaks_5 : List UInt8 := [172]
abbrev dktX6_breaks_5 : List UInt8 := dkwX6_breaks_5 ++ []
def dkwX6_breaks_4 : List UInt8 := [132, 4, 255, 167, 255, 229, 29, 156, 0, 8, 18, 204, 167, 0, 12, 27, 154, 0, 7, 28, 167, 0, 4, 29]
abbrev dktX6_breaks_4 : List UInt8 := dkwX6_breaks_4 ++ dktX6_breaks_5
def dkwX6_breaks_3 : List UInt8 := [155, 0, 28, 42, 180, 0, 169, 21, 4, 184, 0, 216, 153, 0, 8, 21, 4, 167, 0, 4, 29, 62]
abbrev dktX6_breaks_3 : List UInt8 := dkwX6_breaks_3 ++ dktX6_breaks_4
def dkwX6_breaks_2 : List UInt8 := [182, 0, 198, 132, 2, 1, 167, 255, 236, 42, 182, 0, 208, 18, 204, 62, 16, 15, 54, 4, 21, 4]
abbrev dktX6_breaks_2 : List UInt8 := dkwX6_breaks_2 ++ dktX6_breaks_3
def dkwX6_breaks_1 : List UInt8 := [182, 0, 205, 3, 61, 42, 3, 181, 0, 169, 28, 16, 40, 162, 0, 20, 42, 180, 0, 169, 154, 0, 13, 42]
abbrev dktX6_breaks_1 : List UInt8 := dkwX6_breaks_1 ++ dktX6_breaks_2
def dkwX6_breaks_0 : List UInt8 := [42, 180, 0, 145, 154, 0, 6, 18, 179, 172, 27, 133, 9, 10, 184, 0, 57, 154, 0, 6, 18, 67, 172, 42]
abbrev dktX6_breaks_0 : List UInt8 := dkwX6_breaks_0 ++ dktX6_breaks_1
theorem dksX6_breaks_0 : cX6_breaks.data.toList.drop 0 = dktX6_breaks_0 := by decide +kernel
theorem dksX6_breaks_1 : cX6_breaks.data.toList.drop 24 = dktX6_breaks_1 := dk_seg dksX6_breaks_0 24 rfl rfl
theorem dksX6_breaks_2 : cX6_breaks.data.toList.drop 48 = dktX6_breaks_2 := dk_seg dksX6_breaks_1 24 rfl rfl
theorem dksX6_breaks_3 : cX6_breaks.data.toList.drop 70 = dktX6_breaks_3 := dk_seg dksX6_breaks_2 22 rfl rfl
theorem dksX6_breaks_4 : cX6_breaks.data.toList.drop 92 = dktX6_breaks_4 := dk_seg dksX6_breaks_3 22 rfl rfl
theorem dksX6_breaks_5 : cX6_breaks.data.toList.drop 116 = dktX6_breaks_5 := dk_seg dksX6_breaks_4 24 rfl rfl
theorem dX6_breaks_0 : decode cX6_breaks 0 = .ok (.aload_n 0, 1) := dk_42 (dk_at dksX6_breaks_0 0 rfl rfl)
theorem dX6_breaks_1 : decode cX6_breaks 1 = .ok (.getfield 145, 3) := dk_180 0 145 (dk_at dksX6_breaks_0 1 rfl rfl)
theorem dX6_breaks_4 : decode cX6_breaks 4 = .ok (.ifCond .ne 6, 3) := dk_154 0 6 (dk_at dksX6_breaks_0 4 rfl rfl)
theorem dX6_breaks_7 : decode cX6_breaks 7 = .ok (.ldc 179, 2) := dk_18 179 (dk_at dksX6_breaks_0 7 rfl rfl)
theorem dX6_breaks_9 : decode cX6_breaks 9 = .ok (.ireturn, 1) := dk_172 (dk_at dksX6_breaks_0 9 rfl rfl)
theorem dX6_breaks_10 : decode cX6_breaks 10 = .ok (.iload_n 1, 1) := dk_27 (dk_at dksX6_breaks_0 10 rfl rfl)
theorem dX6_breaks_11 : decode cX6_breaks 11 = .ok (.i2l, 1) := dk_133 (dk_at dksX6_breaks_0 11 rfl rfl)
theorem dX6_breaks_12 : decode cX6_breaks 12 = .ok (.lconst 0, 1) := dk_9 (dk_at dksX6_breaks_0 12 rfl rfl)
theorem dX6_breaks_13 : decode cX6_breaks 13 = .ok (.lconst 1, 1) := dk_10 (dk_at dksX6_breaks_0 13 rfl rfl)
theorem dX6_breaks_14 : decode cX6_breaks 14 = .ok (.invokestatic 57, 3) := dk_184 0 57 (dk_at dksX6_breaks_0 14 rfl rfl)
theorem dX6_breaks_17 : decode cX6_breaks 17 = .ok (.ifCond .ne 6, 3) := dk_154 0 6 (dk_at dksX6_breaks_0 17 rfl rfl)
theorem dX6_breaks_20 : decode cX6_breaks 20 = .ok (.ldc 67, 2) := dk_18 67 (dk_at dksX6_breaks_0 20 rfl rfl)
theorem dX6_breaks_22 : decode cX6_breaks 22 = .ok (.ireturn, 1) := dk_172 (dk_at dksX6_breaks_0 22 rfl rfl)
theorem dX6_breaks_23 : decode cX6_breaks 23 = .ok (.aload_n 0, 1) := dk_42 (dk_at dksX6_breaks_0 23 rfl rfl)
theorem dX6_breaks_24 : decode cX6_breaks 24 = .ok (.invokevirtual 205, 3) := dk_182 0 205 (dk_at dksX6_breaks_1 0 rfl rfl)
theorem dX6_breaks_27 : decode cX6_breaks 27 = .ok (.iconst 0, 1) := dk_3 (dk_at dksX6_breaks_1 3 rfl rfl)
theorem dX6_breaks_28 : decode cX6_breaks 28 = .ok (.istore_n 2, 1) := dk_61 (dk_at dksX6_breaks_1 4 rfl rfl)
theorem dX6_breaks_29 : decode cX6_breaks 29 = .ok (.aload_n 0, 1) := dk_42 (dk_at dksX6_breaks_1 5 rfl rfl)
theorem dX6_breaks_30 : decode cX6_breaks 30 = .ok (.iconst 0, 1) := dk_3 (dk_at dksX6_breaks_1 6 rfl rfl)
theorem dX6_breaks_31 : decode cX6_breaks 31 = .ok (.putfield 169, 3) := dk_181 0 169 (dk_at dksX6_breaks_1 7 rfl rfl)
theorem dX6_breaks_34 : decode cX6_breaks 34 = .ok (.iload_n 2, 1) := dk_28 (dk_at dksX6_breaks_1 10 rfl rfl)
theorem dX6_breaks_35 : decode cX6_breaks 35 = .ok (.bipush 40, 2) := dk_16 40 (dk_at dksX6_breaks_1 11 rfl rfl)
theorem dX6_breaks_37 : decode cX6_breaks 37 = .ok (.if_icmp .ge 20, 3) := dk_162 0 20 (dk_at dksX6_breaks_1 13 rfl rfl)
theorem dX6_breaks_40 : decode cX6_breaks 40 = .ok (.aload_n 0, 1) := dk_42 (dk_at dksX6_breaks_1 16 rfl rfl)
theorem dX6_breaks_41 : decode cX6_breaks 41 = .ok (.getfield 169, 3) := dk_180 0 169 (dk_at dksX6_breaks_1 17 rfl rfl)
theorem dX6_breaks_44 : decode cX6_breaks 44 = .ok (.ifCond .ne 13, 3) := dk_154 0 13 (dk_at dksX6_breaks_1 20 rfl rfl)
theorem dX6_breaks_47 : decode cX6_breaks 47 = .ok (.aload_n 0, 1) := dk_42 (dk_at dksX6_breaks_1 23 rfl rfl)
theorem dX6_breaks_48 : decode cX6_breaks 48 = .ok (.invokevirtual 198, 3) := dk_182 0 198 (dk_at dksX6_breaks_2 0 rfl rfl)
theorem dX6_breaks_51 : decode cX6_breaks 51 = .ok (.iinc 2 1, 3) := dk_132 2 1 (dk_at dksX6_breaks_2 3 rfl rfl)
theorem dX6_breaks_54 : decode cX6_breaks 54 = .ok (.goto (-20), 3) := dk_167 255 236 (dk_at dksX6_breaks_2 6 rfl rfl)
theorem dX6_breaks_57 : decode cX6_breaks 57 = .ok (.aload_n 0, 1) := dk_42 (dk_at dksX6_breaks_2 9 rfl rfl)
theorem dX6_breaks_58 : decode cX6_breaks 58 = .ok (.invokevirtual 208, 3) := dk_182 0 208 (dk_at dksX6_breaks_2 10 rfl rfl)
theorem dX6_breaks_61 : decode cX6_breaks 61 = .ok (.ldc 204, 2) := dk_18 204 (dk_at dksX6_breaks_2 13 rfl rfl)
theorem dX6_breaks_63 : decode cX6_breaks 63 = .ok (.istore_n 3, 1) := dk_62 (dk_at dksX6_breaks_2 15 rfl rfl)
theorem dX6_breaks_64 : decode cX6_breaks 64 = .ok (.bipush 15, 2) := dk_16 15 (dk_at dksX6_breaks_2 16 rfl rfl)
theorem dX6_breaks_66 : decode cX6_breaks 66 = .ok (.istore 4, 2) := dk_54 4 (dk_at dksX6_breaks_2 18 rfl rfl)
theorem dX6_breaks_68 : decode cX6_breaks 68 = .ok (.iload 4, 2) := dk_21 4 (dk_at dksX6_breaks_2 20 rfl rfl)
theorem dX6_breaks_70 : decode cX6_breaks 70 = .ok (.ifCond .lt 28, 3) := dk_155 0 28 (dk_at dksX6_breaks_3 0 rfl rfl)
theorem dX6_breaks_73 : decode cX6_breaks 73 = .ok (.aload_n 0, 1) := dk_42 (dk_at dksX6_breaks_3 3 rfl rfl)
theorem dX6_breaks_74 : decode cX6_breaks 74 = .ok (.getfield 169, 3) := dk_180 0 169 (dk_at dksX6_breaks_3 4 rfl rfl)
theorem dX6_breaks_77 : decode cX6_breaks 77 = .ok (.iload 4, 2) := dk_21 4 (dk_at dksX6_breaks_3 7 rfl rfl)
theorem dX6_breaks_79 : decode cX6_breaks 79 = .ok (.invokestatic 216, 3) := dk_184 0 216 (dk_at dksX6_breaks_3 9 rfl rfl)
theorem dX6_breaks_82 : decode cX6_breaks 82 = .ok (.ifCond .eq 8, 3) := dk_153 0 8 (dk_at dksX6_breaks_3 12 rfl rfl)
theorem dX6_breaks_85 : decode cX6_breaks 85 = .ok (.iload 4, 2) := dk_21 4 (dk_at dksX6_breaks_3 15 rfl rfl)
theorem dX6_breaks_87 : decode cX6_breaks 87 = .ok (.goto 4, 3) := dk_167 0 4 (dk_at dksX6_breaks_3 17 rfl rfl)
theorem dX6_breaks_90 : decode cX6_breaks 90 = .ok (.iload_n 3, 1) := dk_29 (dk_at dksX6_breaks_3 20 rfl rfl)
theorem dX6_breaks_91 : decode cX6_breaks 91 = .ok (.istore_n 3, 1) := dk_62 (dk_at dksX6_breaks_3 21 rfl rfl)
theorem dX6_breaks_92 : decode cX6_breaks 92 = .ok (.iinc 4 (-1), 3) := dk_132 4 255 (dk_at dksX6_breaks_4 0 rfl rfl)
theorem dX6_breaks_95 : decode cX6_breaks 95 = .ok (.goto (-27), 3) := dk_167 255 229 (dk_at dksX6_breaks_4 3 rfl rfl)
theorem dX6_breaks_98 : decode cX6_breaks 98 = .ok (.iload_n 3, 1) := dk_29 (dk_at dksX6_breaks_4 6 rfl rfl)
theorem dX6_breaks_99 : decode cX6_breaks 99 = .ok (.ifCond .ge 8, 3) := dk_156 0 8 (dk_at dksX6_breaks_4 7 rfl rfl)
theorem dX6_breaks_102 : decode cX6_breaks 102 = .ok (.ldc 204, 2) := dk_18 204 (dk_at dksX6_breaks_4 10 rfl rfl)
theorem dX6_breaks_104 : decode cX6_breaks 104 = .ok (.goto 12, 3) := dk_167 0 12 (dk_at dksX6_breaks_4 12 rfl rfl)
theorem dX6_breaks_107 : decode cX6_breaks 107 = .ok (.iload_n 1, 1) := dk_27 (dk_at dksX6_breaks_4 15 rfl rfl)
theorem dX6_breaks_108 : decode cX6_breaks 108 = .ok (.ifCond .ne 7, 3) := dk_154 0 7 (dk_at dksX6_breaks_4 16 rfl rfl)
theorem dX6_breaks_111 : decode cX6_breaks 111 = .ok (.iload_n 2, 1) := dk_28 (dk_at dksX6_breaks_4 19 rfl rfl)
theorem dX6_breaks_112 : decode cX6_breaks 112 = .ok (.goto 4, 3) := dk_167 0 4 (dk_at dksX6_breaks_4 20 rfl rfl)
theorem dX6_breaks_115 : decode cX6_breaks 115 = .ok (.iload_n 3, 1) := dk_29 (dk_at dksX6_breaks_4 23 rfl rfl)
theorem dX6_breaks_116 : decode cX6_breaks 116 = .ok (.ireturn, 1) := dk_172 (dk_at dksX6_breaks_5 0 rfl rfl)
abbrev cX6_has : ByteArray := prog_17_method_3_code
def yX6_has : MethodName := ⟨RX6, "has", "(II)Z"⟩
def dkwX6_has_0 : List UInt8 := [26, 27, 122, 4, 126, 4, 160, 0, 7, 4, 167, 0, 4, 3, 172]
abbrev dktX6_has_0 : List UInt8 := dkwX6_has_0 ++ []
theorem dksX6_has_0 : cX6_has.data.toList.drop 0 = dktX6_has_0 := by decide +kernel
theorem dX6_has_0 : decode cX6_has 0 = .ok (.iload_n 0, 1) := dk_26 (dk_at dksX6_has_0 0 rfl rfl)
theorem dX6_has_1 : decode cX6_has 1 = .ok (.iload_n 1, 1) := dk_27 (dk_at dksX6_has_0 1 rfl rfl)
theorem dX6_has_2 : decode cX6_has 2 = .ok (.ishr, 1) := dk_122 (dk_at dksX6_has_0 2 rfl rfl)
theorem dX6_has_3 : decode cX6_has 3 = .ok (.iconst 1, 1) := dk_4 (dk_at dksX6_has_0 3 rfl rfl)
theorem dX6_has_4 : decode cX6_has 4 = .ok (.iand, 1) := dk_126 (dk_at dksX6_has_0 4 rfl rfl)
theorem dX6_has_5 : decode cX6_has 5 = .ok (.iconst 1, 1) := dk_4 (dk_at dksX6_has_0 5 rfl rfl)
theorem dX6_has_6 : decode cX6_has 6 = .ok (.if_icmp .ne 7, 3) := dk_160 0 7 (dk_at dksX6_has_0 6 rfl rfl)
theorem dX6_has_9 : decode cX6_has 9 = .ok (.iconst 1, 1) := dk_4 (dk_at dksX6_has_0 9 rfl rfl)
theorem dX6_has_10 : decode cX6_has 10 = .ok (.goto 4, 3) := dk_167 0 4 (dk_at dksX6_has_0 10 rfl rfl)
theorem dX6_has_13 : decode cX6_has 13 = .ok (.iconst 0, 1) := dk_3 (dk_at dksX6_has_0 13 rfl rfl)
theorem dX6_has_14 : decode cX6_has 14 = .ok (.ireturn, 1) := dk_172 (dk_at dksX6_has_0 14 rfl rfl)
abbrev cX6_stands : ByteArray := prog_17_method_49_code
def yX6_stands : MethodName := ⟨RX6, "stands", "(II)I"⟩
def dkwX6_stands_6 : List UInt8 := [21, 4, 182, 0, 72, 172]
abbrev dktX6_stands_6 : List UInt8 := dkwX6_stands_6 ++ []
def dkwX6_stands_5 : List UInt8 := [153, 0, 7, 4, 167, 0, 4, 3, 96, 54, 4, 42, 182, 0, 198, 167, 255, 169, 42, 182, 0, 208, 42]
abbrev dktX6_stands_5 : List UInt8 := dkwX6_stands_5 ++ dktX6_stands_6
def dkwX6_stands_4 : List UInt8 := [21, 6, 46, 160, 0, 7, 4, 167, 0, 4, 3, 54, 5, 132, 6, 1, 167, 255, 210, 21, 4, 21, 5]
abbrev dktX6_stands_4 : List UInt8 := dkwX6_stands_4 ++ dktX6_stands_5
def dkwX6_stands_3 : List UInt8 := [21, 5, 153, 0, 31, 42, 180, 0, 16, 16, 40, 27, 104, 28, 96, 21, 6, 96, 46, 42, 180, 0, 31]
abbrev dktX6_stands_3 : List UInt8 := dkwX6_stands_3 ++ dktX6_stands_4
def dkwX6_stands_2 : List UInt8 := [153, 0, 88, 21, 4, 16, 40, 162, 0, 81, 42, 182, 0, 166, 3, 54, 6, 21, 6, 16, 16, 162, 0, 45]
abbrev dktX6_stands_2 : List UInt8 := dkwX6_stands_2 ++ dktX6_stands_3
def dkwX6_stands_1 : List UInt8 := [16, 16, 182, 0, 219, 62, 29, 156, 0, 5, 29, 172, 42, 182, 0, 205, 3, 54, 4, 4, 54, 5, 21, 5]
abbrev dktX6_stands_1 : List UInt8 := dkwX6_stands_1 ++ dktX6_stands_2
def dkwX6_stands_0 : List UInt8 := [42, 180, 0, 145, 154, 0, 6, 18, 179, 172, 27, 184, 0, 61, 154, 0, 6, 18, 67, 172, 42, 27, 28]
abbrev dktX6_stands_0 : List UInt8 := dkwX6_stands_0 ++ dktX6_stands_1
theorem dksX6_stands_0 : cX6_stands.data.toList.drop 0 = dktX6_stands_0 := by decide +kernel
theorem dksX6_stands_1 : cX6_stands.data.toList.drop 23 = dktX6_stands_1 := dk_seg dksX6_stands_0 23 rfl rfl
theorem dksX6_stands_2 : cX6_stands.data.toList.drop 47 = dktX6_stands_2 := dk_seg dksX6_stands_1 24 rfl rfl
theorem dksX6_stands_3 : cX6_stands.data.toList.drop 71 = dktX6_stands_3 := dk_seg dksX6_stands_2 24 rfl rfl
theorem dksX6_stands_4 : cX6_stands.data.toList.drop 94 = dktX6_stands_4 := dk_seg dksX6_stands_3 23 rfl rfl
theorem dksX6_stands_5 : cX6_stands.data.toList.drop 117 = dktX6_stands_5 := dk_seg dksX6_stands_4 23 rfl rfl
theorem dksX6_stands_6 : cX6_stands.data.toList.drop 140 = dktX6_stands_6 := dk_seg dksX6_stands_5 23 rfl rfl
theorem dX6_stands_0 : decode cX6_stands 0 = .ok (.aload_n 0, 1) := dk_42 (dk_at dksX6_stands_0 0 rfl rfl)
theorem dX6_stands_1 : decode cX6_stands 1 = .ok (.getfield 145, 3) := dk_180 0 145 (dk_at dksX6_stands_0 1 rfl rfl)
theorem dX6_stands_4 : decode cX6_stands 4 = .ok (.ifCond .ne 6, 3) := dk_154 0 6 (dk_at dksX6_stands_0 4 rfl rfl)
theorem dX6_stands_7 : decode cX6_stands 7 = .ok (.ldc 179, 2) := dk_18 179 (dk_at dksX6_stands_0 7 rfl rfl)
theorem dX6_stands_9 : decode cX6_stands 9 = .ok (.ireturn, 1) := dk_172 (dk_at dksX6_stands_0 9 rfl rfl)
theorem dX6_stands_10 : decode cX6_stands 10 = .ok (.iload_n 1, 1) := dk_27 (dk_at dksX6_stands_0 10 rfl rfl)
theorem dX6_stands_11 : decode cX6_stands 11 = .ok (.invokestatic 61, 3) := dk_184 0 61 (dk_at dksX6_stands_0 11 rfl rfl)
theorem dX6_stands_14 : decode cX6_stands 14 = .ok (.ifCond .ne 6, 3) := dk_154 0 6 (dk_at dksX6_stands_0 14 rfl rfl)
theorem dX6_stands_17 : decode cX6_stands 17 = .ok (.ldc 67, 2) := dk_18 67 (dk_at dksX6_stands_0 17 rfl rfl)
theorem dX6_stands_19 : decode cX6_stands 19 = .ok (.ireturn, 1) := dk_172 (dk_at dksX6_stands_0 19 rfl rfl)
theorem dX6_stands_20 : decode cX6_stands 20 = .ok (.aload_n 0, 1) := dk_42 (dk_at dksX6_stands_0 20 rfl rfl)
theorem dX6_stands_21 : decode cX6_stands 21 = .ok (.iload_n 1, 1) := dk_27 (dk_at dksX6_stands_0 21 rfl rfl)
theorem dX6_stands_22 : decode cX6_stands 22 = .ok (.iload_n 2, 1) := dk_28 (dk_at dksX6_stands_0 22 rfl rfl)
theorem dX6_stands_23 : decode cX6_stands 23 = .ok (.bipush 16, 2) := dk_16 16 (dk_at dksX6_stands_1 0 rfl rfl)
theorem dX6_stands_25 : decode cX6_stands 25 = .ok (.invokevirtual 219, 3) := dk_182 0 219 (dk_at dksX6_stands_1 2 rfl rfl)
theorem dX6_stands_28 : decode cX6_stands 28 = .ok (.istore_n 3, 1) := dk_62 (dk_at dksX6_stands_1 5 rfl rfl)
theorem dX6_stands_29 : decode cX6_stands 29 = .ok (.iload_n 3, 1) := dk_29 (dk_at dksX6_stands_1 6 rfl rfl)
theorem dX6_stands_30 : decode cX6_stands 30 = .ok (.ifCond .ge 5, 3) := dk_156 0 5 (dk_at dksX6_stands_1 7 rfl rfl)
theorem dX6_stands_33 : decode cX6_stands 33 = .ok (.iload_n 3, 1) := dk_29 (dk_at dksX6_stands_1 10 rfl rfl)
theorem dX6_stands_34 : decode cX6_stands 34 = .ok (.ireturn, 1) := dk_172 (dk_at dksX6_stands_1 11 rfl rfl)
theorem dX6_stands_35 : decode cX6_stands 35 = .ok (.aload_n 0, 1) := dk_42 (dk_at dksX6_stands_1 12 rfl rfl)
theorem dX6_stands_36 : decode cX6_stands 36 = .ok (.invokevirtual 205, 3) := dk_182 0 205 (dk_at dksX6_stands_1 13 rfl rfl)
theorem dX6_stands_39 : decode cX6_stands 39 = .ok (.iconst 0, 1) := dk_3 (dk_at dksX6_stands_1 16 rfl rfl)
theorem dX6_stands_40 : decode cX6_stands 40 = .ok (.istore 4, 2) := dk_54 4 (dk_at dksX6_stands_1 17 rfl rfl)
theorem dX6_stands_42 : decode cX6_stands 42 = .ok (.iconst 1, 1) := dk_4 (dk_at dksX6_stands_1 19 rfl rfl)
theorem dX6_stands_43 : decode cX6_stands 43 = .ok (.istore 5, 2) := dk_54 5 (dk_at dksX6_stands_1 20 rfl rfl)
theorem dX6_stands_45 : decode cX6_stands 45 = .ok (.iload 5, 2) := dk_21 5 (dk_at dksX6_stands_1 22 rfl rfl)
theorem dX6_stands_47 : decode cX6_stands 47 = .ok (.ifCond .eq 88, 3) := dk_153 0 88 (dk_at dksX6_stands_2 0 rfl rfl)
theorem dX6_stands_50 : decode cX6_stands 50 = .ok (.iload 4, 2) := dk_21 4 (dk_at dksX6_stands_2 3 rfl rfl)
theorem dX6_stands_52 : decode cX6_stands 52 = .ok (.bipush 40, 2) := dk_16 40 (dk_at dksX6_stands_2 5 rfl rfl)
theorem dX6_stands_54 : decode cX6_stands 54 = .ok (.if_icmp .ge 81, 3) := dk_162 0 81 (dk_at dksX6_stands_2 7 rfl rfl)
theorem dX6_stands_57 : decode cX6_stands 57 = .ok (.aload_n 0, 1) := dk_42 (dk_at dksX6_stands_2 10 rfl rfl)
theorem dX6_stands_58 : decode cX6_stands 58 = .ok (.invokevirtual 166, 3) := dk_182 0 166 (dk_at dksX6_stands_2 11 rfl rfl)
theorem dX6_stands_61 : decode cX6_stands 61 = .ok (.iconst 0, 1) := dk_3 (dk_at dksX6_stands_2 14 rfl rfl)
theorem dX6_stands_62 : decode cX6_stands 62 = .ok (.istore 6, 2) := dk_54 6 (dk_at dksX6_stands_2 15 rfl rfl)
theorem dX6_stands_64 : decode cX6_stands 64 = .ok (.iload 6, 2) := dk_21 6 (dk_at dksX6_stands_2 17 rfl rfl)
theorem dX6_stands_66 : decode cX6_stands 66 = .ok (.bipush 16, 2) := dk_16 16 (dk_at dksX6_stands_2 19 rfl rfl)
theorem dX6_stands_68 : decode cX6_stands 68 = .ok (.if_icmp .ge 45, 3) := dk_162 0 45 (dk_at dksX6_stands_2 21 rfl rfl)
theorem dX6_stands_71 : decode cX6_stands 71 = .ok (.iload 5, 2) := dk_21 5 (dk_at dksX6_stands_3 0 rfl rfl)
theorem dX6_stands_73 : decode cX6_stands 73 = .ok (.ifCond .eq 31, 3) := dk_153 0 31 (dk_at dksX6_stands_3 2 rfl rfl)
theorem dX6_stands_76 : decode cX6_stands 76 = .ok (.aload_n 0, 1) := dk_42 (dk_at dksX6_stands_3 5 rfl rfl)
theorem dX6_stands_77 : decode cX6_stands 77 = .ok (.getfield 16, 3) := dk_180 0 16 (dk_at dksX6_stands_3 6 rfl rfl)
theorem dX6_stands_80 : decode cX6_stands 80 = .ok (.bipush 40, 2) := dk_16 40 (dk_at dksX6_stands_3 9 rfl rfl)
theorem dX6_stands_82 : decode cX6_stands 82 = .ok (.iload_n 1, 1) := dk_27 (dk_at dksX6_stands_3 11 rfl rfl)
theorem dX6_stands_83 : decode cX6_stands 83 = .ok (.imul, 1) := dk_104 (dk_at dksX6_stands_3 12 rfl rfl)
theorem dX6_stands_84 : decode cX6_stands 84 = .ok (.iload_n 2, 1) := dk_28 (dk_at dksX6_stands_3 13 rfl rfl)
theorem dX6_stands_85 : decode cX6_stands 85 = .ok (.iadd, 1) := dk_96 (dk_at dksX6_stands_3 14 rfl rfl)
theorem dX6_stands_86 : decode cX6_stands 86 = .ok (.iload 6, 2) := dk_21 6 (dk_at dksX6_stands_3 15 rfl rfl)
theorem dX6_stands_88 : decode cX6_stands 88 = .ok (.iadd, 1) := dk_96 (dk_at dksX6_stands_3 17 rfl rfl)
theorem dX6_stands_89 : decode cX6_stands 89 = .ok (.iaload, 1) := dk_46 (dk_at dksX6_stands_3 18 rfl rfl)
theorem dX6_stands_90 : decode cX6_stands 90 = .ok (.aload_n 0, 1) := dk_42 (dk_at dksX6_stands_3 19 rfl rfl)
theorem dX6_stands_91 : decode cX6_stands 91 = .ok (.getfield 31, 3) := dk_180 0 31 (dk_at dksX6_stands_3 20 rfl rfl)
theorem dX6_stands_94 : decode cX6_stands 94 = .ok (.iload 6, 2) := dk_21 6 (dk_at dksX6_stands_4 0 rfl rfl)
theorem dX6_stands_96 : decode cX6_stands 96 = .ok (.iaload, 1) := dk_46 (dk_at dksX6_stands_4 2 rfl rfl)
theorem dX6_stands_97 : decode cX6_stands 97 = .ok (.if_icmp .ne 7, 3) := dk_160 0 7 (dk_at dksX6_stands_4 3 rfl rfl)
theorem dX6_stands_100 : decode cX6_stands 100 = .ok (.iconst 1, 1) := dk_4 (dk_at dksX6_stands_4 6 rfl rfl)
theorem dX6_stands_101 : decode cX6_stands 101 = .ok (.goto 4, 3) := dk_167 0 4 (dk_at dksX6_stands_4 7 rfl rfl)
theorem dX6_stands_104 : decode cX6_stands 104 = .ok (.iconst 0, 1) := dk_3 (dk_at dksX6_stands_4 10 rfl rfl)
theorem dX6_stands_105 : decode cX6_stands 105 = .ok (.istore 5, 2) := dk_54 5 (dk_at dksX6_stands_4 11 rfl rfl)
theorem dX6_stands_107 : decode cX6_stands 107 = .ok (.iinc 6 1, 3) := dk_132 6 1 (dk_at dksX6_stands_4 13 rfl rfl)
theorem dX6_stands_110 : decode cX6_stands 110 = .ok (.goto (-46), 3) := dk_167 255 210 (dk_at dksX6_stands_4 16 rfl rfl)
theorem dX6_stands_113 : decode cX6_stands 113 = .ok (.iload 4, 2) := dk_21 4 (dk_at dksX6_stands_4 19 rfl rfl)
theorem dX6_stands_115 : decode cX6_stands 115 = .ok (.iload 5, 2) := dk_21 5 (dk_at dksX6_stands_4 21 rfl rfl)
theorem dX6_stands_117 : decode cX6_stands 117 = .ok (.ifCond .eq 7, 3) := dk_153 0 7 (dk_at dksX6_stands_5 0 rfl rfl)
theorem dX6_stands_120 : decode cX6_stands 120 = .ok (.iconst 1, 1) := dk_4 (dk_at dksX6_stands_5 3 rfl rfl)
theorem dX6_stands_121 : decode cX6_stands 121 = .ok (.goto 4, 3) := dk_167 0 4 (dk_at dksX6_stands_5 4 rfl rfl)
theorem dX6_stands_124 : decode cX6_stands 124 = .ok (.iconst 0, 1) := dk_3 (dk_at dksX6_stands_5 7 rfl rfl)
theorem dX6_stands_125 : decode cX6_stands 125 = .ok (.iadd, 1) := dk_96 (dk_at dksX6_stands_5 8 rfl rfl)
theorem dX6_stands_126 : decode cX6_stands 126 = .ok (.istore 4, 2) := dk_54 4 (dk_at dksX6_stands_5 9 rfl rfl)
theorem dX6_stands_128 : decode cX6_stands 128 = .ok (.aload_n 0, 1) := dk_42 (dk_at dksX6_stands_5 11 rfl rfl)
theorem dX6_stands_129 : decode cX6_stands 129 = .ok (.invokevirtual 198, 3) := dk_182 0 198 (dk_at dksX6_stands_5 12 rfl rfl)
theorem dX6_stands_132 : decode cX6_stands 132 = .ok (.goto (-87), 3) := dk_167 255 169 (dk_at dksX6_stands_5 15 rfl rfl)
theorem dX6_stands_135 : decode cX6_stands 135 = .ok (.aload_n 0, 1) := dk_42 (dk_at dksX6_stands_5 18 rfl rfl)
theorem dX6_stands_136 : decode cX6_stands 136 = .ok (.invokevirtual 208, 3) := dk_182 0 208 (dk_at dksX6_stands_5 19 rfl rfl)
theorem dX6_stands_139 : decode cX6_stands 139 = .ok (.aload_n 0, 1) := dk_42 (dk_at dksX6_stands_5 22 rfl rfl)
theorem dX6_stands_140 : decode cX6_stands 140 = .ok (.iload 4, 2) := dk_21 4 (dk_at dksX6_stands_6 0 rfl rfl)
theorem dX6_stands_142 : decode cX6_stands 142 = .ok (.invokevirtual 72, 3) := dk_182 0 72 (dk_at dksX6_stands_6 2 rfl rfl)
theorem dX6_stands_145 : decode cX6_stands 145 = .ok (.ireturn, 1) := dk_172 (dk_at dksX6_stands_6 5 rfl rfl)
abbrev cX6_lacks : ByteArray := prog_17_method_48_code
def yX6_lacks : MethodName := ⟨RX6, "lacks", "(III)I"⟩
def dkwX6_lacks_1 : List UInt8 := [29, 100, 133, 184, 0, 57, 153, 0, 7, 3, 167, 0, 8, 42, 5, 182, 0, 68, 172]
abbrev dktX6_lacks_1 : List UInt8 := dkwX6_lacks_1 ++ []
def dkwX6_lacks_0 : List UInt8 := [42, 180, 0, 13, 27, 46, 156, 0, 9, 42, 4, 182, 0, 68, 172, 28, 133, 9, 42, 180, 0, 13, 27, 46]
abbrev dktX6_lacks_0 : List UInt8 := dkwX6_lacks_0 ++ dktX6_lacks_1
theorem dksX6_lacks_0 : cX6_lacks.data.toList.drop 0 = dktX6_lacks_0 := by decide +kernel
theorem dksX6_lacks_1 : cX6_lacks.data.toList.drop 24 = dktX6_lacks_1 := dk_seg dksX6_lacks_0 24 rfl rfl
theorem dX6_lacks_0 : decode cX6_lacks 0 = .ok (.aload_n 0, 1) := dk_42 (dk_at dksX6_lacks_0 0 rfl rfl)
theorem dX6_lacks_1 : decode cX6_lacks 1 = .ok (.getfield 13, 3) := dk_180 0 13 (dk_at dksX6_lacks_0 1 rfl rfl)
theorem dX6_lacks_4 : decode cX6_lacks 4 = .ok (.iload_n 1, 1) := dk_27 (dk_at dksX6_lacks_0 4 rfl rfl)
theorem dX6_lacks_5 : decode cX6_lacks 5 = .ok (.iaload, 1) := dk_46 (dk_at dksX6_lacks_0 5 rfl rfl)
theorem dX6_lacks_6 : decode cX6_lacks 6 = .ok (.ifCond .ge 9, 3) := dk_156 0 9 (dk_at dksX6_lacks_0 6 rfl rfl)
theorem dX6_lacks_9 : decode cX6_lacks 9 = .ok (.aload_n 0, 1) := dk_42 (dk_at dksX6_lacks_0 9 rfl rfl)
theorem dX6_lacks_10 : decode cX6_lacks 10 = .ok (.iconst 1, 1) := dk_4 (dk_at dksX6_lacks_0 10 rfl rfl)
theorem dX6_lacks_11 : decode cX6_lacks 11 = .ok (.invokevirtual 68, 3) := dk_182 0 68 (dk_at dksX6_lacks_0 11 rfl rfl)
theorem dX6_lacks_14 : decode cX6_lacks 14 = .ok (.ireturn, 1) := dk_172 (dk_at dksX6_lacks_0 14 rfl rfl)
theorem dX6_lacks_15 : decode cX6_lacks 15 = .ok (.iload_n 2, 1) := dk_28 (dk_at dksX6_lacks_0 15 rfl rfl)
theorem dX6_lacks_16 : decode cX6_lacks 16 = .ok (.i2l, 1) := dk_133 (dk_at dksX6_lacks_0 16 rfl rfl)
theorem dX6_lacks_17 : decode cX6_lacks 17 = .ok (.lconst 0, 1) := dk_9 (dk_at dksX6_lacks_0 17 rfl rfl)
theorem dX6_lacks_18 : decode cX6_lacks 18 = .ok (.aload_n 0, 1) := dk_42 (dk_at dksX6_lacks_0 18 rfl rfl)
theorem dX6_lacks_19 : decode cX6_lacks 19 = .ok (.getfield 13, 3) := dk_180 0 13 (dk_at dksX6_lacks_0 19 rfl rfl)
theorem dX6_lacks_22 : decode cX6_lacks 22 = .ok (.iload_n 1, 1) := dk_27 (dk_at dksX6_lacks_0 22 rfl rfl)
theorem dX6_lacks_23 : decode cX6_lacks 23 = .ok (.iaload, 1) := dk_46 (dk_at dksX6_lacks_0 23 rfl rfl)
theorem dX6_lacks_24 : decode cX6_lacks 24 = .ok (.iload_n 3, 1) := dk_29 (dk_at dksX6_lacks_1 0 rfl rfl)
theorem dX6_lacks_25 : decode cX6_lacks 25 = .ok (.isub, 1) := dk_100 (dk_at dksX6_lacks_1 1 rfl rfl)
theorem dX6_lacks_26 : decode cX6_lacks 26 = .ok (.i2l, 1) := dk_133 (dk_at dksX6_lacks_1 2 rfl rfl)
theorem dX6_lacks_27 : decode cX6_lacks 27 = .ok (.invokestatic 57, 3) := dk_184 0 57 (dk_at dksX6_lacks_1 3 rfl rfl)
theorem dX6_lacks_30 : decode cX6_lacks 30 = .ok (.ifCond .eq 7, 3) := dk_153 0 7 (dk_at dksX6_lacks_1 6 rfl rfl)
theorem dX6_lacks_33 : decode cX6_lacks 33 = .ok (.iconst 0, 1) := dk_3 (dk_at dksX6_lacks_1 9 rfl rfl)
theorem dX6_lacks_34 : decode cX6_lacks 34 = .ok (.goto 8, 3) := dk_167 0 8 (dk_at dksX6_lacks_1 10 rfl rfl)
theorem dX6_lacks_37 : decode cX6_lacks 37 = .ok (.aload_n 0, 1) := dk_42 (dk_at dksX6_lacks_1 13 rfl rfl)
theorem dX6_lacks_38 : decode cX6_lacks 38 = .ok (.iconst 2, 1) := dk_5 (dk_at dksX6_lacks_1 14 rfl rfl)
theorem dX6_lacks_39 : decode cX6_lacks 39 = .ok (.invokevirtual 68, 3) := dk_182 0 68 (dk_at dksX6_lacks_1 15 rfl rfl)
theorem dX6_lacks_42 : decode cX6_lacks 42 = .ok (.ireturn, 1) := dk_172 (dk_at dksX6_lacks_1 18 rfl rfl)
abbrev cX6_walls : ByteArray := prog_17_method_51_code
def yX6_walls : MethodName := ⟨RX6, "walls", "(III)I"⟩
def dkwX6_walls_8 : List UInt8 := [21, 4, 167, 0, 5, 21, 5, 172, 132, 5, 1, 167, 255, 195, 132, 4, 1, 167, 255, 176, 18, 204, 172]
abbrev dktX6_walls_8 : List UInt8 := dkwX6_walls_8 ++ []
def dkwX6_walls_7 : List UInt8 := [27, 21, 4, 21, 5, 182, 0, 225, 28, 161, 0, 23, 29, 156, 0, 7, 5, 167, 0, 14, 29, 154, 0, 8]
abbrev dktX6_walls_7 : List UInt8 := dkwX6_walls_7 ++ dktX6_walls_8
def dkwX6_walls_6 : List UInt8 := [16, 16, 162, 0, 60, 42, 21, 4, 182, 0, 172, 154, 0, 45, 42, 21, 5, 182, 0, 172, 154, 0, 36, 42]
abbrev dktX6_walls_6 : List UInt8 := dkwX6_walls_6 ++ dktX6_walls_7
def dkwX6_walls_5 : List UInt8 := [132, 4, 1, 167, 255, 205, 3, 54, 4, 21, 4, 16, 16, 162, 0, 79, 21, 4, 4, 96, 54, 5, 21, 5]
abbrev dktX6_walls_5 : List UInt8 := dkwX6_walls_5 ++ dktX6_walls_6
def dkwX6_walls_4 : List UInt8 := [161, 0, 23, 29, 156, 0, 7, 4, 167, 0, 14, 29, 154, 0, 8, 21, 4, 167, 0, 5, 18, 204, 172]
abbrev dktX6_walls_4 : List UInt8 := dkwX6_walls_4 ++ dktX6_walls_5
def dkwX6_walls_3 : List UInt8 := [16, 16, 162, 0, 50, 42, 21, 4, 182, 0, 172, 154, 0, 35, 42, 27, 21, 4, 2, 182, 0, 225, 28]
abbrev dktX6_walls_3 : List UInt8 := dkwX6_walls_3 ++ dktX6_walls_4
def dkwX6_walls_2 : List UInt8 := [182, 0, 201, 28, 161, 0, 14, 29, 156, 0, 7, 3, 167, 0, 5, 18, 204, 172, 3, 54, 4, 21, 4]
abbrev dktX6_walls_2 : List UInt8 := dkwX6_walls_2 ++ dktX6_walls_3
def dkwX6_walls_1 : List UInt8 := [184, 0, 57, 153, 0, 15, 29, 133, 20, 0, 223, 10, 184, 0, 57, 154, 0, 6, 18, 67, 172, 42, 27]
abbrev dktX6_walls_1 : List UInt8 := dkwX6_walls_1 ++ dktX6_walls_2
def dkwX6_walls_0 : List UInt8 := [42, 180, 0, 145, 154, 0, 6, 18, 179, 172, 27, 184, 0, 180, 153, 0, 27, 28, 133, 9, 20, 0, 185]
abbrev dktX6_walls_0 : List UInt8 := dkwX6_walls_0 ++ dktX6_walls_1
theorem dksX6_walls_0 : cX6_walls.data.toList.drop 0 = dktX6_walls_0 := by decide +kernel
theorem dksX6_walls_1 : cX6_walls.data.toList.drop 23 = dktX6_walls_1 := dk_seg dksX6_walls_0 23 rfl rfl
theorem dksX6_walls_2 : cX6_walls.data.toList.drop 46 = dktX6_walls_2 := dk_seg dksX6_walls_1 23 rfl rfl
theorem dksX6_walls_3 : cX6_walls.data.toList.drop 69 = dktX6_walls_3 := dk_seg dksX6_walls_2 23 rfl rfl
theorem dksX6_walls_4 : cX6_walls.data.toList.drop 92 = dktX6_walls_4 := dk_seg dksX6_walls_3 23 rfl rfl
theorem dksX6_walls_5 : cX6_walls.data.toList.drop 115 = dktX6_walls_5 := dk_seg dksX6_walls_4 23 rfl rfl
theorem dksX6_walls_6 : cX6_walls.data.toList.drop 139 = dktX6_walls_6 := dk_seg dksX6_walls_5 24 rfl rfl
theorem dksX6_walls_7 : cX6_walls.data.toList.drop 163 = dktX6_walls_7 := dk_seg dksX6_walls_6 24 rfl rfl
theorem dksX6_walls_8 : cX6_walls.data.toList.drop 187 = dktX6_walls_8 := dk_seg dksX6_walls_7 24 rfl rfl
theorem dX6_walls_0 : decode cX6_walls 0 = .ok (.aload_n 0, 1) := dk_42 (dk_at dksX6_walls_0 0 rfl rfl)
theorem dX6_walls_1 : decode cX6_walls 1 = .ok (.getfield 145, 3) := dk_180 0 145 (dk_at dksX6_walls_0 1 rfl rfl)
theorem dX6_walls_4 : decode cX6_walls 4 = .ok (.ifCond .ne 6, 3) := dk_154 0 6 (dk_at dksX6_walls_0 4 rfl rfl)
theorem dX6_walls_7 : decode cX6_walls 7 = .ok (.ldc 179, 2) := dk_18 179 (dk_at dksX6_walls_0 7 rfl rfl)
theorem dX6_walls_9 : decode cX6_walls 9 = .ok (.ireturn, 1) := dk_172 (dk_at dksX6_walls_0 9 rfl rfl)
theorem dX6_walls_10 : decode cX6_walls 10 = .ok (.iload_n 1, 1) := dk_27 (dk_at dksX6_walls_0 10 rfl rfl)
theorem dX6_walls_11 : decode cX6_walls 11 = .ok (.invokestatic 180, 3) := dk_184 0 180 (dk_at dksX6_walls_0 11 rfl rfl)
theorem dX6_walls_14 : decode cX6_walls 14 = .ok (.ifCond .eq 27, 3) := dk_153 0 27 (dk_at dksX6_walls_0 14 rfl rfl)
theorem dX6_walls_17 : decode cX6_walls 17 = .ok (.iload_n 2, 1) := dk_28 (dk_at dksX6_walls_0 17 rfl rfl)
theorem dX6_walls_18 : decode cX6_walls 18 = .ok (.i2l, 1) := dk_133 (dk_at dksX6_walls_0 18 rfl rfl)
theorem dX6_walls_19 : decode cX6_walls 19 = .ok (.lconst 0, 1) := dk_9 (dk_at dksX6_walls_0 19 rfl rfl)
theorem dX6_walls_20 : decode cX6_walls 20 = .ok (.ldc2_w 185, 3) := dk_20 0 185 (dk_at dksX6_walls_0 20 rfl rfl)
theorem dX6_walls_23 : decode cX6_walls 23 = .ok (.invokestatic 57, 3) := dk_184 0 57 (dk_at dksX6_walls_1 0 rfl rfl)
theorem dX6_walls_26 : decode cX6_walls 26 = .ok (.ifCond .eq 15, 3) := dk_153 0 15 (dk_at dksX6_walls_1 3 rfl rfl)
theorem dX6_walls_29 : decode cX6_walls 29 = .ok (.iload_n 3, 1) := dk_29 (dk_at dksX6_walls_1 6 rfl rfl)
theorem dX6_walls_30 : decode cX6_walls 30 = .ok (.i2l, 1) := dk_133 (dk_at dksX6_walls_1 7 rfl rfl)
theorem dX6_walls_31 : decode cX6_walls 31 = .ok (.ldc2_w 223, 3) := dk_20 0 223 (dk_at dksX6_walls_1 8 rfl rfl)
theorem dX6_walls_34 : decode cX6_walls 34 = .ok (.lconst 1, 1) := dk_10 (dk_at dksX6_walls_1 11 rfl rfl)
theorem dX6_walls_35 : decode cX6_walls 35 = .ok (.invokestatic 57, 3) := dk_184 0 57 (dk_at dksX6_walls_1 12 rfl rfl)
theorem dX6_walls_38 : decode cX6_walls 38 = .ok (.ifCond .ne 6, 3) := dk_154 0 6 (dk_at dksX6_walls_1 15 rfl rfl)
theorem dX6_walls_41 : decode cX6_walls 41 = .ok (.ldc 67, 2) := dk_18 67 (dk_at dksX6_walls_1 18 rfl rfl)
theorem dX6_walls_43 : decode cX6_walls 43 = .ok (.ireturn, 1) := dk_172 (dk_at dksX6_walls_1 20 rfl rfl)
theorem dX6_walls_44 : decode cX6_walls 44 = .ok (.aload_n 0, 1) := dk_42 (dk_at dksX6_walls_1 21 rfl rfl)
theorem dX6_walls_45 : decode cX6_walls 45 = .ok (.iload_n 1, 1) := dk_27 (dk_at dksX6_walls_1 22 rfl rfl)
theorem dX6_walls_46 : decode cX6_walls 46 = .ok (.invokevirtual 201, 3) := dk_182 0 201 (dk_at dksX6_walls_2 0 rfl rfl)
theorem dX6_walls_49 : decode cX6_walls 49 = .ok (.iload_n 2, 1) := dk_28 (dk_at dksX6_walls_2 3 rfl rfl)
theorem dX6_walls_50 : decode cX6_walls 50 = .ok (.if_icmp .lt 14, 3) := dk_161 0 14 (dk_at dksX6_walls_2 4 rfl rfl)
theorem dX6_walls_53 : decode cX6_walls 53 = .ok (.iload_n 3, 1) := dk_29 (dk_at dksX6_walls_2 7 rfl rfl)
theorem dX6_walls_54 : decode cX6_walls 54 = .ok (.ifCond .ge 7, 3) := dk_156 0 7 (dk_at dksX6_walls_2 8 rfl rfl)
theorem dX6_walls_57 : decode cX6_walls 57 = .ok (.iconst 0, 1) := dk_3 (dk_at dksX6_walls_2 11 rfl rfl)
theorem dX6_walls_58 : decode cX6_walls 58 = .ok (.goto 5, 3) := dk_167 0 5 (dk_at dksX6_walls_2 12 rfl rfl)
theorem dX6_walls_61 : decode cX6_walls 61 = .ok (.ldc 204, 2) := dk_18 204 (dk_at dksX6_walls_2 15 rfl rfl)
theorem dX6_walls_63 : decode cX6_walls 63 = .ok (.ireturn, 1) := dk_172 (dk_at dksX6_walls_2 17 rfl rfl)
theorem dX6_walls_64 : decode cX6_walls 64 = .ok (.iconst 0, 1) := dk_3 (dk_at dksX6_walls_2 18 rfl rfl)
theorem dX6_walls_65 : decode cX6_walls 65 = .ok (.istore 4, 2) := dk_54 4 (dk_at dksX6_walls_2 19 rfl rfl)
theorem dX6_walls_67 : decode cX6_walls 67 = .ok (.iload 4, 2) := dk_21 4 (dk_at dksX6_walls_2 21 rfl rfl)
theorem dX6_walls_69 : decode cX6_walls 69 = .ok (.bipush 16, 2) := dk_16 16 (dk_at dksX6_walls_3 0 rfl rfl)
theorem dX6_walls_71 : decode cX6_walls 71 = .ok (.if_icmp .ge 50, 3) := dk_162 0 50 (dk_at dksX6_walls_3 2 rfl rfl)
theorem dX6_walls_74 : decode cX6_walls 74 = .ok (.aload_n 0, 1) := dk_42 (dk_at dksX6_walls_3 5 rfl rfl)
theorem dX6_walls_75 : decode cX6_walls 75 = .ok (.iload 4, 2) := dk_21 4 (dk_at dksX6_walls_3 6 rfl rfl)
theorem dX6_walls_77 : decode cX6_walls 77 = .ok (.invokevirtual 172, 3) := dk_182 0 172 (dk_at dksX6_walls_3 8 rfl rfl)
theorem dX6_walls_80 : decode cX6_walls 80 = .ok (.ifCond .ne 35, 3) := dk_154 0 35 (dk_at dksX6_walls_3 11 rfl rfl)
theorem dX6_walls_83 : decode cX6_walls 83 = .ok (.aload_n 0, 1) := dk_42 (dk_at dksX6_walls_3 14 rfl rfl)
theorem dX6_walls_84 : decode cX6_walls 84 = .ok (.iload_n 1, 1) := dk_27 (dk_at dksX6_walls_3 15 rfl rfl)
theorem dX6_walls_85 : decode cX6_walls 85 = .ok (.iload 4, 2) := dk_21 4 (dk_at dksX6_walls_3 16 rfl rfl)
theorem dX6_walls_87 : decode cX6_walls 87 = .ok (.iconst (-1), 1) := dk_2 (dk_at dksX6_walls_3 18 rfl rfl)
theorem dX6_walls_88 : decode cX6_walls 88 = .ok (.invokevirtual 225, 3) := dk_182 0 225 (dk_at dksX6_walls_3 19 rfl rfl)
theorem dX6_walls_91 : decode cX6_walls 91 = .ok (.iload_n 2, 1) := dk_28 (dk_at dksX6_walls_3 22 rfl rfl)
theorem dX6_walls_92 : decode cX6_walls 92 = .ok (.if_icmp .lt 23, 3) := dk_161 0 23 (dk_at dksX6_walls_4 0 rfl rfl)
theorem dX6_walls_95 : decode cX6_walls 95 = .ok (.iload_n 3, 1) := dk_29 (dk_at dksX6_walls_4 3 rfl rfl)
theorem dX6_walls_96 : decode cX6_walls 96 = .ok (.ifCond .ge 7, 3) := dk_156 0 7 (dk_at dksX6_walls_4 4 rfl rfl)
theorem dX6_walls_99 : decode cX6_walls 99 = .ok (.iconst 1, 1) := dk_4 (dk_at dksX6_walls_4 7 rfl rfl)
theorem dX6_walls_100 : decode cX6_walls 100 = .ok (.goto 14, 3) := dk_167 0 14 (dk_at dksX6_walls_4 8 rfl rfl)
theorem dX6_walls_103 : decode cX6_walls 103 = .ok (.iload_n 3, 1) := dk_29 (dk_at dksX6_walls_4 11 rfl rfl)
theorem dX6_walls_104 : decode cX6_walls 104 = .ok (.ifCond .ne 8, 3) := dk_154 0 8 (dk_at dksX6_walls_4 12 rfl rfl)
theorem dX6_walls_107 : decode cX6_walls 107 = .ok (.iload 4, 2) := dk_21 4 (dk_at dksX6_walls_4 15 rfl rfl)
theorem dX6_walls_109 : decode cX6_walls 109 = .ok (.goto 5, 3) := dk_167 0 5 (dk_at dksX6_walls_4 17 rfl rfl)
theorem dX6_walls_112 : decode cX6_walls 112 = .ok (.ldc 204, 2) := dk_18 204 (dk_at dksX6_walls_4 20 rfl rfl)
theorem dX6_walls_114 : decode cX6_walls 114 = .ok (.ireturn, 1) := dk_172 (dk_at dksX6_walls_4 22 rfl rfl)
theorem dX6_walls_115 : decode cX6_walls 115 = .ok (.iinc 4 1, 3) := dk_132 4 1 (dk_at dksX6_walls_5 0 rfl rfl)
theorem dX6_walls_118 : decode cX6_walls 118 = .ok (.goto (-51), 3) := dk_167 255 205 (dk_at dksX6_walls_5 3 rfl rfl)
theorem dX6_walls_121 : decode cX6_walls 121 = .ok (.iconst 0, 1) := dk_3 (dk_at dksX6_walls_5 6 rfl rfl)
theorem dX6_walls_122 : decode cX6_walls 122 = .ok (.istore 4, 2) := dk_54 4 (dk_at dksX6_walls_5 7 rfl rfl)
theorem dX6_walls_124 : decode cX6_walls 124 = .ok (.iload 4, 2) := dk_21 4 (dk_at dksX6_walls_5 9 rfl rfl)
theorem dX6_walls_126 : decode cX6_walls 126 = .ok (.bipush 16, 2) := dk_16 16 (dk_at dksX6_walls_5 11 rfl rfl)
theorem dX6_walls_128 : decode cX6_walls 128 = .ok (.if_icmp .ge 79, 3) := dk_162 0 79 (dk_at dksX6_walls_5 13 rfl rfl)
theorem dX6_walls_131 : decode cX6_walls 131 = .ok (.iload 4, 2) := dk_21 4 (dk_at dksX6_walls_5 16 rfl rfl)
theorem dX6_walls_133 : decode cX6_walls 133 = .ok (.iconst 1, 1) := dk_4 (dk_at dksX6_walls_5 18 rfl rfl)
theorem dX6_walls_134 : decode cX6_walls 134 = .ok (.iadd, 1) := dk_96 (dk_at dksX6_walls_5 19 rfl rfl)
theorem dX6_walls_135 : decode cX6_walls 135 = .ok (.istore 5, 2) := dk_54 5 (dk_at dksX6_walls_5 20 rfl rfl)
theorem dX6_walls_137 : decode cX6_walls 137 = .ok (.iload 5, 2) := dk_21 5 (dk_at dksX6_walls_5 22 rfl rfl)
theorem dX6_walls_139 : decode cX6_walls 139 = .ok (.bipush 16, 2) := dk_16 16 (dk_at dksX6_walls_6 0 rfl rfl)
theorem dX6_walls_141 : decode cX6_walls 141 = .ok (.if_icmp .ge 60, 3) := dk_162 0 60 (dk_at dksX6_walls_6 2 rfl rfl)
theorem dX6_walls_144 : decode cX6_walls 144 = .ok (.aload_n 0, 1) := dk_42 (dk_at dksX6_walls_6 5 rfl rfl)
theorem dX6_walls_145 : decode cX6_walls 145 = .ok (.iload 4, 2) := dk_21 4 (dk_at dksX6_walls_6 6 rfl rfl)
theorem dX6_walls_147 : decode cX6_walls 147 = .ok (.invokevirtual 172, 3) := dk_182 0 172 (dk_at dksX6_walls_6 8 rfl rfl)
theorem dX6_walls_150 : decode cX6_walls 150 = .ok (.ifCond .ne 45, 3) := dk_154 0 45 (dk_at dksX6_walls_6 11 rfl rfl)
theorem dX6_walls_153 : decode cX6_walls 153 = .ok (.aload_n 0, 1) := dk_42 (dk_at dksX6_walls_6 14 rfl rfl)
theorem dX6_walls_154 : decode cX6_walls 154 = .ok (.iload 5, 2) := dk_21 5 (dk_at dksX6_walls_6 15 rfl rfl)
theorem dX6_walls_156 : decode cX6_walls 156 = .ok (.invokevirtual 172, 3) := dk_182 0 172 (dk_at dksX6_walls_6 17 rfl rfl)
theorem dX6_walls_159 : decode cX6_walls 159 = .ok (.ifCond .ne 36, 3) := dk_154 0 36 (dk_at dksX6_walls_6 20 rfl rfl)
theorem dX6_walls_162 : decode cX6_walls 162 = .ok (.aload_n 0, 1) := dk_42 (dk_at dksX6_walls_6 23 rfl rfl)
theorem dX6_walls_163 : decode cX6_walls 163 = .ok (.iload_n 1, 1) := dk_27 (dk_at dksX6_walls_7 0 rfl rfl)
theorem dX6_walls_164 : decode cX6_walls 164 = .ok (.iload 4, 2) := dk_21 4 (dk_at dksX6_walls_7 1 rfl rfl)
theorem dX6_walls_166 : decode cX6_walls 166 = .ok (.iload 5, 2) := dk_21 5 (dk_at dksX6_walls_7 3 rfl rfl)
theorem dX6_walls_168 : decode cX6_walls 168 = .ok (.invokevirtual 225, 3) := dk_182 0 225 (dk_at dksX6_walls_7 5 rfl rfl)
theorem dX6_walls_171 : decode cX6_walls 171 = .ok (.iload_n 2, 1) := dk_28 (dk_at dksX6_walls_7 8 rfl rfl)
theorem dX6_walls_172 : decode cX6_walls 172 = .ok (.if_icmp .lt 23, 3) := dk_161 0 23 (dk_at dksX6_walls_7 9 rfl rfl)
theorem dX6_walls_175 : decode cX6_walls 175 = .ok (.iload_n 3, 1) := dk_29 (dk_at dksX6_walls_7 12 rfl rfl)
theorem dX6_walls_176 : decode cX6_walls 176 = .ok (.ifCond .ge 7, 3) := dk_156 0 7 (dk_at dksX6_walls_7 13 rfl rfl)
theorem dX6_walls_179 : decode cX6_walls 179 = .ok (.iconst 2, 1) := dk_5 (dk_at dksX6_walls_7 16 rfl rfl)
theorem dX6_walls_180 : decode cX6_walls 180 = .ok (.goto 14, 3) := dk_167 0 14 (dk_at dksX6_walls_7 17 rfl rfl)
theorem dX6_walls_183 : decode cX6_walls 183 = .ok (.iload_n 3, 1) := dk_29 (dk_at dksX6_walls_7 20 rfl rfl)
theorem dX6_walls_184 : decode cX6_walls 184 = .ok (.ifCond .ne 8, 3) := dk_154 0 8 (dk_at dksX6_walls_7 21 rfl rfl)
theorem dX6_walls_187 : decode cX6_walls 187 = .ok (.iload 4, 2) := dk_21 4 (dk_at dksX6_walls_8 0 rfl rfl)
theorem dX6_walls_189 : decode cX6_walls 189 = .ok (.goto 5, 3) := dk_167 0 5 (dk_at dksX6_walls_8 2 rfl rfl)
theorem dX6_walls_192 : decode cX6_walls 192 = .ok (.iload 5, 2) := dk_21 5 (dk_at dksX6_walls_8 5 rfl rfl)
theorem dX6_walls_194 : decode cX6_walls 194 = .ok (.ireturn, 1) := dk_172 (dk_at dksX6_walls_8 7 rfl rfl)
theorem dX6_walls_195 : decode cX6_walls 195 = .ok (.iinc 5 1, 3) := dk_132 5 1 (dk_at dksX6_walls_8 8 rfl rfl)
theorem dX6_walls_198 : decode cX6_walls 198 = .ok (.goto (-61), 3) := dk_167 255 195 (dk_at dksX6_walls_8 11 rfl rfl)
theorem dX6_walls_201 : decode cX6_walls 201 = .ok (.iinc 4 1, 3) := dk_132 4 1 (dk_at dksX6_walls_8 14 rfl rfl)
theorem dX6_walls_204 : decode cX6_walls 204 = .ok (.goto (-80), 3) := dk_167 255 176 (dk_at dksX6_walls_8 17 rfl rfl)
theorem dX6_walls_207 : decode cX6_walls 207 = .ok (.ldc 204, 2) := dk_18 204 (dk_at dksX6_walls_8 20 rfl rfl)
theorem dX6_walls_209 : decode cX6_walls 209 = .ok (.ireturn, 1) := dk_172 (dk_at dksX6_walls_8 22 rfl rfl)
abbrev cX6_feltWith : ByteArray := prog_17_method_50_code
def yX6_feltWith : MethodName := ⟨RX6, "feltWith", "(III)I"⟩
def dkwX6_feltWith_1 : List UInt8 := [180, 0, 19, 16, 9, 29, 96, 4, 79, 42, 27, 182, 0, 201, 54, 4, 42, 182, 0, 208, 21, 4, 172]
abbrev dktX6_feltWith_1 : List UInt8 := dkwX6_feltWith_1 ++ []
def dkwX6_feltWith_0 : List UInt8 := [42, 182, 0, 205, 28, 155, 0, 13, 42, 180, 0, 19, 16, 9, 28, 96, 4, 79, 29, 155, 0, 13, 42]
abbrev dktX6_feltWith_0 : List UInt8 := dkwX6_feltWith_0 ++ dktX6_feltWith_1
theorem dksX6_feltWith_0 : cX6_feltWith.data.toList.drop 0 = dktX6_feltWith_0 := by decide +kernel
theorem dksX6_feltWith_1 : cX6_feltWith.data.toList.drop 23 = dktX6_feltWith_1 := dk_seg dksX6_feltWith_0 23 rfl rfl
theorem dX6_feltWith_0 : decode cX6_feltWith 0 = .ok (.aload_n 0, 1) := dk_42 (dk_at dksX6_feltWith_0 0 rfl rfl)
theorem dX6_feltWith_1 : decode cX6_feltWith 1 = .ok (.invokevirtual 205, 3) := dk_182 0 205 (dk_at dksX6_feltWith_0 1 rfl rfl)
theorem dX6_feltWith_4 : decode cX6_feltWith 4 = .ok (.iload_n 2, 1) := dk_28 (dk_at dksX6_feltWith_0 4 rfl rfl)
theorem dX6_feltWith_5 : decode cX6_feltWith 5 = .ok (.ifCond .lt 13, 3) := dk_155 0 13 (dk_at dksX6_feltWith_0 5 rfl rfl)
theorem dX6_feltWith_8 : decode cX6_feltWith 8 = .ok (.aload_n 0, 1) := dk_42 (dk_at dksX6_feltWith_0 8 rfl rfl)
theorem dX6_feltWith_9 : decode cX6_feltWith 9 = .ok (.getfield 19, 3) := dk_180 0 19 (dk_at dksX6_feltWith_0 9 rfl rfl)
theorem dX6_feltWith_12 : decode cX6_feltWith 12 = .ok (.bipush 9, 2) := dk_16 9 (dk_at dksX6_feltWith_0 12 rfl rfl)
theorem dX6_feltWith_14 : decode cX6_feltWith 14 = .ok (.iload_n 2, 1) := dk_28 (dk_at dksX6_feltWith_0 14 rfl rfl)
theorem dX6_feltWith_15 : decode cX6_feltWith 15 = .ok (.iadd, 1) := dk_96 (dk_at dksX6_feltWith_0 15 rfl rfl)
theorem dX6_feltWith_16 : decode cX6_feltWith 16 = .ok (.iconst 1, 1) := dk_4 (dk_at dksX6_feltWith_0 16 rfl rfl)
theorem dX6_feltWith_17 : decode cX6_feltWith 17 = .ok (.iastore, 1) := dk_79 (dk_at dksX6_feltWith_0 17 rfl rfl)
theorem dX6_feltWith_18 : decode cX6_feltWith 18 = .ok (.iload_n 3, 1) := dk_29 (dk_at dksX6_feltWith_0 18 rfl rfl)
theorem dX6_feltWith_19 : decode cX6_feltWith 19 = .ok (.ifCond .lt 13, 3) := dk_155 0 13 (dk_at dksX6_feltWith_0 19 rfl rfl)
theorem dX6_feltWith_22 : decode cX6_feltWith 22 = .ok (.aload_n 0, 1) := dk_42 (dk_at dksX6_feltWith_0 22 rfl rfl)
theorem dX6_feltWith_23 : decode cX6_feltWith 23 = .ok (.getfield 19, 3) := dk_180 0 19 (dk_at dksX6_feltWith_1 0 rfl rfl)
theorem dX6_feltWith_26 : decode cX6_feltWith 26 = .ok (.bipush 9, 2) := dk_16 9 (dk_at dksX6_feltWith_1 3 rfl rfl)
theorem dX6_feltWith_28 : decode cX6_feltWith 28 = .ok (.iload_n 3, 1) := dk_29 (dk_at dksX6_feltWith_1 5 rfl rfl)
theorem dX6_feltWith_29 : decode cX6_feltWith 29 = .ok (.iadd, 1) := dk_96 (dk_at dksX6_feltWith_1 6 rfl rfl)
theorem dX6_feltWith_30 : decode cX6_feltWith 30 = .ok (.iconst 1, 1) := dk_4 (dk_at dksX6_feltWith_1 7 rfl rfl)
theorem dX6_feltWith_31 : decode cX6_feltWith 31 = .ok (.iastore, 1) := dk_79 (dk_at dksX6_feltWith_1 8 rfl rfl)
theorem dX6_feltWith_32 : decode cX6_feltWith 32 = .ok (.aload_n 0, 1) := dk_42 (dk_at dksX6_feltWith_1 9 rfl rfl)
theorem dX6_feltWith_33 : decode cX6_feltWith 33 = .ok (.iload_n 1, 1) := dk_27 (dk_at dksX6_feltWith_1 10 rfl rfl)
theorem dX6_feltWith_34 : decode cX6_feltWith 34 = .ok (.invokevirtual 201, 3) := dk_182 0 201 (dk_at dksX6_feltWith_1 11 rfl rfl)
theorem dX6_feltWith_37 : decode cX6_feltWith 37 = .ok (.istore 4, 2) := dk_54 4 (dk_at dksX6_feltWith_1 14 rfl rfl)
theorem dX6_feltWith_39 : decode cX6_feltWith 39 = .ok (.aload_n 0, 1) := dk_42 (dk_at dksX6_feltWith_1 16 rfl rfl)
theorem dX6_feltWith_40 : decode cX6_feltWith 40 = .ok (.invokevirtual 208, 3) := dk_182 0 208 (dk_at dksX6_feltWith_1 17 rfl rfl)
theorem dX6_feltWith_43 : decode cX6_feltWith 43 = .ok (.iload 4, 2) := dk_21 4 (dk_at dksX6_feltWith_1 20 rfl rfl)
theorem dX6_feltWith_45 : decode cX6_feltWith 45 = .ok (.ireturn, 1) := dk_172 (dk_at dksX6_feltWith_1 22 rfl rfl)
abbrev cX6_hidden : ByteArray := prog_17_method_52_code
def yX6_hidden : MethodName := ⟨RX6, "hidden", "(IIII)I"⟩
def dkwX6_hidden_8 : List UInt8 := [42, 21, 6, 182, 0, 72, 172]
abbrev dktX6_hidden_8 : List UInt8 := dkwX6_hidden_8 ++ []
def dkwX6_hidden_7 : List UInt8 := [21, 6, 21, 8, 153, 0, 10, 4, 21, 7, 120, 167, 0, 4, 3, 128, 54, 6, 132, 7, 1, 167, 255, 134]
abbrev dktX6_hidden_7 : List UInt8 := dkwX6_hidden_7 ++ dktX6_hidden_8
def dkwX6_hidden_6 : List UInt8 := [167, 0, 4, 3, 54, 8, 132, 9, 1, 167, 255, 206, 42, 180, 0, 19, 16, 9, 21, 7, 96, 3, 79]
abbrev dktX6_hidden_6 : List UInt8 := dkwX6_hidden_6 ++ dktX6_hidden_7
def dkwX6_hidden_5 : List UInt8 := [21, 4, 96, 21, 9, 96, 46, 42, 180, 0, 31, 7, 21, 9, 104, 28, 96, 46, 160, 0, 7, 4]
abbrev dktX6_hidden_5 : List UInt8 := dkwX6_hidden_5 ++ dktX6_hidden_6
def dkwX6_hidden_4 : List UInt8 := [54, 8, 3, 54, 9, 21, 9, 7, 162, 0, 50, 21, 8, 153, 0, 36, 42, 180, 0, 16, 16, 40, 29, 104]
abbrev dktX6_hidden_4 : List UInt8 := dkwX6_hidden_4 ++ dktX6_hidden_5
def dkwX6_hidden_3 : List UInt8 := [21, 7, 182, 0, 172, 154, 0, 106, 42, 180, 0, 19, 16, 9, 21, 7, 96, 27, 79, 42, 182, 0, 166, 4]
abbrev dktX6_hidden_3 : List UInt8 := dkwX6_hidden_3 ++ dktX6_hidden_4
def dkwX6_hidden_2 : List UInt8 := [54, 5, 21, 5, 156, 0, 6, 21, 5, 172, 3, 54, 6, 3, 54, 7, 21, 7, 16, 16, 162, 0, 121, 42]
abbrev dktX6_hidden_2 : List UInt8 := dkwX6_hidden_2 ++ dktX6_hidden_3
def dkwX6_hidden_1 : List UInt8 := [184, 0, 156, 153, 0, 10, 29, 184, 0, 61, 154, 0, 6, 18, 67, 172, 42, 29, 21, 4, 7, 182, 0, 219]
abbrev dktX6_hidden_1 : List UInt8 := dkwX6_hidden_1 ++ dktX6_hidden_2
def dkwX6_hidden_0 : List UInt8 := [42, 180, 0, 145, 154, 0, 6, 18, 179, 172, 27, 133, 10, 20, 0, 183, 184, 0, 57, 153, 0, 17, 28]
abbrev dktX6_hidden_0 : List UInt8 := dkwX6_hidden_0 ++ dktX6_hidden_1
theorem dksX6_hidden_0 : cX6_hidden.data.toList.drop 0 = dktX6_hidden_0 := by decide +kernel
theorem dksX6_hidden_1 : cX6_hidden.data.toList.drop 23 = dktX6_hidden_1 := dk_seg dksX6_hidden_0 23 rfl rfl
theorem dksX6_hidden_2 : cX6_hidden.data.toList.drop 47 = dktX6_hidden_2 := dk_seg dksX6_hidden_1 24 rfl rfl
theorem dksX6_hidden_3 : cX6_hidden.data.toList.drop 71 = dktX6_hidden_3 := dk_seg dksX6_hidden_2 24 rfl rfl
theorem dksX6_hidden_4 : cX6_hidden.data.toList.drop 95 = dktX6_hidden_4 := dk_seg dksX6_hidden_3 24 rfl rfl
theorem dksX6_hidden_5 : cX6_hidden.data.toList.drop 119 = dktX6_hidden_5 := dk_seg dksX6_hidden_4 24 rfl rfl
theorem dksX6_hidden_6 : cX6_hidden.data.toList.drop 141 = dktX6_hidden_6 := dk_seg dksX6_hidden_5 22 rfl rfl
theorem dksX6_hidden_7 : cX6_hidden.data.toList.drop 164 = dktX6_hidden_7 := dk_seg dksX6_hidden_6 23 rfl rfl
theorem dksX6_hidden_8 : cX6_hidden.data.toList.drop 188 = dktX6_hidden_8 := dk_seg dksX6_hidden_7 24 rfl rfl
theorem dX6_hidden_0 : decode cX6_hidden 0 = .ok (.aload_n 0, 1) := dk_42 (dk_at dksX6_hidden_0 0 rfl rfl)
theorem dX6_hidden_1 : decode cX6_hidden 1 = .ok (.getfield 145, 3) := dk_180 0 145 (dk_at dksX6_hidden_0 1 rfl rfl)
theorem dX6_hidden_4 : decode cX6_hidden 4 = .ok (.ifCond .ne 6, 3) := dk_154 0 6 (dk_at dksX6_hidden_0 4 rfl rfl)
theorem dX6_hidden_7 : decode cX6_hidden 7 = .ok (.ldc 179, 2) := dk_18 179 (dk_at dksX6_hidden_0 7 rfl rfl)
theorem dX6_hidden_9 : decode cX6_hidden 9 = .ok (.ireturn, 1) := dk_172 (dk_at dksX6_hidden_0 9 rfl rfl)
theorem dX6_hidden_10 : decode cX6_hidden 10 = .ok (.iload_n 1, 1) := dk_27 (dk_at dksX6_hidden_0 10 rfl rfl)
theorem dX6_hidden_11 : decode cX6_hidden 11 = .ok (.i2l, 1) := dk_133 (dk_at dksX6_hidden_0 11 rfl rfl)
theorem dX6_hidden_12 : decode cX6_hidden 12 = .ok (.lconst 1, 1) := dk_10 (dk_at dksX6_hidden_0 12 rfl rfl)
theorem dX6_hidden_13 : decode cX6_hidden 13 = .ok (.ldc2_w 183, 3) := dk_20 0 183 (dk_at dksX6_hidden_0 13 rfl rfl)
theorem dX6_hidden_16 : decode cX6_hidden 16 = .ok (.invokestatic 57, 3) := dk_184 0 57 (dk_at dksX6_hidden_0 16 rfl rfl)
theorem dX6_hidden_19 : decode cX6_hidden 19 = .ok (.ifCond .eq 17, 3) := dk_153 0 17 (dk_at dksX6_hidden_0 19 rfl rfl)
theorem dX6_hidden_22 : decode cX6_hidden 22 = .ok (.iload_n 2, 1) := dk_28 (dk_at dksX6_hidden_0 22 rfl rfl)
theorem dX6_hidden_23 : decode cX6_hidden 23 = .ok (.invokestatic 156, 3) := dk_184 0 156 (dk_at dksX6_hidden_1 0 rfl rfl)
theorem dX6_hidden_26 : decode cX6_hidden 26 = .ok (.ifCond .eq 10, 3) := dk_153 0 10 (dk_at dksX6_hidden_1 3 rfl rfl)
theorem dX6_hidden_29 : decode cX6_hidden 29 = .ok (.iload_n 3, 1) := dk_29 (dk_at dksX6_hidden_1 6 rfl rfl)
theorem dX6_hidden_30 : decode cX6_hidden 30 = .ok (.invokestatic 61, 3) := dk_184 0 61 (dk_at dksX6_hidden_1 7 rfl rfl)
theorem dX6_hidden_33 : decode cX6_hidden 33 = .ok (.ifCond .ne 6, 3) := dk_154 0 6 (dk_at dksX6_hidden_1 10 rfl rfl)
theorem dX6_hidden_36 : decode cX6_hidden 36 = .ok (.ldc 67, 2) := dk_18 67 (dk_at dksX6_hidden_1 13 rfl rfl)
theorem dX6_hidden_38 : decode cX6_hidden 38 = .ok (.ireturn, 1) := dk_172 (dk_at dksX6_hidden_1 15 rfl rfl)
theorem dX6_hidden_39 : decode cX6_hidden 39 = .ok (.aload_n 0, 1) := dk_42 (dk_at dksX6_hidden_1 16 rfl rfl)
theorem dX6_hidden_40 : decode cX6_hidden 40 = .ok (.iload_n 3, 1) := dk_29 (dk_at dksX6_hidden_1 17 rfl rfl)
theorem dX6_hidden_41 : decode cX6_hidden 41 = .ok (.iload 4, 2) := dk_21 4 (dk_at dksX6_hidden_1 18 rfl rfl)
theorem dX6_hidden_43 : decode cX6_hidden 43 = .ok (.iconst 4, 1) := dk_7 (dk_at dksX6_hidden_1 20 rfl rfl)
theorem dX6_hidden_44 : decode cX6_hidden 44 = .ok (.invokevirtual 219, 3) := dk_182 0 219 (dk_at dksX6_hidden_1 21 rfl rfl)
theorem dX6_hidden_47 : decode cX6_hidden 47 = .ok (.istore 5, 2) := dk_54 5 (dk_at dksX6_hidden_2 0 rfl rfl)
theorem dX6_hidden_49 : decode cX6_hidden 49 = .ok (.iload 5, 2) := dk_21 5 (dk_at dksX6_hidden_2 2 rfl rfl)
theorem dX6_hidden_51 : decode cX6_hidden 51 = .ok (.ifCond .ge 6, 3) := dk_156 0 6 (dk_at dksX6_hidden_2 4 rfl rfl)
theorem dX6_hidden_54 : decode cX6_hidden 54 = .ok (.iload 5, 2) := dk_21 5 (dk_at dksX6_hidden_2 7 rfl rfl)
theorem dX6_hidden_56 : decode cX6_hidden 56 = .ok (.ireturn, 1) := dk_172 (dk_at dksX6_hidden_2 9 rfl rfl)
theorem dX6_hidden_57 : decode cX6_hidden 57 = .ok (.iconst 0, 1) := dk_3 (dk_at dksX6_hidden_2 10 rfl rfl)
theorem dX6_hidden_58 : decode cX6_hidden 58 = .ok (.istore 6, 2) := dk_54 6 (dk_at dksX6_hidden_2 11 rfl rfl)
theorem dX6_hidden_60 : decode cX6_hidden 60 = .ok (.iconst 0, 1) := dk_3 (dk_at dksX6_hidden_2 13 rfl rfl)
theorem dX6_hidden_61 : decode cX6_hidden 61 = .ok (.istore 7, 2) := dk_54 7 (dk_at dksX6_hidden_2 14 rfl rfl)
theorem dX6_hidden_63 : decode cX6_hidden 63 = .ok (.iload 7, 2) := dk_21 7 (dk_at dksX6_hidden_2 16 rfl rfl)
theorem dX6_hidden_65 : decode cX6_hidden 65 = .ok (.bipush 16, 2) := dk_16 16 (dk_at dksX6_hidden_2 18 rfl rfl)
theorem dX6_hidden_67 : decode cX6_hidden 67 = .ok (.if_icmp .ge 121, 3) := dk_162 0 121 (dk_at dksX6_hidden_2 20 rfl rfl)
theorem dX6_hidden_70 : decode cX6_hidden 70 = .ok (.aload_n 0, 1) := dk_42 (dk_at dksX6_hidden_2 23 rfl rfl)
theorem dX6_hidden_71 : decode cX6_hidden 71 = .ok (.iload 7, 2) := dk_21 7 (dk_at dksX6_hidden_3 0 rfl rfl)
theorem dX6_hidden_73 : decode cX6_hidden 73 = .ok (.invokevirtual 172, 3) := dk_182 0 172 (dk_at dksX6_hidden_3 2 rfl rfl)
theorem dX6_hidden_76 : decode cX6_hidden 76 = .ok (.ifCond .ne 106, 3) := dk_154 0 106 (dk_at dksX6_hidden_3 5 rfl rfl)
theorem dX6_hidden_79 : decode cX6_hidden 79 = .ok (.aload_n 0, 1) := dk_42 (dk_at dksX6_hidden_3 8 rfl rfl)
theorem dX6_hidden_80 : decode cX6_hidden 80 = .ok (.getfield 19, 3) := dk_180 0 19 (dk_at dksX6_hidden_3 9 rfl rfl)
theorem dX6_hidden_83 : decode cX6_hidden 83 = .ok (.bipush 9, 2) := dk_16 9 (dk_at dksX6_hidden_3 12 rfl rfl)
theorem dX6_hidden_85 : decode cX6_hidden 85 = .ok (.iload 7, 2) := dk_21 7 (dk_at dksX6_hidden_3 14 rfl rfl)
theorem dX6_hidden_87 : decode cX6_hidden 87 = .ok (.iadd, 1) := dk_96 (dk_at dksX6_hidden_3 16 rfl rfl)
theorem dX6_hidden_88 : decode cX6_hidden 88 = .ok (.iload_n 1, 1) := dk_27 (dk_at dksX6_hidden_3 17 rfl rfl)
theorem dX6_hidden_89 : decode cX6_hidden 89 = .ok (.iastore, 1) := dk_79 (dk_at dksX6_hidden_3 18 rfl rfl)
theorem dX6_hidden_90 : decode cX6_hidden 90 = .ok (.aload_n 0, 1) := dk_42 (dk_at dksX6_hidden_3 19 rfl rfl)
theorem dX6_hidden_91 : decode cX6_hidden 91 = .ok (.invokevirtual 166, 3) := dk_182 0 166 (dk_at dksX6_hidden_3 20 rfl rfl)
theorem dX6_hidden_94 : decode cX6_hidden 94 = .ok (.iconst 1, 1) := dk_4 (dk_at dksX6_hidden_3 23 rfl rfl)
theorem dX6_hidden_95 : decode cX6_hidden 95 = .ok (.istore 8, 2) := dk_54 8 (dk_at dksX6_hidden_4 0 rfl rfl)
theorem dX6_hidden_97 : decode cX6_hidden 97 = .ok (.iconst 0, 1) := dk_3 (dk_at dksX6_hidden_4 2 rfl rfl)
theorem dX6_hidden_98 : decode cX6_hidden 98 = .ok (.istore 9, 2) := dk_54 9 (dk_at dksX6_hidden_4 3 rfl rfl)
theorem dX6_hidden_100 : decode cX6_hidden 100 = .ok (.iload 9, 2) := dk_21 9 (dk_at dksX6_hidden_4 5 rfl rfl)
theorem dX6_hidden_102 : decode cX6_hidden 102 = .ok (.iconst 4, 1) := dk_7 (dk_at dksX6_hidden_4 7 rfl rfl)
theorem dX6_hidden_103 : decode cX6_hidden 103 = .ok (.if_icmp .ge 50, 3) := dk_162 0 50 (dk_at dksX6_hidden_4 8 rfl rfl)
theorem dX6_hidden_106 : decode cX6_hidden 106 = .ok (.iload 8, 2) := dk_21 8 (dk_at dksX6_hidden_4 11 rfl rfl)
theorem dX6_hidden_108 : decode cX6_hidden 108 = .ok (.ifCond .eq 36, 3) := dk_153 0 36 (dk_at dksX6_hidden_4 13 rfl rfl)
theorem dX6_hidden_111 : decode cX6_hidden 111 = .ok (.aload_n 0, 1) := dk_42 (dk_at dksX6_hidden_4 16 rfl rfl)
theorem dX6_hidden_112 : decode cX6_hidden 112 = .ok (.getfield 16, 3) := dk_180 0 16 (dk_at dksX6_hidden_4 17 rfl rfl)
theorem dX6_hidden_115 : decode cX6_hidden 115 = .ok (.bipush 40, 2) := dk_16 40 (dk_at dksX6_hidden_4 20 rfl rfl)
theorem dX6_hidden_117 : decode cX6_hidden 117 = .ok (.iload_n 3, 1) := dk_29 (dk_at dksX6_hidden_4 22 rfl rfl)
theorem dX6_hidden_118 : decode cX6_hidden 118 = .ok (.imul, 1) := dk_104 (dk_at dksX6_hidden_4 23 rfl rfl)
theorem dX6_hidden_119 : decode cX6_hidden 119 = .ok (.iload 4, 2) := dk_21 4 (dk_at dksX6_hidden_5 0 rfl rfl)
theorem dX6_hidden_121 : decode cX6_hidden 121 = .ok (.iadd, 1) := dk_96 (dk_at dksX6_hidden_5 2 rfl rfl)
theorem dX6_hidden_122 : decode cX6_hidden 122 = .ok (.iload 9, 2) := dk_21 9 (dk_at dksX6_hidden_5 3 rfl rfl)
theorem dX6_hidden_124 : decode cX6_hidden 124 = .ok (.iadd, 1) := dk_96 (dk_at dksX6_hidden_5 5 rfl rfl)
theorem dX6_hidden_125 : decode cX6_hidden 125 = .ok (.iaload, 1) := dk_46 (dk_at dksX6_hidden_5 6 rfl rfl)
theorem dX6_hidden_126 : decode cX6_hidden 126 = .ok (.aload_n 0, 1) := dk_42 (dk_at dksX6_hidden_5 7 rfl rfl)
theorem dX6_hidden_127 : decode cX6_hidden 127 = .ok (.getfield 31, 3) := dk_180 0 31 (dk_at dksX6_hidden_5 8 rfl rfl)
theorem dX6_hidden_130 : decode cX6_hidden 130 = .ok (.iconst 4, 1) := dk_7 (dk_at dksX6_hidden_5 11 rfl rfl)
theorem dX6_hidden_131 : decode cX6_hidden 131 = .ok (.iload 9, 2) := dk_21 9 (dk_at dksX6_hidden_5 12 rfl rfl)
theorem dX6_hidden_133 : decode cX6_hidden 133 = .ok (.imul, 1) := dk_104 (dk_at dksX6_hidden_5 14 rfl rfl)
theorem dX6_hidden_134 : decode cX6_hidden 134 = .ok (.iload_n 2, 1) := dk_28 (dk_at dksX6_hidden_5 15 rfl rfl)
theorem dX6_hidden_135 : decode cX6_hidden 135 = .ok (.iadd, 1) := dk_96 (dk_at dksX6_hidden_5 16 rfl rfl)
theorem dX6_hidden_136 : decode cX6_hidden 136 = .ok (.iaload, 1) := dk_46 (dk_at dksX6_hidden_5 17 rfl rfl)
theorem dX6_hidden_137 : decode cX6_hidden 137 = .ok (.if_icmp .ne 7, 3) := dk_160 0 7 (dk_at dksX6_hidden_5 18 rfl rfl)
theorem dX6_hidden_140 : decode cX6_hidden 140 = .ok (.iconst 1, 1) := dk_4 (dk_at dksX6_hidden_5 21 rfl rfl)
theorem dX6_hidden_141 : decode cX6_hidden 141 = .ok (.goto 4, 3) := dk_167 0 4 (dk_at dksX6_hidden_6 0 rfl rfl)
theorem dX6_hidden_144 : decode cX6_hidden 144 = .ok (.iconst 0, 1) := dk_3 (dk_at dksX6_hidden_6 3 rfl rfl)
theorem dX6_hidden_145 : decode cX6_hidden 145 = .ok (.istore 8, 2) := dk_54 8 (dk_at dksX6_hidden_6 4 rfl rfl)
theorem dX6_hidden_147 : decode cX6_hidden 147 = .ok (.iinc 9 1, 3) := dk_132 9 1 (dk_at dksX6_hidden_6 6 rfl rfl)
theorem dX6_hidden_150 : decode cX6_hidden 150 = .ok (.goto (-50), 3) := dk_167 255 206 (dk_at dksX6_hidden_6 9 rfl rfl)
theorem dX6_hidden_153 : decode cX6_hidden 153 = .ok (.aload_n 0, 1) := dk_42 (dk_at dksX6_hidden_6 12 rfl rfl)
theorem dX6_hidden_154 : decode cX6_hidden 154 = .ok (.getfield 19, 3) := dk_180 0 19 (dk_at dksX6_hidden_6 13 rfl rfl)
theorem dX6_hidden_157 : decode cX6_hidden 157 = .ok (.bipush 9, 2) := dk_16 9 (dk_at dksX6_hidden_6 16 rfl rfl)
theorem dX6_hidden_159 : decode cX6_hidden 159 = .ok (.iload 7, 2) := dk_21 7 (dk_at dksX6_hidden_6 18 rfl rfl)
theorem dX6_hidden_161 : decode cX6_hidden 161 = .ok (.iadd, 1) := dk_96 (dk_at dksX6_hidden_6 20 rfl rfl)
theorem dX6_hidden_162 : decode cX6_hidden 162 = .ok (.iconst 0, 1) := dk_3 (dk_at dksX6_hidden_6 21 rfl rfl)
theorem dX6_hidden_163 : decode cX6_hidden 163 = .ok (.iastore, 1) := dk_79 (dk_at dksX6_hidden_6 22 rfl rfl)
theorem dX6_hidden_164 : decode cX6_hidden 164 = .ok (.iload 6, 2) := dk_21 6 (dk_at dksX6_hidden_7 0 rfl rfl)
theorem dX6_hidden_166 : decode cX6_hidden 166 = .ok (.iload 8, 2) := dk_21 8 (dk_at dksX6_hidden_7 2 rfl rfl)
theorem dX6_hidden_168 : decode cX6_hidden 168 = .ok (.ifCond .eq 10, 3) := dk_153 0 10 (dk_at dksX6_hidden_7 4 rfl rfl)
theorem dX6_hidden_171 : decode cX6_hidden 171 = .ok (.iconst 1, 1) := dk_4 (dk_at dksX6_hidden_7 7 rfl rfl)
theorem dX6_hidden_172 : decode cX6_hidden 172 = .ok (.iload 7, 2) := dk_21 7 (dk_at dksX6_hidden_7 8 rfl rfl)
theorem dX6_hidden_174 : decode cX6_hidden 174 = .ok (.ishl, 1) := dk_120 (dk_at dksX6_hidden_7 10 rfl rfl)
theorem dX6_hidden_175 : decode cX6_hidden 175 = .ok (.goto 4, 3) := dk_167 0 4 (dk_at dksX6_hidden_7 11 rfl rfl)
theorem dX6_hidden_178 : decode cX6_hidden 178 = .ok (.iconst 0, 1) := dk_3 (dk_at dksX6_hidden_7 14 rfl rfl)
theorem dX6_hidden_179 : decode cX6_hidden 179 = .ok (.ior, 1) := dk_128 (dk_at dksX6_hidden_7 15 rfl rfl)
theorem dX6_hidden_180 : decode cX6_hidden 180 = .ok (.istore 6, 2) := dk_54 6 (dk_at dksX6_hidden_7 16 rfl rfl)
theorem dX6_hidden_182 : decode cX6_hidden 182 = .ok (.iinc 7 1, 3) := dk_132 7 1 (dk_at dksX6_hidden_7 18 rfl rfl)
theorem dX6_hidden_185 : decode cX6_hidden 185 = .ok (.goto (-122), 3) := dk_167 255 134 (dk_at dksX6_hidden_7 21 rfl rfl)
theorem dX6_hidden_188 : decode cX6_hidden 188 = .ok (.aload_n 0, 1) := dk_42 (dk_at dksX6_hidden_8 0 rfl rfl)
theorem dX6_hidden_189 : decode cX6_hidden 189 = .ok (.iload 6, 2) := dk_21 6 (dk_at dksX6_hidden_8 1 rfl rfl)
theorem dX6_hidden_191 : decode cX6_hidden 191 = .ok (.invokevirtual 72, 3) := dk_182 0 72 (dk_at dksX6_hidden_8 3 rfl rfl)
theorem dX6_hidden_194 : decode cX6_hidden 194 = .ok (.ireturn, 1) := dk_172 (dk_at dksX6_hidden_8 6 rfl rfl)
abbrev cX6_most : ByteArray := prog_17_method_53_code
def yX6_most : MethodName := ⟨RX6, "most", "(II)I"⟩
def dkwX6_most_6 : List UInt8 := [167, 0, 5, 21, 4, 172]
abbrev dktX6_most_6 : List UInt8 := dkwX6_most_6 ++ []
def dkwX6_most_5 : List UInt8 := [21, 4, 54, 4, 132, 5, 1, 167, 255, 170, 29, 156, 0, 8, 18, 204, 167, 0, 13, 28, 154, 0, 7, 29]
abbrev dktX6_most_5 : List UInt8 := dkwX6_most_5 ++ dktX6_most_6
def dkwX6_most_4 : List UInt8 := [21, 4, 164, 0, 8, 21, 5, 167, 0, 4, 29, 62, 21, 6, 21, 4, 164, 0, 8, 21, 6, 167, 0, 5]
abbrev dktX6_most_4 : List UInt8 := dkwX6_most_4 ++ dktX6_most_5
def dkwX6_most_3 : List UInt8 := [180, 0, 19, 16, 9, 21, 5, 96, 3, 79, 42, 180, 0, 31, 16, 16, 27, 96, 46, 54, 6, 21, 6]
abbrev dktX6_most_3 : List UInt8 := dkwX6_most_3 ++ dktX6_most_4
def dkwX6_most_2 : List UInt8 := [21, 5, 182, 0, 172, 154, 0, 70, 42, 180, 0, 19, 16, 9, 21, 5, 96, 4, 79, 42, 182, 0, 166, 42]
abbrev dktX6_most_2 : List UInt8 := dkwX6_most_2 ++ dktX6_most_3
def dkwX6_most_1 : List UInt8 := [154, 0, 6, 18, 67, 172, 18, 204, 62, 2, 54, 4, 3, 54, 5, 21, 5, 16, 16, 162, 0, 85, 42]
abbrev dktX6_most_1 : List UInt8 := dkwX6_most_1 ++ dktX6_most_2
def dkwX6_most_0 : List UInt8 := [42, 180, 0, 145, 154, 0, 6, 18, 179, 172, 27, 184, 0, 156, 153, 0, 13, 28, 133, 9, 10, 184, 0, 57]
abbrev dktX6_most_0 : List UInt8 := dkwX6_most_0 ++ dktX6_most_1
theorem dksX6_most_0 : cX6_most.data.toList.drop 0 = dktX6_most_0 := by decide +kernel
theorem dksX6_most_1 : cX6_most.data.toList.drop 24 = dktX6_most_1 := dk_seg dksX6_most_0 24 rfl rfl
theorem dksX6_most_2 : cX6_most.data.toList.drop 47 = dktX6_most_2 := dk_seg dksX6_most_1 23 rfl rfl
theorem dksX6_most_3 : cX6_most.data.toList.drop 71 = dktX6_most_3 := dk_seg dksX6_most_2 24 rfl rfl
theorem dksX6_most_4 : cX6_most.data.toList.drop 94 = dktX6_most_4 := dk_seg dksX6_most_3 23 rfl rfl
theorem dksX6_most_5 : cX6_most.data.toList.drop 118 = dktX6_most_5 := dk_seg dksX6_most_4 24 rfl rfl
theorem dksX6_most_6 : cX6_most.data.toList.drop 142 = dktX6_most_6 := dk_seg dksX6_most_5 24 rfl rfl
theorem dX6_most_0 : decode cX6_most 0 = .ok (.aload_n 0, 1) := dk_42 (dk_at dksX6_most_0 0 rfl rfl)
theorem dX6_most_1 : decode cX6_most 1 = .ok (.getfield 145, 3) := dk_180 0 145 (dk_at dksX6_most_0 1 rfl rfl)
theorem dX6_most_4 : decode cX6_most 4 = .ok (.ifCond .ne 6, 3) := dk_154 0 6 (dk_at dksX6_most_0 4 rfl rfl)
theorem dX6_most_7 : decode cX6_most 7 = .ok (.ldc 179, 2) := dk_18 179 (dk_at dksX6_most_0 7 rfl rfl)
theorem dX6_most_9 : decode cX6_most 9 = .ok (.ireturn, 1) := dk_172 (dk_at dksX6_most_0 9 rfl rfl)
theorem dX6_most_10 : decode cX6_most 10 = .ok (.iload_n 1, 1) := dk_27 (dk_at dksX6_most_0 10 rfl rfl)
theorem dX6_most_11 : decode cX6_most 11 = .ok (.invokestatic 156, 3) := dk_184 0 156 (dk_at dksX6_most_0 11 rfl rfl)
theorem dX6_most_14 : decode cX6_most 14 = .ok (.ifCond .eq 13, 3) := dk_153 0 13 (dk_at dksX6_most_0 14 rfl rfl)
theorem dX6_most_17 : decode cX6_most 17 = .ok (.iload_n 2, 1) := dk_28 (dk_at dksX6_most_0 17 rfl rfl)
theorem dX6_most_18 : decode cX6_most 18 = .ok (.i2l, 1) := dk_133 (dk_at dksX6_most_0 18 rfl rfl)
theorem dX6_most_19 : decode cX6_most 19 = .ok (.lconst 0, 1) := dk_9 (dk_at dksX6_most_0 19 rfl rfl)
theorem dX6_most_20 : decode cX6_most 20 = .ok (.lconst 1, 1) := dk_10 (dk_at dksX6_most_0 20 rfl rfl)
theorem dX6_most_21 : decode cX6_most 21 = .ok (.invokestatic 57, 3) := dk_184 0 57 (dk_at dksX6_most_0 21 rfl rfl)
theorem dX6_most_24 : decode cX6_most 24 = .ok (.ifCond .ne 6, 3) := dk_154 0 6 (dk_at dksX6_most_1 0 rfl rfl)
theorem dX6_most_27 : decode cX6_most 27 = .ok (.ldc 67, 2) := dk_18 67 (dk_at dksX6_most_1 3 rfl rfl)
theorem dX6_most_29 : decode cX6_most 29 = .ok (.ireturn, 1) := dk_172 (dk_at dksX6_most_1 5 rfl rfl)
theorem dX6_most_30 : decode cX6_most 30 = .ok (.ldc 204, 2) := dk_18 204 (dk_at dksX6_most_1 6 rfl rfl)
theorem dX6_most_32 : decode cX6_most 32 = .ok (.istore_n 3, 1) := dk_62 (dk_at dksX6_most_1 8 rfl rfl)
theorem dX6_most_33 : decode cX6_most 33 = .ok (.iconst (-1), 1) := dk_2 (dk_at dksX6_most_1 9 rfl rfl)
theorem dX6_most_34 : decode cX6_most 34 = .ok (.istore 4, 2) := dk_54 4 (dk_at dksX6_most_1 10 rfl rfl)
theorem dX6_most_36 : decode cX6_most 36 = .ok (.iconst 0, 1) := dk_3 (dk_at dksX6_most_1 12 rfl rfl)
theorem dX6_most_37 : decode cX6_most 37 = .ok (.istore 5, 2) := dk_54 5 (dk_at dksX6_most_1 13 rfl rfl)
theorem dX6_most_39 : decode cX6_most 39 = .ok (.iload 5, 2) := dk_21 5 (dk_at dksX6_most_1 15 rfl rfl)
theorem dX6_most_41 : decode cX6_most 41 = .ok (.bipush 16, 2) := dk_16 16 (dk_at dksX6_most_1 17 rfl rfl)
theorem dX6_most_43 : decode cX6_most 43 = .ok (.if_icmp .ge 85, 3) := dk_162 0 85 (dk_at dksX6_most_1 19 rfl rfl)
theorem dX6_most_46 : decode cX6_most 46 = .ok (.aload_n 0, 1) := dk_42 (dk_at dksX6_most_1 22 rfl rfl)
theorem dX6_most_47 : decode cX6_most 47 = .ok (.iload 5, 2) := dk_21 5 (dk_at dksX6_most_2 0 rfl rfl)
theorem dX6_most_49 : decode cX6_most 49 = .ok (.invokevirtual 172, 3) := dk_182 0 172 (dk_at dksX6_most_2 2 rfl rfl)
theorem dX6_most_52 : decode cX6_most 52 = .ok (.ifCond .ne 70, 3) := dk_154 0 70 (dk_at dksX6_most_2 5 rfl rfl)
theorem dX6_most_55 : decode cX6_most 55 = .ok (.aload_n 0, 1) := dk_42 (dk_at dksX6_most_2 8 rfl rfl)
theorem dX6_most_56 : decode cX6_most 56 = .ok (.getfield 19, 3) := dk_180 0 19 (dk_at dksX6_most_2 9 rfl rfl)
theorem dX6_most_59 : decode cX6_most 59 = .ok (.bipush 9, 2) := dk_16 9 (dk_at dksX6_most_2 12 rfl rfl)
theorem dX6_most_61 : decode cX6_most 61 = .ok (.iload 5, 2) := dk_21 5 (dk_at dksX6_most_2 14 rfl rfl)
theorem dX6_most_63 : decode cX6_most 63 = .ok (.iadd, 1) := dk_96 (dk_at dksX6_most_2 16 rfl rfl)
theorem dX6_most_64 : decode cX6_most 64 = .ok (.iconst 1, 1) := dk_4 (dk_at dksX6_most_2 17 rfl rfl)
theorem dX6_most_65 : decode cX6_most 65 = .ok (.iastore, 1) := dk_79 (dk_at dksX6_most_2 18 rfl rfl)
theorem dX6_most_66 : decode cX6_most 66 = .ok (.aload_n 0, 1) := dk_42 (dk_at dksX6_most_2 19 rfl rfl)
theorem dX6_most_67 : decode cX6_most 67 = .ok (.invokevirtual 166, 3) := dk_182 0 166 (dk_at dksX6_most_2 20 rfl rfl)
theorem dX6_most_70 : decode cX6_most 70 = .ok (.aload_n 0, 1) := dk_42 (dk_at dksX6_most_2 23 rfl rfl)
theorem dX6_most_71 : decode cX6_most 71 = .ok (.getfield 19, 3) := dk_180 0 19 (dk_at dksX6_most_3 0 rfl rfl)
theorem dX6_most_74 : decode cX6_most 74 = .ok (.bipush 9, 2) := dk_16 9 (dk_at dksX6_most_3 3 rfl rfl)
theorem dX6_most_76 : decode cX6_most 76 = .ok (.iload 5, 2) := dk_21 5 (dk_at dksX6_most_3 5 rfl rfl)
theorem dX6_most_78 : decode cX6_most 78 = .ok (.iadd, 1) := dk_96 (dk_at dksX6_most_3 7 rfl rfl)
theorem dX6_most_79 : decode cX6_most 79 = .ok (.iconst 0, 1) := dk_3 (dk_at dksX6_most_3 8 rfl rfl)
theorem dX6_most_80 : decode cX6_most 80 = .ok (.iastore, 1) := dk_79 (dk_at dksX6_most_3 9 rfl rfl)
theorem dX6_most_81 : decode cX6_most 81 = .ok (.aload_n 0, 1) := dk_42 (dk_at dksX6_most_3 10 rfl rfl)
theorem dX6_most_82 : decode cX6_most 82 = .ok (.getfield 31, 3) := dk_180 0 31 (dk_at dksX6_most_3 11 rfl rfl)
theorem dX6_most_85 : decode cX6_most 85 = .ok (.bipush 16, 2) := dk_16 16 (dk_at dksX6_most_3 14 rfl rfl)
theorem dX6_most_87 : decode cX6_most 87 = .ok (.iload_n 1, 1) := dk_27 (dk_at dksX6_most_3 16 rfl rfl)
theorem dX6_most_88 : decode cX6_most 88 = .ok (.iadd, 1) := dk_96 (dk_at dksX6_most_3 17 rfl rfl)
theorem dX6_most_89 : decode cX6_most 89 = .ok (.iaload, 1) := dk_46 (dk_at dksX6_most_3 18 rfl rfl)
theorem dX6_most_90 : decode cX6_most 90 = .ok (.istore 6, 2) := dk_54 6 (dk_at dksX6_most_3 19 rfl rfl)
theorem dX6_most_92 : decode cX6_most 92 = .ok (.iload 6, 2) := dk_21 6 (dk_at dksX6_most_3 21 rfl rfl)
theorem dX6_most_94 : decode cX6_most 94 = .ok (.iload 4, 2) := dk_21 4 (dk_at dksX6_most_4 0 rfl rfl)
theorem dX6_most_96 : decode cX6_most 96 = .ok (.if_icmp .le 8, 3) := dk_164 0 8 (dk_at dksX6_most_4 2 rfl rfl)
theorem dX6_most_99 : decode cX6_most 99 = .ok (.iload 5, 2) := dk_21 5 (dk_at dksX6_most_4 5 rfl rfl)
theorem dX6_most_101 : decode cX6_most 101 = .ok (.goto 4, 3) := dk_167 0 4 (dk_at dksX6_most_4 7 rfl rfl)
theorem dX6_most_104 : decode cX6_most 104 = .ok (.iload_n 3, 1) := dk_29 (dk_at dksX6_most_4 10 rfl rfl)
theorem dX6_most_105 : decode cX6_most 105 = .ok (.istore_n 3, 1) := dk_62 (dk_at dksX6_most_4 11 rfl rfl)
theorem dX6_most_106 : decode cX6_most 106 = .ok (.iload 6, 2) := dk_21 6 (dk_at dksX6_most_4 12 rfl rfl)
theorem dX6_most_108 : decode cX6_most 108 = .ok (.iload 4, 2) := dk_21 4 (dk_at dksX6_most_4 14 rfl rfl)
theorem dX6_most_110 : decode cX6_most 110 = .ok (.if_icmp .le 8, 3) := dk_164 0 8 (dk_at dksX6_most_4 16 rfl rfl)
theorem dX6_most_113 : decode cX6_most 113 = .ok (.iload 6, 2) := dk_21 6 (dk_at dksX6_most_4 19 rfl rfl)
theorem dX6_most_115 : decode cX6_most 115 = .ok (.goto 5, 3) := dk_167 0 5 (dk_at dksX6_most_4 21 rfl rfl)
theorem dX6_most_118 : decode cX6_most 118 = .ok (.iload 4, 2) := dk_21 4 (dk_at dksX6_most_5 0 rfl rfl)
theorem dX6_most_120 : decode cX6_most 120 = .ok (.istore 4, 2) := dk_54 4 (dk_at dksX6_most_5 2 rfl rfl)
theorem dX6_most_122 : decode cX6_most 122 = .ok (.iinc 5 1, 3) := dk_132 5 1 (dk_at dksX6_most_5 4 rfl rfl)
theorem dX6_most_125 : decode cX6_most 125 = .ok (.goto (-86), 3) := dk_167 255 170 (dk_at dksX6_most_5 7 rfl rfl)
theorem dX6_most_128 : decode cX6_most 128 = .ok (.iload_n 3, 1) := dk_29 (dk_at dksX6_most_5 10 rfl rfl)
theorem dX6_most_129 : decode cX6_most 129 = .ok (.ifCond .ge 8, 3) := dk_156 0 8 (dk_at dksX6_most_5 11 rfl rfl)
theorem dX6_most_132 : decode cX6_most 132 = .ok (.ldc 204, 2) := dk_18 204 (dk_at dksX6_most_5 14 rfl rfl)
theorem dX6_most_134 : decode cX6_most 134 = .ok (.goto 13, 3) := dk_167 0 13 (dk_at dksX6_most_5 16 rfl rfl)
theorem dX6_most_137 : decode cX6_most 137 = .ok (.iload_n 2, 1) := dk_28 (dk_at dksX6_most_5 19 rfl rfl)
theorem dX6_most_138 : decode cX6_most 138 = .ok (.ifCond .ne 7, 3) := dk_154 0 7 (dk_at dksX6_most_5 20 rfl rfl)
theorem dX6_most_141 : decode cX6_most 141 = .ok (.iload_n 3, 1) := dk_29 (dk_at dksX6_most_5 23 rfl rfl)
theorem dX6_most_142 : decode cX6_most 142 = .ok (.goto 5, 3) := dk_167 0 5 (dk_at dksX6_most_6 0 rfl rfl)
theorem dX6_most_145 : decode cX6_most 145 = .ok (.iload 4, 2) := dk_21 4 (dk_at dksX6_most_6 3 rfl rfl)
theorem dX6_most_147 : decode cX6_most 147 = .ok (.ireturn, 1) := dk_172 (dk_at dksX6_most_6 5 rfl rfl)
abbrev cX6_lots : ByteArray := prog_17_method_54_code
def yX6_lots : MethodName := ⟨RX6, "lots", "(IIII)I"⟩
def dkwX6_lots_11 : List UInt8 := [21, 7, 21, 8, 108, 172]
abbrev dktX6_lots_11 : List UInt8 := dkwX6_lots_11 ++ []
def dkwX6_lots_10 : List UInt8 := [21, 9, 54, 8, 21, 10, 54, 9, 167, 255, 236, 21, 4, 154, 0, 11, 21, 6, 21, 8, 108, 167, 0, 8]
abbrev dktX6_lots_10 : List UInt8 := dkwX6_lots_10 ++ dktX6_lots_11
def dkwX6_lots_9 : List UInt8 := [167, 255, 147, 21, 6, 54, 8, 21, 7, 54, 9, 21, 9, 153, 0, 21, 21, 8, 21, 9, 112, 54, 10]
abbrev dktX6_lots_9 : List UInt8 := dkwX6_lots_9 ++ dktX6_lots_10
def dkwX6_lots_8 : List UInt8 := [182, 0, 201, 28, 161, 0, 8, 21, 9, 167, 0, 4, 3, 96, 54, 6, 42, 182, 0, 208, 132, 8, 1]
abbrev dktX6_lots_8 : List UInt8 := dkwX6_lots_8 ++ dktX6_lots_9
def dkwX6_lots_7 : List UInt8 := [153, 0, 9, 42, 21, 11, 182, 0, 175, 132, 10, 1, 132, 11, 1, 167, 255, 195, 21, 6, 42, 27]
abbrev dktX6_lots_7 : List UInt8 := dkwX6_lots_7 ++ dktX6_lots_8
def dkwX6_lots_6 : List UInt8 := [184, 0, 216, 153, 0, 7, 29, 167, 0, 7, 16, 10, 29, 100, 104, 54, 9, 21, 8, 21, 10, 184, 0, 216]
abbrev dktX6_lots_6 : List UInt8 := dkwX6_lots_6 ++ dktX6_lots_7
def dkwX6_lots_5 : List UInt8 := [21, 11, 16, 16, 162, 0, 60, 42, 21, 11, 182, 0, 172, 153, 0, 45, 21, 9, 21, 8, 21, 10]
abbrev dktX6_lots_5 : List UInt8 := dkwX6_lots_5 ++ dktX6_lots_6
def dkwX6_lots_4 : List UInt8 := [167, 255, 239, 3, 54, 8, 21, 8, 4, 21, 5, 120, 162, 0, 106, 4, 54, 9, 3, 54, 10, 3, 54, 11]
abbrev dktX6_lots_4 : List UInt8 := dkwX6_lots_4 ++ dktX6_lots_5
def dkwX6_lots_3 : List UInt8 := [54, 7, 3, 54, 8, 21, 8, 21, 5, 162, 0, 16, 21, 7, 16, 10, 104, 54, 7, 132, 8, 1]
abbrev dktX6_lots_3 : List UInt8 := dkwX6_lots_3 ++ dktX6_lots_4
def dkwX6_lots_2 : List UInt8 := [184, 0, 57, 154, 0, 6, 18, 67, 172, 42, 182, 0, 205, 42, 182, 0, 187, 54, 5, 3, 54, 6, 4]
abbrev dktX6_lots_2 : List UInt8 := dkwX6_lots_2 ++ dktX6_lots_3
def dkwX6_lots_1 : List UInt8 := [184, 0, 57, 153, 0, 26, 29, 133, 9, 20, 0, 228, 184, 0, 57, 153, 0, 14, 21, 4, 133, 9, 10]
abbrev dktX6_lots_1 : List UInt8 := dkwX6_lots_1 ++ dktX6_lots_2
def dkwX6_lots_0 : List UInt8 := [42, 180, 0, 145, 154, 0, 6, 18, 179, 172, 27, 184, 0, 180, 153, 0, 38, 28, 133, 9, 20, 0, 185]
abbrev dktX6_lots_0 : List UInt8 := dkwX6_lots_0 ++ dktX6_lots_1
theorem dksX6_lots_0 : cX6_lots.data.toList.drop 0 = dktX6_lots_0 := by decide +kernel
theorem dksX6_lots_1 : cX6_lots.data.toList.drop 23 = dktX6_lots_1 := dk_seg dksX6_lots_0 23 rfl rfl
theorem dksX6_lots_2 : cX6_lots.data.toList.drop 46 = dktX6_lots_2 := dk_seg dksX6_lots_1 23 rfl rfl
theorem dksX6_lots_3 : cX6_lots.data.toList.drop 69 = dktX6_lots_3 := dk_seg dksX6_lots_2 23 rfl rfl
theorem dksX6_lots_4 : cX6_lots.data.toList.drop 91 = dktX6_lots_4 := dk_seg dksX6_lots_3 22 rfl rfl
theorem dksX6_lots_5 : cX6_lots.data.toList.drop 115 = dktX6_lots_5 := dk_seg dksX6_lots_4 24 rfl rfl
theorem dksX6_lots_6 : cX6_lots.data.toList.drop 137 = dktX6_lots_6 := dk_seg dksX6_lots_5 22 rfl rfl
theorem dksX6_lots_7 : cX6_lots.data.toList.drop 161 = dktX6_lots_7 := dk_seg dksX6_lots_6 24 rfl rfl
theorem dksX6_lots_8 : cX6_lots.data.toList.drop 183 = dktX6_lots_8 := dk_seg dksX6_lots_7 22 rfl rfl
theorem dksX6_lots_9 : cX6_lots.data.toList.drop 206 = dktX6_lots_9 := dk_seg dksX6_lots_8 23 rfl rfl
theorem dksX6_lots_10 : cX6_lots.data.toList.drop 229 = dktX6_lots_10 := dk_seg dksX6_lots_9 23 rfl rfl
theorem dksX6_lots_11 : cX6_lots.data.toList.drop 253 = dktX6_lots_11 := dk_seg dksX6_lots_10 24 rfl rfl
theorem dX6_lots_0 : decode cX6_lots 0 = .ok (.aload_n 0, 1) := dk_42 (dk_at dksX6_lots_0 0 rfl rfl)
theorem dX6_lots_1 : decode cX6_lots 1 = .ok (.getfield 145, 3) := dk_180 0 145 (dk_at dksX6_lots_0 1 rfl rfl)
theorem dX6_lots_4 : decode cX6_lots 4 = .ok (.ifCond .ne 6, 3) := dk_154 0 6 (dk_at dksX6_lots_0 4 rfl rfl)
theorem dX6_lots_7 : decode cX6_lots 7 = .ok (.ldc 179, 2) := dk_18 179 (dk_at dksX6_lots_0 7 rfl rfl)
theorem dX6_lots_9 : decode cX6_lots 9 = .ok (.ireturn, 1) := dk_172 (dk_at dksX6_lots_0 9 rfl rfl)
theorem dX6_lots_10 : decode cX6_lots 10 = .ok (.iload_n 1, 1) := dk_27 (dk_at dksX6_lots_0 10 rfl rfl)
theorem dX6_lots_11 : decode cX6_lots 11 = .ok (.invokestatic 180, 3) := dk_184 0 180 (dk_at dksX6_lots_0 11 rfl rfl)
theorem dX6_lots_14 : decode cX6_lots 14 = .ok (.ifCond .eq 38, 3) := dk_153 0 38 (dk_at dksX6_lots_0 14 rfl rfl)
theorem dX6_lots_17 : decode cX6_lots 17 = .ok (.iload_n 2, 1) := dk_28 (dk_at dksX6_lots_0 17 rfl rfl)
theorem dX6_lots_18 : decode cX6_lots 18 = .ok (.i2l, 1) := dk_133 (dk_at dksX6_lots_0 18 rfl rfl)
theorem dX6_lots_19 : decode cX6_lots 19 = .ok (.lconst 0, 1) := dk_9 (dk_at dksX6_lots_0 19 rfl rfl)
theorem dX6_lots_20 : decode cX6_lots 20 = .ok (.ldc2_w 185, 3) := dk_20 0 185 (dk_at dksX6_lots_0 20 rfl rfl)
theorem dX6_lots_23 : decode cX6_lots 23 = .ok (.invokestatic 57, 3) := dk_184 0 57 (dk_at dksX6_lots_1 0 rfl rfl)
theorem dX6_lots_26 : decode cX6_lots 26 = .ok (.ifCond .eq 26, 3) := dk_153 0 26 (dk_at dksX6_lots_1 3 rfl rfl)
theorem dX6_lots_29 : decode cX6_lots 29 = .ok (.iload_n 3, 1) := dk_29 (dk_at dksX6_lots_1 6 rfl rfl)
theorem dX6_lots_30 : decode cX6_lots 30 = .ok (.i2l, 1) := dk_133 (dk_at dksX6_lots_1 7 rfl rfl)
theorem dX6_lots_31 : decode cX6_lots 31 = .ok (.lconst 0, 1) := dk_9 (dk_at dksX6_lots_1 8 rfl rfl)
theorem dX6_lots_32 : decode cX6_lots 32 = .ok (.ldc2_w 228, 3) := dk_20 0 228 (dk_at dksX6_lots_1 9 rfl rfl)
theorem dX6_lots_35 : decode cX6_lots 35 = .ok (.invokestatic 57, 3) := dk_184 0 57 (dk_at dksX6_lots_1 12 rfl rfl)
theorem dX6_lots_38 : decode cX6_lots 38 = .ok (.ifCond .eq 14, 3) := dk_153 0 14 (dk_at dksX6_lots_1 15 rfl rfl)
theorem dX6_lots_41 : decode cX6_lots 41 = .ok (.iload 4, 2) := dk_21 4 (dk_at dksX6_lots_1 18 rfl rfl)
theorem dX6_lots_43 : decode cX6_lots 43 = .ok (.i2l, 1) := dk_133 (dk_at dksX6_lots_1 20 rfl rfl)
theorem dX6_lots_44 : decode cX6_lots 44 = .ok (.lconst 0, 1) := dk_9 (dk_at dksX6_lots_1 21 rfl rfl)
theorem dX6_lots_45 : decode cX6_lots 45 = .ok (.lconst 1, 1) := dk_10 (dk_at dksX6_lots_1 22 rfl rfl)
theorem dX6_lots_46 : decode cX6_lots 46 = .ok (.invokestatic 57, 3) := dk_184 0 57 (dk_at dksX6_lots_2 0 rfl rfl)
theorem dX6_lots_49 : decode cX6_lots 49 = .ok (.ifCond .ne 6, 3) := dk_154 0 6 (dk_at dksX6_lots_2 3 rfl rfl)
theorem dX6_lots_52 : decode cX6_lots 52 = .ok (.ldc 67, 2) := dk_18 67 (dk_at dksX6_lots_2 6 rfl rfl)
theorem dX6_lots_54 : decode cX6_lots 54 = .ok (.ireturn, 1) := dk_172 (dk_at dksX6_lots_2 8 rfl rfl)
theorem dX6_lots_55 : decode cX6_lots 55 = .ok (.aload_n 0, 1) := dk_42 (dk_at dksX6_lots_2 9 rfl rfl)
theorem dX6_lots_56 : decode cX6_lots 56 = .ok (.invokevirtual 205, 3) := dk_182 0 205 (dk_at dksX6_lots_2 10 rfl rfl)
theorem dX6_lots_59 : decode cX6_lots 59 = .ok (.aload_n 0, 1) := dk_42 (dk_at dksX6_lots_2 13 rfl rfl)
theorem dX6_lots_60 : decode cX6_lots 60 = .ok (.invokevirtual 187, 3) := dk_182 0 187 (dk_at dksX6_lots_2 14 rfl rfl)
theorem dX6_lots_63 : decode cX6_lots 63 = .ok (.istore 5, 2) := dk_54 5 (dk_at dksX6_lots_2 17 rfl rfl)
theorem dX6_lots_65 : decode cX6_lots 65 = .ok (.iconst 0, 1) := dk_3 (dk_at dksX6_lots_2 19 rfl rfl)
theorem dX6_lots_66 : decode cX6_lots 66 = .ok (.istore 6, 2) := dk_54 6 (dk_at dksX6_lots_2 20 rfl rfl)
theorem dX6_lots_68 : decode cX6_lots 68 = .ok (.iconst 1, 1) := dk_4 (dk_at dksX6_lots_2 22 rfl rfl)
theorem dX6_lots_69 : decode cX6_lots 69 = .ok (.istore 7, 2) := dk_54 7 (dk_at dksX6_lots_3 0 rfl rfl)
theorem dX6_lots_71 : decode cX6_lots 71 = .ok (.iconst 0, 1) := dk_3 (dk_at dksX6_lots_3 2 rfl rfl)
theorem dX6_lots_72 : decode cX6_lots 72 = .ok (.istore 8, 2) := dk_54 8 (dk_at dksX6_lots_3 3 rfl rfl)
theorem dX6_lots_74 : decode cX6_lots 74 = .ok (.iload 8, 2) := dk_21 8 (dk_at dksX6_lots_3 5 rfl rfl)
theorem dX6_lots_76 : decode cX6_lots 76 = .ok (.iload 5, 2) := dk_21 5 (dk_at dksX6_lots_3 7 rfl rfl)
theorem dX6_lots_78 : decode cX6_lots 78 = .ok (.if_icmp .ge 16, 3) := dk_162 0 16 (dk_at dksX6_lots_3 9 rfl rfl)
theorem dX6_lots_81 : decode cX6_lots 81 = .ok (.iload 7, 2) := dk_21 7 (dk_at dksX6_lots_3 12 rfl rfl)
theorem dX6_lots_83 : decode cX6_lots 83 = .ok (.bipush 10, 2) := dk_16 10 (dk_at dksX6_lots_3 14 rfl rfl)
theorem dX6_lots_85 : decode cX6_lots 85 = .ok (.imul, 1) := dk_104 (dk_at dksX6_lots_3 16 rfl rfl)
theorem dX6_lots_86 : decode cX6_lots 86 = .ok (.istore 7, 2) := dk_54 7 (dk_at dksX6_lots_3 17 rfl rfl)
theorem dX6_lots_88 : decode cX6_lots 88 = .ok (.iinc 8 1, 3) := dk_132 8 1 (dk_at dksX6_lots_3 19 rfl rfl)
theorem dX6_lots_91 : decode cX6_lots 91 = .ok (.goto (-17), 3) := dk_167 255 239 (dk_at dksX6_lots_4 0 rfl rfl)
theorem dX6_lots_94 : decode cX6_lots 94 = .ok (.iconst 0, 1) := dk_3 (dk_at dksX6_lots_4 3 rfl rfl)
theorem dX6_lots_95 : decode cX6_lots 95 = .ok (.istore 8, 2) := dk_54 8 (dk_at dksX6_lots_4 4 rfl rfl)
theorem dX6_lots_97 : decode cX6_lots 97 = .ok (.iload 8, 2) := dk_21 8 (dk_at dksX6_lots_4 6 rfl rfl)
theorem dX6_lots_99 : decode cX6_lots 99 = .ok (.iconst 1, 1) := dk_4 (dk_at dksX6_lots_4 8 rfl rfl)
theorem dX6_lots_100 : decode cX6_lots 100 = .ok (.iload 5, 2) := dk_21 5 (dk_at dksX6_lots_4 9 rfl rfl)
theorem dX6_lots_102 : decode cX6_lots 102 = .ok (.ishl, 1) := dk_120 (dk_at dksX6_lots_4 11 rfl rfl)
theorem dX6_lots_103 : decode cX6_lots 103 = .ok (.if_icmp .ge 106, 3) := dk_162 0 106 (dk_at dksX6_lots_4 12 rfl rfl)
theorem dX6_lots_106 : decode cX6_lots 106 = .ok (.iconst 1, 1) := dk_4 (dk_at dksX6_lots_4 15 rfl rfl)
theorem dX6_lots_107 : decode cX6_lots 107 = .ok (.istore 9, 2) := dk_54 9 (dk_at dksX6_lots_4 16 rfl rfl)
theorem dX6_lots_109 : decode cX6_lots 109 = .ok (.iconst 0, 1) := dk_3 (dk_at dksX6_lots_4 18 rfl rfl)
theorem dX6_lots_110 : decode cX6_lots 110 = .ok (.istore 10, 2) := dk_54 10 (dk_at dksX6_lots_4 19 rfl rfl)
theorem dX6_lots_112 : decode cX6_lots 112 = .ok (.iconst 0, 1) := dk_3 (dk_at dksX6_lots_4 21 rfl rfl)
theorem dX6_lots_113 : decode cX6_lots 113 = .ok (.istore 11, 2) := dk_54 11 (dk_at dksX6_lots_4 22 rfl rfl)
theorem dX6_lots_115 : decode cX6_lots 115 = .ok (.iload 11, 2) := dk_21 11 (dk_at dksX6_lots_5 0 rfl rfl)
theorem dX6_lots_117 : decode cX6_lots 117 = .ok (.bipush 16, 2) := dk_16 16 (dk_at dksX6_lots_5 2 rfl rfl)
theorem dX6_lots_119 : decode cX6_lots 119 = .ok (.if_icmp .ge 60, 3) := dk_162 0 60 (dk_at dksX6_lots_5 4 rfl rfl)
theorem dX6_lots_122 : decode cX6_lots 122 = .ok (.aload_n 0, 1) := dk_42 (dk_at dksX6_lots_5 7 rfl rfl)
theorem dX6_lots_123 : decode cX6_lots 123 = .ok (.iload 11, 2) := dk_21 11 (dk_at dksX6_lots_5 8 rfl rfl)
theorem dX6_lots_125 : decode cX6_lots 125 = .ok (.invokevirtual 172, 3) := dk_182 0 172 (dk_at dksX6_lots_5 10 rfl rfl)
theorem dX6_lots_128 : decode cX6_lots 128 = .ok (.ifCond .eq 45, 3) := dk_153 0 45 (dk_at dksX6_lots_5 13 rfl rfl)
theorem dX6_lots_131 : decode cX6_lots 131 = .ok (.iload 9, 2) := dk_21 9 (dk_at dksX6_lots_5 16 rfl rfl)
theorem dX6_lots_133 : decode cX6_lots 133 = .ok (.iload 8, 2) := dk_21 8 (dk_at dksX6_lots_5 18 rfl rfl)
theorem dX6_lots_135 : decode cX6_lots 135 = .ok (.iload 10, 2) := dk_21 10 (dk_at dksX6_lots_5 20 rfl rfl)
theorem dX6_lots_137 : decode cX6_lots 137 = .ok (.invokestatic 216, 3) := dk_184 0 216 (dk_at dksX6_lots_6 0 rfl rfl)
theorem dX6_lots_140 : decode cX6_lots 140 = .ok (.ifCond .eq 7, 3) := dk_153 0 7 (dk_at dksX6_lots_6 3 rfl rfl)
theorem dX6_lots_143 : decode cX6_lots 143 = .ok (.iload_n 3, 1) := dk_29 (dk_at dksX6_lots_6 6 rfl rfl)
theorem dX6_lots_144 : decode cX6_lots 144 = .ok (.goto 7, 3) := dk_167 0 7 (dk_at dksX6_lots_6 7 rfl rfl)
theorem dX6_lots_147 : decode cX6_lots 147 = .ok (.bipush 10, 2) := dk_16 10 (dk_at dksX6_lots_6 10 rfl rfl)
theorem dX6_lots_149 : decode cX6_lots 149 = .ok (.iload_n 3, 1) := dk_29 (dk_at dksX6_lots_6 12 rfl rfl)
theorem dX6_lots_150 : decode cX6_lots 150 = .ok (.isub, 1) := dk_100 (dk_at dksX6_lots_6 13 rfl rfl)
theorem dX6_lots_151 : decode cX6_lots 151 = .ok (.imul, 1) := dk_104 (dk_at dksX6_lots_6 14 rfl rfl)
theorem dX6_lots_152 : decode cX6_lots 152 = .ok (.istore 9, 2) := dk_54 9 (dk_at dksX6_lots_6 15 rfl rfl)
theorem dX6_lots_154 : decode cX6_lots 154 = .ok (.iload 8, 2) := dk_21 8 (dk_at dksX6_lots_6 17 rfl rfl)
theorem dX6_lots_156 : decode cX6_lots 156 = .ok (.iload 10, 2) := dk_21 10 (dk_at dksX6_lots_6 19 rfl rfl)
theorem dX6_lots_158 : decode cX6_lots 158 = .ok (.invokestatic 216, 3) := dk_184 0 216 (dk_at dksX6_lots_6 21 rfl rfl)
theorem dX6_lots_161 : decode cX6_lots 161 = .ok (.ifCond .eq 9, 3) := dk_153 0 9 (dk_at dksX6_lots_7 0 rfl rfl)
theorem dX6_lots_164 : decode cX6_lots 164 = .ok (.aload_n 0, 1) := dk_42 (dk_at dksX6_lots_7 3 rfl rfl)
theorem dX6_lots_165 : decode cX6_lots 165 = .ok (.iload 11, 2) := dk_21 11 (dk_at dksX6_lots_7 4 rfl rfl)
theorem dX6_lots_167 : decode cX6_lots 167 = .ok (.invokevirtual 175, 3) := dk_182 0 175 (dk_at dksX6_lots_7 6 rfl rfl)
theorem dX6_lots_170 : decode cX6_lots 170 = .ok (.iinc 10 1, 3) := dk_132 10 1 (dk_at dksX6_lots_7 9 rfl rfl)
theorem dX6_lots_173 : decode cX6_lots 173 = .ok (.iinc 11 1, 3) := dk_132 11 1 (dk_at dksX6_lots_7 12 rfl rfl)
theorem dX6_lots_176 : decode cX6_lots 176 = .ok (.goto (-61), 3) := dk_167 255 195 (dk_at dksX6_lots_7 15 rfl rfl)
theorem dX6_lots_179 : decode cX6_lots 179 = .ok (.iload 6, 2) := dk_21 6 (dk_at dksX6_lots_7 18 rfl rfl)
theorem dX6_lots_181 : decode cX6_lots 181 = .ok (.aload_n 0, 1) := dk_42 (dk_at dksX6_lots_7 20 rfl rfl)
theorem dX6_lots_182 : decode cX6_lots 182 = .ok (.iload_n 1, 1) := dk_27 (dk_at dksX6_lots_7 21 rfl rfl)
theorem dX6_lots_183 : decode cX6_lots 183 = .ok (.invokevirtual 201, 3) := dk_182 0 201 (dk_at dksX6_lots_8 0 rfl rfl)
theorem dX6_lots_186 : decode cX6_lots 186 = .ok (.iload_n 2, 1) := dk_28 (dk_at dksX6_lots_8 3 rfl rfl)
theorem dX6_lots_187 : decode cX6_lots 187 = .ok (.if_icmp .lt 8, 3) := dk_161 0 8 (dk_at dksX6_lots_8 4 rfl rfl)
theorem dX6_lots_190 : decode cX6_lots 190 = .ok (.iload 9, 2) := dk_21 9 (dk_at dksX6_lots_8 7 rfl rfl)
theorem dX6_lots_192 : decode cX6_lots 192 = .ok (.goto 4, 3) := dk_167 0 4 (dk_at dksX6_lots_8 9 rfl rfl)
theorem dX6_lots_195 : decode cX6_lots 195 = .ok (.iconst 0, 1) := dk_3 (dk_at dksX6_lots_8 12 rfl rfl)
theorem dX6_lots_196 : decode cX6_lots 196 = .ok (.iadd, 1) := dk_96 (dk_at dksX6_lots_8 13 rfl rfl)
theorem dX6_lots_197 : decode cX6_lots 197 = .ok (.istore 6, 2) := dk_54 6 (dk_at dksX6_lots_8 14 rfl rfl)
theorem dX6_lots_199 : decode cX6_lots 199 = .ok (.aload_n 0, 1) := dk_42 (dk_at dksX6_lots_8 16 rfl rfl)
theorem dX6_lots_200 : decode cX6_lots 200 = .ok (.invokevirtual 208, 3) := dk_182 0 208 (dk_at dksX6_lots_8 17 rfl rfl)
theorem dX6_lots_203 : decode cX6_lots 203 = .ok (.iinc 8 1, 3) := dk_132 8 1 (dk_at dksX6_lots_8 20 rfl rfl)
theorem dX6_lots_206 : decode cX6_lots 206 = .ok (.goto (-109), 3) := dk_167 255 147 (dk_at dksX6_lots_9 0 rfl rfl)
theorem dX6_lots_209 : decode cX6_lots 209 = .ok (.iload 6, 2) := dk_21 6 (dk_at dksX6_lots_9 3 rfl rfl)
theorem dX6_lots_211 : decode cX6_lots 211 = .ok (.istore 8, 2) := dk_54 8 (dk_at dksX6_lots_9 5 rfl rfl)
theorem dX6_lots_213 : decode cX6_lots 213 = .ok (.iload 7, 2) := dk_21 7 (dk_at dksX6_lots_9 7 rfl rfl)
theorem dX6_lots_215 : decode cX6_lots 215 = .ok (.istore 9, 2) := dk_54 9 (dk_at dksX6_lots_9 9 rfl rfl)
theorem dX6_lots_217 : decode cX6_lots 217 = .ok (.iload 9, 2) := dk_21 9 (dk_at dksX6_lots_9 11 rfl rfl)
theorem dX6_lots_219 : decode cX6_lots 219 = .ok (.ifCond .eq 21, 3) := dk_153 0 21 (dk_at dksX6_lots_9 13 rfl rfl)
theorem dX6_lots_222 : decode cX6_lots 222 = .ok (.iload 8, 2) := dk_21 8 (dk_at dksX6_lots_9 16 rfl rfl)
theorem dX6_lots_224 : decode cX6_lots 224 = .ok (.iload 9, 2) := dk_21 9 (dk_at dksX6_lots_9 18 rfl rfl)
theorem dX6_lots_226 : decode cX6_lots 226 = .ok (.irem, 1) := dk_112 (dk_at dksX6_lots_9 20 rfl rfl)
theorem dX6_lots_227 : decode cX6_lots 227 = .ok (.istore 10, 2) := dk_54 10 (dk_at dksX6_lots_9 21 rfl rfl)
theorem dX6_lots_229 : decode cX6_lots 229 = .ok (.iload 9, 2) := dk_21 9 (dk_at dksX6_lots_10 0 rfl rfl)
theorem dX6_lots_231 : decode cX6_lots 231 = .ok (.istore 8, 2) := dk_54 8 (dk_at dksX6_lots_10 2 rfl rfl)
theorem dX6_lots_233 : decode cX6_lots 233 = .ok (.iload 10, 2) := dk_21 10 (dk_at dksX6_lots_10 4 rfl rfl)
theorem dX6_lots_235 : decode cX6_lots 235 = .ok (.istore 9, 2) := dk_54 9 (dk_at dksX6_lots_10 6 rfl rfl)
theorem dX6_lots_237 : decode cX6_lots 237 = .ok (.goto (-20), 3) := dk_167 255 236 (dk_at dksX6_lots_10 8 rfl rfl)
theorem dX6_lots_240 : decode cX6_lots 240 = .ok (.iload 4, 2) := dk_21 4 (dk_at dksX6_lots_10 11 rfl rfl)
theorem dX6_lots_242 : decode cX6_lots 242 = .ok (.ifCond .ne 11, 3) := dk_154 0 11 (dk_at dksX6_lots_10 13 rfl rfl)
theorem dX6_lots_245 : decode cX6_lots 245 = .ok (.iload 6, 2) := dk_21 6 (dk_at dksX6_lots_10 16 rfl rfl)
theorem dX6_lots_247 : decode cX6_lots 247 = .ok (.iload 8, 2) := dk_21 8 (dk_at dksX6_lots_10 18 rfl rfl)
theorem dX6_lots_249 : decode cX6_lots 249 = .ok (.idiv, 1) := dk_108 (dk_at dksX6_lots_10 20 rfl rfl)
theorem dX6_lots_250 : decode cX6_lots 250 = .ok (.goto 8, 3) := dk_167 0 8 (dk_at dksX6_lots_10 21 rfl rfl)
theorem dX6_lots_253 : decode cX6_lots 253 = .ok (.iload 7, 2) := dk_21 7 (dk_at dksX6_lots_11 0 rfl rfl)
theorem dX6_lots_255 : decode cX6_lots 255 = .ok (.iload 8, 2) := dk_21 8 (dk_at dksX6_lots_11 2 rfl rfl)
theorem dX6_lots_257 : decode cX6_lots 257 = .ok (.idiv, 1) := dk_108 (dk_at dksX6_lots_11 4 rfl rfl)
theorem dX6_lots_258 : decode cX6_lots 258 = .ok (.ireturn, 1) := dk_172 (dk_at dksX6_lots_11 5 rfl rfl)
abbrev cX6_image : ByteArray := prog_17_method_55_code
def yX6_image : MethodName := ⟨RX6, "image", "(I)I"⟩
def dkwX6_image_2 : List UInt8 := [132, 2, 1, 167, 255, 230, 42, 180, 0, 40, 27, 4, 84, 4, 172]
abbrev dktX6_image_2 : List UInt8 := dkwX6_image_2 ++ []
def dkwX6_image_1 : List UInt8 := [61, 28, 16, 57, 162, 0, 26, 42, 180, 0, 44, 16, 57, 27, 104, 28, 96, 42, 180, 0, 19, 28, 46, 79]
abbrev dktX6_image_1 : List UInt8 := dkwX6_image_1 ++ dktX6_image_2
def dkwX6_image_0 : List UInt8 := [27, 133, 9, 10, 184, 0, 57, 154, 0, 6, 18, 67, 172, 42, 180, 0, 145, 154, 0, 6, 18, 179, 172, 3]
abbrev dktX6_image_0 : List UInt8 := dkwX6_image_0 ++ dktX6_image_1
theorem dksX6_image_0 : cX6_image.data.toList.drop 0 = dktX6_image_0 := by decide +kernel
theorem dksX6_image_1 : cX6_image.data.toList.drop 24 = dktX6_image_1 := dk_seg dksX6_image_0 24 rfl rfl
theorem dksX6_image_2 : cX6_image.data.toList.drop 48 = dktX6_image_2 := dk_seg dksX6_image_1 24 rfl rfl
theorem dX6_image_0 : decode cX6_image 0 = .ok (.iload_n 1, 1) := dk_27 (dk_at dksX6_image_0 0 rfl rfl)
theorem dX6_image_1 : decode cX6_image 1 = .ok (.i2l, 1) := dk_133 (dk_at dksX6_image_0 1 rfl rfl)
theorem dX6_image_2 : decode cX6_image 2 = .ok (.lconst 0, 1) := dk_9 (dk_at dksX6_image_0 2 rfl rfl)
theorem dX6_image_3 : decode cX6_image 3 = .ok (.lconst 1, 1) := dk_10 (dk_at dksX6_image_0 3 rfl rfl)
theorem dX6_image_4 : decode cX6_image 4 = .ok (.invokestatic 57, 3) := dk_184 0 57 (dk_at dksX6_image_0 4 rfl rfl)
theorem dX6_image_7 : decode cX6_image 7 = .ok (.ifCond .ne 6, 3) := dk_154 0 6 (dk_at dksX6_image_0 7 rfl rfl)
theorem dX6_image_10 : decode cX6_image 10 = .ok (.ldc 67, 2) := dk_18 67 (dk_at dksX6_image_0 10 rfl rfl)
theorem dX6_image_12 : decode cX6_image 12 = .ok (.ireturn, 1) := dk_172 (dk_at dksX6_image_0 12 rfl rfl)
theorem dX6_image_13 : decode cX6_image 13 = .ok (.aload_n 0, 1) := dk_42 (dk_at dksX6_image_0 13 rfl rfl)
theorem dX6_image_14 : decode cX6_image 14 = .ok (.getfield 145, 3) := dk_180 0 145 (dk_at dksX6_image_0 14 rfl rfl)
theorem dX6_image_17 : decode cX6_image 17 = .ok (.ifCond .ne 6, 3) := dk_154 0 6 (dk_at dksX6_image_0 17 rfl rfl)
theorem dX6_image_20 : decode cX6_image 20 = .ok (.ldc 179, 2) := dk_18 179 (dk_at dksX6_image_0 20 rfl rfl)
theorem dX6_image_22 : decode cX6_image 22 = .ok (.ireturn, 1) := dk_172 (dk_at dksX6_image_0 22 rfl rfl)
theorem dX6_image_23 : decode cX6_image 23 = .ok (.iconst 0, 1) := dk_3 (dk_at dksX6_image_0 23 rfl rfl)
theorem dX6_image_24 : decode cX6_image 24 = .ok (.istore_n 2, 1) := dk_61 (dk_at dksX6_image_1 0 rfl rfl)
theorem dX6_image_25 : decode cX6_image 25 = .ok (.iload_n 2, 1) := dk_28 (dk_at dksX6_image_1 1 rfl rfl)
theorem dX6_image_26 : decode cX6_image 26 = .ok (.bipush 57, 2) := dk_16 57 (dk_at dksX6_image_1 2 rfl rfl)
theorem dX6_image_28 : decode cX6_image 28 = .ok (.if_icmp .ge 26, 3) := dk_162 0 26 (dk_at dksX6_image_1 4 rfl rfl)
theorem dX6_image_31 : decode cX6_image 31 = .ok (.aload_n 0, 1) := dk_42 (dk_at dksX6_image_1 7 rfl rfl)
theorem dX6_image_32 : decode cX6_image 32 = .ok (.getfield 44, 3) := dk_180 0 44 (dk_at dksX6_image_1 8 rfl rfl)
theorem dX6_image_35 : decode cX6_image 35 = .ok (.bipush 57, 2) := dk_16 57 (dk_at dksX6_image_1 11 rfl rfl)
theorem dX6_image_37 : decode cX6_image 37 = .ok (.iload_n 1, 1) := dk_27 (dk_at dksX6_image_1 13 rfl rfl)
theorem dX6_image_38 : decode cX6_image 38 = .ok (.imul, 1) := dk_104 (dk_at dksX6_image_1 14 rfl rfl)
theorem dX6_image_39 : decode cX6_image 39 = .ok (.iload_n 2, 1) := dk_28 (dk_at dksX6_image_1 15 rfl rfl)
theorem dX6_image_40 : decode cX6_image 40 = .ok (.iadd, 1) := dk_96 (dk_at dksX6_image_1 16 rfl rfl)
theorem dX6_image_41 : decode cX6_image 41 = .ok (.aload_n 0, 1) := dk_42 (dk_at dksX6_image_1 17 rfl rfl)
theorem dX6_image_42 : decode cX6_image 42 = .ok (.getfield 19, 3) := dk_180 0 19 (dk_at dksX6_image_1 18 rfl rfl)
theorem dX6_image_45 : decode cX6_image 45 = .ok (.iload_n 2, 1) := dk_28 (dk_at dksX6_image_1 21 rfl rfl)
theorem dX6_image_46 : decode cX6_image 46 = .ok (.iaload, 1) := dk_46 (dk_at dksX6_image_1 22 rfl rfl)
theorem dX6_image_47 : decode cX6_image 47 = .ok (.iastore, 1) := dk_79 (dk_at dksX6_image_1 23 rfl rfl)
theorem dX6_image_48 : decode cX6_image 48 = .ok (.iinc 2 1, 3) := dk_132 2 1 (dk_at dksX6_image_2 0 rfl rfl)
theorem dX6_image_51 : decode cX6_image 51 = .ok (.goto (-26), 3) := dk_167 255 230 (dk_at dksX6_image_2 3 rfl rfl)
theorem dX6_image_54 : decode cX6_image 54 = .ok (.aload_n 0, 1) := dk_42 (dk_at dksX6_image_2 6 rfl rfl)
theorem dX6_image_55 : decode cX6_image 55 = .ok (.getfield 40, 3) := dk_180 0 40 (dk_at dksX6_image_2 7 rfl rfl)
theorem dX6_image_58 : decode cX6_image 58 = .ok (.iload_n 1, 1) := dk_27 (dk_at dksX6_image_2 10 rfl rfl)
theorem dX6_image_59 : decode cX6_image 59 = .ok (.iconst 1, 1) := dk_4 (dk_at dksX6_image_2 11 rfl rfl)
theorem dX6_image_60 : decode cX6_image 60 = .ok (.bastore, 1) := dk_84 (dk_at dksX6_image_2 12 rfl rfl)
theorem dX6_image_61 : decode cX6_image 61 = .ok (.iconst 1, 1) := dk_4 (dk_at dksX6_image_2 13 rfl rfl)
theorem dX6_image_62 : decode cX6_image 62 = .ok (.ireturn, 1) := dk_172 (dk_at dksX6_image_2 14 rfl rfl)
abbrev cX6_restore : ByteArray := prog_17_method_56_code
def yX6_restore : MethodName := ⟨RX6, "restore", "(I)I"⟩
def dkwX6_restore_2 : List UInt8 := [46, 79, 132, 2, 1, 167, 255, 230, 42, 3, 181, 0, 149, 4, 172]
abbrev dktX6_restore_2 : List UInt8 := dkwX6_restore_2 ++ []
def dkwX6_restore_1 : List UInt8 := [172, 3, 61, 28, 16, 57, 162, 0, 26, 42, 180, 0, 19, 28, 42, 180, 0, 44, 16, 57, 27, 104, 28, 96]
abbrev dktX6_restore_1 : List UInt8 := dkwX6_restore_1 ++ dktX6_restore_2
def dkwX6_restore_0 : List UInt8 := [27, 133, 9, 10, 184, 0, 57, 154, 0, 6, 18, 67, 172, 42, 180, 0, 40, 27, 51, 154, 0, 6, 18, 179]
abbrev dktX6_restore_0 : List UInt8 := dkwX6_restore_0 ++ dktX6_restore_1
theorem dksX6_restore_0 : cX6_restore.data.toList.drop 0 = dktX6_restore_0 := by decide +kernel
theorem dksX6_restore_1 : cX6_restore.data.toList.drop 24 = dktX6_restore_1 := dk_seg dksX6_restore_0 24 rfl rfl
theorem dksX6_restore_2 : cX6_restore.data.toList.drop 48 = dktX6_restore_2 := dk_seg dksX6_restore_1 24 rfl rfl
theorem dX6_restore_0 : decode cX6_restore 0 = .ok (.iload_n 1, 1) := dk_27 (dk_at dksX6_restore_0 0 rfl rfl)
theorem dX6_restore_1 : decode cX6_restore 1 = .ok (.i2l, 1) := dk_133 (dk_at dksX6_restore_0 1 rfl rfl)
theorem dX6_restore_2 : decode cX6_restore 2 = .ok (.lconst 0, 1) := dk_9 (dk_at dksX6_restore_0 2 rfl rfl)
theorem dX6_restore_3 : decode cX6_restore 3 = .ok (.lconst 1, 1) := dk_10 (dk_at dksX6_restore_0 3 rfl rfl)
theorem dX6_restore_4 : decode cX6_restore 4 = .ok (.invokestatic 57, 3) := dk_184 0 57 (dk_at dksX6_restore_0 4 rfl rfl)
theorem dX6_restore_7 : decode cX6_restore 7 = .ok (.ifCond .ne 6, 3) := dk_154 0 6 (dk_at dksX6_restore_0 7 rfl rfl)
theorem dX6_restore_10 : decode cX6_restore 10 = .ok (.ldc 67, 2) := dk_18 67 (dk_at dksX6_restore_0 10 rfl rfl)
theorem dX6_restore_12 : decode cX6_restore 12 = .ok (.ireturn, 1) := dk_172 (dk_at dksX6_restore_0 12 rfl rfl)
theorem dX6_restore_13 : decode cX6_restore 13 = .ok (.aload_n 0, 1) := dk_42 (dk_at dksX6_restore_0 13 rfl rfl)
theorem dX6_restore_14 : decode cX6_restore 14 = .ok (.getfield 40, 3) := dk_180 0 40 (dk_at dksX6_restore_0 14 rfl rfl)
theorem dX6_restore_17 : decode cX6_restore 17 = .ok (.iload_n 1, 1) := dk_27 (dk_at dksX6_restore_0 17 rfl rfl)
theorem dX6_restore_18 : decode cX6_restore 18 = .ok (.baload, 1) := dk_51 (dk_at dksX6_restore_0 18 rfl rfl)
theorem dX6_restore_19 : decode cX6_restore 19 = .ok (.ifCond .ne 6, 3) := dk_154 0 6 (dk_at dksX6_restore_0 19 rfl rfl)
theorem dX6_restore_22 : decode cX6_restore 22 = .ok (.ldc 179, 2) := dk_18 179 (dk_at dksX6_restore_0 22 rfl rfl)
theorem dX6_restore_24 : decode cX6_restore 24 = .ok (.ireturn, 1) := dk_172 (dk_at dksX6_restore_1 0 rfl rfl)
theorem dX6_restore_25 : decode cX6_restore 25 = .ok (.iconst 0, 1) := dk_3 (dk_at dksX6_restore_1 1 rfl rfl)
theorem dX6_restore_26 : decode cX6_restore 26 = .ok (.istore_n 2, 1) := dk_61 (dk_at dksX6_restore_1 2 rfl rfl)
theorem dX6_restore_27 : decode cX6_restore 27 = .ok (.iload_n 2, 1) := dk_28 (dk_at dksX6_restore_1 3 rfl rfl)
theorem dX6_restore_28 : decode cX6_restore 28 = .ok (.bipush 57, 2) := dk_16 57 (dk_at dksX6_restore_1 4 rfl rfl)
theorem dX6_restore_30 : decode cX6_restore 30 = .ok (.if_icmp .ge 26, 3) := dk_162 0 26 (dk_at dksX6_restore_1 6 rfl rfl)
theorem dX6_restore_33 : decode cX6_restore 33 = .ok (.aload_n 0, 1) := dk_42 (dk_at dksX6_restore_1 9 rfl rfl)
theorem dX6_restore_34 : decode cX6_restore 34 = .ok (.getfield 19, 3) := dk_180 0 19 (dk_at dksX6_restore_1 10 rfl rfl)
theorem dX6_restore_37 : decode cX6_restore 37 = .ok (.iload_n 2, 1) := dk_28 (dk_at dksX6_restore_1 13 rfl rfl)
theorem dX6_restore_38 : decode cX6_restore 38 = .ok (.aload_n 0, 1) := dk_42 (dk_at dksX6_restore_1 14 rfl rfl)
theorem dX6_restore_39 : decode cX6_restore 39 = .ok (.getfield 44, 3) := dk_180 0 44 (dk_at dksX6_restore_1 15 rfl rfl)
theorem dX6_restore_42 : decode cX6_restore 42 = .ok (.bipush 57, 2) := dk_16 57 (dk_at dksX6_restore_1 18 rfl rfl)
theorem dX6_restore_44 : decode cX6_restore 44 = .ok (.iload_n 1, 1) := dk_27 (dk_at dksX6_restore_1 20 rfl rfl)
theorem dX6_restore_45 : decode cX6_restore 45 = .ok (.imul, 1) := dk_104 (dk_at dksX6_restore_1 21 rfl rfl)
theorem dX6_restore_46 : decode cX6_restore 46 = .ok (.iload_n 2, 1) := dk_28 (dk_at dksX6_restore_1 22 rfl rfl)
theorem dX6_restore_47 : decode cX6_restore 47 = .ok (.iadd, 1) := dk_96 (dk_at dksX6_restore_1 23 rfl rfl)
theorem dX6_restore_48 : decode cX6_restore 48 = .ok (.iaload, 1) := dk_46 (dk_at dksX6_restore_2 0 rfl rfl)
theorem dX6_restore_49 : decode cX6_restore 49 = .ok (.iastore, 1) := dk_79 (dk_at dksX6_restore_2 1 rfl rfl)
theorem dX6_restore_50 : decode cX6_restore 50 = .ok (.iinc 2 1, 3) := dk_132 2 1 (dk_at dksX6_restore_2 2 rfl rfl)
theorem dX6_restore_53 : decode cX6_restore 53 = .ok (.goto (-26), 3) := dk_167 255 230 (dk_at dksX6_restore_2 5 rfl rfl)
theorem dX6_restore_56 : decode cX6_restore 56 = .ok (.aload_n 0, 1) := dk_42 (dk_at dksX6_restore_2 8 rfl rfl)
theorem dX6_restore_57 : decode cX6_restore 57 = .ok (.iconst 0, 1) := dk_3 (dk_at dksX6_restore_2 9 rfl rfl)
theorem dX6_restore_58 : decode cX6_restore 58 = .ok (.putfield 149, 3) := dk_181 0 149 (dk_at dksX6_restore_2 10 rfl rfl)
theorem dX6_restore_61 : decode cX6_restore 61 = .ok (.iconst 1, 1) := dk_4 (dk_at dksX6_restore_2 13 rfl rfl)
theorem dX6_restore_62 : decode cX6_restore 62 = .ok (.ireturn, 1) := dk_172 (dk_at dksX6_restore_2 14 rfl rfl)
abbrev cX6_kind : ByteArray := prog_17_method_57_code
def yX6_kind : MethodName := ⟨RX6, "kind", "(I)I"⟩
def dkwX6_kind_1 : List UInt8 := [182, 0, 172, 153, 0, 15, 42, 180, 0, 19, 16, 9, 27, 96, 46, 167, 0, 5, 18, 204, 172]
abbrev dktX6_kind_1 : List UInt8 := dkwX6_kind_1 ++ []
def dkwX6_kind_0 : List UInt8 := [42, 180, 0, 145, 154, 0, 6, 18, 179, 172, 27, 184, 0, 180, 154, 0, 8, 18, 67, 167, 0, 25, 42, 27]
abbrev dktX6_kind_0 : List UInt8 := dkwX6_kind_0 ++ dktX6_kind_1
theorem dksX6_kind_0 : cX6_kind.data.toList.drop 0 = dktX6_kind_0 := by decide +kernel
theorem dksX6_kind_1 : cX6_kind.data.toList.drop 24 = dktX6_kind_1 := dk_seg dksX6_kind_0 24 rfl rfl
theorem dX6_kind_0 : decode cX6_kind 0 = .ok (.aload_n 0, 1) := dk_42 (dk_at dksX6_kind_0 0 rfl rfl)
theorem dX6_kind_1 : decode cX6_kind 1 = .ok (.getfield 145, 3) := dk_180 0 145 (dk_at dksX6_kind_0 1 rfl rfl)
theorem dX6_kind_4 : decode cX6_kind 4 = .ok (.ifCond .ne 6, 3) := dk_154 0 6 (dk_at dksX6_kind_0 4 rfl rfl)
theorem dX6_kind_7 : decode cX6_kind 7 = .ok (.ldc 179, 2) := dk_18 179 (dk_at dksX6_kind_0 7 rfl rfl)
theorem dX6_kind_9 : decode cX6_kind 9 = .ok (.ireturn, 1) := dk_172 (dk_at dksX6_kind_0 9 rfl rfl)
theorem dX6_kind_10 : decode cX6_kind 10 = .ok (.iload_n 1, 1) := dk_27 (dk_at dksX6_kind_0 10 rfl rfl)
theorem dX6_kind_11 : decode cX6_kind 11 = .ok (.invokestatic 180, 3) := dk_184 0 180 (dk_at dksX6_kind_0 11 rfl rfl)
theorem dX6_kind_14 : decode cX6_kind 14 = .ok (.ifCond .ne 8, 3) := dk_154 0 8 (dk_at dksX6_kind_0 14 rfl rfl)
theorem dX6_kind_17 : decode cX6_kind 17 = .ok (.ldc 67, 2) := dk_18 67 (dk_at dksX6_kind_0 17 rfl rfl)
theorem dX6_kind_19 : decode cX6_kind 19 = .ok (.goto 25, 3) := dk_167 0 25 (dk_at dksX6_kind_0 19 rfl rfl)
theorem dX6_kind_22 : decode cX6_kind 22 = .ok (.aload_n 0, 1) := dk_42 (dk_at dksX6_kind_0 22 rfl rfl)
theorem dX6_kind_23 : decode cX6_kind 23 = .ok (.iload_n 1, 1) := dk_27 (dk_at dksX6_kind_0 23 rfl rfl)
theorem dX6_kind_24 : decode cX6_kind 24 = .ok (.invokevirtual 172, 3) := dk_182 0 172 (dk_at dksX6_kind_1 0 rfl rfl)
theorem dX6_kind_27 : decode cX6_kind 27 = .ok (.ifCond .eq 15, 3) := dk_153 0 15 (dk_at dksX6_kind_1 3 rfl rfl)
theorem dX6_kind_30 : decode cX6_kind 30 = .ok (.aload_n 0, 1) := dk_42 (dk_at dksX6_kind_1 6 rfl rfl)
theorem dX6_kind_31 : decode cX6_kind 31 = .ok (.getfield 19, 3) := dk_180 0 19 (dk_at dksX6_kind_1 7 rfl rfl)
theorem dX6_kind_34 : decode cX6_kind 34 = .ok (.bipush 9, 2) := dk_16 9 (dk_at dksX6_kind_1 10 rfl rfl)
theorem dX6_kind_36 : decode cX6_kind 36 = .ok (.iload_n 1, 1) := dk_27 (dk_at dksX6_kind_1 12 rfl rfl)
theorem dX6_kind_37 : decode cX6_kind 37 = .ok (.iadd, 1) := dk_96 (dk_at dksX6_kind_1 13 rfl rfl)
theorem dX6_kind_38 : decode cX6_kind 38 = .ok (.iaload, 1) := dk_46 (dk_at dksX6_kind_1 14 rfl rfl)
theorem dX6_kind_39 : decode cX6_kind 39 = .ok (.goto 5, 3) := dk_167 0 5 (dk_at dksX6_kind_1 15 rfl rfl)
theorem dX6_kind_42 : decode cX6_kind 42 = .ok (.ldc 204, 2) := dk_18 204 (dk_at dksX6_kind_1 18 rfl rfl)
theorem dX6_kind_44 : decode cX6_kind 44 = .ok (.ireturn, 1) := dk_172 (dk_at dksX6_kind_1 20 rfl rfl)
abbrev cX6_as : ByteArray := prog_17_method_59_code
def yX6_as : MethodName := ⟨RX6, "as", "(II)I"⟩
def dkwX6_as_3 : List UInt8 := [182, 0, 68, 172]
abbrev dktX6_as_3 : List UInt8 := dkwX6_as_3 ++ []
def dkwX6_as_2 : List UInt8 := [16, 9, 27, 96, 46, 28, 184, 0, 230, 153, 0, 11, 42, 27, 182, 0, 72, 167, 0, 8, 42, 6]
abbrev dktX6_as_2 : List UInt8 := dkwX6_as_2 ++ dktX6_as_3
def dkwX6_as_1 : List UInt8 := [184, 0, 57, 154, 0, 6, 18, 67, 172, 42, 27, 182, 0, 172, 154, 0, 6, 18, 179, 172, 42, 180, 0, 19]
abbrev dktX6_as_1 : List UInt8 := dkwX6_as_1 ++ dktX6_as_2
def dkwX6_as_0 : List UInt8 := [42, 180, 0, 145, 154, 0, 6, 18, 179, 172, 27, 184, 0, 180, 153, 0, 15, 28, 133, 9, 20, 0, 183]
abbrev dktX6_as_0 : List UInt8 := dkwX6_as_0 ++ dktX6_as_1
theorem dksX6_as_0 : cX6_as.data.toList.drop 0 = dktX6_as_0 := by decide +kernel
theorem dksX6_as_1 : cX6_as.data.toList.drop 23 = dktX6_as_1 := dk_seg dksX6_as_0 23 rfl rfl
theorem dksX6_as_2 : cX6_as.data.toList.drop 47 = dktX6_as_2 := dk_seg dksX6_as_1 24 rfl rfl
theorem dksX6_as_3 : cX6_as.data.toList.drop 69 = dktX6_as_3 := dk_seg dksX6_as_2 22 rfl rfl
theorem dX6_as_0 : decode cX6_as 0 = .ok (.aload_n 0, 1) := dk_42 (dk_at dksX6_as_0 0 rfl rfl)
theorem dX6_as_1 : decode cX6_as 1 = .ok (.getfield 145, 3) := dk_180 0 145 (dk_at dksX6_as_0 1 rfl rfl)
theorem dX6_as_4 : decode cX6_as 4 = .ok (.ifCond .ne 6, 3) := dk_154 0 6 (dk_at dksX6_as_0 4 rfl rfl)
theorem dX6_as_7 : decode cX6_as 7 = .ok (.ldc 179, 2) := dk_18 179 (dk_at dksX6_as_0 7 rfl rfl)
theorem dX6_as_9 : decode cX6_as 9 = .ok (.ireturn, 1) := dk_172 (dk_at dksX6_as_0 9 rfl rfl)
theorem dX6_as_10 : decode cX6_as 10 = .ok (.iload_n 1, 1) := dk_27 (dk_at dksX6_as_0 10 rfl rfl)
theorem dX6_as_11 : decode cX6_as 11 = .ok (.invokestatic 180, 3) := dk_184 0 180 (dk_at dksX6_as_0 11 rfl rfl)
theorem dX6_as_14 : decode cX6_as 14 = .ok (.ifCond .eq 15, 3) := dk_153 0 15 (dk_at dksX6_as_0 14 rfl rfl)
theorem dX6_as_17 : decode cX6_as 17 = .ok (.iload_n 2, 1) := dk_28 (dk_at dksX6_as_0 17 rfl rfl)
theorem dX6_as_18 : decode cX6_as 18 = .ok (.i2l, 1) := dk_133 (dk_at dksX6_as_0 18 rfl rfl)
theorem dX6_as_19 : decode cX6_as 19 = .ok (.lconst 0, 1) := dk_9 (dk_at dksX6_as_0 19 rfl rfl)
theorem dX6_as_20 : decode cX6_as 20 = .ok (.ldc2_w 183, 3) := dk_20 0 183 (dk_at dksX6_as_0 20 rfl rfl)
theorem dX6_as_23 : decode cX6_as 23 = .ok (.invokestatic 57, 3) := dk_184 0 57 (dk_at dksX6_as_1 0 rfl rfl)
theorem dX6_as_26 : decode cX6_as 26 = .ok (.ifCond .ne 6, 3) := dk_154 0 6 (dk_at dksX6_as_1 3 rfl rfl)
theorem dX6_as_29 : decode cX6_as 29 = .ok (.ldc 67, 2) := dk_18 67 (dk_at dksX6_as_1 6 rfl rfl)
theorem dX6_as_31 : decode cX6_as 31 = .ok (.ireturn, 1) := dk_172 (dk_at dksX6_as_1 8 rfl rfl)
theorem dX6_as_32 : decode cX6_as 32 = .ok (.aload_n 0, 1) := dk_42 (dk_at dksX6_as_1 9 rfl rfl)
theorem dX6_as_33 : decode cX6_as 33 = .ok (.iload_n 1, 1) := dk_27 (dk_at dksX6_as_1 10 rfl rfl)
theorem dX6_as_34 : decode cX6_as 34 = .ok (.invokevirtual 172, 3) := dk_182 0 172 (dk_at dksX6_as_1 11 rfl rfl)
theorem dX6_as_37 : decode cX6_as 37 = .ok (.ifCond .ne 6, 3) := dk_154 0 6 (dk_at dksX6_as_1 14 rfl rfl)
theorem dX6_as_40 : decode cX6_as 40 = .ok (.ldc 179, 2) := dk_18 179 (dk_at dksX6_as_1 17 rfl rfl)
theorem dX6_as_42 : decode cX6_as 42 = .ok (.ireturn, 1) := dk_172 (dk_at dksX6_as_1 19 rfl rfl)
theorem dX6_as_43 : decode cX6_as 43 = .ok (.aload_n 0, 1) := dk_42 (dk_at dksX6_as_1 20 rfl rfl)
theorem dX6_as_44 : decode cX6_as 44 = .ok (.getfield 19, 3) := dk_180 0 19 (dk_at dksX6_as_1 21 rfl rfl)
theorem dX6_as_47 : decode cX6_as 47 = .ok (.bipush 9, 2) := dk_16 9 (dk_at dksX6_as_2 0 rfl rfl)
theorem dX6_as_49 : decode cX6_as 49 = .ok (.iload_n 1, 1) := dk_27 (dk_at dksX6_as_2 2 rfl rfl)
theorem dX6_as_50 : decode cX6_as 50 = .ok (.iadd, 1) := dk_96 (dk_at dksX6_as_2 3 rfl rfl)
theorem dX6_as_51 : decode cX6_as 51 = .ok (.iaload, 1) := dk_46 (dk_at dksX6_as_2 4 rfl rfl)
theorem dX6_as_52 : decode cX6_as 52 = .ok (.iload_n 2, 1) := dk_28 (dk_at dksX6_as_2 5 rfl rfl)
theorem dX6_as_53 : decode cX6_as 53 = .ok (.invokestatic 230, 3) := dk_184 0 230 (dk_at dksX6_as_2 6 rfl rfl)
theorem dX6_as_56 : decode cX6_as 56 = .ok (.ifCond .eq 11, 3) := dk_153 0 11 (dk_at dksX6_as_2 9 rfl rfl)
theorem dX6_as_59 : decode cX6_as 59 = .ok (.aload_n 0, 1) := dk_42 (dk_at dksX6_as_2 12 rfl rfl)
theorem dX6_as_60 : decode cX6_as 60 = .ok (.iload_n 1, 1) := dk_27 (dk_at dksX6_as_2 13 rfl rfl)
theorem dX6_as_61 : decode cX6_as 61 = .ok (.invokevirtual 72, 3) := dk_182 0 72 (dk_at dksX6_as_2 14 rfl rfl)
theorem dX6_as_64 : decode cX6_as 64 = .ok (.goto 8, 3) := dk_167 0 8 (dk_at dksX6_as_2 17 rfl rfl)
theorem dX6_as_67 : decode cX6_as 67 = .ok (.aload_n 0, 1) := dk_42 (dk_at dksX6_as_2 20 rfl rfl)
theorem dX6_as_68 : decode cX6_as 68 = .ok (.iconst 3, 1) := dk_6 (dk_at dksX6_as_2 21 rfl rfl)
theorem dX6_as_69 : decode cX6_as 69 = .ok (.invokevirtual 68, 3) := dk_182 0 68 (dk_at dksX6_as_3 0 rfl rfl)
theorem dX6_as_72 : decode cX6_as 72 = .ok (.ireturn, 1) := dk_172 (dk_at dksX6_as_3 3 rfl rfl)
abbrev cX6_isKind : ByteArray := prog_17_method_58_code
def yX6_isKind : MethodName := ⟨RX6, "isKind", "(II)Z"⟩
def dkwX6_isKind_1 : List UInt8 := [26, 8, 160, 0, 7, 4, 167, 0, 4, 3, 172]
abbrev dktX6_isKind_1 : List UInt8 := dkwX6_isKind_1 ++ []
def dkwX6_isKind_0 : List UInt8 := [27, 153, 0, 28, 26, 27, 159, 0, 23, 27, 4, 160, 0, 8, 26, 7, 161, 0, 13, 27, 7, 160, 0, 12]
abbrev dktX6_isKind_0 : List UInt8 := dkwX6_isKind_0 ++ dktX6_isKind_1
theorem dksX6_isKind_0 : cX6_isKind.data.toList.drop 0 = dktX6_isKind_0 := by decide +kernel
theorem dksX6_isKind_1 : cX6_isKind.data.toList.drop 24 = dktX6_isKind_1 := dk_seg dksX6_isKind_0 24 rfl rfl
theorem dX6_isKind_0 : decode cX6_isKind 0 = .ok (.iload_n 1, 1) := dk_27 (dk_at dksX6_isKind_0 0 rfl rfl)
theorem dX6_isKind_1 : decode cX6_isKind 1 = .ok (.ifCond .eq 28, 3) := dk_153 0 28 (dk_at dksX6_isKind_0 1 rfl rfl)
theorem dX6_isKind_4 : decode cX6_isKind 4 = .ok (.iload_n 0, 1) := dk_26 (dk_at dksX6_isKind_0 4 rfl rfl)
theorem dX6_isKind_5 : decode cX6_isKind 5 = .ok (.iload_n 1, 1) := dk_27 (dk_at dksX6_isKind_0 5 rfl rfl)
theorem dX6_isKind_6 : decode cX6_isKind 6 = .ok (.if_icmp .eq 23, 3) := dk_159 0 23 (dk_at dksX6_isKind_0 6 rfl rfl)
theorem dX6_isKind_9 : decode cX6_isKind 9 = .ok (.iload_n 1, 1) := dk_27 (dk_at dksX6_isKind_0 9 rfl rfl)
theorem dX6_isKind_10 : decode cX6_isKind 10 = .ok (.iconst 1, 1) := dk_4 (dk_at dksX6_isKind_0 10 rfl rfl)
theorem dX6_isKind_11 : decode cX6_isKind 11 = .ok (.if_icmp .ne 8, 3) := dk_160 0 8 (dk_at dksX6_isKind_0 11 rfl rfl)
theorem dX6_isKind_14 : decode cX6_isKind 14 = .ok (.iload_n 0, 1) := dk_26 (dk_at dksX6_isKind_0 14 rfl rfl)
theorem dX6_isKind_15 : decode cX6_isKind 15 = .ok (.iconst 4, 1) := dk_7 (dk_at dksX6_isKind_0 15 rfl rfl)
theorem dX6_isKind_16 : decode cX6_isKind 16 = .ok (.if_icmp .lt 13, 3) := dk_161 0 13 (dk_at dksX6_isKind_0 16 rfl rfl)
theorem dX6_isKind_19 : decode cX6_isKind 19 = .ok (.iload_n 1, 1) := dk_27 (dk_at dksX6_isKind_0 19 rfl rfl)
theorem dX6_isKind_20 : decode cX6_isKind 20 = .ok (.iconst 4, 1) := dk_7 (dk_at dksX6_isKind_0 20 rfl rfl)
theorem dX6_isKind_21 : decode cX6_isKind 21 = .ok (.if_icmp .ne 12, 3) := dk_160 0 12 (dk_at dksX6_isKind_0 21 rfl rfl)
theorem dX6_isKind_24 : decode cX6_isKind 24 = .ok (.iload_n 0, 1) := dk_26 (dk_at dksX6_isKind_1 0 rfl rfl)
theorem dX6_isKind_25 : decode cX6_isKind 25 = .ok (.iconst 5, 1) := dk_8 (dk_at dksX6_isKind_1 1 rfl rfl)
theorem dX6_isKind_26 : decode cX6_isKind 26 = .ok (.if_icmp .ne 7, 3) := dk_160 0 7 (dk_at dksX6_isKind_1 2 rfl rfl)
theorem dX6_isKind_29 : decode cX6_isKind 29 = .ok (.iconst 1, 1) := dk_4 (dk_at dksX6_isKind_1 5 rfl rfl)
theorem dX6_isKind_30 : decode cX6_isKind 30 = .ok (.goto 4, 3) := dk_167 0 4 (dk_at dksX6_isKind_1 6 rfl rfl)
theorem dX6_isKind_33 : decode cX6_isKind 33 = .ok (.iconst 0, 1) := dk_3 (dk_at dksX6_isKind_1 9 rfl rfl)
theorem dX6_isKind_34 : decode cX6_isKind 34 = .ok (.ireturn, 1) := dk_172 (dk_at dksX6_isKind_1 10 rfl rfl)
abbrev cX6_ask : ByteArray := prog_17_method_68_code
def yX6_ask : MethodName := ⟨RX6, "ask", "(II)I"⟩
def dkwX6_ask_2 : List UInt8 := [154, 0, 11, 42, 27, 182, 1, 1, 167, 0, 8, 42, 27, 182, 0, 251, 172]
abbrev dktX6_ask_2 : List UInt8 := dkwX6_ask_2 ++ []
def dkwX6_ask_1 : List UInt8 := [154, 0, 6, 18, 67, 172, 42, 27, 182, 0, 172, 154, 0, 6, 18, 179, 172, 42, 3, 181, 0, 233, 28]
abbrev dktX6_ask_1 : List UInt8 := dkwX6_ask_1 ++ dktX6_ask_2
def dkwX6_ask_0 : List UInt8 := [42, 180, 0, 145, 154, 0, 6, 18, 179, 172, 27, 184, 0, 180, 153, 0, 13, 28, 133, 9, 10, 184, 0, 57]
abbrev dktX6_ask_0 : List UInt8 := dkwX6_ask_0 ++ dktX6_ask_1
theorem dksX6_ask_0 : cX6_ask.data.toList.drop 0 = dktX6_ask_0 := by decide +kernel
theorem dksX6_ask_1 : cX6_ask.data.toList.drop 24 = dktX6_ask_1 := dk_seg dksX6_ask_0 24 rfl rfl
theorem dksX6_ask_2 : cX6_ask.data.toList.drop 47 = dktX6_ask_2 := dk_seg dksX6_ask_1 23 rfl rfl
theorem dX6_ask_0 : decode cX6_ask 0 = .ok (.aload_n 0, 1) := dk_42 (dk_at dksX6_ask_0 0 rfl rfl)
theorem dX6_ask_1 : decode cX6_ask 1 = .ok (.getfield 145, 3) := dk_180 0 145 (dk_at dksX6_ask_0 1 rfl rfl)
theorem dX6_ask_4 : decode cX6_ask 4 = .ok (.ifCond .ne 6, 3) := dk_154 0 6 (dk_at dksX6_ask_0 4 rfl rfl)
theorem dX6_ask_7 : decode cX6_ask 7 = .ok (.ldc 179, 2) := dk_18 179 (dk_at dksX6_ask_0 7 rfl rfl)
theorem dX6_ask_9 : decode cX6_ask 9 = .ok (.ireturn, 1) := dk_172 (dk_at dksX6_ask_0 9 rfl rfl)
theorem dX6_ask_10 : decode cX6_ask 10 = .ok (.iload_n 1, 1) := dk_27 (dk_at dksX6_ask_0 10 rfl rfl)
theorem dX6_ask_11 : decode cX6_ask 11 = .ok (.invokestatic 180, 3) := dk_184 0 180 (dk_at dksX6_ask_0 11 rfl rfl)
theorem dX6_ask_14 : decode cX6_ask 14 = .ok (.ifCond .eq 13, 3) := dk_153 0 13 (dk_at dksX6_ask_0 14 rfl rfl)
theorem dX6_ask_17 : decode cX6_ask 17 = .ok (.iload_n 2, 1) := dk_28 (dk_at dksX6_ask_0 17 rfl rfl)
theorem dX6_ask_18 : decode cX6_ask 18 = .ok (.i2l, 1) := dk_133 (dk_at dksX6_ask_0 18 rfl rfl)
theorem dX6_ask_19 : decode cX6_ask 19 = .ok (.lconst 0, 1) := dk_9 (dk_at dksX6_ask_0 19 rfl rfl)
theorem dX6_ask_20 : decode cX6_ask 20 = .ok (.lconst 1, 1) := dk_10 (dk_at dksX6_ask_0 20 rfl rfl)
theorem dX6_ask_21 : decode cX6_ask 21 = .ok (.invokestatic 57, 3) := dk_184 0 57 (dk_at dksX6_ask_0 21 rfl rfl)
theorem dX6_ask_24 : decode cX6_ask 24 = .ok (.ifCond .ne 6, 3) := dk_154 0 6 (dk_at dksX6_ask_1 0 rfl rfl)
theorem dX6_ask_27 : decode cX6_ask 27 = .ok (.ldc 67, 2) := dk_18 67 (dk_at dksX6_ask_1 3 rfl rfl)
theorem dX6_ask_29 : decode cX6_ask 29 = .ok (.ireturn, 1) := dk_172 (dk_at dksX6_ask_1 5 rfl rfl)
theorem dX6_ask_30 : decode cX6_ask 30 = .ok (.aload_n 0, 1) := dk_42 (dk_at dksX6_ask_1 6 rfl rfl)
theorem dX6_ask_31 : decode cX6_ask 31 = .ok (.iload_n 1, 1) := dk_27 (dk_at dksX6_ask_1 7 rfl rfl)
theorem dX6_ask_32 : decode cX6_ask 32 = .ok (.invokevirtual 172, 3) := dk_182 0 172 (dk_at dksX6_ask_1 8 rfl rfl)
theorem dX6_ask_35 : decode cX6_ask 35 = .ok (.ifCond .ne 6, 3) := dk_154 0 6 (dk_at dksX6_ask_1 11 rfl rfl)
theorem dX6_ask_38 : decode cX6_ask 38 = .ok (.ldc 179, 2) := dk_18 179 (dk_at dksX6_ask_1 14 rfl rfl)
theorem dX6_ask_40 : decode cX6_ask 40 = .ok (.ireturn, 1) := dk_172 (dk_at dksX6_ask_1 16 rfl rfl)
theorem dX6_ask_41 : decode cX6_ask 41 = .ok (.aload_n 0, 1) := dk_42 (dk_at dksX6_ask_1 17 rfl rfl)
theorem dX6_ask_42 : decode cX6_ask 42 = .ok (.iconst 0, 1) := dk_3 (dk_at dksX6_ask_1 18 rfl rfl)
theorem dX6_ask_43 : decode cX6_ask 43 = .ok (.putfield 233, 3) := dk_181 0 233 (dk_at dksX6_ask_1 19 rfl rfl)
theorem dX6_ask_46 : decode cX6_ask 46 = .ok (.iload_n 2, 1) := dk_28 (dk_at dksX6_ask_1 22 rfl rfl)
theorem dX6_ask_47 : decode cX6_ask 47 = .ok (.ifCond .ne 11, 3) := dk_154 0 11 (dk_at dksX6_ask_2 0 rfl rfl)
theorem dX6_ask_50 : decode cX6_ask 50 = .ok (.aload_n 0, 1) := dk_42 (dk_at dksX6_ask_2 3 rfl rfl)
theorem dX6_ask_51 : decode cX6_ask 51 = .ok (.iload_n 1, 1) := dk_27 (dk_at dksX6_ask_2 4 rfl rfl)
theorem dX6_ask_52 : decode cX6_ask 52 = .ok (.invokevirtual 257, 3) := dk_182 1 1 (dk_at dksX6_ask_2 5 rfl rfl)
theorem dX6_ask_55 : decode cX6_ask 55 = .ok (.goto 8, 3) := dk_167 0 8 (dk_at dksX6_ask_2 8 rfl rfl)
theorem dX6_ask_58 : decode cX6_ask 58 = .ok (.aload_n 0, 1) := dk_42 (dk_at dksX6_ask_2 11 rfl rfl)
theorem dX6_ask_59 : decode cX6_ask 59 = .ok (.iload_n 1, 1) := dk_27 (dk_at dksX6_ask_2 12 rfl rfl)
theorem dX6_ask_60 : decode cX6_ask 60 = .ok (.invokevirtual 251, 3) := dk_182 0 251 (dk_at dksX6_ask_2 13 rfl rfl)
theorem dX6_ask_63 : decode cX6_ask 63 = .ok (.ireturn, 1) := dk_172 (dk_at dksX6_ask_2 16 rfl rfl)
abbrev cX6_sizeOf : ByteArray := prog_17_method_67_code
def yX6_sizeOf : MethodName := ⟨RX6, "sizeOf", "(I)I"⟩
def dkwX6_sizeOf_1 : List UInt8 := [182, 0, 254, 116, 172, 28, 7, 161, 0, 11, 42, 27, 182, 0, 248, 167, 0, 8, 42, 27, 182, 0, 254, 172]
abbrev dktX6_sizeOf_1 : List UInt8 := dkwX6_sizeOf_1 ++ []
def dkwX6_sizeOf_0 : List UInt8 := [42, 180, 0, 19, 16, 9, 27, 96, 46, 61, 28, 5, 160, 0, 16, 42, 16, 12, 182, 0, 236, 42, 27]
abbrev dktX6_sizeOf_0 : List UInt8 := dkwX6_sizeOf_0 ++ dktX6_sizeOf_1
theorem dksX6_sizeOf_0 : cX6_sizeOf.data.toList.drop 0 = dktX6_sizeOf_0 := by decide +kernel
theorem dksX6_sizeOf_1 : cX6_sizeOf.data.toList.drop 23 = dktX6_sizeOf_1 := dk_seg dksX6_sizeOf_0 23 rfl rfl
theorem dX6_sizeOf_0 : decode cX6_sizeOf 0 = .ok (.aload_n 0, 1) := dk_42 (dk_at dksX6_sizeOf_0 0 rfl rfl)
theorem dX6_sizeOf_1 : decode cX6_sizeOf 1 = .ok (.getfield 19, 3) := dk_180 0 19 (dk_at dksX6_sizeOf_0 1 rfl rfl)
theorem dX6_sizeOf_4 : decode cX6_sizeOf 4 = .ok (.bipush 9, 2) := dk_16 9 (dk_at dksX6_sizeOf_0 4 rfl rfl)
theorem dX6_sizeOf_6 : decode cX6_sizeOf 6 = .ok (.iload_n 1, 1) := dk_27 (dk_at dksX6_sizeOf_0 6 rfl rfl)
theorem dX6_sizeOf_7 : decode cX6_sizeOf 7 = .ok (.iadd, 1) := dk_96 (dk_at dksX6_sizeOf_0 7 rfl rfl)
theorem dX6_sizeOf_8 : decode cX6_sizeOf 8 = .ok (.iaload, 1) := dk_46 (dk_at dksX6_sizeOf_0 8 rfl rfl)
theorem dX6_sizeOf_9 : decode cX6_sizeOf 9 = .ok (.istore_n 2, 1) := dk_61 (dk_at dksX6_sizeOf_0 9 rfl rfl)
theorem dX6_sizeOf_10 : decode cX6_sizeOf 10 = .ok (.iload_n 2, 1) := dk_28 (dk_at dksX6_sizeOf_0 10 rfl rfl)
theorem dX6_sizeOf_11 : decode cX6_sizeOf 11 = .ok (.iconst 2, 1) := dk_5 (dk_at dksX6_sizeOf_0 11 rfl rfl)
theorem dX6_sizeOf_12 : decode cX6_sizeOf 12 = .ok (.if_icmp .ne 16, 3) := dk_160 0 16 (dk_at dksX6_sizeOf_0 12 rfl rfl)
theorem dX6_sizeOf_15 : decode cX6_sizeOf 15 = .ok (.aload_n 0, 1) := dk_42 (dk_at dksX6_sizeOf_0 15 rfl rfl)
theorem dX6_sizeOf_16 : decode cX6_sizeOf 16 = .ok (.bipush 12, 2) := dk_16 12 (dk_at dksX6_sizeOf_0 16 rfl rfl)
theorem dX6_sizeOf_18 : decode cX6_sizeOf 18 = .ok (.invokevirtual 236, 3) := dk_182 0 236 (dk_at dksX6_sizeOf_0 18 rfl rfl)
theorem dX6_sizeOf_21 : decode cX6_sizeOf 21 = .ok (.aload_n 0, 1) := dk_42 (dk_at dksX6_sizeOf_0 21 rfl rfl)
theorem dX6_sizeOf_22 : decode cX6_sizeOf 22 = .ok (.iload_n 1, 1) := dk_27 (dk_at dksX6_sizeOf_0 22 rfl rfl)
theorem dX6_sizeOf_23 : decode cX6_sizeOf 23 = .ok (.invokevirtual 254, 3) := dk_182 0 254 (dk_at dksX6_sizeOf_1 0 rfl rfl)
theorem dX6_sizeOf_26 : decode cX6_sizeOf 26 = .ok (.ineg, 1) := dk_116 (dk_at dksX6_sizeOf_1 3 rfl rfl)
theorem dX6_sizeOf_27 : decode cX6_sizeOf 27 = .ok (.ireturn, 1) := dk_172 (dk_at dksX6_sizeOf_1 4 rfl rfl)
theorem dX6_sizeOf_28 : decode cX6_sizeOf 28 = .ok (.iload_n 2, 1) := dk_28 (dk_at dksX6_sizeOf_1 5 rfl rfl)
theorem dX6_sizeOf_29 : decode cX6_sizeOf 29 = .ok (.iconst 4, 1) := dk_7 (dk_at dksX6_sizeOf_1 6 rfl rfl)
theorem dX6_sizeOf_30 : decode cX6_sizeOf 30 = .ok (.if_icmp .lt 11, 3) := dk_161 0 11 (dk_at dksX6_sizeOf_1 7 rfl rfl)
theorem dX6_sizeOf_33 : decode cX6_sizeOf 33 = .ok (.aload_n 0, 1) := dk_42 (dk_at dksX6_sizeOf_1 10 rfl rfl)
theorem dX6_sizeOf_34 : decode cX6_sizeOf 34 = .ok (.iload_n 1, 1) := dk_27 (dk_at dksX6_sizeOf_1 11 rfl rfl)
theorem dX6_sizeOf_35 : decode cX6_sizeOf 35 = .ok (.invokevirtual 248, 3) := dk_182 0 248 (dk_at dksX6_sizeOf_1 12 rfl rfl)
theorem dX6_sizeOf_38 : decode cX6_sizeOf 38 = .ok (.goto 8, 3) := dk_167 0 8 (dk_at dksX6_sizeOf_1 15 rfl rfl)
theorem dX6_sizeOf_41 : decode cX6_sizeOf 41 = .ok (.aload_n 0, 1) := dk_42 (dk_at dksX6_sizeOf_1 18 rfl rfl)
theorem dX6_sizeOf_42 : decode cX6_sizeOf 42 = .ok (.iload_n 1, 1) := dk_27 (dk_at dksX6_sizeOf_1 19 rfl rfl)
theorem dX6_sizeOf_43 : decode cX6_sizeOf 43 = .ok (.invokevirtual 254, 3) := dk_182 0 254 (dk_at dksX6_sizeOf_1 20 rfl rfl)
theorem dX6_sizeOf_46 : decode cX6_sizeOf 46 = .ok (.ireturn, 1) := dk_172 (dk_at dksX6_sizeOf_1 23 rfl rfl)
abbrev cX6_begin : ByteArray := prog_17_method_60_code
def yX6_begin : MethodName := ⟨RX6, "begin", "(I)V"⟩
def dkwX6_begin_1 : List UInt8 := [4, 96, 181, 0, 233, 177]
abbrev dktX6_begin_1 : List UInt8 := dkwX6_begin_1 ++ []
def dkwX6_begin_0 : List UInt8 := [42, 180, 0, 233, 16, 16, 162, 0, 23, 42, 180, 0, 47, 42, 180, 0, 233, 27, 79, 42, 89, 180, 0, 233]
abbrev dktX6_begin_0 : List UInt8 := dkwX6_begin_0 ++ dktX6_begin_1
theorem dksX6_begin_0 : cX6_begin.data.toList.drop 0 = dktX6_begin_0 := by decide +kernel
theorem dksX6_begin_1 : cX6_begin.data.toList.drop 24 = dktX6_begin_1 := dk_seg dksX6_begin_0 24 rfl rfl
theorem dX6_begin_0 : decode cX6_begin 0 = .ok (.aload_n 0, 1) := dk_42 (dk_at dksX6_begin_0 0 rfl rfl)
theorem dX6_begin_1 : decode cX6_begin 1 = .ok (.getfield 233, 3) := dk_180 0 233 (dk_at dksX6_begin_0 1 rfl rfl)
theorem dX6_begin_4 : decode cX6_begin 4 = .ok (.bipush 16, 2) := dk_16 16 (dk_at dksX6_begin_0 4 rfl rfl)
theorem dX6_begin_6 : decode cX6_begin 6 = .ok (.if_icmp .ge 23, 3) := dk_162 0 23 (dk_at dksX6_begin_0 6 rfl rfl)
theorem dX6_begin_9 : decode cX6_begin 9 = .ok (.aload_n 0, 1) := dk_42 (dk_at dksX6_begin_0 9 rfl rfl)
theorem dX6_begin_10 : decode cX6_begin 10 = .ok (.getfield 47, 3) := dk_180 0 47 (dk_at dksX6_begin_0 10 rfl rfl)
theorem dX6_begin_13 : decode cX6_begin 13 = .ok (.aload_n 0, 1) := dk_42 (dk_at dksX6_begin_0 13 rfl rfl)
theorem dX6_begin_14 : decode cX6_begin 14 = .ok (.getfield 233, 3) := dk_180 0 233 (dk_at dksX6_begin_0 14 rfl rfl)
theorem dX6_begin_17 : decode cX6_begin 17 = .ok (.iload_n 1, 1) := dk_27 (dk_at dksX6_begin_0 17 rfl rfl)
theorem dX6_begin_18 : decode cX6_begin 18 = .ok (.iastore, 1) := dk_79 (dk_at dksX6_begin_0 18 rfl rfl)
theorem dX6_begin_19 : decode cX6_begin 19 = .ok (.aload_n 0, 1) := dk_42 (dk_at dksX6_begin_0 19 rfl rfl)
theorem dX6_begin_20 : decode cX6_begin 20 = .ok (.dup, 1) := dk_89 (dk_at dksX6_begin_0 20 rfl rfl)
theorem dX6_begin_21 : decode cX6_begin 21 = .ok (.getfield 233, 3) := dk_180 0 233 (dk_at dksX6_begin_0 21 rfl rfl)
theorem dX6_begin_24 : decode cX6_begin 24 = .ok (.iconst 1, 1) := dk_4 (dk_at dksX6_begin_1 0 rfl rfl)
theorem dX6_begin_25 : decode cX6_begin 25 = .ok (.iadd, 1) := dk_96 (dk_at dksX6_begin_1 1 rfl rfl)
theorem dX6_begin_26 : decode cX6_begin 26 = .ok (.putfield 233, 3) := dk_181 0 233 (dk_at dksX6_begin_1 2 rfl rfl)
theorem dX6_begin_29 : decode cX6_begin 29 = .ok (.return_, 1) := dk_177 (dk_at dksX6_begin_1 5 rfl rfl)
abbrev cX6_wallSize : ByteArray := prog_17_method_66_code
def yX6_wallSize : MethodName := ⟨RX6, "wallSize", "(I)I"⟩
def dkwX6_wallSize_0 : List UInt8 := [42, 16, 11, 182, 0, 236, 42, 27, 16, 10, 182, 0, 239, 61, 28, 42, 27, 182, 0, 251, 96, 172]
abbrev dktX6_wallSize_0 : List UInt8 := dkwX6_wallSize_0 ++ []
theorem dksX6_wallSize_0 : cX6_wallSize.data.toList.drop 0 = dktX6_wallSize_0 := by decide +kernel
theorem dX6_wallSize_0 : decode cX6_wallSize 0 = .ok (.aload_n 0, 1) := dk_42 (dk_at dksX6_wallSize_0 0 rfl rfl)
theorem dX6_wallSize_1 : decode cX6_wallSize 1 = .ok (.bipush 11, 2) := dk_16 11 (dk_at dksX6_wallSize_0 1 rfl rfl)
theorem dX6_wallSize_3 : decode cX6_wallSize 3 = .ok (.invokevirtual 236, 3) := dk_182 0 236 (dk_at dksX6_wallSize_0 3 rfl rfl)
theorem dX6_wallSize_6 : decode cX6_wallSize 6 = .ok (.aload_n 0, 1) := dk_42 (dk_at dksX6_wallSize_0 6 rfl rfl)
theorem dX6_wallSize_7 : decode cX6_wallSize 7 = .ok (.iload_n 1, 1) := dk_27 (dk_at dksX6_wallSize_0 7 rfl rfl)
theorem dX6_wallSize_8 : decode cX6_wallSize 8 = .ok (.bipush 10, 2) := dk_16 10 (dk_at dksX6_wallSize_0 8 rfl rfl)
theorem dX6_wallSize_10 : decode cX6_wallSize 10 = .ok (.invokevirtual 239, 3) := dk_182 0 239 (dk_at dksX6_wallSize_0 10 rfl rfl)
theorem dX6_wallSize_13 : decode cX6_wallSize 13 = .ok (.istore_n 2, 1) := dk_61 (dk_at dksX6_wallSize_0 13 rfl rfl)
theorem dX6_wallSize_14 : decode cX6_wallSize 14 = .ok (.iload_n 2, 1) := dk_28 (dk_at dksX6_wallSize_0 14 rfl rfl)
theorem dX6_wallSize_15 : decode cX6_wallSize 15 = .ok (.aload_n 0, 1) := dk_42 (dk_at dksX6_wallSize_0 15 rfl rfl)
theorem dX6_wallSize_16 : decode cX6_wallSize 16 = .ok (.iload_n 1, 1) := dk_27 (dk_at dksX6_wallSize_0 16 rfl rfl)
theorem dX6_wallSize_17 : decode cX6_wallSize 17 = .ok (.invokevirtual 251, 3) := dk_182 0 251 (dk_at dksX6_wallSize_0 17 rfl rfl)
theorem dX6_wallSize_20 : decode cX6_wallSize 20 = .ok (.iadd, 1) := dk_96 (dk_at dksX6_wallSize_0 20 rfl rfl)
theorem dX6_wallSize_21 : decode cX6_wallSize 21 = .ok (.ireturn, 1) := dk_172 (dk_at dksX6_wallSize_0 21 rfl rfl)
abbrev cX6_lent : ByteArray := prog_17_method_61_code
def yX6_lent : MethodName := ⟨RX6, "lent", "(II)I"⟩
def dkwX6_lent_1 : List UInt8 := [172]
abbrev dktX6_lent_1 : List UInt8 := dkwX6_lent_1 ++ []
def dkwX6_lent_0 : List UInt8 := [42, 28, 182, 0, 236, 28, 16, 10, 160, 0, 15, 42, 180, 0, 19, 16, 25, 27, 96, 46, 167, 0, 4, 27]
abbrev dktX6_lent_0 : List UInt8 := dkwX6_lent_0 ++ dktX6_lent_1
theorem dksX6_lent_0 : cX6_lent.data.toList.drop 0 = dktX6_lent_0 := by decide +kernel
theorem dksX6_lent_1 : cX6_lent.data.toList.drop 24 = dktX6_lent_1 := dk_seg dksX6_lent_0 24 rfl rfl
theorem dX6_lent_0 : decode cX6_lent 0 = .ok (.aload_n 0, 1) := dk_42 (dk_at dksX6_lent_0 0 rfl rfl)
theorem dX6_lent_1 : decode cX6_lent 1 = .ok (.iload_n 2, 1) := dk_28 (dk_at dksX6_lent_0 1 rfl rfl)
theorem dX6_lent_2 : decode cX6_lent 2 = .ok (.invokevirtual 236, 3) := dk_182 0 236 (dk_at dksX6_lent_0 2 rfl rfl)
theorem dX6_lent_5 : decode cX6_lent 5 = .ok (.iload_n 2, 1) := dk_28 (dk_at dksX6_lent_0 5 rfl rfl)
theorem dX6_lent_6 : decode cX6_lent 6 = .ok (.bipush 10, 2) := dk_16 10 (dk_at dksX6_lent_0 6 rfl rfl)
theorem dX6_lent_8 : decode cX6_lent 8 = .ok (.if_icmp .ne 15, 3) := dk_160 0 15 (dk_at dksX6_lent_0 8 rfl rfl)
theorem dX6_lent_11 : decode cX6_lent 11 = .ok (.aload_n 0, 1) := dk_42 (dk_at dksX6_lent_0 11 rfl rfl)
theorem dX6_lent_12 : decode cX6_lent 12 = .ok (.getfield 19, 3) := dk_180 0 19 (dk_at dksX6_lent_0 12 rfl rfl)
theorem dX6_lent_15 : decode cX6_lent 15 = .ok (.bipush 25, 2) := dk_16 25 (dk_at dksX6_lent_0 15 rfl rfl)
theorem dX6_lent_17 : decode cX6_lent 17 = .ok (.iload_n 1, 1) := dk_27 (dk_at dksX6_lent_0 17 rfl rfl)
theorem dX6_lent_18 : decode cX6_lent 18 = .ok (.iadd, 1) := dk_96 (dk_at dksX6_lent_0 18 rfl rfl)
theorem dX6_lent_19 : decode cX6_lent 19 = .ok (.iaload, 1) := dk_46 (dk_at dksX6_lent_0 19 rfl rfl)
theorem dX6_lent_20 : decode cX6_lent 20 = .ok (.goto 4, 3) := dk_167 0 4 (dk_at dksX6_lent_0 20 rfl rfl)
theorem dX6_lent_23 : decode cX6_lent 23 = .ok (.iload_n 1, 1) := dk_27 (dk_at dksX6_lent_0 23 rfl rfl)
theorem dX6_lent_24 : decode cX6_lent 24 = .ok (.ireturn, 1) := dk_172 (dk_at dksX6_lent_1 0 rfl rfl)
abbrev cX6_markOf : ByteArray := prog_17_method_65_code
def yX6_markOf : MethodName := ⟨RX6, "markOf", "(I)I"⟩
def dkwX6_markOf_3 : List UInt8 := [182, 0, 239, 62, 29, 42, 27, 182, 0, 248, 100, 172]
abbrev dktX6_markOf_3 : List UInt8 := dkwX6_markOf_3 ++ []
def dkwX6_markOf_2 : List UInt8 := [100, 172, 28, 4, 160, 0, 9, 42, 27, 182, 0, 245, 172, 42, 16, 23, 182, 0, 236, 42, 27, 16, 20]
abbrev dktX6_markOf_2 : List UInt8 := dkwX6_markOf_2 ++ dktX6_markOf_3
def dkwX6_markOf_1 : List UInt8 := [182, 0, 245, 104, 172, 28, 6, 160, 0, 19, 42, 16, 22, 182, 0, 236, 42, 27, 182, 0, 245, 17, 3, 232]
abbrev dktX6_markOf_1 : List UInt8 := dkwX6_markOf_1 ++ dktX6_markOf_2
def dkwX6_markOf_0 : List UInt8 := [42, 180, 0, 19, 16, 9, 27, 96, 46, 61, 28, 5, 160, 0, 17, 42, 16, 24, 182, 0, 236, 5, 42, 27]
abbrev dktX6_markOf_0 : List UInt8 := dkwX6_markOf_0 ++ dktX6_markOf_1
theorem dksX6_markOf_0 : cX6_markOf.data.toList.drop 0 = dktX6_markOf_0 := by decide +kernel
theorem dksX6_markOf_1 : cX6_markOf.data.toList.drop 24 = dktX6_markOf_1 := dk_seg dksX6_markOf_0 24 rfl rfl
theorem dksX6_markOf_2 : cX6_markOf.data.toList.drop 48 = dktX6_markOf_2 := dk_seg dksX6_markOf_1 24 rfl rfl
theorem dksX6_markOf_3 : cX6_markOf.data.toList.drop 71 = dktX6_markOf_3 := dk_seg dksX6_markOf_2 23 rfl rfl
theorem dX6_markOf_0 : decode cX6_markOf 0 = .ok (.aload_n 0, 1) := dk_42 (dk_at dksX6_markOf_0 0 rfl rfl)
theorem dX6_markOf_1 : decode cX6_markOf 1 = .ok (.getfield 19, 3) := dk_180 0 19 (dk_at dksX6_markOf_0 1 rfl rfl)
theorem dX6_markOf_4 : decode cX6_markOf 4 = .ok (.bipush 9, 2) := dk_16 9 (dk_at dksX6_markOf_0 4 rfl rfl)
theorem dX6_markOf_6 : decode cX6_markOf 6 = .ok (.iload_n 1, 1) := dk_27 (dk_at dksX6_markOf_0 6 rfl rfl)
theorem dX6_markOf_7 : decode cX6_markOf 7 = .ok (.iadd, 1) := dk_96 (dk_at dksX6_markOf_0 7 rfl rfl)
theorem dX6_markOf_8 : decode cX6_markOf 8 = .ok (.iaload, 1) := dk_46 (dk_at dksX6_markOf_0 8 rfl rfl)
theorem dX6_markOf_9 : decode cX6_markOf 9 = .ok (.istore_n 2, 1) := dk_61 (dk_at dksX6_markOf_0 9 rfl rfl)
theorem dX6_markOf_10 : decode cX6_markOf 10 = .ok (.iload_n 2, 1) := dk_28 (dk_at dksX6_markOf_0 10 rfl rfl)
theorem dX6_markOf_11 : decode cX6_markOf 11 = .ok (.iconst 2, 1) := dk_5 (dk_at dksX6_markOf_0 11 rfl rfl)
theorem dX6_markOf_12 : decode cX6_markOf 12 = .ok (.if_icmp .ne 17, 3) := dk_160 0 17 (dk_at dksX6_markOf_0 12 rfl rfl)
theorem dX6_markOf_15 : decode cX6_markOf 15 = .ok (.aload_n 0, 1) := dk_42 (dk_at dksX6_markOf_0 15 rfl rfl)
theorem dX6_markOf_16 : decode cX6_markOf 16 = .ok (.bipush 24, 2) := dk_16 24 (dk_at dksX6_markOf_0 16 rfl rfl)
theorem dX6_markOf_18 : decode cX6_markOf 18 = .ok (.invokevirtual 236, 3) := dk_182 0 236 (dk_at dksX6_markOf_0 18 rfl rfl)
theorem dX6_markOf_21 : decode cX6_markOf 21 = .ok (.iconst 2, 1) := dk_5 (dk_at dksX6_markOf_0 21 rfl rfl)
theorem dX6_markOf_22 : decode cX6_markOf 22 = .ok (.aload_n 0, 1) := dk_42 (dk_at dksX6_markOf_0 22 rfl rfl)
theorem dX6_markOf_23 : decode cX6_markOf 23 = .ok (.iload_n 1, 1) := dk_27 (dk_at dksX6_markOf_0 23 rfl rfl)
theorem dX6_markOf_24 : decode cX6_markOf 24 = .ok (.invokevirtual 245, 3) := dk_182 0 245 (dk_at dksX6_markOf_1 0 rfl rfl)
theorem dX6_markOf_27 : decode cX6_markOf 27 = .ok (.imul, 1) := dk_104 (dk_at dksX6_markOf_1 3 rfl rfl)
theorem dX6_markOf_28 : decode cX6_markOf 28 = .ok (.ireturn, 1) := dk_172 (dk_at dksX6_markOf_1 4 rfl rfl)
theorem dX6_markOf_29 : decode cX6_markOf 29 = .ok (.iload_n 2, 1) := dk_28 (dk_at dksX6_markOf_1 5 rfl rfl)
theorem dX6_markOf_30 : decode cX6_markOf 30 = .ok (.iconst 3, 1) := dk_6 (dk_at dksX6_markOf_1 6 rfl rfl)
theorem dX6_markOf_31 : decode cX6_markOf 31 = .ok (.if_icmp .ne 19, 3) := dk_160 0 19 (dk_at dksX6_markOf_1 7 rfl rfl)
theorem dX6_markOf_34 : decode cX6_markOf 34 = .ok (.aload_n 0, 1) := dk_42 (dk_at dksX6_markOf_1 10 rfl rfl)
theorem dX6_markOf_35 : decode cX6_markOf 35 = .ok (.bipush 22, 2) := dk_16 22 (dk_at dksX6_markOf_1 11 rfl rfl)
theorem dX6_markOf_37 : decode cX6_markOf 37 = .ok (.invokevirtual 236, 3) := dk_182 0 236 (dk_at dksX6_markOf_1 13 rfl rfl)
theorem dX6_markOf_40 : decode cX6_markOf 40 = .ok (.aload_n 0, 1) := dk_42 (dk_at dksX6_markOf_1 16 rfl rfl)
theorem dX6_markOf_41 : decode cX6_markOf 41 = .ok (.iload_n 1, 1) := dk_27 (dk_at dksX6_markOf_1 17 rfl rfl)
theorem dX6_markOf_42 : decode cX6_markOf 42 = .ok (.invokevirtual 245, 3) := dk_182 0 245 (dk_at dksX6_markOf_1 18 rfl rfl)
theorem dX6_markOf_45 : decode cX6_markOf 45 = .ok (.sipush 1000, 3) := dk_17 3 232 (dk_at dksX6_markOf_1 21 rfl rfl)
theorem dX6_markOf_48 : decode cX6_markOf 48 = .ok (.isub, 1) := dk_100 (dk_at dksX6_markOf_2 0 rfl rfl)
theorem dX6_markOf_49 : decode cX6_markOf 49 = .ok (.ireturn, 1) := dk_172 (dk_at dksX6_markOf_2 1 rfl rfl)
theorem dX6_markOf_50 : decode cX6_markOf 50 = .ok (.iload_n 2, 1) := dk_28 (dk_at dksX6_markOf_2 2 rfl rfl)
theorem dX6_markOf_51 : decode cX6_markOf 51 = .ok (.iconst 1, 1) := dk_4 (dk_at dksX6_markOf_2 3 rfl rfl)
theorem dX6_markOf_52 : decode cX6_markOf 52 = .ok (.if_icmp .ne 9, 3) := dk_160 0 9 (dk_at dksX6_markOf_2 4 rfl rfl)
theorem dX6_markOf_55 : decode cX6_markOf 55 = .ok (.aload_n 0, 1) := dk_42 (dk_at dksX6_markOf_2 7 rfl rfl)
theorem dX6_markOf_56 : decode cX6_markOf 56 = .ok (.iload_n 1, 1) := dk_27 (dk_at dksX6_markOf_2 8 rfl rfl)
theorem dX6_markOf_57 : decode cX6_markOf 57 = .ok (.invokevirtual 245, 3) := dk_182 0 245 (dk_at dksX6_markOf_2 9 rfl rfl)
theorem dX6_markOf_60 : decode cX6_markOf 60 = .ok (.ireturn, 1) := dk_172 (dk_at dksX6_markOf_2 12 rfl rfl)
theorem dX6_markOf_61 : decode cX6_markOf 61 = .ok (.aload_n 0, 1) := dk_42 (dk_at dksX6_markOf_2 13 rfl rfl)
theorem dX6_markOf_62 : decode cX6_markOf 62 = .ok (.bipush 23, 2) := dk_16 23 (dk_at dksX6_markOf_2 14 rfl rfl)
theorem dX6_markOf_64 : decode cX6_markOf 64 = .ok (.invokevirtual 236, 3) := dk_182 0 236 (dk_at dksX6_markOf_2 16 rfl rfl)
theorem dX6_markOf_67 : decode cX6_markOf 67 = .ok (.aload_n 0, 1) := dk_42 (dk_at dksX6_markOf_2 19 rfl rfl)
theorem dX6_markOf_68 : decode cX6_markOf 68 = .ok (.iload_n 1, 1) := dk_27 (dk_at dksX6_markOf_2 20 rfl rfl)
theorem dX6_markOf_69 : decode cX6_markOf 69 = .ok (.bipush 20, 2) := dk_16 20 (dk_at dksX6_markOf_2 21 rfl rfl)
theorem dX6_markOf_71 : decode cX6_markOf 71 = .ok (.invokevirtual 239, 3) := dk_182 0 239 (dk_at dksX6_markOf_3 0 rfl rfl)
theorem dX6_markOf_74 : decode cX6_markOf 74 = .ok (.istore_n 3, 1) := dk_62 (dk_at dksX6_markOf_3 3 rfl rfl)
theorem dX6_markOf_75 : decode cX6_markOf 75 = .ok (.iload_n 3, 1) := dk_29 (dk_at dksX6_markOf_3 4 rfl rfl)
theorem dX6_markOf_76 : decode cX6_markOf 76 = .ok (.aload_n 0, 1) := dk_42 (dk_at dksX6_markOf_3 5 rfl rfl)
theorem dX6_markOf_77 : decode cX6_markOf 77 = .ok (.iload_n 1, 1) := dk_27 (dk_at dksX6_markOf_3 6 rfl rfl)
theorem dX6_markOf_78 : decode cX6_markOf 78 = .ok (.invokevirtual 248, 3) := dk_182 0 248 (dk_at dksX6_markOf_3 7 rfl rfl)
theorem dX6_markOf_81 : decode cX6_markOf 81 = .ok (.isub, 1) := dk_100 (dk_at dksX6_markOf_3 10 rfl rfl)
theorem dX6_markOf_82 : decode cX6_markOf 82 = .ok (.ireturn, 1) := dk_172 (dk_at dksX6_markOf_3 11 rfl rfl)
abbrev cX6_wallMark : ByteArray := prog_17_method_62_code
def yX6_wallMark : MethodName := ⟨RX6, "wallMark", "(I)I"⟩
def dkwX6_wallMark_0 : List UInt8 := [42, 16, 21, 182, 0, 236, 42, 27, 16, 20, 182, 0, 239, 42, 27, 182, 0, 201, 96, 172]
abbrev dktX6_wallMark_0 : List UInt8 := dkwX6_wallMark_0 ++ []
theorem dksX6_wallMark_0 : cX6_wallMark.data.toList.drop 0 = dktX6_wallMark_0 := by decide +kernel
theorem dX6_wallMark_0 : decode cX6_wallMark 0 = .ok (.aload_n 0, 1) := dk_42 (dk_at dksX6_wallMark_0 0 rfl rfl)
theorem dX6_wallMark_1 : decode cX6_wallMark 1 = .ok (.bipush 21, 2) := dk_16 21 (dk_at dksX6_wallMark_0 1 rfl rfl)
theorem dX6_wallMark_3 : decode cX6_wallMark 3 = .ok (.invokevirtual 236, 3) := dk_182 0 236 (dk_at dksX6_wallMark_0 3 rfl rfl)
theorem dX6_wallMark_6 : decode cX6_wallMark 6 = .ok (.aload_n 0, 1) := dk_42 (dk_at dksX6_wallMark_0 6 rfl rfl)
theorem dX6_wallMark_7 : decode cX6_wallMark 7 = .ok (.iload_n 1, 1) := dk_27 (dk_at dksX6_wallMark_0 7 rfl rfl)
theorem dX6_wallMark_8 : decode cX6_wallMark 8 = .ok (.bipush 20, 2) := dk_16 20 (dk_at dksX6_wallMark_0 8 rfl rfl)
theorem dX6_wallMark_10 : decode cX6_wallMark 10 = .ok (.invokevirtual 239, 3) := dk_182 0 239 (dk_at dksX6_wallMark_0 10 rfl rfl)
theorem dX6_wallMark_13 : decode cX6_wallMark 13 = .ok (.aload_n 0, 1) := dk_42 (dk_at dksX6_wallMark_0 13 rfl rfl)
theorem dX6_wallMark_14 : decode cX6_wallMark 14 = .ok (.iload_n 1, 1) := dk_27 (dk_at dksX6_wallMark_0 14 rfl rfl)
theorem dX6_wallMark_15 : decode cX6_wallMark 15 = .ok (.invokevirtual 201, 3) := dk_182 0 201 (dk_at dksX6_wallMark_0 15 rfl rfl)
theorem dX6_wallMark_18 : decode cX6_wallMark 18 = .ok (.iadd, 1) := dk_96 (dk_at dksX6_wallMark_0 18 rfl rfl)
theorem dX6_wallMark_19 : decode cX6_wallMark 19 = .ok (.ireturn, 1) := dk_172 (dk_at dksX6_wallMark_0 19 rfl rfl)
abbrev cX6_sizeOfHand : ByteArray := prog_17_method_64_code
def yX6_sizeOfHand : MethodName := ⟨RX6, "sizeOfHand", "(I)I"⟩
def dkwX6_sizeOfHand_1 : List UInt8 := [182, 0, 242, 104, 172, 42, 27, 182, 0, 242, 172]
abbrev dktX6_sizeOfHand_1 : List UInt8 := dkwX6_sizeOfHand_1 ++ []
def dkwX6_sizeOfHand_0 : List UInt8 := [42, 180, 0, 19, 16, 9, 27, 96, 46, 8, 160, 0, 17, 42, 16, 14, 182, 0, 236, 5, 42, 27]
abbrev dktX6_sizeOfHand_0 : List UInt8 := dkwX6_sizeOfHand_0 ++ dktX6_sizeOfHand_1
theorem dksX6_sizeOfHand_0 : cX6_sizeOfHand.data.toList.drop 0 = dktX6_sizeOfHand_0 := by decide +kernel
theorem dksX6_sizeOfHand_1 : cX6_sizeOfHand.data.toList.drop 22 = dktX6_sizeOfHand_1 := dk_seg dksX6_sizeOfHand_0 22 rfl rfl
theorem dX6_sizeOfHand_0 : decode cX6_sizeOfHand 0 = .ok (.aload_n 0, 1) := dk_42 (dk_at dksX6_sizeOfHand_0 0 rfl rfl)
theorem dX6_sizeOfHand_1 : decode cX6_sizeOfHand 1 = .ok (.getfield 19, 3) := dk_180 0 19 (dk_at dksX6_sizeOfHand_0 1 rfl rfl)
theorem dX6_sizeOfHand_4 : decode cX6_sizeOfHand 4 = .ok (.bipush 9, 2) := dk_16 9 (dk_at dksX6_sizeOfHand_0 4 rfl rfl)
theorem dX6_sizeOfHand_6 : decode cX6_sizeOfHand 6 = .ok (.iload_n 1, 1) := dk_27 (dk_at dksX6_sizeOfHand_0 6 rfl rfl)
theorem dX6_sizeOfHand_7 : decode cX6_sizeOfHand 7 = .ok (.iadd, 1) := dk_96 (dk_at dksX6_sizeOfHand_0 7 rfl rfl)
theorem dX6_sizeOfHand_8 : decode cX6_sizeOfHand 8 = .ok (.iaload, 1) := dk_46 (dk_at dksX6_sizeOfHand_0 8 rfl rfl)
theorem dX6_sizeOfHand_9 : decode cX6_sizeOfHand 9 = .ok (.iconst 5, 1) := dk_8 (dk_at dksX6_sizeOfHand_0 9 rfl rfl)
theorem dX6_sizeOfHand_10 : decode cX6_sizeOfHand 10 = .ok (.if_icmp .ne 17, 3) := dk_160 0 17 (dk_at dksX6_sizeOfHand_0 10 rfl rfl)
theorem dX6_sizeOfHand_13 : decode cX6_sizeOfHand 13 = .ok (.aload_n 0, 1) := dk_42 (dk_at dksX6_sizeOfHand_0 13 rfl rfl)
theorem dX6_sizeOfHand_14 : decode cX6_sizeOfHand 14 = .ok (.bipush 14, 2) := dk_16 14 (dk_at dksX6_sizeOfHand_0 14 rfl rfl)
theorem dX6_sizeOfHand_16 : decode cX6_sizeOfHand 16 = .ok (.invokevirtual 236, 3) := dk_182 0 236 (dk_at dksX6_sizeOfHand_0 16 rfl rfl)
theorem dX6_sizeOfHand_19 : decode cX6_sizeOfHand 19 = .ok (.iconst 2, 1) := dk_5 (dk_at dksX6_sizeOfHand_0 19 rfl rfl)
theorem dX6_sizeOfHand_20 : decode cX6_sizeOfHand 20 = .ok (.aload_n 0, 1) := dk_42 (dk_at dksX6_sizeOfHand_0 20 rfl rfl)
theorem dX6_sizeOfHand_21 : decode cX6_sizeOfHand 21 = .ok (.iload_n 1, 1) := dk_27 (dk_at dksX6_sizeOfHand_0 21 rfl rfl)
theorem dX6_sizeOfHand_22 : decode cX6_sizeOfHand 22 = .ok (.invokevirtual 242, 3) := dk_182 0 242 (dk_at dksX6_sizeOfHand_1 0 rfl rfl)
theorem dX6_sizeOfHand_25 : decode cX6_sizeOfHand 25 = .ok (.imul, 1) := dk_104 (dk_at dksX6_sizeOfHand_1 3 rfl rfl)
theorem dX6_sizeOfHand_26 : decode cX6_sizeOfHand 26 = .ok (.ireturn, 1) := dk_172 (dk_at dksX6_sizeOfHand_1 4 rfl rfl)
theorem dX6_sizeOfHand_27 : decode cX6_sizeOfHand 27 = .ok (.aload_n 0, 1) := dk_42 (dk_at dksX6_sizeOfHand_1 5 rfl rfl)
theorem dX6_sizeOfHand_28 : decode cX6_sizeOfHand 28 = .ok (.iload_n 1, 1) := dk_27 (dk_at dksX6_sizeOfHand_1 6 rfl rfl)
theorem dX6_sizeOfHand_29 : decode cX6_sizeOfHand 29 = .ok (.invokevirtual 242, 3) := dk_182 0 242 (dk_at dksX6_sizeOfHand_1 7 rfl rfl)
theorem dX6_sizeOfHand_32 : decode cX6_sizeOfHand 32 = .ok (.ireturn, 1) := dk_172 (dk_at dksX6_sizeOfHand_1 10 rfl rfl)
abbrev cX6_handSize : ByteArray := prog_17_method_63_code
def yX6_handSize : MethodName := ⟨RX6, "handSize", "(I)I"⟩
def dkwX6_handSize_0 : List UInt8 := [42, 16, 13, 182, 0, 236, 42, 27, 16, 10, 182, 0, 239, 16, 100, 100, 172]
abbrev dktX6_handSize_0 : List UInt8 := dkwX6_handSize_0 ++ []
theorem dksX6_handSize_0 : cX6_handSize.data.toList.drop 0 = dktX6_handSize_0 := by decide +kernel
theorem dX6_handSize_0 : decode cX6_handSize 0 = .ok (.aload_n 0, 1) := dk_42 (dk_at dksX6_handSize_0 0 rfl rfl)
theorem dX6_handSize_1 : decode cX6_handSize 1 = .ok (.bipush 13, 2) := dk_16 13 (dk_at dksX6_handSize_0 1 rfl rfl)
theorem dX6_handSize_3 : decode cX6_handSize 3 = .ok (.invokevirtual 236, 3) := dk_182 0 236 (dk_at dksX6_handSize_0 3 rfl rfl)
theorem dX6_handSize_6 : decode cX6_handSize 6 = .ok (.aload_n 0, 1) := dk_42 (dk_at dksX6_handSize_0 6 rfl rfl)
theorem dX6_handSize_7 : decode cX6_handSize 7 = .ok (.iload_n 1, 1) := dk_27 (dk_at dksX6_handSize_0 7 rfl rfl)
theorem dX6_handSize_8 : decode cX6_handSize 8 = .ok (.bipush 10, 2) := dk_16 10 (dk_at dksX6_handSize_0 8 rfl rfl)
theorem dX6_handSize_10 : decode cX6_handSize 10 = .ok (.invokevirtual 239, 3) := dk_182 0 239 (dk_at dksX6_handSize_0 10 rfl rfl)
theorem dX6_handSize_13 : decode cX6_handSize 13 = .ok (.bipush 100, 2) := dk_16 100 (dk_at dksX6_handSize_0 13 rfl rfl)
theorem dX6_handSize_15 : decode cX6_handSize 15 = .ok (.isub, 1) := dk_100 (dk_at dksX6_handSize_0 15 rfl rfl)
theorem dX6_handSize_16 : decode cX6_handSize 16 = .ok (.ireturn, 1) := dk_172 (dk_at dksX6_handSize_0 16 rfl rfl)
abbrev cX6_trace : ByteArray := prog_17_method_69_code
def yX6_trace : MethodName := ⟨RX6, "trace", "(I)I"⟩
def dkwX6_trace_1 : List UInt8 := [167, 0, 5, 18, 204, 172]
abbrev dktX6_trace_1 : List UInt8 := dkwX6_trace_1 ++ []
def dkwX6_trace_0 : List UInt8 := [27, 133, 9, 42, 180, 0, 233, 4, 100, 133, 184, 0, 57, 153, 0, 12, 42, 180, 0, 47, 27, 46]
abbrev dktX6_trace_0 : List UInt8 := dkwX6_trace_0 ++ dktX6_trace_1
theorem dksX6_trace_0 : cX6_trace.data.toList.drop 0 = dktX6_trace_0 := by decide +kernel
theorem dksX6_trace_1 : cX6_trace.data.toList.drop 22 = dktX6_trace_1 := dk_seg dksX6_trace_0 22 rfl rfl
theorem dX6_trace_0 : decode cX6_trace 0 = .ok (.iload_n 1, 1) := dk_27 (dk_at dksX6_trace_0 0 rfl rfl)
theorem dX6_trace_1 : decode cX6_trace 1 = .ok (.i2l, 1) := dk_133 (dk_at dksX6_trace_0 1 rfl rfl)
theorem dX6_trace_2 : decode cX6_trace 2 = .ok (.lconst 0, 1) := dk_9 (dk_at dksX6_trace_0 2 rfl rfl)
theorem dX6_trace_3 : decode cX6_trace 3 = .ok (.aload_n 0, 1) := dk_42 (dk_at dksX6_trace_0 3 rfl rfl)
theorem dX6_trace_4 : decode cX6_trace 4 = .ok (.getfield 233, 3) := dk_180 0 233 (dk_at dksX6_trace_0 4 rfl rfl)
theorem dX6_trace_7 : decode cX6_trace 7 = .ok (.iconst 1, 1) := dk_4 (dk_at dksX6_trace_0 7 rfl rfl)
theorem dX6_trace_8 : decode cX6_trace 8 = .ok (.isub, 1) := dk_100 (dk_at dksX6_trace_0 8 rfl rfl)
theorem dX6_trace_9 : decode cX6_trace 9 = .ok (.i2l, 1) := dk_133 (dk_at dksX6_trace_0 9 rfl rfl)
theorem dX6_trace_10 : decode cX6_trace 10 = .ok (.invokestatic 57, 3) := dk_184 0 57 (dk_at dksX6_trace_0 10 rfl rfl)
theorem dX6_trace_13 : decode cX6_trace 13 = .ok (.ifCond .eq 12, 3) := dk_153 0 12 (dk_at dksX6_trace_0 13 rfl rfl)
theorem dX6_trace_16 : decode cX6_trace 16 = .ok (.aload_n 0, 1) := dk_42 (dk_at dksX6_trace_0 16 rfl rfl)
theorem dX6_trace_17 : decode cX6_trace 17 = .ok (.getfield 47, 3) := dk_180 0 47 (dk_at dksX6_trace_0 17 rfl rfl)
theorem dX6_trace_20 : decode cX6_trace 20 = .ok (.iload_n 1, 1) := dk_27 (dk_at dksX6_trace_0 20 rfl rfl)
theorem dX6_trace_21 : decode cX6_trace 21 = .ok (.iaload, 1) := dk_46 (dk_at dksX6_trace_0 21 rfl rfl)
theorem dX6_trace_22 : decode cX6_trace 22 = .ok (.goto 5, 3) := dk_167 0 5 (dk_at dksX6_trace_1 0 rfl rfl)
theorem dX6_trace_25 : decode cX6_trace 25 = .ok (.ldc 204, 2) := dk_18 204 (dk_at dksX6_trace_1 3 rfl rfl)
theorem dX6_trace_27 : decode cX6_trace 27 = .ok (.ireturn, 1) := dk_172 (dk_at dksX6_trace_1 5 rfl rfl)
abbrev cX6_count : ByteArray := prog_17_method_70_code
def yX6_count : MethodName := ⟨RX6, "count", "(I)I"⟩
def dkwX6_count_5 : List UInt8 := [16, 19, 46, 96, 172, 42, 180, 0, 149, 172, 42, 180, 0, 81, 172, 18, 67, 172]
abbrev dktX6_count_5 : List UInt8 := dkwX6_count_5 ++ []
def dkwX6_count_4 : List UInt8 := [16, 16, 46, 42, 180, 0, 31, 16, 17, 46, 96, 42, 180, 0, 31, 16, 18, 46, 96, 42, 180, 0, 31]
abbrev dktX6_count_4 : List UInt8 := dkwX6_count_4 ++ dktX6_count_5
def dkwX6_count_3 : List UInt8 := [28, 172, 42, 182, 0, 187, 172, 42, 180, 0, 19, 3, 46, 172, 42, 180, 0, 159, 172, 42, 180, 0, 31]
abbrev dktX6_count_3 : List UInt8 := dkwX6_count_3 ++ dktX6_count_4
def dkwX6_count_2 : List UInt8 := [170, 0, 0, 0, 0, 103, 0, 0, 0, 0, 0, 0, 0, 6, 0, 0, 0, 42, 0, 0, 0, 44, 0, 0, 0, 49, 0, 0, 0, 56, 0, 0, 0, 61, 0, 0, 0, 93, 0, 0, 0, 98]
abbrev dktX6_count_2 : List UInt8 := dkwX6_count_2 ++ dktX6_count_3
def dkwX6_count_1 : List UInt8 := [3, 96, 61, 132, 3, 1, 167, 255, 230, 42, 182, 0, 166, 27]
abbrev dktX6_count_1 : List UInt8 := dkwX6_count_1 ++ dktX6_count_2
def dkwX6_count_0 : List UInt8 := [3, 61, 3, 62, 29, 16, 8, 162, 0, 26, 28, 42, 180, 0, 13, 29, 46, 155, 0, 7, 4, 167, 0, 4]
abbrev dktX6_count_0 : List UInt8 := dkwX6_count_0 ++ dktX6_count_1
theorem dksX6_count_0 : cX6_count.data.toList.drop 0 = dktX6_count_0 := by decide +kernel
theorem dksX6_count_1 : cX6_count.data.toList.drop 24 = dktX6_count_1 := dk_seg dksX6_count_0 24 rfl rfl
theorem dksX6_count_2 : cX6_count.data.toList.drop 38 = dktX6_count_2 := dk_seg dksX6_count_1 14 rfl rfl
theorem dksX6_count_3 : cX6_count.data.toList.drop 80 = dktX6_count_3 := dk_seg dksX6_count_2 42 rfl rfl
theorem dksX6_count_4 : cX6_count.data.toList.drop 103 = dktX6_count_4 := dk_seg dksX6_count_3 23 rfl rfl
theorem dksX6_count_5 : cX6_count.data.toList.drop 126 = dktX6_count_5 := dk_seg dksX6_count_4 23 rfl rfl
theorem dX6_count_0 : decode cX6_count 0 = .ok (.iconst 0, 1) := dk_3 (dk_at dksX6_count_0 0 rfl rfl)
theorem dX6_count_1 : decode cX6_count 1 = .ok (.istore_n 2, 1) := dk_61 (dk_at dksX6_count_0 1 rfl rfl)
theorem dX6_count_2 : decode cX6_count 2 = .ok (.iconst 0, 1) := dk_3 (dk_at dksX6_count_0 2 rfl rfl)
theorem dX6_count_3 : decode cX6_count 3 = .ok (.istore_n 3, 1) := dk_62 (dk_at dksX6_count_0 3 rfl rfl)
theorem dX6_count_4 : decode cX6_count 4 = .ok (.iload_n 3, 1) := dk_29 (dk_at dksX6_count_0 4 rfl rfl)
theorem dX6_count_5 : decode cX6_count 5 = .ok (.bipush 8, 2) := dk_16 8 (dk_at dksX6_count_0 5 rfl rfl)
theorem dX6_count_7 : decode cX6_count 7 = .ok (.if_icmp .ge 26, 3) := dk_162 0 26 (dk_at dksX6_count_0 7 rfl rfl)
theorem dX6_count_10 : decode cX6_count 10 = .ok (.iload_n 2, 1) := dk_28 (dk_at dksX6_count_0 10 rfl rfl)
theorem dX6_count_11 : decode cX6_count 11 = .ok (.aload_n 0, 1) := dk_42 (dk_at dksX6_count_0 11 rfl rfl)
theorem dX6_count_12 : decode cX6_count 12 = .ok (.getfield 13, 3) := dk_180 0 13 (dk_at dksX6_count_0 12 rfl rfl)
theorem dX6_count_15 : decode cX6_count 15 = .ok (.iload_n 3, 1) := dk_29 (dk_at dksX6_count_0 15 rfl rfl)
theorem dX6_count_16 : decode cX6_count 16 = .ok (.iaload, 1) := dk_46 (dk_at dksX6_count_0 16 rfl rfl)
theorem dX6_count_17 : decode cX6_count 17 = .ok (.ifCond .lt 7, 3) := dk_155 0 7 (dk_at dksX6_count_0 17 rfl rfl)
theorem dX6_count_20 : decode cX6_count 20 = .ok (.iconst 1, 1) := dk_4 (dk_at dksX6_count_0 20 rfl rfl)
theorem dX6_count_21 : decode cX6_count 21 = .ok (.goto 4, 3) := dk_167 0 4 (dk_at dksX6_count_0 21 rfl rfl)
theorem dX6_count_24 : decode cX6_count 24 = .ok (.iconst 0, 1) := dk_3 (dk_at dksX6_count_1 0 rfl rfl)
theorem dX6_count_25 : decode cX6_count 25 = .ok (.iadd, 1) := dk_96 (dk_at dksX6_count_1 1 rfl rfl)
theorem dX6_count_26 : decode cX6_count 26 = .ok (.istore_n 2, 1) := dk_61 (dk_at dksX6_count_1 2 rfl rfl)
theorem dX6_count_27 : decode cX6_count 27 = .ok (.iinc 3 1, 3) := dk_132 3 1 (dk_at dksX6_count_1 3 rfl rfl)
theorem dX6_count_30 : decode cX6_count 30 = .ok (.goto (-26), 3) := dk_167 255 230 (dk_at dksX6_count_1 6 rfl rfl)
theorem dX6_count_33 : decode cX6_count 33 = .ok (.aload_n 0, 1) := dk_42 (dk_at dksX6_count_1 9 rfl rfl)
theorem dX6_count_34 : decode cX6_count 34 = .ok (.invokevirtual 166, 3) := dk_182 0 166 (dk_at dksX6_count_1 10 rfl rfl)
theorem dX6_count_37 : decode cX6_count 37 = .ok (.iload_n 1, 1) := dk_27 (dk_at dksX6_count_1 13 rfl rfl)
theorem dX6_count_38 : decode cX6_count 38 = .ok (.tableswitch 103 0 6 #[42, 44, 49, 56, 61, 93, 98], 42) := by decide +kernel
theorem dX6_count_80 : decode cX6_count 80 = .ok (.iload_n 2, 1) := dk_28 (dk_at dksX6_count_3 0 rfl rfl)
theorem dX6_count_81 : decode cX6_count 81 = .ok (.ireturn, 1) := dk_172 (dk_at dksX6_count_3 1 rfl rfl)
theorem dX6_count_82 : decode cX6_count 82 = .ok (.aload_n 0, 1) := dk_42 (dk_at dksX6_count_3 2 rfl rfl)
theorem dX6_count_83 : decode cX6_count 83 = .ok (.invokevirtual 187, 3) := dk_182 0 187 (dk_at dksX6_count_3 3 rfl rfl)
theorem dX6_count_86 : decode cX6_count 86 = .ok (.ireturn, 1) := dk_172 (dk_at dksX6_count_3 6 rfl rfl)
theorem dX6_count_87 : decode cX6_count 87 = .ok (.aload_n 0, 1) := dk_42 (dk_at dksX6_count_3 7 rfl rfl)
theorem dX6_count_88 : decode cX6_count 88 = .ok (.getfield 19, 3) := dk_180 0 19 (dk_at dksX6_count_3 8 rfl rfl)
theorem dX6_count_91 : decode cX6_count 91 = .ok (.iconst 0, 1) := dk_3 (dk_at dksX6_count_3 11 rfl rfl)
theorem dX6_count_92 : decode cX6_count 92 = .ok (.iaload, 1) := dk_46 (dk_at dksX6_count_3 12 rfl rfl)
theorem dX6_count_93 : decode cX6_count 93 = .ok (.ireturn, 1) := dk_172 (dk_at dksX6_count_3 13 rfl rfl)
theorem dX6_count_94 : decode cX6_count 94 = .ok (.aload_n 0, 1) := dk_42 (dk_at dksX6_count_3 14 rfl rfl)
theorem dX6_count_95 : decode cX6_count 95 = .ok (.getfield 159, 3) := dk_180 0 159 (dk_at dksX6_count_3 15 rfl rfl)
theorem dX6_count_98 : decode cX6_count 98 = .ok (.ireturn, 1) := dk_172 (dk_at dksX6_count_3 18 rfl rfl)
theorem dX6_count_99 : decode cX6_count 99 = .ok (.aload_n 0, 1) := dk_42 (dk_at dksX6_count_3 19 rfl rfl)
theorem dX6_count_100 : decode cX6_count 100 = .ok (.getfield 31, 3) := dk_180 0 31 (dk_at dksX6_count_3 20 rfl rfl)
theorem dX6_count_103 : decode cX6_count 103 = .ok (.bipush 16, 2) := dk_16 16 (dk_at dksX6_count_4 0 rfl rfl)
theorem dX6_count_105 : decode cX6_count 105 = .ok (.iaload, 1) := dk_46 (dk_at dksX6_count_4 2 rfl rfl)
theorem dX6_count_106 : decode cX6_count 106 = .ok (.aload_n 0, 1) := dk_42 (dk_at dksX6_count_4 3 rfl rfl)
theorem dX6_count_107 : decode cX6_count 107 = .ok (.getfield 31, 3) := dk_180 0 31 (dk_at dksX6_count_4 4 rfl rfl)
theorem dX6_count_110 : decode cX6_count 110 = .ok (.bipush 17, 2) := dk_16 17 (dk_at dksX6_count_4 7 rfl rfl)
theorem dX6_count_112 : decode cX6_count 112 = .ok (.iaload, 1) := dk_46 (dk_at dksX6_count_4 9 rfl rfl)
theorem dX6_count_113 : decode cX6_count 113 = .ok (.iadd, 1) := dk_96 (dk_at dksX6_count_4 10 rfl rfl)
theorem dX6_count_114 : decode cX6_count 114 = .ok (.aload_n 0, 1) := dk_42 (dk_at dksX6_count_4 11 rfl rfl)
theorem dX6_count_115 : decode cX6_count 115 = .ok (.getfield 31, 3) := dk_180 0 31 (dk_at dksX6_count_4 12 rfl rfl)
theorem dX6_count_118 : decode cX6_count 118 = .ok (.bipush 18, 2) := dk_16 18 (dk_at dksX6_count_4 15 rfl rfl)
theorem dX6_count_120 : decode cX6_count 120 = .ok (.iaload, 1) := dk_46 (dk_at dksX6_count_4 17 rfl rfl)
theorem dX6_count_121 : decode cX6_count 121 = .ok (.iadd, 1) := dk_96 (dk_at dksX6_count_4 18 rfl rfl)
theorem dX6_count_122 : decode cX6_count 122 = .ok (.aload_n 0, 1) := dk_42 (dk_at dksX6_count_4 19 rfl rfl)
theorem dX6_count_123 : decode cX6_count 123 = .ok (.getfield 31, 3) := dk_180 0 31 (dk_at dksX6_count_4 20 rfl rfl)
theorem dX6_count_126 : decode cX6_count 126 = .ok (.bipush 19, 2) := dk_16 19 (dk_at dksX6_count_5 0 rfl rfl)
theorem dX6_count_128 : decode cX6_count 128 = .ok (.iaload, 1) := dk_46 (dk_at dksX6_count_5 2 rfl rfl)
theorem dX6_count_129 : decode cX6_count 129 = .ok (.iadd, 1) := dk_96 (dk_at dksX6_count_5 3 rfl rfl)
theorem dX6_count_130 : decode cX6_count 130 = .ok (.ireturn, 1) := dk_172 (dk_at dksX6_count_5 4 rfl rfl)
theorem dX6_count_131 : decode cX6_count 131 = .ok (.aload_n 0, 1) := dk_42 (dk_at dksX6_count_5 5 rfl rfl)
theorem dX6_count_132 : decode cX6_count 132 = .ok (.getfield 149, 3) := dk_180 0 149 (dk_at dksX6_count_5 6 rfl rfl)
theorem dX6_count_135 : decode cX6_count 135 = .ok (.ireturn, 1) := dk_172 (dk_at dksX6_count_5 9 rfl rfl)
theorem dX6_count_136 : decode cX6_count 136 = .ok (.aload_n 0, 1) := dk_42 (dk_at dksX6_count_5 10 rfl rfl)
theorem dX6_count_137 : decode cX6_count 137 = .ok (.getfield 81, 3) := dk_180 0 81 (dk_at dksX6_count_5 11 rfl rfl)
theorem dX6_count_140 : decode cX6_count 140 = .ok (.ireturn, 1) := dk_172 (dk_at dksX6_count_5 14 rfl rfl)
theorem dX6_count_141 : decode cX6_count 141 = .ok (.ldc 67, 2) := dk_18 67 (dk_at dksX6_count_5 15 rfl rfl)
theorem dX6_count_143 : decode cX6_count 143 = .ok (.ireturn, 1) := dk_172 (dk_at dksX6_count_5 17 rfl rfl)
abbrev cX6_status : ByteArray := prog_17_method_71_code
def yX6_status : MethodName := ⟨RX6, "status", "()I"⟩
theorem dX6_status_0 : decode cX6_status 0 = .ok (.aload_n 0, 1) := by decide +kernel
theorem dX6_status_1 : decode cX6_status 1 = .ok (.getfield 50, 3) := by decide +kernel
theorem dX6_status_4 : decode cX6_status 4 = .ok (.ireturn, 1) := by decide +kernel
theorem q66 : (Jvm.Cond.initialized "WindCarverModel") ∈ lw_all := lw_g (lw_at lw_m1 7 rfl) rfl
theorem q1111 : (Jvm.Cond.instantiable "WindCarverModel" (28 : Nat)) ∈ lw_all := lw_g (lw_at lw_m5 92 rfl) rfl
theorem q1113 : (Jvm.Cond.instanceMethod ({ cls := "WindCarverModel", name := "<init>", desc := "()V" } : Jvm.MethodName)) ∈ lw_all := lw_g (lw_at lw_m5 94 rfl) rfl
theorem q1114 : (Jvm.Cond.code ({ cls := "WindCarverModel", name := "<init>", desc := "()V" } : Jvm.MethodName) prog_17_method_1_code (2 : Nat) (Option.none : Option Jvm.ClassFile.FieldType)) ∈ lw_all := lw_g (lw_at lw_m5 95 rfl) rfl
theorem q1115 : (Jvm.Cond.methodLink "WindCarverModel" (1 : Nat) ({ cls := "java/lang/Object", name := "<init>", desc := "()V" } : Jvm.MethodName)) ∈ lw_all := lw_g (lw_at lw_m5 96 rfl) rfl
theorem q1116 : (Jvm.Cond.fieldLink "WindCarverModel" (7 : Nat) "WindCarverModel" "lanes" "[I") ∈ lw_all := lw_g (lw_at lw_m5 97 rfl) rfl
theorem q1117 : (Jvm.Cond.fieldLink "WindCarverModel" (13 : Nat) "WindCarverModel" "sizes" "[I") ∈ lw_all := lw_g (lw_at lw_m5 98 rfl) rfl
theorem q1118 : (Jvm.Cond.fieldLink "WindCarverModel" (16 : Nat) "WindCarverModel" "items" "[I") ∈ lw_all := lw_g (lw_at lw_m5 99 rfl) rfl
theorem q1119 : (Jvm.Cond.fieldLink "WindCarverModel" (50 : Nat) "WindCarverModel" "status" "I") ∈ lw_all := lw_g (lw_at lw_m5 100 rfl) rfl
theorem q1120 : (Jvm.Cond.fieldLink "WindCarverModel" (145 : Nat) "WindCarverModel" "isThere" "Z") ∈ lw_all := lw_g (lw_at lw_m5 101 rfl) rfl
theorem q1121 : (Jvm.Cond.fieldLink "WindCarverModel" (19 : Nat) "WindCarverModel" "st" "[I") ∈ lw_all := lw_g (lw_at lw_m5 102 rfl) rfl
theorem q1122 : (Jvm.Cond.fieldLink "WindCarverModel" (22 : Nat) "WindCarverModel" "moved" "[I") ∈ lw_all := lw_g (lw_at lw_m5 103 rfl) rfl
theorem q1123 : (Jvm.Cond.fieldLink "WindCarverModel" (25 : Nat) "WindCarverModel" "tape" "[I") ∈ lw_all := lw_g (lw_at lw_m5 104 rfl) rfl
theorem q1124 : (Jvm.Cond.fieldLink "WindCarverModel" (81 : Nat) "WindCarverModel" "bytes" "I") ∈ lw_all := lw_g (lw_at lw_m5 105 rfl) rfl
theorem q1125 : (Jvm.Cond.fieldLink "WindCarverModel" (141 : Nat) "WindCarverModel" "latest" "I") ∈ lw_all := lw_g (lw_at lw_m5 106 rfl) rfl
theorem q1126 : (Jvm.Cond.fieldLink "WindCarverModel" (85 : Nat) "WindCarverModel" "place" "I") ∈ lw_all := lw_g (lw_at lw_m5 107 rfl) rfl
theorem q1127 : (Jvm.Cond.fieldLink "WindCarverModel" (91 : Nat) "WindCarverModel" "token" "I") ∈ lw_all := lw_g (lw_at lw_m5 108 rfl) rfl
theorem q1128 : (Jvm.Cond.fieldLink "WindCarverModel" (94 : Nat) "WindCarverModel" "value" "I") ∈ lw_all := lw_g (lw_at lw_m5 109 rfl) rfl
theorem q1129 : (Jvm.Cond.fieldLink "WindCarverModel" (88 : Nat) "WindCarverModel" "begins" "I") ∈ lw_all := lw_g (lw_at lw_m5 110 rfl) rfl
theorem q1130 : (Jvm.Cond.fieldLink "WindCarverModel" (105 : Nat) "WindCarverModel" "wrong" "I") ∈ lw_all := lw_g (lw_at lw_m5 111 rfl) rfl
theorem q1131 : (Jvm.Cond.fieldLink "WindCarverModel" (28 : Nat) "WindCarverModel" "read" "[I") ∈ lw_all := lw_g (lw_at lw_m5 112 rfl) rfl
theorem q1132 : (Jvm.Cond.fieldLink "WindCarverModel" (124 : Nat) "WindCarverModel" "works" "I") ∈ lw_all := lw_g (lw_at lw_m5 113 rfl) rfl
theorem q1133 : (Jvm.Cond.fieldLink "WindCarverModel" (127 : Nat) "WindCarverModel" "readX" "I") ∈ lw_all := lw_g (lw_at lw_m5 114 rfl) rfl
theorem q1134 : (Jvm.Cond.fieldLink "WindCarverModel" (31 : Nat) "WindCarverModel" "felt" "[I") ∈ lw_all := lw_g (lw_at lw_m5 115 rfl) rfl
theorem q1135 : (Jvm.Cond.fieldLink "WindCarverModel" (159 : Nat) "WindCarverModel" "lostNow" "I") ∈ lw_all := lw_g (lw_at lw_m5 116 rfl) rfl
theorem q1136 : (Jvm.Cond.fieldLink "WindCarverModel" (169 : Nat) "WindCarverModel" "brokenNow" "I") ∈ lw_all := lw_g (lw_at lw_m5 117 rfl) rfl
theorem q1137 : (Jvm.Cond.fieldLink "WindCarverModel" (34 : Nat) "WindCarverModel" "acts" "[I") ∈ lw_all := lw_g (lw_at lw_m5 118 rfl) rfl
theorem q1138 : (Jvm.Cond.fieldLink "WindCarverModel" (149 : Nat) "WindCarverModel" "actMany" "I") ∈ lw_all := lw_g (lw_at lw_m5 119 rfl) rfl
theorem q1139 : (Jvm.Cond.fieldLink "WindCarverModel" (37 : Nat) "WindCarverModel" "aside" "[I") ∈ lw_all := lw_g (lw_at lw_m5 120 rfl) rfl
theorem q1140 : (Jvm.Cond.fieldLink "WindCarverModel" (40 : Nat) "WindCarverModel" "isKept" "[Z") ∈ lw_all := lw_g (lw_at lw_m5 121 rfl) rfl
theorem q1141 : (Jvm.Cond.fieldLink "WindCarverModel" (44 : Nat) "WindCarverModel" "kept" "[I") ∈ lw_all := lw_g (lw_at lw_m5 122 rfl) rfl
theorem q1142 : (Jvm.Cond.fieldLink "WindCarverModel" (47 : Nat) "WindCarverModel" "trace" "[I") ∈ lw_all := lw_g (lw_at lw_m5 123 rfl) rfl
theorem q1143 : (Jvm.Cond.fieldLink "WindCarverModel" (233 : Nat) "WindCarverModel" "traced" "I") ∈ lw_all := lw_g (lw_at lw_m5 124 rfl) rfl
theorem q1144 : (Jvm.Cond.laysFinal "WindCarverModel" "WindCarverModel" "lanes" "[I") ∈ lw_all := lw_g (lw_at lw_m5 125 rfl) rfl
theorem q1145 : (Jvm.Cond.soleField "WindCarverModel" "lanes") ∈ lw_all := lw_g (lw_at lw_m5 126 rfl) rfl
theorem q1146 : (Jvm.Cond.laysFinal "WindCarverModel" "WindCarverModel" "sizes" "[I") ∈ lw_all := lw_g (lw_at lw_m5 127 rfl) rfl
theorem q1147 : (Jvm.Cond.soleField "WindCarverModel" "sizes") ∈ lw_all := lw_g (lw_at lw_m5 128 rfl) rfl
theorem q1148 : (Jvm.Cond.laysFinal "WindCarverModel" "WindCarverModel" "items" "[I") ∈ lw_all := lw_g (lw_at lw_m5 129 rfl) rfl
theorem q1149 : (Jvm.Cond.soleField "WindCarverModel" "items") ∈ lw_all := lw_g (lw_at lw_m5 130 rfl) rfl
theorem q1150 : (Jvm.Cond.lays "WindCarverModel" "WindCarverModel" "status" "I") ∈ lw_all := lw_g (lw_at lw_m5 131 rfl) rfl
theorem q1151 : (Jvm.Cond.soleField "WindCarverModel" "status") ∈ lw_all := lw_g (lw_at lw_m5 132 rfl) rfl
theorem q1152 : (Jvm.Cond.lays "WindCarverModel" "WindCarverModel" "isThere" "Z") ∈ lw_all := lw_g (lw_at lw_m5 133 rfl) rfl
theorem q1153 : (Jvm.Cond.soleField "WindCarverModel" "isThere") ∈ lw_all := lw_g (lw_at lw_m5 134 rfl) rfl
theorem q1154 : (Jvm.Cond.laysFinal "WindCarverModel" "WindCarverModel" "st" "[I") ∈ lw_all := lw_g (lw_at lw_m5 135 rfl) rfl
theorem q1155 : (Jvm.Cond.soleField "WindCarverModel" "st") ∈ lw_all := lw_g (lw_at lw_m5 136 rfl) rfl
theorem q1156 : (Jvm.Cond.laysFinal "WindCarverModel" "WindCarverModel" "moved" "[I") ∈ lw_all := lw_g (lw_at lw_m5 137 rfl) rfl
theorem q1157 : (Jvm.Cond.soleField "WindCarverModel" "moved") ∈ lw_all := lw_g (lw_at lw_m5 138 rfl) rfl
theorem q1158 : (Jvm.Cond.laysFinal "WindCarverModel" "WindCarverModel" "tape" "[I") ∈ lw_all := lw_g (lw_at lw_m5 139 rfl) rfl
theorem q1159 : (Jvm.Cond.soleField "WindCarverModel" "tape") ∈ lw_all := lw_g (lw_at lw_m5 140 rfl) rfl
theorem q1160 : (Jvm.Cond.lays "WindCarverModel" "WindCarverModel" "bytes" "I") ∈ lw_all := lw_g (lw_at lw_m5 141 rfl) rfl
theorem q1161 : (Jvm.Cond.soleField "WindCarverModel" "bytes") ∈ lw_all := lw_g (lw_at lw_m5 142 rfl) rfl
theorem q1162 : (Jvm.Cond.lays "WindCarverModel" "WindCarverModel" "latest" "I") ∈ lw_all := lw_g (lw_at lw_m5 143 rfl) rfl
theorem q1163 : (Jvm.Cond.soleField "WindCarverModel" "latest") ∈ lw_all := lw_g (lw_at lw_m5 144 rfl) rfl
theorem q1164 : (Jvm.Cond.lays "WindCarverModel" "WindCarverModel" "place" "I") ∈ lw_all := lw_g (lw_at lw_m5 145 rfl) rfl
theorem q1165 : (Jvm.Cond.soleField "WindCarverModel" "place") ∈ lw_all := lw_g (lw_at lw_m5 146 rfl) rfl
theorem q1166 : (Jvm.Cond.lays "WindCarverModel" "WindCarverModel" "token" "I") ∈ lw_all := lw_g (lw_at lw_m5 147 rfl) rfl
theorem q1167 : (Jvm.Cond.soleField "WindCarverModel" "token") ∈ lw_all := lw_g (lw_at lw_m5 148 rfl) rfl
theorem q1168 : (Jvm.Cond.lays "WindCarverModel" "WindCarverModel" "value" "I") ∈ lw_all := lw_g (lw_at lw_m5 149 rfl) rfl
theorem q1169 : (Jvm.Cond.soleField "WindCarverModel" "value") ∈ lw_all := lw_g (lw_at lw_m5 150 rfl) rfl
theorem q1170 : (Jvm.Cond.lays "WindCarverModel" "WindCarverModel" "begins" "I") ∈ lw_all := lw_g (lw_at lw_m5 151 rfl) rfl
theorem q1171 : (Jvm.Cond.soleField "WindCarverModel" "begins") ∈ lw_all := lw_g (lw_at lw_m5 152 rfl) rfl
theorem q1172 : (Jvm.Cond.lays "WindCarverModel" "WindCarverModel" "wrong" "I") ∈ lw_all := lw_g (lw_at lw_m5 153 rfl) rfl
theorem q1173 : (Jvm.Cond.soleField "WindCarverModel" "wrong") ∈ lw_all := lw_g (lw_at lw_m5 154 rfl) rfl
theorem q1174 : (Jvm.Cond.laysFinal "WindCarverModel" "WindCarverModel" "read" "[I") ∈ lw_all := lw_g (lw_at lw_m5 155 rfl) rfl
theorem q1175 : (Jvm.Cond.soleField "WindCarverModel" "read") ∈ lw_all := lw_g (lw_at lw_m5 156 rfl) rfl
theorem q1176 : (Jvm.Cond.lays "WindCarverModel" "WindCarverModel" "works" "I") ∈ lw_all := lw_g (lw_at lw_m5 157 rfl) rfl
theorem q1177 : (Jvm.Cond.soleField "WindCarverModel" "works") ∈ lw_all := lw_g (lw_at lw_m5 158 rfl) rfl
theorem q1178 : (Jvm.Cond.lays "WindCarverModel" "WindCarverModel" "readX" "I") ∈ lw_all := lw_g (lw_at lw_m5 159 rfl) rfl
theorem q1179 : (Jvm.Cond.soleField "WindCarverModel" "readX") ∈ lw_all := lw_g (lw_at lw_m5 160 rfl) rfl
theorem q1180 : (Jvm.Cond.laysFinal "WindCarverModel" "WindCarverModel" "felt" "[I") ∈ lw_all := lw_g (lw_at lw_m5 161 rfl) rfl
theorem q1181 : (Jvm.Cond.soleField "WindCarverModel" "felt") ∈ lw_all := lw_g (lw_at lw_m5 162 rfl) rfl
theorem q1182 : (Jvm.Cond.lays "WindCarverModel" "WindCarverModel" "lostNow" "I") ∈ lw_all := lw_g (lw_at lw_m5 163 rfl) rfl
theorem q1183 : (Jvm.Cond.soleField "WindCarverModel" "lostNow") ∈ lw_all := lw_g (lw_at lw_m5 164 rfl) rfl
theorem q1184 : (Jvm.Cond.lays "WindCarverModel" "WindCarverModel" "brokenNow" "I") ∈ lw_all := lw_g (lw_at lw_m5 165 rfl) rfl
theorem q1185 : (Jvm.Cond.soleField "WindCarverModel" "brokenNow") ∈ lw_all := lw_g (lw_at lw_m5 166 rfl) rfl
theorem q1186 : (Jvm.Cond.laysFinal "WindCarverModel" "WindCarverModel" "acts" "[I") ∈ lw_all := lw_g (lw_at lw_m5 167 rfl) rfl
theorem q1187 : (Jvm.Cond.soleField "WindCarverModel" "acts") ∈ lw_all := lw_g (lw_at lw_m5 168 rfl) rfl
theorem q1188 : (Jvm.Cond.lays "WindCarverModel" "WindCarverModel" "actMany" "I") ∈ lw_all := lw_g (lw_at lw_m5 169 rfl) rfl
theorem q1189 : (Jvm.Cond.soleField "WindCarverModel" "actMany") ∈ lw_all := lw_g (lw_at lw_m5 170 rfl) rfl
theorem q1190 : (Jvm.Cond.laysFinal "WindCarverModel" "WindCarverModel" "aside" "[I") ∈ lw_all := lw_g (lw_at lw_m5 171 rfl) rfl
theorem q1191 : (Jvm.Cond.soleField "WindCarverModel" "aside") ∈ lw_all := lw_g (lw_at lw_m5 172 rfl) rfl
theorem q1192 : (Jvm.Cond.laysFinal "WindCarverModel" "WindCarverModel" "isKept" "[Z") ∈ lw_all := lw_g (lw_at lw_m5 173 rfl) rfl
theorem q1193 : (Jvm.Cond.soleField "WindCarverModel" "isKept") ∈ lw_all := lw_g (lw_at lw_m5 174 rfl) rfl
theorem q1194 : (Jvm.Cond.laysFinal "WindCarverModel" "WindCarverModel" "kept" "[I") ∈ lw_all := lw_g (lw_at lw_m5 175 rfl) rfl
theorem q1195 : (Jvm.Cond.soleField "WindCarverModel" "kept") ∈ lw_all := lw_g (lw_at lw_m5 176 rfl) rfl
theorem q1196 : (Jvm.Cond.laysFinal "WindCarverModel" "WindCarverModel" "trace" "[I") ∈ lw_all := lw_g (lw_at lw_m5 177 rfl) rfl
theorem q1197 : (Jvm.Cond.soleField "WindCarverModel" "trace") ∈ lw_all := lw_g (lw_at lw_m5 178 rfl) rfl
theorem q1198 : (Jvm.Cond.lays "WindCarverModel" "WindCarverModel" "traced" "I") ∈ lw_all := lw_g (lw_at lw_m5 179 rfl) rfl
theorem q1199 : (Jvm.Cond.soleField "WindCarverModel" "traced") ∈ lw_all := lw_g (lw_at lw_m5 180 rfl) rfl
theorem q1200 : (Jvm.Cond.superclass "WindCarverModel" "java/lang/Object") ∈ lw_all := lw_g (lw_at lw_m5 181 rfl) rfl
theorem q1203 : (Jvm.Cond.instanceMethod ({ cls := "WindCarverModel", name := "row", desc := "(III)I" } : Jvm.MethodName)) ∈ lw_all := lw_g (lw_at lw_m5 184 rfl) rfl
theorem q1204 : (Jvm.Cond.selects "WindCarverModel" ({ cls := "WindCarverModel", name := "row", desc := "(III)I" } : Jvm.MethodName) ({ cls := "WindCarverModel", name := "row", desc := "(III)I" } : Jvm.MethodName)) ∈ lw_all := lw_g (lw_at lw_m5 185 rfl) rfl
theorem q1205 : (Jvm.Cond.code ({ cls := "WindCarverModel", name := "row", desc := "(III)I" } : Jvm.MethodName) prog_17_method_7_code (5 : Nat) (Option.some Jvm.ClassFile.FieldType.int)) ∈ lw_all := lw_g (lw_at lw_m5 186 rfl) rfl
theorem q1206 : (Jvm.Cond.methodLink "WindCarverModel" (61 : Nat) ({ cls := "WindCarverModel", name := "isRow", desc := "(I)Z" } : Jvm.MethodName)) ∈ lw_all := lw_g (lw_at lw_m5 187 rfl) rfl
theorem q1207 : (Jvm.Cond.static ({ cls := "WindCarverModel", name := "isRow", desc := "(I)Z" } : Jvm.MethodName)) ∈ lw_all := lw_g (lw_at lw_m5 188 rfl) rfl
theorem q1208 : (Jvm.Cond.code ({ cls := "WindCarverModel", name := "isRow", desc := "(I)Z" } : Jvm.MethodName) prog_17_method_6_code (1 : Nat) (Option.some Jvm.ClassFile.FieldType.boolean)) ∈ lw_all := lw_g (lw_at lw_m5 189 rfl) rfl
theorem q1209 : (Jvm.Cond.constantLong "WindCarverModel" (55 : Nat) (7 : Int64)) ∈ lw_all := lw_g (lw_at lw_m5 190 rfl) rfl
theorem q1210 : (Jvm.Cond.methodLink "WindCarverModel" (57 : Nat) ({ cls := "WindCarverModel", name := "in", desc := "(JJJ)Z" } : Jvm.MethodName)) ∈ lw_all := lw_g (lw_at lw_m5 191 rfl) rfl
theorem q1211 : (Jvm.Cond.static ({ cls := "WindCarverModel", name := "in", desc := "(JJJ)Z" } : Jvm.MethodName)) ∈ lw_all := lw_g (lw_at lw_m5 192 rfl) rfl
theorem q1212 : (Jvm.Cond.code ({ cls := "WindCarverModel", name := "in", desc := "(JJJ)Z" } : Jvm.MethodName) prog_17_method_2_code (6 : Nat) (Option.some Jvm.ClassFile.FieldType.boolean)) ∈ lw_all := lw_g (lw_at lw_m5 193 rfl) rfl
theorem q1213 : (Jvm.Cond.constantLong "WindCarverModel" (65 : Nat) (2 : Int64)) ∈ lw_all := lw_g (lw_at lw_m5 194 rfl) rfl
theorem q1214 : (Jvm.Cond.constant "WindCarverModel" (67 : Nat) (-1000001 : Int32)) ∈ lw_all := lw_g (lw_at lw_m5 195 rfl) rfl
theorem q1215 : (Jvm.Cond.methodLink "WindCarverModel" (68 : Nat) ({ cls := "WindCarverModel", name := "find", desc := "(I)I" } : Jvm.MethodName)) ∈ lw_all := lw_g (lw_at lw_m5 196 rfl) rfl
theorem q1216 : (Jvm.Cond.privateMethod ({ cls := "WindCarverModel", name := "find", desc := "(I)I" } : Jvm.MethodName)) ∈ lw_tbl := lw_at lw_m5 197 rfl
theorem q1217 : (Jvm.Cond.instanceMethod ({ cls := "WindCarverModel", name := "find", desc := "(I)I" } : Jvm.MethodName)) ∈ lw_all := lw_g (lw_at lw_m5 198 rfl) rfl
theorem q1218 : (Jvm.Cond.code ({ cls := "WindCarverModel", name := "find", desc := "(I)I" } : Jvm.MethodName) prog_17_method_4_code (2 : Nat) (Option.some Jvm.ClassFile.FieldType.int)) ∈ lw_all := lw_g (lw_at lw_m5 199 rfl) rfl
theorem q1219 : (Jvm.Cond.constant "WindCarverModel" (54 : Nat) (-1000010 : Int32)) ∈ lw_all := lw_g (lw_at lw_m5 200 rfl) rfl
theorem q1220 : (Jvm.Cond.methodLink "WindCarverModel" (72 : Nat) ({ cls := "WindCarverModel", name := "well", desc := "(I)I" } : Jvm.MethodName)) ∈ lw_all := lw_g (lw_at lw_m5 201 rfl) rfl
theorem q1221 : (Jvm.Cond.privateMethod ({ cls := "WindCarverModel", name := "well", desc := "(I)I" } : Jvm.MethodName)) ∈ lw_tbl := lw_at lw_m5 202 rfl
theorem q1222 : (Jvm.Cond.instanceMethod ({ cls := "WindCarverModel", name := "well", desc := "(I)I" } : Jvm.MethodName)) ∈ lw_all := lw_g (lw_at lw_m5 203 rfl) rfl
theorem q1223 : (Jvm.Cond.code ({ cls := "WindCarverModel", name := "well", desc := "(I)I" } : Jvm.MethodName) prog_17_method_5_code (2 : Nat) (Option.some Jvm.ClassFile.FieldType.int)) ∈ lw_all := lw_g (lw_at lw_m5 204 rfl) rfl
theorem q1225 : (Jvm.Cond.instanceMethod ({ cls := "WindCarverModel", name := "set", desc := "(III)I" } : Jvm.MethodName)) ∈ lw_all := lw_g (lw_at lw_m5 206 rfl) rfl
theorem q1226 : (Jvm.Cond.selects "WindCarverModel" ({ cls := "WindCarverModel", name := "set", desc := "(III)I" } : Jvm.MethodName) ({ cls := "WindCarverModel", name := "set", desc := "(III)I" } : Jvm.MethodName)) ∈ lw_all := lw_g (lw_at lw_m5 207 rfl) rfl
theorem q1227 : (Jvm.Cond.code ({ cls := "WindCarverModel", name := "set", desc := "(III)I" } : Jvm.MethodName) prog_17_method_9_code (4 : Nat) (Option.some Jvm.ClassFile.FieldType.int)) ∈ lw_all := lw_g (lw_at lw_m5 208 rfl) rfl
theorem q1228 : (Jvm.Cond.methodLink "WindCarverModel" (75 : Nat) ({ cls := "WindCarverModel", name := "asLane", desc := "(II)I" } : Jvm.MethodName)) ∈ lw_all := lw_g (lw_at lw_m5 209 rfl) rfl
theorem q1229 : (Jvm.Cond.static ({ cls := "WindCarverModel", name := "asLane", desc := "(II)I" } : Jvm.MethodName)) ∈ lw_all := lw_g (lw_at lw_m5 210 rfl) rfl
theorem q1230 : (Jvm.Cond.code ({ cls := "WindCarverModel", name := "asLane", desc := "(II)I" } : Jvm.MethodName) prog_17_method_8_code (2 : Nat) (Option.some Jvm.ClassFile.FieldType.int)) ∈ lw_all := lw_g (lw_at lw_m5 211 rfl) rfl
theorem q1232 : (Jvm.Cond.instanceMethod ({ cls := "WindCarverModel", name := "copy", desc := "(IIIII)I" } : Jvm.MethodName)) ∈ lw_all := lw_g (lw_at lw_m5 213 rfl) rfl
theorem q1233 : (Jvm.Cond.selects "WindCarverModel" ({ cls := "WindCarverModel", name := "copy", desc := "(IIIII)I" } : Jvm.MethodName) ({ cls := "WindCarverModel", name := "copy", desc := "(IIIII)I" } : Jvm.MethodName)) ∈ lw_all := lw_g (lw_at lw_m5 214 rfl) rfl
theorem q1234 : (Jvm.Cond.code ({ cls := "WindCarverModel", name := "copy", desc := "(IIIII)I" } : Jvm.MethodName) prog_17_method_10_code (7 : Nat) (Option.some Jvm.ClassFile.FieldType.int)) ∈ lw_all := lw_g (lw_at lw_m5 215 rfl) rfl
theorem q1236 : (Jvm.Cond.instanceMethod ({ cls := "WindCarverModel", name := "drop", desc := "(I)I" } : Jvm.MethodName)) ∈ lw_all := lw_g (lw_at lw_m5 217 rfl) rfl
theorem q1237 : (Jvm.Cond.selects "WindCarverModel" ({ cls := "WindCarverModel", name := "drop", desc := "(I)I" } : Jvm.MethodName) ({ cls := "WindCarverModel", name := "drop", desc := "(I)I" } : Jvm.MethodName)) ∈ lw_all := lw_g (lw_at lw_m5 218 rfl) rfl
theorem q1238 : (Jvm.Cond.code ({ cls := "WindCarverModel", name := "drop", desc := "(I)I" } : Jvm.MethodName) prog_17_method_11_code (3 : Nat) (Option.some Jvm.ClassFile.FieldType.int)) ∈ lw_all := lw_g (lw_at lw_m5 219 rfl) rfl
theorem q1240 : (Jvm.Cond.instanceMethod ({ cls := "WindCarverModel", name := "feed", desc := "(I)I" } : Jvm.MethodName)) ∈ lw_all := lw_g (lw_at lw_m5 221 rfl) rfl
theorem q1241 : (Jvm.Cond.selects "WindCarverModel" ({ cls := "WindCarverModel", name := "feed", desc := "(I)I" } : Jvm.MethodName) ({ cls := "WindCarverModel", name := "feed", desc := "(I)I" } : Jvm.MethodName)) ∈ lw_all := lw_g (lw_at lw_m5 222 rfl) rfl
theorem q1242 : (Jvm.Cond.code ({ cls := "WindCarverModel", name := "feed", desc := "(I)I" } : Jvm.MethodName) prog_17_method_12_code (2 : Nat) (Option.some Jvm.ClassFile.FieldType.int)) ∈ lw_all := lw_g (lw_at lw_m5 223 rfl) rfl
theorem q1243 : (Jvm.Cond.constantLong "WindCarverModel" (79 : Nat) (255 : Int64)) ∈ lw_all := lw_g (lw_at lw_m5 224 rfl) rfl
theorem q1244 : (Jvm.Cond.constant "WindCarverModel" (84 : Nat) (-1000003 : Int32)) ∈ lw_all := lw_g (lw_at lw_m5 225 rfl) rfl
theorem q1246 : (Jvm.Cond.instanceMethod ({ cls := "WindCarverModel", name := "pass", desc := "()I" } : Jvm.MethodName)) ∈ lw_all := lw_g (lw_at lw_m5 227 rfl) rfl
theorem q1247 : (Jvm.Cond.selects "WindCarverModel" ({ cls := "WindCarverModel", name := "pass", desc := "()I" } : Jvm.MethodName) ({ cls := "WindCarverModel", name := "pass", desc := "()I" } : Jvm.MethodName)) ∈ lw_all := lw_g (lw_at lw_m5 228 rfl) rfl
theorem q1248 : (Jvm.Cond.code ({ cls := "WindCarverModel", name := "pass", desc := "()I" } : Jvm.MethodName) prog_17_method_21_code (3 : Nat) (Option.some Jvm.ClassFile.FieldType.int)) ∈ lw_all := lw_g (lw_at lw_m5 229 rfl) rfl
theorem q1249 : (Jvm.Cond.methodLink "WindCarverModel" (137 : Nat) ({ cls := "WindCarverModel", name := "readPass", desc := "()Z" } : Jvm.MethodName)) ∈ lw_all := lw_g (lw_at lw_m5 230 rfl) rfl
theorem q1250 : (Jvm.Cond.privateMethod ({ cls := "WindCarverModel", name := "readPass", desc := "()Z" } : Jvm.MethodName)) ∈ lw_tbl := lw_at lw_m5 231 rfl
theorem q1251 : (Jvm.Cond.instanceMethod ({ cls := "WindCarverModel", name := "readPass", desc := "()Z" } : Jvm.MethodName)) ∈ lw_all := lw_g (lw_at lw_m5 232 rfl) rfl
theorem q1252 : (Jvm.Cond.code ({ cls := "WindCarverModel", name := "readPass", desc := "()Z" } : Jvm.MethodName) prog_17_method_20_code (3 : Nat) (Option.some Jvm.ClassFile.FieldType.boolean)) ∈ lw_all := lw_g (lw_at lw_m5 233 rfl) rfl
theorem q1253 : (Jvm.Cond.methodLink "WindCarverModel" (114 : Nat) ({ cls := "WindCarverModel", name := "nextToken", desc := "()V" } : Jvm.MethodName)) ∈ lw_all := lw_g (lw_at lw_m5 234 rfl) rfl
theorem q1254 : (Jvm.Cond.privateMethod ({ cls := "WindCarverModel", name := "nextToken", desc := "()V" } : Jvm.MethodName)) ∈ lw_tbl := lw_at lw_m5 235 rfl
theorem q1255 : (Jvm.Cond.instanceMethod ({ cls := "WindCarverModel", name := "nextToken", desc := "()V" } : Jvm.MethodName)) ∈ lw_all := lw_g (lw_at lw_m5 236 rfl) rfl
theorem q1256 : (Jvm.Cond.code ({ cls := "WindCarverModel", name := "nextToken", desc := "()V" } : Jvm.MethodName) prog_17_method_13_code (1 : Nat) (Option.none : Option Jvm.ClassFile.FieldType)) ∈ lw_all := lw_g (lw_at lw_m5 237 rfl) rfl
theorem q1257 : (Jvm.Cond.constantLong "WindCarverModel" (97 : Nat) (48 : Int64)) ∈ lw_all := lw_g (lw_at lw_m5 238 rfl) rfl
theorem q1258 : (Jvm.Cond.constantLong "WindCarverModel" (99 : Nat) (57 : Int64)) ∈ lw_all := lw_g (lw_at lw_m5 239 rfl) rfl
theorem q1259 : (Jvm.Cond.constantLong "WindCarverModel" (101 : Nat) (97 : Int64)) ∈ lw_all := lw_g (lw_at lw_m6 0 rfl) rfl
theorem q1260 : (Jvm.Cond.constantLong "WindCarverModel" (103 : Nat) (122 : Int64)) ∈ lw_all := lw_g (lw_at lw_m6 1 rfl) rfl
theorem q1261 : (Jvm.Cond.methodLink "WindCarverModel" (130 : Nat) ({ cls := "WindCarverModel", name := "readFour", desc := "(II)Z" } : Jvm.MethodName)) ∈ lw_all := lw_g (lw_at lw_m6 2 rfl) rfl
theorem q1262 : (Jvm.Cond.privateMethod ({ cls := "WindCarverModel", name := "readFour", desc := "(II)Z" } : Jvm.MethodName)) ∈ lw_tbl := lw_at lw_m6 3 rfl
theorem q1263 : (Jvm.Cond.instanceMethod ({ cls := "WindCarverModel", name := "readFour", desc := "(II)Z" } : Jvm.MethodName)) ∈ lw_all := lw_g (lw_at lw_m6 4 rfl) rfl
theorem q1264 : (Jvm.Cond.code ({ cls := "WindCarverModel", name := "readFour", desc := "(II)Z" } : Jvm.MethodName) prog_17_method_18_code (5 : Nat) (Option.some Jvm.ClassFile.FieldType.boolean)) ∈ lw_all := lw_g (lw_at lw_m6 5 rfl) rfl
theorem q1265 : (Jvm.Cond.methodLink "WindCarverModel" (117 : Nat) ({ cls := "WindCarverModel", name := "takes", desc := "(I)Z" } : Jvm.MethodName)) ∈ lw_all := lw_g (lw_at lw_m6 6 rfl) rfl
theorem q1266 : (Jvm.Cond.privateMethod ({ cls := "WindCarverModel", name := "takes", desc := "(I)Z" } : Jvm.MethodName)) ∈ lw_tbl := lw_at lw_m6 7 rfl
theorem q1267 : (Jvm.Cond.instanceMethod ({ cls := "WindCarverModel", name := "takes", desc := "(I)Z" } : Jvm.MethodName)) ∈ lw_all := lw_g (lw_at lw_m6 8 rfl) rfl
theorem q1268 : (Jvm.Cond.code ({ cls := "WindCarverModel", name := "takes", desc := "(I)Z" } : Jvm.MethodName) prog_17_method_16_code (2 : Nat) (Option.some Jvm.ClassFile.FieldType.boolean)) ∈ lw_all := lw_g (lw_at lw_m6 9 rfl) rfl
theorem q1269 : (Jvm.Cond.methodLink "WindCarverModel" (108 : Nat) ({ cls := "WindCarverModel", name := "isLetter", desc := "(I)Z" } : Jvm.MethodName)) ∈ lw_all := lw_g (lw_at lw_m6 10 rfl) rfl
theorem q1270 : (Jvm.Cond.privateMethod ({ cls := "WindCarverModel", name := "isLetter", desc := "(I)Z" } : Jvm.MethodName)) ∈ lw_tbl := lw_at lw_m6 11 rfl
theorem q1271 : (Jvm.Cond.instanceMethod ({ cls := "WindCarverModel", name := "isLetter", desc := "(I)Z" } : Jvm.MethodName)) ∈ lw_all := lw_g (lw_at lw_m6 12 rfl) rfl
theorem q1272 : (Jvm.Cond.code ({ cls := "WindCarverModel", name := "isLetter", desc := "(I)Z" } : Jvm.MethodName) prog_17_method_15_code (2 : Nat) (Option.some Jvm.ClassFile.FieldType.boolean)) ∈ lw_all := lw_g (lw_at lw_m6 13 rfl) rfl
theorem q1273 : (Jvm.Cond.methodLink "WindCarverModel" (111 : Nat) ({ cls := "WindCarverModel", name := "faults", desc := "(I)Z" } : Jvm.MethodName)) ∈ lw_all := lw_g (lw_at lw_m6 14 rfl) rfl
theorem q1274 : (Jvm.Cond.privateMethod ({ cls := "WindCarverModel", name := "faults", desc := "(I)Z" } : Jvm.MethodName)) ∈ lw_tbl := lw_at lw_m6 15 rfl
theorem q1275 : (Jvm.Cond.instanceMethod ({ cls := "WindCarverModel", name := "faults", desc := "(I)Z" } : Jvm.MethodName)) ∈ lw_all := lw_g (lw_at lw_m6 16 rfl) rfl
theorem q1276 : (Jvm.Cond.code ({ cls := "WindCarverModel", name := "faults", desc := "(I)Z" } : Jvm.MethodName) prog_17_method_14_code (2 : Nat) (Option.some Jvm.ClassFile.FieldType.boolean)) ∈ lw_all := lw_g (lw_at lw_m6 17 rfl) rfl
theorem q1277 : (Jvm.Cond.methodLink "WindCarverModel" (120 : Nat) ({ cls := "WindCarverModel", name := "takesNumber", desc := "(IIII)Z" } : Jvm.MethodName)) ∈ lw_all := lw_g (lw_at lw_m6 18 rfl) rfl
theorem q1278 : (Jvm.Cond.privateMethod ({ cls := "WindCarverModel", name := "takesNumber", desc := "(IIII)Z" } : Jvm.MethodName)) ∈ lw_tbl := lw_at lw_m6 19 rfl
theorem q1279 : (Jvm.Cond.instanceMethod ({ cls := "WindCarverModel", name := "takesNumber", desc := "(IIII)Z" } : Jvm.MethodName)) ∈ lw_all := lw_g (lw_at lw_m6 20 rfl) rfl
theorem q1280 : (Jvm.Cond.code ({ cls := "WindCarverModel", name := "takesNumber", desc := "(IIII)Z" } : Jvm.MethodName) prog_17_method_17_code (5 : Nat) (Option.some Jvm.ClassFile.FieldType.boolean)) ∈ lw_all := lw_g (lw_at lw_m6 21 rfl) rfl
theorem q1281 : (Jvm.Cond.methodLink "WindCarverModel" (134 : Nat) ({ cls := "WindCarverModel", name := "readWork", desc := "(I)Z" } : Jvm.MethodName)) ∈ lw_all := lw_g (lw_at lw_m6 22 rfl) rfl
theorem q1282 : (Jvm.Cond.privateMethod ({ cls := "WindCarverModel", name := "readWork", desc := "(I)Z" } : Jvm.MethodName)) ∈ lw_tbl := lw_at lw_m6 23 rfl
theorem q1283 : (Jvm.Cond.instanceMethod ({ cls := "WindCarverModel", name := "readWork", desc := "(I)Z" } : Jvm.MethodName)) ∈ lw_all := lw_g (lw_at lw_m6 24 rfl) rfl
theorem q1284 : (Jvm.Cond.code ({ cls := "WindCarverModel", name := "readWork", desc := "(I)Z" } : Jvm.MethodName) prog_17_method_19_code (3 : Nat) (Option.some Jvm.ClassFile.FieldType.boolean)) ∈ lw_all := lw_g (lw_at lw_m6 25 rfl) rfl
theorem q1285 : (Jvm.Cond.constant "WindCarverModel" (144 : Nat) (-1000100 : Int32)) ∈ lw_all := lw_g (lw_at lw_m6 26 rfl) rfl
theorem q1287 : (Jvm.Cond.instanceMethod ({ cls := "WindCarverModel", name := "fault", desc := "()I" } : Jvm.MethodName)) ∈ lw_all := lw_g (lw_at lw_m6 28 rfl) rfl
theorem q1288 : (Jvm.Cond.selects "WindCarverModel" ({ cls := "WindCarverModel", name := "fault", desc := "()I" } : Jvm.MethodName) ({ cls := "WindCarverModel", name := "fault", desc := "()I" } : Jvm.MethodName)) ∈ lw_all := lw_g (lw_at lw_m6 29 rfl) rfl
theorem q1289 : (Jvm.Cond.code ({ cls := "WindCarverModel", name := "fault", desc := "()I" } : Jvm.MethodName) prog_17_method_22_code (1 : Nat) (Option.some Jvm.ClassFile.FieldType.int)) ∈ lw_all := lw_g (lw_at lw_m6 30 rfl) rfl
theorem q1291 : (Jvm.Cond.instanceMethod ({ cls := "WindCarverModel", name := "setUp", desc := "(III)I" } : Jvm.MethodName)) ∈ lw_all := lw_g (lw_at lw_m6 32 rfl) rfl
theorem q1292 : (Jvm.Cond.selects "WindCarverModel" ({ cls := "WindCarverModel", name := "setUp", desc := "(III)I" } : Jvm.MethodName) ({ cls := "WindCarverModel", name := "setUp", desc := "(III)I" } : Jvm.MethodName)) ∈ lw_all := lw_g (lw_at lw_m6 33 rfl) rfl
theorem q1293 : (Jvm.Cond.code ({ cls := "WindCarverModel", name := "setUp", desc := "(III)I" } : Jvm.MethodName) prog_17_method_33_code (4 : Nat) (Option.some Jvm.ClassFile.FieldType.int)) ∈ lw_all := lw_g (lw_at lw_m6 34 rfl) rfl
theorem q1294 : (Jvm.Cond.constant "WindCarverModel" (179 : Nat) (-1000002 : Int32)) ∈ lw_all := lw_g (lw_at lw_m6 35 rfl) rfl
theorem q1295 : (Jvm.Cond.methodLink "WindCarverModel" (180 : Nat) ({ cls := "WindCarverModel", name := "isCell", desc := "(I)Z" } : Jvm.MethodName)) ∈ lw_all := lw_g (lw_at lw_m6 36 rfl) rfl
theorem q1296 : (Jvm.Cond.static ({ cls := "WindCarverModel", name := "isCell", desc := "(I)Z" } : Jvm.MethodName)) ∈ lw_all := lw_g (lw_at lw_m6 37 rfl) rfl
theorem q1297 : (Jvm.Cond.code ({ cls := "WindCarverModel", name := "isCell", desc := "(I)Z" } : Jvm.MethodName) prog_17_method_23_code (1 : Nat) (Option.some Jvm.ClassFile.FieldType.boolean)) ∈ lw_all := lw_g (lw_at lw_m6 38 rfl) rfl
theorem q1298 : (Jvm.Cond.constantLong "WindCarverModel" (152 : Nat) (15 : Int64)) ∈ lw_all := lw_g (lw_at lw_m6 39 rfl) rfl
theorem q1299 : (Jvm.Cond.constantLong "WindCarverModel" (183 : Nat) (5 : Int64)) ∈ lw_all := lw_g (lw_at lw_m6 40 rfl) rfl
theorem q1300 : (Jvm.Cond.constantLong "WindCarverModel" (185 : Nat) (99 : Int64)) ∈ lw_all := lw_g (lw_at lw_m6 41 rfl) rfl
theorem q1301 : (Jvm.Cond.methodLink "WindCarverModel" (172 : Nat) ({ cls := "WindCarverModel", name := "isWork", desc := "(I)Z" } : Jvm.MethodName)) ∈ lw_all := lw_g (lw_at lw_m6 42 rfl) rfl
theorem q1302 : (Jvm.Cond.privateMethod ({ cls := "WindCarverModel", name := "isWork", desc := "(I)Z" } : Jvm.MethodName)) ∈ lw_tbl := lw_at lw_m6 43 rfl
theorem q1303 : (Jvm.Cond.instanceMethod ({ cls := "WindCarverModel", name := "isWork", desc := "(I)Z" } : Jvm.MethodName)) ∈ lw_all := lw_g (lw_at lw_m6 44 rfl) rfl
theorem q1304 : (Jvm.Cond.code ({ cls := "WindCarverModel", name := "isWork", desc := "(I)Z" } : Jvm.MethodName) prog_17_method_25_code (2 : Nat) (Option.some Jvm.ClassFile.FieldType.boolean)) ∈ lw_all := lw_g (lw_at lw_m6 45 rfl) rfl
theorem q1305 : (Jvm.Cond.methodLink "WindCarverModel" (187 : Nat) ({ cls := "WindCarverModel", name := "workMany", desc := "()I" } : Jvm.MethodName)) ∈ lw_all := lw_g (lw_at lw_m6 46 rfl) rfl
theorem q1306 : (Jvm.Cond.privateMethod ({ cls := "WindCarverModel", name := "workMany", desc := "()I" } : Jvm.MethodName)) ∈ lw_tbl := lw_at lw_m6 47 rfl
theorem q1307 : (Jvm.Cond.instanceMethod ({ cls := "WindCarverModel", name := "workMany", desc := "()I" } : Jvm.MethodName)) ∈ lw_all := lw_g (lw_at lw_m6 48 rfl) rfl
theorem q1308 : (Jvm.Cond.code ({ cls := "WindCarverModel", name := "workMany", desc := "()I" } : Jvm.MethodName) prog_17_method_31_code (3 : Nat) (Option.some Jvm.ClassFile.FieldType.int)) ∈ lw_all := lw_g (lw_at lw_m6 49 rfl) rfl
theorem q1309 : (Jvm.Cond.methodLink "WindCarverModel" (191 : Nat) ({ cls := "WindCarverModel", name := "note", desc := "()V" } : Jvm.MethodName)) ∈ lw_all := lw_g (lw_at lw_m6 50 rfl) rfl
theorem q1310 : (Jvm.Cond.privateMethod ({ cls := "WindCarverModel", name := "note", desc := "()V" } : Jvm.MethodName)) ∈ lw_tbl := lw_at lw_m6 51 rfl
theorem q1311 : (Jvm.Cond.instanceMethod ({ cls := "WindCarverModel", name := "note", desc := "()V" } : Jvm.MethodName)) ∈ lw_all := lw_g (lw_at lw_m6 52 rfl) rfl
theorem q1312 : (Jvm.Cond.code ({ cls := "WindCarverModel", name := "note", desc := "()V" } : Jvm.MethodName) prog_17_method_32_code (2 : Nat) (Option.none : Option Jvm.ClassFile.FieldType)) ∈ lw_all := lw_g (lw_at lw_m6 53 rfl) rfl
theorem q1314 : (Jvm.Cond.instanceMethod ({ cls := "WindCarverModel", name := "take", desc := "(I)I" } : Jvm.MethodName)) ∈ lw_all := lw_g (lw_at lw_m6 55 rfl) rfl
theorem q1315 : (Jvm.Cond.selects "WindCarverModel" ({ cls := "WindCarverModel", name := "take", desc := "(I)I" } : Jvm.MethodName) ({ cls := "WindCarverModel", name := "take", desc := "(I)I" } : Jvm.MethodName)) ∈ lw_all := lw_g (lw_at lw_m6 56 rfl) rfl
theorem q1316 : (Jvm.Cond.code ({ cls := "WindCarverModel", name := "take", desc := "(I)I" } : Jvm.MethodName) prog_17_method_34_code (2 : Nat) (Option.some Jvm.ClassFile.FieldType.int)) ∈ lw_all := lw_g (lw_at lw_m6 57 rfl) rfl
theorem q1317 : (Jvm.Cond.methodLink "WindCarverModel" (175 : Nat) ({ cls := "WindCarverModel", name := "clear", desc := "(I)V" } : Jvm.MethodName)) ∈ lw_all := lw_g (lw_at lw_m6 58 rfl) rfl
theorem q1318 : (Jvm.Cond.privateMethod ({ cls := "WindCarverModel", name := "clear", desc := "(I)V" } : Jvm.MethodName)) ∈ lw_tbl := lw_at lw_m6 59 rfl
theorem q1319 : (Jvm.Cond.instanceMethod ({ cls := "WindCarverModel", name := "clear", desc := "(I)V" } : Jvm.MethodName)) ∈ lw_all := lw_g (lw_at lw_m6 60 rfl) rfl
theorem q1320 : (Jvm.Cond.code ({ cls := "WindCarverModel", name := "clear", desc := "(I)V" } : Jvm.MethodName) prog_17_method_29_code (2 : Nat) (Option.none : Option Jvm.ClassFile.FieldType)) ∈ lw_all := lw_g (lw_at lw_m6 61 rfl) rfl
theorem q1322 : (Jvm.Cond.instanceMethod ({ cls := "WindCarverModel", name := "turn", desc := "(I)I" } : Jvm.MethodName)) ∈ lw_all := lw_g (lw_at lw_m6 63 rfl) rfl
theorem q1323 : (Jvm.Cond.selects "WindCarverModel" ({ cls := "WindCarverModel", name := "turn", desc := "(I)I" } : Jvm.MethodName) ({ cls := "WindCarverModel", name := "turn", desc := "(I)I" } : Jvm.MethodName)) ∈ lw_all := lw_g (lw_at lw_m6 64 rfl) rfl
theorem q1324 : (Jvm.Cond.code ({ cls := "WindCarverModel", name := "turn", desc := "(I)I" } : Jvm.MethodName) prog_17_method_35_code (2 : Nat) (Option.some Jvm.ClassFile.FieldType.int)) ∈ lw_all := lw_g (lw_at lw_m6 65 rfl) rfl
theorem q1326 : (Jvm.Cond.instanceMethod ({ cls := "WindCarverModel", name := "gust", desc := "(II)I" } : Jvm.MethodName)) ∈ lw_all := lw_g (lw_at lw_m6 67 rfl) rfl
theorem q1327 : (Jvm.Cond.selects "WindCarverModel" ({ cls := "WindCarverModel", name := "gust", desc := "(II)I" } : Jvm.MethodName) ({ cls := "WindCarverModel", name := "gust", desc := "(II)I" } : Jvm.MethodName)) ∈ lw_all := lw_g (lw_at lw_m6 68 rfl) rfl
theorem q1328 : (Jvm.Cond.code ({ cls := "WindCarverModel", name := "gust", desc := "(II)I" } : Jvm.MethodName) prog_17_method_36_code (4 : Nat) (Option.some Jvm.ClassFile.FieldType.int)) ∈ lw_all := lw_g (lw_at lw_m6 69 rfl) rfl
theorem q1329 : (Jvm.Cond.methodLink "WindCarverModel" (156 : Nat) ({ cls := "WindCarverModel", name := "isRowOfPass", desc := "(I)Z" } : Jvm.MethodName)) ∈ lw_all := lw_g (lw_at lw_m6 70 rfl) rfl
theorem q1330 : (Jvm.Cond.static ({ cls := "WindCarverModel", name := "isRowOfPass", desc := "(I)Z" } : Jvm.MethodName)) ∈ lw_all := lw_g (lw_at lw_m6 71 rfl) rfl
theorem q1331 : (Jvm.Cond.code ({ cls := "WindCarverModel", name := "isRowOfPass", desc := "(I)Z" } : Jvm.MethodName) prog_17_method_24_code (1 : Nat) (Option.some Jvm.ClassFile.FieldType.boolean)) ∈ lw_all := lw_g (lw_at lw_m6 72 rfl) rfl
theorem q1332 : (Jvm.Cond.constantLong "WindCarverModel" (154 : Nat) (3 : Int64)) ∈ lw_all := lw_g (lw_at lw_m6 73 rfl) rfl
theorem q1333 : (Jvm.Cond.constantLong "WindCarverModel" (194 : Nat) (31 : Int64)) ∈ lw_all := lw_g (lw_at lw_m6 74 rfl) rfl
theorem q1335 : (Jvm.Cond.instanceMethod ({ cls := "WindCarverModel", name := "hours", desc := "(I)I" } : Jvm.MethodName)) ∈ lw_all := lw_g (lw_at lw_m6 76 rfl) rfl
theorem q1336 : (Jvm.Cond.selects "WindCarverModel" ({ cls := "WindCarverModel", name := "hours", desc := "(I)I" } : Jvm.MethodName) ({ cls := "WindCarverModel", name := "hours", desc := "(I)I" } : Jvm.MethodName)) ∈ lw_all := lw_g (lw_at lw_m6 77 rfl) rfl
theorem q1337 : (Jvm.Cond.code ({ cls := "WindCarverModel", name := "hours", desc := "(I)I" } : Jvm.MethodName) prog_17_method_37_code (3 : Nat) (Option.some Jvm.ClassFile.FieldType.int)) ∈ lw_all := lw_g (lw_at lw_m6 78 rfl) rfl
theorem q1338 : (Jvm.Cond.constantLong "WindCarverModel" (196 : Nat) (20 : Int64)) ∈ lw_all := lw_g (lw_at lw_m6 79 rfl) rfl
theorem q1339 : (Jvm.Cond.methodLink "WindCarverModel" (198 : Nat) ({ cls := "WindCarverModel", name := "oneHour", desc := "()V" } : Jvm.MethodName)) ∈ lw_all := lw_g (lw_at lw_m6 80 rfl) rfl
theorem q1340 : (Jvm.Cond.privateMethod ({ cls := "WindCarverModel", name := "oneHour", desc := "()V" } : Jvm.MethodName)) ∈ lw_tbl := lw_at lw_m6 81 rfl
theorem q1341 : (Jvm.Cond.instanceMethod ({ cls := "WindCarverModel", name := "oneHour", desc := "()V" } : Jvm.MethodName)) ∈ lw_all := lw_g (lw_at lw_m6 82 rfl) rfl
theorem q1342 : (Jvm.Cond.code ({ cls := "WindCarverModel", name := "oneHour", desc := "()V" } : Jvm.MethodName) prog_17_method_30_code (2 : Nat) (Option.none : Option Jvm.ClassFile.FieldType)) ∈ lw_all := lw_g (lw_at lw_m6 83 rfl) rfl
theorem q1343 : (Jvm.Cond.methodLink "WindCarverModel" (166 : Nat) ({ cls := "WindCarverModel", name := "blow", desc := "()V" } : Jvm.MethodName)) ∈ lw_all := lw_g (lw_at lw_m6 84 rfl) rfl
theorem q1344 : (Jvm.Cond.privateMethod ({ cls := "WindCarverModel", name := "blow", desc := "()V" } : Jvm.MethodName)) ∈ lw_tbl := lw_at lw_m6 85 rfl
theorem q1345 : (Jvm.Cond.instanceMethod ({ cls := "WindCarverModel", name := "blow", desc := "()V" } : Jvm.MethodName)) ∈ lw_all := lw_g (lw_at lw_m6 86 rfl) rfl
theorem q1346 : (Jvm.Cond.code ({ cls := "WindCarverModel", name := "blow", desc := "()V" } : Jvm.MethodName) prog_17_method_27_code (9 : Nat) (Option.none : Option Jvm.ClassFile.FieldType)) ∈ lw_all := lw_g (lw_at lw_m6 87 rfl) rfl
theorem q1347 : (Jvm.Cond.methodLink "WindCarverModel" (162 : Nat) ({ cls := "WindCarverModel", name := "goes", desc := "(III)V" } : Jvm.MethodName)) ∈ lw_all := lw_g (lw_at lw_m6 88 rfl) rfl
theorem q1348 : (Jvm.Cond.privateMethod ({ cls := "WindCarverModel", name := "goes", desc := "(III)V" } : Jvm.MethodName)) ∈ lw_tbl := lw_at lw_m6 89 rfl
theorem q1349 : (Jvm.Cond.instanceMethod ({ cls := "WindCarverModel", name := "goes", desc := "(III)V" } : Jvm.MethodName)) ∈ lw_all := lw_g (lw_at lw_m6 90 rfl) rfl
theorem q1350 : (Jvm.Cond.code ({ cls := "WindCarverModel", name := "goes", desc := "(III)V" } : Jvm.MethodName) prog_17_method_26_code (4 : Nat) (Option.none : Option Jvm.ClassFile.FieldType)) ∈ lw_all := lw_g (lw_at lw_m6 91 rfl) rfl
theorem q1352 : (Jvm.Cond.instanceMethod ({ cls := "WindCarverModel", name := "undo", desc := "()I" } : Jvm.MethodName)) ∈ lw_all := lw_g (lw_at lw_m6 93 rfl) rfl
theorem q1353 : (Jvm.Cond.selects "WindCarverModel" ({ cls := "WindCarverModel", name := "undo", desc := "()I" } : Jvm.MethodName) ({ cls := "WindCarverModel", name := "undo", desc := "()I" } : Jvm.MethodName)) ∈ lw_all := lw_g (lw_at lw_m6 94 rfl) rfl
theorem q1354 : (Jvm.Cond.code ({ cls := "WindCarverModel", name := "undo", desc := "()I" } : Jvm.MethodName) prog_17_method_38_code (2 : Nat) (Option.some Jvm.ClassFile.FieldType.int)) ∈ lw_all := lw_g (lw_at lw_m6 95 rfl) rfl
theorem q1356 : (Jvm.Cond.instanceMethod ({ cls := "WindCarverModel", name := "cell", desc := "(II)I" } : Jvm.MethodName)) ∈ lw_all := lw_g (lw_at lw_m6 97 rfl) rfl
theorem q1357 : (Jvm.Cond.selects "WindCarverModel" ({ cls := "WindCarverModel", name := "cell", desc := "(II)I" } : Jvm.MethodName) ({ cls := "WindCarverModel", name := "cell", desc := "(II)I" } : Jvm.MethodName)) ∈ lw_all := lw_g (lw_at lw_m6 98 rfl) rfl
theorem q1358 : (Jvm.Cond.code ({ cls := "WindCarverModel", name := "cell", desc := "(II)I" } : Jvm.MethodName) prog_17_method_39_code (3 : Nat) (Option.some Jvm.ClassFile.FieldType.int)) ∈ lw_all := lw_g (lw_at lw_m6 99 rfl) rfl
theorem q1359 : (Jvm.Cond.methodLink "WindCarverModel" (201 : Nat) ({ cls := "WindCarverModel", name := "feltNow", desc := "(I)I" } : Jvm.MethodName)) ∈ lw_all := lw_g (lw_at lw_m6 100 rfl) rfl
theorem q1360 : (Jvm.Cond.privateMethod ({ cls := "WindCarverModel", name := "feltNow", desc := "(I)I" } : Jvm.MethodName)) ∈ lw_tbl := lw_at lw_m6 101 rfl
theorem q1361 : (Jvm.Cond.instanceMethod ({ cls := "WindCarverModel", name := "feltNow", desc := "(I)I" } : Jvm.MethodName)) ∈ lw_all := lw_g (lw_at lw_m6 102 rfl) rfl
theorem q1362 : (Jvm.Cond.code ({ cls := "WindCarverModel", name := "feltNow", desc := "(I)I" } : Jvm.MethodName) prog_17_method_28_code (2 : Nat) (Option.some Jvm.ClassFile.FieldType.int)) ∈ lw_all := lw_g (lw_at lw_m6 103 rfl) rfl
theorem q1363 : (Jvm.Cond.constant "WindCarverModel" (204 : Nat) (-1000000 : Int32)) ∈ lw_all := lw_g (lw_at lw_m6 104 rfl) rfl
theorem q1365 : (Jvm.Cond.instanceMethod ({ cls := "WindCarverModel", name := "wind", desc := "(II)I" } : Jvm.MethodName)) ∈ lw_all := lw_g (lw_at lw_m6 106 rfl) rfl
theorem q1366 : (Jvm.Cond.selects "WindCarverModel" ({ cls := "WindCarverModel", name := "wind", desc := "(II)I" } : Jvm.MethodName) ({ cls := "WindCarverModel", name := "wind", desc := "(II)I" } : Jvm.MethodName)) ∈ lw_all := lw_g (lw_at lw_m6 107 rfl) rfl
theorem q1367 : (Jvm.Cond.code ({ cls := "WindCarverModel", name := "wind", desc := "(II)I" } : Jvm.MethodName) prog_17_method_40_code (3 : Nat) (Option.some Jvm.ClassFile.FieldType.int)) ∈ lw_all := lw_g (lw_at lw_m6 108 rfl) rfl
theorem q1369 : (Jvm.Cond.instanceMethod ({ cls := "WindCarverModel", name := "felt", desc := "(II)I" } : Jvm.MethodName)) ∈ lw_all := lw_g (lw_at lw_m6 110 rfl) rfl
theorem q1370 : (Jvm.Cond.selects "WindCarverModel" ({ cls := "WindCarverModel", name := "felt", desc := "(II)I" } : Jvm.MethodName) ({ cls := "WindCarverModel", name := "felt", desc := "(II)I" } : Jvm.MethodName)) ∈ lw_all := lw_g (lw_at lw_m6 111 rfl) rfl
theorem q1371 : (Jvm.Cond.code ({ cls := "WindCarverModel", name := "felt", desc := "(II)I" } : Jvm.MethodName) prog_17_method_44_code (3 : Nat) (Option.some Jvm.ClassFile.FieldType.int)) ∈ lw_all := lw_g (lw_at lw_m6 112 rfl) rfl
theorem q1372 : (Jvm.Cond.constantLong "WindCarverModel" (211 : Nat) (40 : Int64)) ∈ lw_all := lw_g (lw_at lw_m6 113 rfl) rfl
theorem q1373 : (Jvm.Cond.methodLink "WindCarverModel" (213 : Nat) ({ cls := "WindCarverModel", name := "blowIn", desc := "(I)V" } : Jvm.MethodName)) ∈ lw_all := lw_g (lw_at lw_m6 114 rfl) rfl
theorem q1374 : (Jvm.Cond.privateMethod ({ cls := "WindCarverModel", name := "blowIn", desc := "(I)V" } : Jvm.MethodName)) ∈ lw_tbl := lw_at lw_m6 115 rfl
theorem q1375 : (Jvm.Cond.instanceMethod ({ cls := "WindCarverModel", name := "blowIn", desc := "(I)V" } : Jvm.MethodName)) ∈ lw_all := lw_g (lw_at lw_m6 116 rfl) rfl
theorem q1376 : (Jvm.Cond.code ({ cls := "WindCarverModel", name := "blowIn", desc := "(I)V" } : Jvm.MethodName) prog_17_method_43_code (3 : Nat) (Option.none : Option Jvm.ClassFile.FieldType)) ∈ lw_all := lw_g (lw_at lw_m6 117 rfl) rfl
theorem q1377 : (Jvm.Cond.methodLink "WindCarverModel" (205 : Nat) ({ cls := "WindCarverModel", name := "putAside", desc := "()V" } : Jvm.MethodName)) ∈ lw_all := lw_g (lw_at lw_m6 118 rfl) rfl
theorem q1378 : (Jvm.Cond.privateMethod ({ cls := "WindCarverModel", name := "putAside", desc := "()V" } : Jvm.MethodName)) ∈ lw_tbl := lw_at lw_m6 119 rfl
theorem q1379 : (Jvm.Cond.instanceMethod ({ cls := "WindCarverModel", name := "putAside", desc := "()V" } : Jvm.MethodName)) ∈ lw_all := lw_g (lw_at lw_m6 120 rfl) rfl
theorem q1380 : (Jvm.Cond.code ({ cls := "WindCarverModel", name := "putAside", desc := "()V" } : Jvm.MethodName) prog_17_method_41_code (2 : Nat) (Option.none : Option Jvm.ClassFile.FieldType)) ∈ lw_all := lw_g (lw_at lw_m6 121 rfl) rfl
theorem q1381 : (Jvm.Cond.methodLink "WindCarverModel" (208 : Nat) ({ cls := "WindCarverModel", name := "takeBack", desc := "()V" } : Jvm.MethodName)) ∈ lw_all := lw_g (lw_at lw_m6 122 rfl) rfl
theorem q1382 : (Jvm.Cond.privateMethod ({ cls := "WindCarverModel", name := "takeBack", desc := "()V" } : Jvm.MethodName)) ∈ lw_tbl := lw_at lw_m6 123 rfl
theorem q1383 : (Jvm.Cond.instanceMethod ({ cls := "WindCarverModel", name := "takeBack", desc := "()V" } : Jvm.MethodName)) ∈ lw_all := lw_g (lw_at lw_m6 124 rfl) rfl
theorem q1384 : (Jvm.Cond.code ({ cls := "WindCarverModel", name := "takeBack", desc := "()V" } : Jvm.MethodName) prog_17_method_42_code (2 : Nat) (Option.none : Option Jvm.ClassFile.FieldType)) ∈ lw_all := lw_g (lw_at lw_m6 125 rfl) rfl
theorem q1386 : (Jvm.Cond.instanceMethod ({ cls := "WindCarverModel", name := "lost", desc := "(I)I" } : Jvm.MethodName)) ∈ lw_all := lw_g (lw_at lw_m6 127 rfl) rfl
theorem q1387 : (Jvm.Cond.selects "WindCarverModel" ({ cls := "WindCarverModel", name := "lost", desc := "(I)I" } : Jvm.MethodName) ({ cls := "WindCarverModel", name := "lost", desc := "(I)I" } : Jvm.MethodName)) ∈ lw_all := lw_g (lw_at lw_m6 128 rfl) rfl
theorem q1388 : (Jvm.Cond.code ({ cls := "WindCarverModel", name := "lost", desc := "(I)I" } : Jvm.MethodName) prog_17_method_45_code (2 : Nat) (Option.some Jvm.ClassFile.FieldType.int)) ∈ lw_all := lw_g (lw_at lw_m6 129 rfl) rfl
theorem q1390 : (Jvm.Cond.instanceMethod ({ cls := "WindCarverModel", name := "leaves", desc := "(II)I" } : Jvm.MethodName)) ∈ lw_all := lw_g (lw_at lw_m6 131 rfl) rfl
theorem q1391 : (Jvm.Cond.selects "WindCarverModel" ({ cls := "WindCarverModel", name := "leaves", desc := "(II)I" } : Jvm.MethodName) ({ cls := "WindCarverModel", name := "leaves", desc := "(II)I" } : Jvm.MethodName)) ∈ lw_all := lw_g (lw_at lw_m6 132 rfl) rfl
theorem q1392 : (Jvm.Cond.code ({ cls := "WindCarverModel", name := "leaves", desc := "(II)I" } : Jvm.MethodName) prog_17_method_46_code (3 : Nat) (Option.some Jvm.ClassFile.FieldType.int)) ∈ lw_all := lw_g (lw_at lw_m6 133 rfl) rfl
theorem q1394 : (Jvm.Cond.instanceMethod ({ cls := "WindCarverModel", name := "breaks", desc := "(I)I" } : Jvm.MethodName)) ∈ lw_all := lw_g (lw_at lw_m6 135 rfl) rfl
theorem q1395 : (Jvm.Cond.selects "WindCarverModel" ({ cls := "WindCarverModel", name := "breaks", desc := "(I)I" } : Jvm.MethodName) ({ cls := "WindCarverModel", name := "breaks", desc := "(I)I" } : Jvm.MethodName)) ∈ lw_all := lw_g (lw_at lw_m6 136 rfl) rfl
theorem q1396 : (Jvm.Cond.code ({ cls := "WindCarverModel", name := "breaks", desc := "(I)I" } : Jvm.MethodName) prog_17_method_47_code (5 : Nat) (Option.some Jvm.ClassFile.FieldType.int)) ∈ lw_all := lw_g (lw_at lw_m6 137 rfl) rfl
theorem q1397 : (Jvm.Cond.methodLink "WindCarverModel" (216 : Nat) ({ cls := "WindCarverModel", name := "has", desc := "(II)Z" } : Jvm.MethodName)) ∈ lw_all := lw_g (lw_at lw_m6 138 rfl) rfl
theorem q1398 : (Jvm.Cond.static ({ cls := "WindCarverModel", name := "has", desc := "(II)Z" } : Jvm.MethodName)) ∈ lw_all := lw_g (lw_at lw_m6 139 rfl) rfl
theorem q1399 : (Jvm.Cond.code ({ cls := "WindCarverModel", name := "has", desc := "(II)Z" } : Jvm.MethodName) prog_17_method_3_code (2 : Nat) (Option.some Jvm.ClassFile.FieldType.boolean)) ∈ lw_all := lw_g (lw_at lw_m6 140 rfl) rfl
theorem q1401 : (Jvm.Cond.instanceMethod ({ cls := "WindCarverModel", name := "stands", desc := "(II)I" } : Jvm.MethodName)) ∈ lw_all := lw_g (lw_at lw_m6 142 rfl) rfl
theorem q1402 : (Jvm.Cond.selects "WindCarverModel" ({ cls := "WindCarverModel", name := "stands", desc := "(II)I" } : Jvm.MethodName) ({ cls := "WindCarverModel", name := "stands", desc := "(II)I" } : Jvm.MethodName)) ∈ lw_all := lw_g (lw_at lw_m6 143 rfl) rfl
theorem q1403 : (Jvm.Cond.code ({ cls := "WindCarverModel", name := "stands", desc := "(II)I" } : Jvm.MethodName) prog_17_method_49_code (7 : Nat) (Option.some Jvm.ClassFile.FieldType.int)) ∈ lw_all := lw_g (lw_at lw_m6 144 rfl) rfl
theorem q1404 : (Jvm.Cond.methodLink "WindCarverModel" (219 : Nat) ({ cls := "WindCarverModel", name := "lacks", desc := "(III)I" } : Jvm.MethodName)) ∈ lw_all := lw_g (lw_at lw_m6 145 rfl) rfl
theorem q1405 : (Jvm.Cond.privateMethod ({ cls := "WindCarverModel", name := "lacks", desc := "(III)I" } : Jvm.MethodName)) ∈ lw_tbl := lw_at lw_m6 146 rfl
theorem q1406 : (Jvm.Cond.instanceMethod ({ cls := "WindCarverModel", name := "lacks", desc := "(III)I" } : Jvm.MethodName)) ∈ lw_all := lw_g (lw_at lw_m6 147 rfl) rfl
theorem q1407 : (Jvm.Cond.code ({ cls := "WindCarverModel", name := "lacks", desc := "(III)I" } : Jvm.MethodName) prog_17_method_48_code (4 : Nat) (Option.some Jvm.ClassFile.FieldType.int)) ∈ lw_all := lw_g (lw_at lw_m6 148 rfl) rfl
theorem q1409 : (Jvm.Cond.instanceMethod ({ cls := "WindCarverModel", name := "walls", desc := "(III)I" } : Jvm.MethodName)) ∈ lw_all := lw_g (lw_at lw_m6 150 rfl) rfl
theorem q1410 : (Jvm.Cond.selects "WindCarverModel" ({ cls := "WindCarverModel", name := "walls", desc := "(III)I" } : Jvm.MethodName) ({ cls := "WindCarverModel", name := "walls", desc := "(III)I" } : Jvm.MethodName)) ∈ lw_all := lw_g (lw_at lw_m6 151 rfl) rfl
theorem q1411 : (Jvm.Cond.code ({ cls := "WindCarverModel", name := "walls", desc := "(III)I" } : Jvm.MethodName) prog_17_method_51_code (6 : Nat) (Option.some Jvm.ClassFile.FieldType.int)) ∈ lw_all := lw_g (lw_at lw_m6 152 rfl) rfl
theorem q1412 : (Jvm.Cond.constantLong "WindCarverModel" (223 : Nat) (-1 : Int64)) ∈ lw_all := lw_g (lw_at lw_m6 153 rfl) rfl
theorem q1413 : (Jvm.Cond.methodLink "WindCarverModel" (225 : Nat) ({ cls := "WindCarverModel", name := "feltWith", desc := "(III)I" } : Jvm.MethodName)) ∈ lw_all := lw_g (lw_at lw_m6 154 rfl) rfl
theorem q1414 : (Jvm.Cond.privateMethod ({ cls := "WindCarverModel", name := "feltWith", desc := "(III)I" } : Jvm.MethodName)) ∈ lw_tbl := lw_at lw_m6 155 rfl
theorem q1415 : (Jvm.Cond.instanceMethod ({ cls := "WindCarverModel", name := "feltWith", desc := "(III)I" } : Jvm.MethodName)) ∈ lw_all := lw_g (lw_at lw_m6 156 rfl) rfl
theorem q1416 : (Jvm.Cond.code ({ cls := "WindCarverModel", name := "feltWith", desc := "(III)I" } : Jvm.MethodName) prog_17_method_50_code (5 : Nat) (Option.some Jvm.ClassFile.FieldType.int)) ∈ lw_all := lw_g (lw_at lw_m6 157 rfl) rfl
theorem q1418 : (Jvm.Cond.instanceMethod ({ cls := "WindCarverModel", name := "hidden", desc := "(IIII)I" } : Jvm.MethodName)) ∈ lw_all := lw_g (lw_at lw_m6 159 rfl) rfl
theorem q1419 : (Jvm.Cond.selects "WindCarverModel" ({ cls := "WindCarverModel", name := "hidden", desc := "(IIII)I" } : Jvm.MethodName) ({ cls := "WindCarverModel", name := "hidden", desc := "(IIII)I" } : Jvm.MethodName)) ∈ lw_all := lw_g (lw_at lw_m6 160 rfl) rfl
theorem q1420 : (Jvm.Cond.code ({ cls := "WindCarverModel", name := "hidden", desc := "(IIII)I" } : Jvm.MethodName) prog_17_method_52_code (10 : Nat) (Option.some Jvm.ClassFile.FieldType.int)) ∈ lw_all := lw_g (lw_at lw_m6 161 rfl) rfl
theorem q1422 : (Jvm.Cond.instanceMethod ({ cls := "WindCarverModel", name := "most", desc := "(II)I" } : Jvm.MethodName)) ∈ lw_all := lw_g (lw_at lw_m6 163 rfl) rfl
theorem q1423 : (Jvm.Cond.selects "WindCarverModel" ({ cls := "WindCarverModel", name := "most", desc := "(II)I" } : Jvm.MethodName) ({ cls := "WindCarverModel", name := "most", desc := "(II)I" } : Jvm.MethodName)) ∈ lw_all := lw_g (lw_at lw_m6 164 rfl) rfl
theorem q1424 : (Jvm.Cond.code ({ cls := "WindCarverModel", name := "most", desc := "(II)I" } : Jvm.MethodName) prog_17_method_53_code (7 : Nat) (Option.some Jvm.ClassFile.FieldType.int)) ∈ lw_all := lw_g (lw_at lw_m6 165 rfl) rfl
theorem q1426 : (Jvm.Cond.instanceMethod ({ cls := "WindCarverModel", name := "lots", desc := "(IIII)I" } : Jvm.MethodName)) ∈ lw_all := lw_g (lw_at lw_m6 167 rfl) rfl
theorem q1427 : (Jvm.Cond.selects "WindCarverModel" ({ cls := "WindCarverModel", name := "lots", desc := "(IIII)I" } : Jvm.MethodName) ({ cls := "WindCarverModel", name := "lots", desc := "(IIII)I" } : Jvm.MethodName)) ∈ lw_all := lw_g (lw_at lw_m6 168 rfl) rfl
theorem q1428 : (Jvm.Cond.code ({ cls := "WindCarverModel", name := "lots", desc := "(IIII)I" } : Jvm.MethodName) prog_17_method_54_code (12 : Nat) (Option.some Jvm.ClassFile.FieldType.int)) ∈ lw_all := lw_g (lw_at lw_m6 169 rfl) rfl
theorem q1429 : (Jvm.Cond.constantLong "WindCarverModel" (228 : Nat) (10 : Int64)) ∈ lw_all := lw_g (lw_at lw_m6 170 rfl) rfl
theorem q1431 : (Jvm.Cond.instanceMethod ({ cls := "WindCarverModel", name := "image", desc := "(I)I" } : Jvm.MethodName)) ∈ lw_all := lw_g (lw_at lw_m6 172 rfl) rfl
theorem q1432 : (Jvm.Cond.selects "WindCarverModel" ({ cls := "WindCarverModel", name := "image", desc := "(I)I" } : Jvm.MethodName) ({ cls := "WindCarverModel", name := "image", desc := "(I)I" } : Jvm.MethodName)) ∈ lw_all := lw_g (lw_at lw_m6 173 rfl) rfl
theorem q1433 : (Jvm.Cond.code ({ cls := "WindCarverModel", name := "image", desc := "(I)I" } : Jvm.MethodName) prog_17_method_55_code (3 : Nat) (Option.some Jvm.ClassFile.FieldType.int)) ∈ lw_all := lw_g (lw_at lw_m6 174 rfl) rfl
theorem q1435 : (Jvm.Cond.instanceMethod ({ cls := "WindCarverModel", name := "restore", desc := "(I)I" } : Jvm.MethodName)) ∈ lw_all := lw_g (lw_at lw_m6 176 rfl) rfl
theorem q1436 : (Jvm.Cond.selects "WindCarverModel" ({ cls := "WindCarverModel", name := "restore", desc := "(I)I" } : Jvm.MethodName) ({ cls := "WindCarverModel", name := "restore", desc := "(I)I" } : Jvm.MethodName)) ∈ lw_all := lw_g (lw_at lw_m6 177 rfl) rfl
theorem q1437 : (Jvm.Cond.code ({ cls := "WindCarverModel", name := "restore", desc := "(I)I" } : Jvm.MethodName) prog_17_method_56_code (3 : Nat) (Option.some Jvm.ClassFile.FieldType.int)) ∈ lw_all := lw_g (lw_at lw_m6 178 rfl) rfl
theorem q1439 : (Jvm.Cond.instanceMethod ({ cls := "WindCarverModel", name := "kind", desc := "(I)I" } : Jvm.MethodName)) ∈ lw_all := lw_g (lw_at lw_m6 180 rfl) rfl
theorem q1440 : (Jvm.Cond.selects "WindCarverModel" ({ cls := "WindCarverModel", name := "kind", desc := "(I)I" } : Jvm.MethodName) ({ cls := "WindCarverModel", name := "kind", desc := "(I)I" } : Jvm.MethodName)) ∈ lw_all := lw_g (lw_at lw_m6 181 rfl) rfl
theorem q1441 : (Jvm.Cond.code ({ cls := "WindCarverModel", name := "kind", desc := "(I)I" } : Jvm.MethodName) prog_17_method_57_code (2 : Nat) (Option.some Jvm.ClassFile.FieldType.int)) ∈ lw_all := lw_g (lw_at lw_m6 182 rfl) rfl
theorem q1443 : (Jvm.Cond.instanceMethod ({ cls := "WindCarverModel", name := "as", desc := "(II)I" } : Jvm.MethodName)) ∈ lw_all := lw_g (lw_at lw_m6 184 rfl) rfl
theorem q1444 : (Jvm.Cond.selects "WindCarverModel" ({ cls := "WindCarverModel", name := "as", desc := "(II)I" } : Jvm.MethodName) ({ cls := "WindCarverModel", name := "as", desc := "(II)I" } : Jvm.MethodName)) ∈ lw_all := lw_g (lw_at lw_m6 185 rfl) rfl
theorem q1445 : (Jvm.Cond.code ({ cls := "WindCarverModel", name := "as", desc := "(II)I" } : Jvm.MethodName) prog_17_method_59_code (3 : Nat) (Option.some Jvm.ClassFile.FieldType.int)) ∈ lw_all := lw_g (lw_at lw_m6 186 rfl) rfl
theorem q1446 : (Jvm.Cond.methodLink "WindCarverModel" (230 : Nat) ({ cls := "WindCarverModel", name := "isKind", desc := "(II)Z" } : Jvm.MethodName)) ∈ lw_all := lw_g (lw_at lw_m6 187 rfl) rfl
theorem q1447 : (Jvm.Cond.static ({ cls := "WindCarverModel", name := "isKind", desc := "(II)Z" } : Jvm.MethodName)) ∈ lw_all := lw_g (lw_at lw_m6 188 rfl) rfl
theorem q1448 : (Jvm.Cond.code ({ cls := "WindCarverModel", name := "isKind", desc := "(II)Z" } : Jvm.MethodName) prog_17_method_58_code (2 : Nat) (Option.some Jvm.ClassFile.FieldType.boolean)) ∈ lw_all := lw_g (lw_at lw_m6 189 rfl) rfl
theorem q1450 : (Jvm.Cond.instanceMethod ({ cls := "WindCarverModel", name := "ask", desc := "(II)I" } : Jvm.MethodName)) ∈ lw_all := lw_g (lw_at lw_m6 191 rfl) rfl
theorem q1451 : (Jvm.Cond.selects "WindCarverModel" ({ cls := "WindCarverModel", name := "ask", desc := "(II)I" } : Jvm.MethodName) ({ cls := "WindCarverModel", name := "ask", desc := "(II)I" } : Jvm.MethodName)) ∈ lw_all := lw_g (lw_at lw_m6 192 rfl) rfl
theorem q1452 : (Jvm.Cond.code ({ cls := "WindCarverModel", name := "ask", desc := "(II)I" } : Jvm.MethodName) prog_17_method_68_code (3 : Nat) (Option.some Jvm.ClassFile.FieldType.int)) ∈ lw_all := lw_g (lw_at lw_m6 193 rfl) rfl
theorem q1453 : (Jvm.Cond.methodLink "WindCarverModel" (257 : Nat) ({ cls := "WindCarverModel", name := "sizeOf", desc := "(I)I" } : Jvm.MethodName)) ∈ lw_all := lw_g (lw_at lw_m6 194 rfl) rfl
theorem q1454 : (Jvm.Cond.privateMethod ({ cls := "WindCarverModel", name := "sizeOf", desc := "(I)I" } : Jvm.MethodName)) ∈ lw_tbl := lw_at lw_m6 195 rfl
theorem q1455 : (Jvm.Cond.instanceMethod ({ cls := "WindCarverModel", name := "sizeOf", desc := "(I)I" } : Jvm.MethodName)) ∈ lw_all := lw_g (lw_at lw_m6 196 rfl) rfl
theorem q1456 : (Jvm.Cond.code ({ cls := "WindCarverModel", name := "sizeOf", desc := "(I)I" } : Jvm.MethodName) prog_17_method_67_code (3 : Nat) (Option.some Jvm.ClassFile.FieldType.int)) ∈ lw_all := lw_g (lw_at lw_m6 197 rfl) rfl
theorem q1457 : (Jvm.Cond.methodLink "WindCarverModel" (236 : Nat) ({ cls := "WindCarverModel", name := "begin", desc := "(I)V" } : Jvm.MethodName)) ∈ lw_all := lw_g (lw_at lw_m6 198 rfl) rfl
theorem q1458 : (Jvm.Cond.privateMethod ({ cls := "WindCarverModel", name := "begin", desc := "(I)V" } : Jvm.MethodName)) ∈ lw_tbl := lw_at lw_m6 199 rfl
theorem q1459 : (Jvm.Cond.instanceMethod ({ cls := "WindCarverModel", name := "begin", desc := "(I)V" } : Jvm.MethodName)) ∈ lw_all := lw_g (lw_at lw_m6 200 rfl) rfl
theorem q1460 : (Jvm.Cond.code ({ cls := "WindCarverModel", name := "begin", desc := "(I)V" } : Jvm.MethodName) prog_17_method_60_code (2 : Nat) (Option.none : Option Jvm.ClassFile.FieldType)) ∈ lw_all := lw_g (lw_at lw_m6 201 rfl) rfl
theorem q1461 : (Jvm.Cond.methodLink "WindCarverModel" (254 : Nat) ({ cls := "WindCarverModel", name := "wallSize", desc := "(I)I" } : Jvm.MethodName)) ∈ lw_all := lw_g (lw_at lw_m6 202 rfl) rfl
theorem q1462 : (Jvm.Cond.privateMethod ({ cls := "WindCarverModel", name := "wallSize", desc := "(I)I" } : Jvm.MethodName)) ∈ lw_tbl := lw_at lw_m6 203 rfl
theorem q1463 : (Jvm.Cond.instanceMethod ({ cls := "WindCarverModel", name := "wallSize", desc := "(I)I" } : Jvm.MethodName)) ∈ lw_all := lw_g (lw_at lw_m6 204 rfl) rfl
theorem q1464 : (Jvm.Cond.code ({ cls := "WindCarverModel", name := "wallSize", desc := "(I)I" } : Jvm.MethodName) prog_17_method_66_code (3 : Nat) (Option.some Jvm.ClassFile.FieldType.int)) ∈ lw_all := lw_g (lw_at lw_m6 205 rfl) rfl
theorem q1465 : (Jvm.Cond.methodLink "WindCarverModel" (239 : Nat) ({ cls := "WindCarverModel", name := "lent", desc := "(II)I" } : Jvm.MethodName)) ∈ lw_all := lw_g (lw_at lw_m6 206 rfl) rfl
theorem q1466 : (Jvm.Cond.privateMethod ({ cls := "WindCarverModel", name := "lent", desc := "(II)I" } : Jvm.MethodName)) ∈ lw_tbl := lw_at lw_m6 207 rfl
theorem q1467 : (Jvm.Cond.instanceMethod ({ cls := "WindCarverModel", name := "lent", desc := "(II)I" } : Jvm.MethodName)) ∈ lw_all := lw_g (lw_at lw_m6 208 rfl) rfl
theorem q1468 : (Jvm.Cond.code ({ cls := "WindCarverModel", name := "lent", desc := "(II)I" } : Jvm.MethodName) prog_17_method_61_code (3 : Nat) (Option.some Jvm.ClassFile.FieldType.int)) ∈ lw_all := lw_g (lw_at lw_m6 209 rfl) rfl
theorem q1469 : (Jvm.Cond.methodLink "WindCarverModel" (251 : Nat) ({ cls := "WindCarverModel", name := "markOf", desc := "(I)I" } : Jvm.MethodName)) ∈ lw_all := lw_g (lw_at lw_m6 210 rfl) rfl
theorem q1470 : (Jvm.Cond.privateMethod ({ cls := "WindCarverModel", name := "markOf", desc := "(I)I" } : Jvm.MethodName)) ∈ lw_tbl := lw_at lw_m6 211 rfl
theorem q1471 : (Jvm.Cond.instanceMethod ({ cls := "WindCarverModel", name := "markOf", desc := "(I)I" } : Jvm.MethodName)) ∈ lw_all := lw_g (lw_at lw_m6 212 rfl) rfl
theorem q1472 : (Jvm.Cond.code ({ cls := "WindCarverModel", name := "markOf", desc := "(I)I" } : Jvm.MethodName) prog_17_method_65_code (4 : Nat) (Option.some Jvm.ClassFile.FieldType.int)) ∈ lw_all := lw_g (lw_at lw_m6 213 rfl) rfl
theorem q1473 : (Jvm.Cond.methodLink "WindCarverModel" (245 : Nat) ({ cls := "WindCarverModel", name := "wallMark", desc := "(I)I" } : Jvm.MethodName)) ∈ lw_all := lw_g (lw_at lw_m6 214 rfl) rfl
theorem q1474 : (Jvm.Cond.privateMethod ({ cls := "WindCarverModel", name := "wallMark", desc := "(I)I" } : Jvm.MethodName)) ∈ lw_tbl := lw_at lw_m6 215 rfl
theorem q1475 : (Jvm.Cond.instanceMethod ({ cls := "WindCarverModel", name := "wallMark", desc := "(I)I" } : Jvm.MethodName)) ∈ lw_all := lw_g (lw_at lw_m6 216 rfl) rfl
theorem q1476 : (Jvm.Cond.code ({ cls := "WindCarverModel", name := "wallMark", desc := "(I)I" } : Jvm.MethodName) prog_17_method_62_code (2 : Nat) (Option.some Jvm.ClassFile.FieldType.int)) ∈ lw_all := lw_g (lw_at lw_m6 217 rfl) rfl
theorem q1477 : (Jvm.Cond.methodLink "WindCarverModel" (248 : Nat) ({ cls := "WindCarverModel", name := "sizeOfHand", desc := "(I)I" } : Jvm.MethodName)) ∈ lw_all := lw_g (lw_at lw_m6 218 rfl) rfl
theorem q1478 : (Jvm.Cond.privateMethod ({ cls := "WindCarverModel", name := "sizeOfHand", desc := "(I)I" } : Jvm.MethodName)) ∈ lw_tbl := lw_at lw_m6 219 rfl
theorem q1479 : (Jvm.Cond.instanceMethod ({ cls := "WindCarverModel", name := "sizeOfHand", desc := "(I)I" } : Jvm.MethodName)) ∈ lw_all := lw_g (lw_at lw_m6 220 rfl) rfl
theorem q1480 : (Jvm.Cond.code ({ cls := "WindCarverModel", name := "sizeOfHand", desc := "(I)I" } : Jvm.MethodName) prog_17_method_64_code (2 : Nat) (Option.some Jvm.ClassFile.FieldType.int)) ∈ lw_all := lw_g (lw_at lw_m6 221 rfl) rfl
theorem q1481 : (Jvm.Cond.methodLink "WindCarverModel" (242 : Nat) ({ cls := "WindCarverModel", name := "handSize", desc := "(I)I" } : Jvm.MethodName)) ∈ lw_all := lw_g (lw_at lw_m6 222 rfl) rfl
theorem q1482 : (Jvm.Cond.privateMethod ({ cls := "WindCarverModel", name := "handSize", desc := "(I)I" } : Jvm.MethodName)) ∈ lw_tbl := lw_at lw_m6 223 rfl
theorem q1483 : (Jvm.Cond.instanceMethod ({ cls := "WindCarverModel", name := "handSize", desc := "(I)I" } : Jvm.MethodName)) ∈ lw_all := lw_g (lw_at lw_m6 224 rfl) rfl
theorem q1484 : (Jvm.Cond.code ({ cls := "WindCarverModel", name := "handSize", desc := "(I)I" } : Jvm.MethodName) prog_17_method_63_code (2 : Nat) (Option.some Jvm.ClassFile.FieldType.int)) ∈ lw_all := lw_g (lw_at lw_m6 225 rfl) rfl
theorem q1486 : (Jvm.Cond.instanceMethod ({ cls := "WindCarverModel", name := "trace", desc := "(I)I" } : Jvm.MethodName)) ∈ lw_all := lw_g (lw_at lw_m6 227 rfl) rfl
theorem q1487 : (Jvm.Cond.selects "WindCarverModel" ({ cls := "WindCarverModel", name := "trace", desc := "(I)I" } : Jvm.MethodName) ({ cls := "WindCarverModel", name := "trace", desc := "(I)I" } : Jvm.MethodName)) ∈ lw_all := lw_g (lw_at lw_m6 228 rfl) rfl
theorem q1488 : (Jvm.Cond.code ({ cls := "WindCarverModel", name := "trace", desc := "(I)I" } : Jvm.MethodName) prog_17_method_69_code (2 : Nat) (Option.some Jvm.ClassFile.FieldType.int)) ∈ lw_all := lw_g (lw_at lw_m6 229 rfl) rfl
theorem q1490 : (Jvm.Cond.instanceMethod ({ cls := "WindCarverModel", name := "count", desc := "(I)I" } : Jvm.MethodName)) ∈ lw_all := lw_g (lw_at lw_m6 231 rfl) rfl
theorem q1491 : (Jvm.Cond.selects "WindCarverModel" ({ cls := "WindCarverModel", name := "count", desc := "(I)I" } : Jvm.MethodName) ({ cls := "WindCarverModel", name := "count", desc := "(I)I" } : Jvm.MethodName)) ∈ lw_all := lw_g (lw_at lw_m6 232 rfl) rfl
theorem q1492 : (Jvm.Cond.code ({ cls := "WindCarverModel", name := "count", desc := "(I)I" } : Jvm.MethodName) prog_17_method_70_code (4 : Nat) (Option.some Jvm.ClassFile.FieldType.int)) ∈ lw_all := lw_g (lw_at lw_m6 233 rfl) rfl
theorem q1494 : (Jvm.Cond.instanceMethod ({ cls := "WindCarverModel", name := "status", desc := "()I" } : Jvm.MethodName)) ∈ lw_all := lw_g (lw_at lw_m6 235 rfl) rfl
theorem q1495 : (Jvm.Cond.selects "WindCarverModel" ({ cls := "WindCarverModel", name := "status", desc := "()I" } : Jvm.MethodName) ({ cls := "WindCarverModel", name := "status", desc := "()I" } : Jvm.MethodName)) ∈ lw_all := lw_g (lw_at lw_m6 236 rfl) rfl
theorem q1496 : (Jvm.Cond.code ({ cls := "WindCarverModel", name := "status", desc := "()I" } : Jvm.MethodName) prog_17_method_71_code (1 : Nat) (Option.some Jvm.ClassFile.FieldType.int)) ∈ lw_all := lw_g (lw_at lw_m6 237 rfl) rfl
theorem in_X6 : ∀ w ∈ wsX60, w ∈ lw_all := lw_in wsX60 [1144, 1146, 1148, 1150, 1152, 1154, 1156, 1158, 1160, 1162, 1164, 1166, 1168, 1170, 1172, 1174, 1176, 1178, 1180, 1182, 1184, 1186, 1188, 1190, 1192, 1194, 1196, 1198] (by decide +kernel) (by decide +kernel)
