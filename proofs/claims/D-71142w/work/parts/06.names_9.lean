/-! FishReadersModel -/
set_option maxRecDepth 100000
def RX9 : String := "FishReadersModel"
def TX9 : u_T := fun k => match k with
  | 0 => ("FishReadersModel", "lanes", "[I", true)
  | 1 => ("FishReadersModel", "sizes", "[I", true)
  | 2 => ("FishReadersModel", "items", "[I", true)
  | 3 => ("FishReadersModel", "status", "I", false)
  | 4 => ("FishReadersModel", "isThere", "Z", false)
  | 5 => ("FishReadersModel", "st", "[I", true)
  | 6 => ("FishReadersModel", "moved", "[I", true)
  | 7 => ("FishReadersModel", "tape", "[I", true)
  | 8 => ("FishReadersModel", "bytes", "I", false)
  | 9 => ("FishReadersModel", "latest", "I", false)
  | 10 => ("FishReadersModel", "place", "I", false)
  | 11 => ("FishReadersModel", "token", "I", false)
  | 12 => ("FishReadersModel", "value", "I", false)
  | 13 => ("FishReadersModel", "begins", "I", false)
  | 14 => ("FishReadersModel", "wrong", "I", false)
  | 15 => ("FishReadersModel", "read", "[I", true)
  | 16 => ("FishReadersModel", "holes", "[I", true)
  | 17 => ("FishReadersModel", "acts", "[I", true)
  | 18 => ("FishReadersModel", "actMany", "I", false)
  | 19 => ("FishReadersModel", "aside", "[I", true)
  | 20 => ("FishReadersModel", "line", "[I", true)
  | 21 => ("FishReadersModel", "bestLine", "[I", true)
  | 22 => ("FishReadersModel", "isKept", "[Z", true)
  | 23 => ("FishReadersModel", "kept", "[I", true)
  | 24 => ("FishReadersModel", "trace", "[I", true)
  | _ => ("FishReadersModel", "traced", "I", false)
def tyX9 : Nat → FieldType := fun k => match k with
  | 0 => .array .int
  | 1 => .array .int
  | 2 => .array .int
  | 3 => .int
  | 4 => .boolean
  | 5 => .array .int
  | 6 => .array .int
  | 7 => .array .int
  | 8 => .int
  | 9 => .int
  | 10 => .int
  | 11 => .int
  | 12 => .int
  | 13 => .int
  | 14 => .int
  | 15 => .array .int
  | 16 => .array .int
  | 17 => .array .int
  | 18 => .int
  | 19 => .array .int
  | 20 => .array .int
  | 21 => .array .int
  | 22 => .array .boolean
  | 23 => .array .int
  | 24 => .array .int
  | _ => .int
abbrev wsX90 : List Cond := u_ws RX9 TX9 26
set_option maxRecDepth 100000 in
theorem nmX9 : ∀ a, a < 26 → ∀ b, b < 26 → a ≠ b → (TX9 a).2.1 ≠ (TX9 b).2.1 := by decide +kernel
set_option maxRecDepth 100000 in
theorem tyX9_ok : ∀ k, k < 26 → parseFieldDescriptor (TX9 k).2.2.1 = some (tyX9 k) := by decide +kernel
abbrev cX9_init : ByteArray := prog_16_method_1_code
def yX9_init : MethodName := ⟨RX9, "<init>", "()V"⟩
def dkwX9_init_6 : List UInt8 := [167, 255, 240, 177]
abbrev dktX9_init_6 : List UInt8 := dkwX9_init_6 ++ []
def dkwX9_init_5 : List UInt8 := [188, 10, 181, 0, 53, 3, 60, 27, 16, 8, 162, 0, 16, 42, 180, 0, 13, 27, 2, 79, 132, 1, 1]
abbrev dktX9_init_5 : List UInt8 := dkwX9_init_5 ++ dktX9_init_6
def dkwX9_init_4 : List UInt8 := [188, 10, 181, 0, 43, 42, 5, 188, 4, 181, 0, 46, 42, 16, 82, 188, 10, 181, 0, 50, 42, 16, 16]
abbrev dktX9_init_4 : List UInt8 := dkwX9_init_4 ++ dktX9_init_5
def dkwX9_init_3 : List UInt8 := [188, 10, 181, 0, 34, 42, 16, 41, 188, 10, 181, 0, 37, 42, 16, 6, 188, 10, 181, 0, 40, 42, 16, 6]
abbrev dktX9_init_3 : List UInt8 := dkwX9_init_3 ++ dktX9_init_4
def dkwX9_init_2 : List UInt8 := [188, 10, 181, 0, 25, 42, 16, 41, 188, 10, 181, 0, 28, 42, 8, 188, 10, 181, 0, 31, 42, 17, 3, 216]
abbrev dktX9_init_2 : List UInt8 := dkwX9_init_2 ++ dktX9_init_3
def dkwX9_init_1 : List UInt8 := [188, 10, 181, 0, 16, 42, 16, 41, 188, 10, 181, 0, 19, 42, 16, 40, 188, 10, 181, 0, 22, 42, 16, 120]
abbrev dktX9_init_1 : List UInt8 := dkwX9_init_1 ++ dktX9_init_2
def dkwX9_init_0 : List UInt8 := [42, 183, 0, 1, 42, 16, 8, 188, 10, 181, 0, 7, 42, 16, 8, 188, 10, 181, 0, 13, 42, 17, 1, 64]
abbrev dktX9_init_0 : List UInt8 := dkwX9_init_0 ++ dktX9_init_1
theorem dksX9_init_0 : cX9_init.data.toList.drop 0 = dktX9_init_0 := by decide +kernel
theorem dksX9_init_1 : cX9_init.data.toList.drop 24 = dktX9_init_1 := dk_seg dksX9_init_0 24 rfl rfl
theorem dksX9_init_2 : cX9_init.data.toList.drop 48 = dktX9_init_2 := dk_seg dksX9_init_1 24 rfl rfl
theorem dksX9_init_3 : cX9_init.data.toList.drop 72 = dktX9_init_3 := dk_seg dksX9_init_2 24 rfl rfl
theorem dksX9_init_4 : cX9_init.data.toList.drop 96 = dktX9_init_4 := dk_seg dksX9_init_3 24 rfl rfl
theorem dksX9_init_5 : cX9_init.data.toList.drop 119 = dktX9_init_5 := dk_seg dksX9_init_4 23 rfl rfl
theorem dksX9_init_6 : cX9_init.data.toList.drop 142 = dktX9_init_6 := dk_seg dksX9_init_5 23 rfl rfl
theorem dX9_init_0 : decode cX9_init 0 = .ok (.aload_n 0, 1) := dk_42 (dk_at dksX9_init_0 0 rfl rfl)
theorem dX9_init_1 : decode cX9_init 1 = .ok (.invokespecial 1, 3) := dk_183 0 1 (dk_at dksX9_init_0 1 rfl rfl)
theorem dX9_init_4 : decode cX9_init 4 = .ok (.aload_n 0, 1) := dk_42 (dk_at dksX9_init_0 4 rfl rfl)
theorem dX9_init_5 : decode cX9_init 5 = .ok (.bipush 8, 2) := dk_16 8 (dk_at dksX9_init_0 5 rfl rfl)
theorem dX9_init_7 : decode cX9_init 7 = .ok (.newarray .int, 2) := dk_188_10 (dk_at dksX9_init_0 7 rfl rfl)
theorem dX9_init_9 : decode cX9_init 9 = .ok (.putfield 7, 3) := dk_181 0 7 (dk_at dksX9_init_0 9 rfl rfl)
theorem dX9_init_12 : decode cX9_init 12 = .ok (.aload_n 0, 1) := dk_42 (dk_at dksX9_init_0 12 rfl rfl)
theorem dX9_init_13 : decode cX9_init 13 = .ok (.bipush 8, 2) := dk_16 8 (dk_at dksX9_init_0 13 rfl rfl)
theorem dX9_init_15 : decode cX9_init 15 = .ok (.newarray .int, 2) := dk_188_10 (dk_at dksX9_init_0 15 rfl rfl)
theorem dX9_init_17 : decode cX9_init 17 = .ok (.putfield 13, 3) := dk_181 0 13 (dk_at dksX9_init_0 17 rfl rfl)
theorem dX9_init_20 : decode cX9_init 20 = .ok (.aload_n 0, 1) := dk_42 (dk_at dksX9_init_0 20 rfl rfl)
theorem dX9_init_21 : decode cX9_init 21 = .ok (.sipush 320, 3) := dk_17 1 64 (dk_at dksX9_init_0 21 rfl rfl)
theorem dX9_init_24 : decode cX9_init 24 = .ok (.newarray .int, 2) := dk_188_10 (dk_at dksX9_init_1 0 rfl rfl)
theorem dX9_init_26 : decode cX9_init 26 = .ok (.putfield 16, 3) := dk_181 0 16 (dk_at dksX9_init_1 2 rfl rfl)
theorem dX9_init_29 : decode cX9_init 29 = .ok (.aload_n 0, 1) := dk_42 (dk_at dksX9_init_1 5 rfl rfl)
theorem dX9_init_30 : decode cX9_init 30 = .ok (.bipush 41, 2) := dk_16 41 (dk_at dksX9_init_1 6 rfl rfl)
theorem dX9_init_32 : decode cX9_init 32 = .ok (.newarray .int, 2) := dk_188_10 (dk_at dksX9_init_1 8 rfl rfl)
theorem dX9_init_34 : decode cX9_init 34 = .ok (.putfield 19, 3) := dk_181 0 19 (dk_at dksX9_init_1 10 rfl rfl)
theorem dX9_init_37 : decode cX9_init 37 = .ok (.aload_n 0, 1) := dk_42 (dk_at dksX9_init_1 13 rfl rfl)
theorem dX9_init_38 : decode cX9_init 38 = .ok (.bipush 40, 2) := dk_16 40 (dk_at dksX9_init_1 14 rfl rfl)
theorem dX9_init_40 : decode cX9_init 40 = .ok (.newarray .int, 2) := dk_188_10 (dk_at dksX9_init_1 16 rfl rfl)
theorem dX9_init_42 : decode cX9_init 42 = .ok (.putfield 22, 3) := dk_181 0 22 (dk_at dksX9_init_1 18 rfl rfl)
theorem dX9_init_45 : decode cX9_init 45 = .ok (.aload_n 0, 1) := dk_42 (dk_at dksX9_init_1 21 rfl rfl)
theorem dX9_init_46 : decode cX9_init 46 = .ok (.bipush 120, 2) := dk_16 120 (dk_at dksX9_init_1 22 rfl rfl)
theorem dX9_init_48 : decode cX9_init 48 = .ok (.newarray .int, 2) := dk_188_10 (dk_at dksX9_init_2 0 rfl rfl)
theorem dX9_init_50 : decode cX9_init 50 = .ok (.putfield 25, 3) := dk_181 0 25 (dk_at dksX9_init_2 2 rfl rfl)
theorem dX9_init_53 : decode cX9_init 53 = .ok (.aload_n 0, 1) := dk_42 (dk_at dksX9_init_2 5 rfl rfl)
theorem dX9_init_54 : decode cX9_init 54 = .ok (.bipush 41, 2) := dk_16 41 (dk_at dksX9_init_2 6 rfl rfl)
theorem dX9_init_56 : decode cX9_init 56 = .ok (.newarray .int, 2) := dk_188_10 (dk_at dksX9_init_2 8 rfl rfl)
theorem dX9_init_58 : decode cX9_init 58 = .ok (.putfield 28, 3) := dk_181 0 28 (dk_at dksX9_init_2 10 rfl rfl)
theorem dX9_init_61 : decode cX9_init 61 = .ok (.aload_n 0, 1) := dk_42 (dk_at dksX9_init_2 13 rfl rfl)
theorem dX9_init_62 : decode cX9_init 62 = .ok (.iconst 5, 1) := dk_8 (dk_at dksX9_init_2 14 rfl rfl)
theorem dX9_init_63 : decode cX9_init 63 = .ok (.newarray .int, 2) := dk_188_10 (dk_at dksX9_init_2 15 rfl rfl)
theorem dX9_init_65 : decode cX9_init 65 = .ok (.putfield 31, 3) := dk_181 0 31 (dk_at dksX9_init_2 17 rfl rfl)
theorem dX9_init_68 : decode cX9_init 68 = .ok (.aload_n 0, 1) := dk_42 (dk_at dksX9_init_2 20 rfl rfl)
theorem dX9_init_69 : decode cX9_init 69 = .ok (.sipush 984, 3) := dk_17 3 216 (dk_at dksX9_init_2 21 rfl rfl)
theorem dX9_init_72 : decode cX9_init 72 = .ok (.newarray .int, 2) := dk_188_10 (dk_at dksX9_init_3 0 rfl rfl)
theorem dX9_init_74 : decode cX9_init 74 = .ok (.putfield 34, 3) := dk_181 0 34 (dk_at dksX9_init_3 2 rfl rfl)
theorem dX9_init_77 : decode cX9_init 77 = .ok (.aload_n 0, 1) := dk_42 (dk_at dksX9_init_3 5 rfl rfl)
theorem dX9_init_78 : decode cX9_init 78 = .ok (.bipush 41, 2) := dk_16 41 (dk_at dksX9_init_3 6 rfl rfl)
theorem dX9_init_80 : decode cX9_init 80 = .ok (.newarray .int, 2) := dk_188_10 (dk_at dksX9_init_3 8 rfl rfl)
theorem dX9_init_82 : decode cX9_init 82 = .ok (.putfield 37, 3) := dk_181 0 37 (dk_at dksX9_init_3 10 rfl rfl)
theorem dX9_init_85 : decode cX9_init 85 = .ok (.aload_n 0, 1) := dk_42 (dk_at dksX9_init_3 13 rfl rfl)
theorem dX9_init_86 : decode cX9_init 86 = .ok (.bipush 6, 2) := dk_16 6 (dk_at dksX9_init_3 14 rfl rfl)
theorem dX9_init_88 : decode cX9_init 88 = .ok (.newarray .int, 2) := dk_188_10 (dk_at dksX9_init_3 16 rfl rfl)
theorem dX9_init_90 : decode cX9_init 90 = .ok (.putfield 40, 3) := dk_181 0 40 (dk_at dksX9_init_3 18 rfl rfl)
theorem dX9_init_93 : decode cX9_init 93 = .ok (.aload_n 0, 1) := dk_42 (dk_at dksX9_init_3 21 rfl rfl)
theorem dX9_init_94 : decode cX9_init 94 = .ok (.bipush 6, 2) := dk_16 6 (dk_at dksX9_init_3 22 rfl rfl)
theorem dX9_init_96 : decode cX9_init 96 = .ok (.newarray .int, 2) := dk_188_10 (dk_at dksX9_init_4 0 rfl rfl)
theorem dX9_init_98 : decode cX9_init 98 = .ok (.putfield 43, 3) := dk_181 0 43 (dk_at dksX9_init_4 2 rfl rfl)
theorem dX9_init_101 : decode cX9_init 101 = .ok (.aload_n 0, 1) := dk_42 (dk_at dksX9_init_4 5 rfl rfl)
theorem dX9_init_102 : decode cX9_init 102 = .ok (.iconst 2, 1) := dk_5 (dk_at dksX9_init_4 6 rfl rfl)
theorem dX9_init_103 : decode cX9_init 103 = .ok (.newarray .boolean, 2) := dk_188_4 (dk_at dksX9_init_4 7 rfl rfl)
theorem dX9_init_105 : decode cX9_init 105 = .ok (.putfield 46, 3) := dk_181 0 46 (dk_at dksX9_init_4 9 rfl rfl)
theorem dX9_init_108 : decode cX9_init 108 = .ok (.aload_n 0, 1) := dk_42 (dk_at dksX9_init_4 12 rfl rfl)
theorem dX9_init_109 : decode cX9_init 109 = .ok (.bipush 82, 2) := dk_16 82 (dk_at dksX9_init_4 13 rfl rfl)
theorem dX9_init_111 : decode cX9_init 111 = .ok (.newarray .int, 2) := dk_188_10 (dk_at dksX9_init_4 15 rfl rfl)
theorem dX9_init_113 : decode cX9_init 113 = .ok (.putfield 50, 3) := dk_181 0 50 (dk_at dksX9_init_4 17 rfl rfl)
theorem dX9_init_116 : decode cX9_init 116 = .ok (.aload_n 0, 1) := dk_42 (dk_at dksX9_init_4 20 rfl rfl)
theorem dX9_init_117 : decode cX9_init 117 = .ok (.bipush 16, 2) := dk_16 16 (dk_at dksX9_init_4 21 rfl rfl)
theorem dX9_init_119 : decode cX9_init 119 = .ok (.newarray .int, 2) := dk_188_10 (dk_at dksX9_init_5 0 rfl rfl)
theorem dX9_init_121 : decode cX9_init 121 = .ok (.putfield 53, 3) := dk_181 0 53 (dk_at dksX9_init_5 2 rfl rfl)
theorem dX9_init_124 : decode cX9_init 124 = .ok (.iconst 0, 1) := dk_3 (dk_at dksX9_init_5 5 rfl rfl)
theorem dX9_init_125 : decode cX9_init 125 = .ok (.istore_n 1, 1) := dk_60 (dk_at dksX9_init_5 6 rfl rfl)
theorem dX9_init_126 : decode cX9_init 126 = .ok (.iload_n 1, 1) := dk_27 (dk_at dksX9_init_5 7 rfl rfl)
theorem dX9_init_127 : decode cX9_init 127 = .ok (.bipush 8, 2) := dk_16 8 (dk_at dksX9_init_5 8 rfl rfl)
theorem dX9_init_129 : decode cX9_init 129 = .ok (.if_icmp .ge 16, 3) := dk_162 0 16 (dk_at dksX9_init_5 10 rfl rfl)
theorem dX9_init_132 : decode cX9_init 132 = .ok (.aload_n 0, 1) := dk_42 (dk_at dksX9_init_5 13 rfl rfl)
theorem dX9_init_133 : decode cX9_init 133 = .ok (.getfield 13, 3) := dk_180 0 13 (dk_at dksX9_init_5 14 rfl rfl)
theorem dX9_init_136 : decode cX9_init 136 = .ok (.iload_n 1, 1) := dk_27 (dk_at dksX9_init_5 17 rfl rfl)
theorem dX9_init_137 : decode cX9_init 137 = .ok (.iconst (-1), 1) := dk_2 (dk_at dksX9_init_5 18 rfl rfl)
theorem dX9_init_138 : decode cX9_init 138 = .ok (.iastore, 1) := dk_79 (dk_at dksX9_init_5 19 rfl rfl)
theorem dX9_init_139 : decode cX9_init 139 = .ok (.iinc 1 1, 3) := dk_132 1 1 (dk_at dksX9_init_5 20 rfl rfl)
theorem dX9_init_142 : decode cX9_init 142 = .ok (.goto (-16), 3) := dk_167 255 240 (dk_at dksX9_init_6 0 rfl rfl)
theorem dX9_init_145 : decode cX9_init 145 = .ok (.return_, 1) := dk_177 (dk_at dksX9_init_6 3 rfl rfl)
abbrev cX9_row : ByteArray := prog_16_method_8_code
def yX9_row : MethodName := ⟨RX9, "row", "(III)I"⟩
def dkwX9_row_3 : List UInt8 := [21, 4, 96, 3, 79, 132, 4, 1, 167, 255, 233, 42, 29, 182, 0, 78, 172]
abbrev dktX9_row_3 : List UInt8 := dkwX9_row_3 ++ []
def dkwX9_row_2 : List UInt8 := [180, 0, 13, 27, 29, 79, 3, 54, 4, 21, 4, 16, 40, 162, 0, 22, 42, 180, 0, 16, 16, 40, 27, 104]
abbrev dktX9_row_2 : List UInt8 := dkwX9_row_2 ++ dktX9_row_3
def dkwX9_row_1 : List UInt8 := [164, 0, 6, 18, 73, 172, 29, 156, 0, 9, 42, 7, 182, 0, 74, 172, 42, 180, 0, 7, 27, 28, 79, 42]
abbrev dktX9_row_1 : List UInt8 := dkwX9_row_1 ++ dktX9_row_2
def dkwX9_row_0 : List UInt8 := [27, 184, 0, 67, 153, 0, 21, 28, 133, 9, 20, 0, 71, 184, 0, 63, 153, 0, 9, 29, 16, 40]
abbrev dktX9_row_0 : List UInt8 := dkwX9_row_0 ++ dktX9_row_1
theorem dksX9_row_0 : cX9_row.data.toList.drop 0 = dktX9_row_0 := by decide +kernel
theorem dksX9_row_1 : cX9_row.data.toList.drop 22 = dktX9_row_1 := dk_seg dksX9_row_0 22 rfl rfl
theorem dksX9_row_2 : cX9_row.data.toList.drop 46 = dktX9_row_2 := dk_seg dksX9_row_1 24 rfl rfl
theorem dksX9_row_3 : cX9_row.data.toList.drop 70 = dktX9_row_3 := dk_seg dksX9_row_2 24 rfl rfl
theorem dX9_row_0 : decode cX9_row 0 = .ok (.iload_n 1, 1) := dk_27 (dk_at dksX9_row_0 0 rfl rfl)
theorem dX9_row_1 : decode cX9_row 1 = .ok (.invokestatic 67, 3) := dk_184 0 67 (dk_at dksX9_row_0 1 rfl rfl)
theorem dX9_row_4 : decode cX9_row 4 = .ok (.ifCond .eq 21, 3) := dk_153 0 21 (dk_at dksX9_row_0 4 rfl rfl)
theorem dX9_row_7 : decode cX9_row 7 = .ok (.iload_n 2, 1) := dk_28 (dk_at dksX9_row_0 7 rfl rfl)
theorem dX9_row_8 : decode cX9_row 8 = .ok (.i2l, 1) := dk_133 (dk_at dksX9_row_0 8 rfl rfl)
theorem dX9_row_9 : decode cX9_row 9 = .ok (.lconst 0, 1) := dk_9 (dk_at dksX9_row_0 9 rfl rfl)
theorem dX9_row_10 : decode cX9_row 10 = .ok (.ldc2_w 71, 3) := dk_20 0 71 (dk_at dksX9_row_0 10 rfl rfl)
theorem dX9_row_13 : decode cX9_row 13 = .ok (.invokestatic 63, 3) := dk_184 0 63 (dk_at dksX9_row_0 13 rfl rfl)
theorem dX9_row_16 : decode cX9_row 16 = .ok (.ifCond .eq 9, 3) := dk_153 0 9 (dk_at dksX9_row_0 16 rfl rfl)
theorem dX9_row_19 : decode cX9_row 19 = .ok (.iload_n 3, 1) := dk_29 (dk_at dksX9_row_0 19 rfl rfl)
theorem dX9_row_20 : decode cX9_row 20 = .ok (.bipush 40, 2) := dk_16 40 (dk_at dksX9_row_0 20 rfl rfl)
theorem dX9_row_22 : decode cX9_row 22 = .ok (.if_icmp .le 6, 3) := dk_164 0 6 (dk_at dksX9_row_1 0 rfl rfl)
theorem dX9_row_25 : decode cX9_row 25 = .ok (.ldc 73, 2) := dk_18 73 (dk_at dksX9_row_1 3 rfl rfl)
theorem dX9_row_27 : decode cX9_row 27 = .ok (.ireturn, 1) := dk_172 (dk_at dksX9_row_1 5 rfl rfl)
theorem dX9_row_28 : decode cX9_row 28 = .ok (.iload_n 3, 1) := dk_29 (dk_at dksX9_row_1 6 rfl rfl)
theorem dX9_row_29 : decode cX9_row 29 = .ok (.ifCond .ge 9, 3) := dk_156 0 9 (dk_at dksX9_row_1 7 rfl rfl)
theorem dX9_row_32 : decode cX9_row 32 = .ok (.aload_n 0, 1) := dk_42 (dk_at dksX9_row_1 10 rfl rfl)
theorem dX9_row_33 : decode cX9_row 33 = .ok (.iconst 4, 1) := dk_7 (dk_at dksX9_row_1 11 rfl rfl)
theorem dX9_row_34 : decode cX9_row 34 = .ok (.invokevirtual 74, 3) := dk_182 0 74 (dk_at dksX9_row_1 12 rfl rfl)
theorem dX9_row_37 : decode cX9_row 37 = .ok (.ireturn, 1) := dk_172 (dk_at dksX9_row_1 15 rfl rfl)
theorem dX9_row_38 : decode cX9_row 38 = .ok (.aload_n 0, 1) := dk_42 (dk_at dksX9_row_1 16 rfl rfl)
theorem dX9_row_39 : decode cX9_row 39 = .ok (.getfield 7, 3) := dk_180 0 7 (dk_at dksX9_row_1 17 rfl rfl)
theorem dX9_row_42 : decode cX9_row 42 = .ok (.iload_n 1, 1) := dk_27 (dk_at dksX9_row_1 20 rfl rfl)
theorem dX9_row_43 : decode cX9_row 43 = .ok (.iload_n 2, 1) := dk_28 (dk_at dksX9_row_1 21 rfl rfl)
theorem dX9_row_44 : decode cX9_row 44 = .ok (.iastore, 1) := dk_79 (dk_at dksX9_row_1 22 rfl rfl)
theorem dX9_row_45 : decode cX9_row 45 = .ok (.aload_n 0, 1) := dk_42 (dk_at dksX9_row_1 23 rfl rfl)
theorem dX9_row_46 : decode cX9_row 46 = .ok (.getfield 13, 3) := dk_180 0 13 (dk_at dksX9_row_2 0 rfl rfl)
theorem dX9_row_49 : decode cX9_row 49 = .ok (.iload_n 1, 1) := dk_27 (dk_at dksX9_row_2 3 rfl rfl)
theorem dX9_row_50 : decode cX9_row 50 = .ok (.iload_n 3, 1) := dk_29 (dk_at dksX9_row_2 4 rfl rfl)
theorem dX9_row_51 : decode cX9_row 51 = .ok (.iastore, 1) := dk_79 (dk_at dksX9_row_2 5 rfl rfl)
theorem dX9_row_52 : decode cX9_row 52 = .ok (.iconst 0, 1) := dk_3 (dk_at dksX9_row_2 6 rfl rfl)
theorem dX9_row_53 : decode cX9_row 53 = .ok (.istore 4, 2) := dk_54 4 (dk_at dksX9_row_2 7 rfl rfl)
theorem dX9_row_55 : decode cX9_row 55 = .ok (.iload 4, 2) := dk_21 4 (dk_at dksX9_row_2 9 rfl rfl)
theorem dX9_row_57 : decode cX9_row 57 = .ok (.bipush 40, 2) := dk_16 40 (dk_at dksX9_row_2 11 rfl rfl)
theorem dX9_row_59 : decode cX9_row 59 = .ok (.if_icmp .ge 22, 3) := dk_162 0 22 (dk_at dksX9_row_2 13 rfl rfl)
theorem dX9_row_62 : decode cX9_row 62 = .ok (.aload_n 0, 1) := dk_42 (dk_at dksX9_row_2 16 rfl rfl)
theorem dX9_row_63 : decode cX9_row 63 = .ok (.getfield 16, 3) := dk_180 0 16 (dk_at dksX9_row_2 17 rfl rfl)
theorem dX9_row_66 : decode cX9_row 66 = .ok (.bipush 40, 2) := dk_16 40 (dk_at dksX9_row_2 20 rfl rfl)
theorem dX9_row_68 : decode cX9_row 68 = .ok (.iload_n 1, 1) := dk_27 (dk_at dksX9_row_2 22 rfl rfl)
theorem dX9_row_69 : decode cX9_row 69 = .ok (.imul, 1) := dk_104 (dk_at dksX9_row_2 23 rfl rfl)
theorem dX9_row_70 : decode cX9_row 70 = .ok (.iload 4, 2) := dk_21 4 (dk_at dksX9_row_3 0 rfl rfl)
theorem dX9_row_72 : decode cX9_row 72 = .ok (.iadd, 1) := dk_96 (dk_at dksX9_row_3 2 rfl rfl)
theorem dX9_row_73 : decode cX9_row 73 = .ok (.iconst 0, 1) := dk_3 (dk_at dksX9_row_3 3 rfl rfl)
theorem dX9_row_74 : decode cX9_row 74 = .ok (.iastore, 1) := dk_79 (dk_at dksX9_row_3 4 rfl rfl)
theorem dX9_row_75 : decode cX9_row 75 = .ok (.iinc 4 1, 3) := dk_132 4 1 (dk_at dksX9_row_3 5 rfl rfl)
theorem dX9_row_78 : decode cX9_row 78 = .ok (.goto (-23), 3) := dk_167 255 233 (dk_at dksX9_row_3 8 rfl rfl)
theorem dX9_row_81 : decode cX9_row 81 = .ok (.aload_n 0, 1) := dk_42 (dk_at dksX9_row_3 11 rfl rfl)
theorem dX9_row_82 : decode cX9_row 82 = .ok (.iload_n 3, 1) := dk_29 (dk_at dksX9_row_3 12 rfl rfl)
theorem dX9_row_83 : decode cX9_row 83 = .ok (.invokevirtual 78, 3) := dk_182 0 78 (dk_at dksX9_row_3 13 rfl rfl)
theorem dX9_row_86 : decode cX9_row 86 = .ok (.ireturn, 1) := dk_172 (dk_at dksX9_row_3 16 rfl rfl)
abbrev cX9_isRow : ByteArray := prog_16_method_7_code
def yX9_isRow : MethodName := ⟨RX9, "isRow", "(I)Z"⟩
def dkwX9_isRow_0 : List UInt8 := [26, 133, 9, 20, 0, 61, 184, 0, 63, 172]
abbrev dktX9_isRow_0 : List UInt8 := dkwX9_isRow_0 ++ []
theorem dksX9_isRow_0 : cX9_isRow.data.toList.drop 0 = dktX9_isRow_0 := by decide +kernel
theorem dX9_isRow_0 : decode cX9_isRow 0 = .ok (.iload_n 0, 1) := dk_26 (dk_at dksX9_isRow_0 0 rfl rfl)
theorem dX9_isRow_1 : decode cX9_isRow 1 = .ok (.i2l, 1) := dk_133 (dk_at dksX9_isRow_0 1 rfl rfl)
theorem dX9_isRow_2 : decode cX9_isRow 2 = .ok (.lconst 0, 1) := dk_9 (dk_at dksX9_isRow_0 2 rfl rfl)
theorem dX9_isRow_3 : decode cX9_isRow 3 = .ok (.ldc2_w 61, 3) := dk_20 0 61 (dk_at dksX9_isRow_0 3 rfl rfl)
theorem dX9_isRow_6 : decode cX9_isRow 6 = .ok (.invokestatic 63, 3) := dk_184 0 63 (dk_at dksX9_isRow_0 6 rfl rfl)
theorem dX9_isRow_9 : decode cX9_isRow 9 = .ok (.ireturn, 1) := dk_172 (dk_at dksX9_isRow_0 9 rfl rfl)
abbrev cX9_in : ByteArray := prog_16_method_2_code
def yX9_in : MethodName := ⟨RX9, "in", "(JJJ)Z"⟩
def dkwX9_in_0 : List UInt8 := [30, 32, 148, 155, 0, 14, 30, 22, 4, 148, 157, 0, 7, 4, 167, 0, 4, 3, 172]
abbrev dktX9_in_0 : List UInt8 := dkwX9_in_0 ++ []
theorem dksX9_in_0 : cX9_in.data.toList.drop 0 = dktX9_in_0 := by decide +kernel
theorem dX9_in_0 : decode cX9_in 0 = .ok (.lload_n 0, 1) := dk_30 (dk_at dksX9_in_0 0 rfl rfl)
theorem dX9_in_1 : decode cX9_in 1 = .ok (.lload_n 2, 1) := dk_32 (dk_at dksX9_in_0 1 rfl rfl)
theorem dX9_in_2 : decode cX9_in 2 = .ok (.lcmp, 1) := dk_148 (dk_at dksX9_in_0 2 rfl rfl)
theorem dX9_in_3 : decode cX9_in 3 = .ok (.ifCond .lt 14, 3) := dk_155 0 14 (dk_at dksX9_in_0 3 rfl rfl)
theorem dX9_in_6 : decode cX9_in 6 = .ok (.lload_n 0, 1) := dk_30 (dk_at dksX9_in_0 6 rfl rfl)
theorem dX9_in_7 : decode cX9_in 7 = .ok (.lload 4, 2) := dk_22 4 (dk_at dksX9_in_0 7 rfl rfl)
theorem dX9_in_9 : decode cX9_in 9 = .ok (.lcmp, 1) := dk_148 (dk_at dksX9_in_0 9 rfl rfl)
theorem dX9_in_10 : decode cX9_in 10 = .ok (.ifCond .gt 7, 3) := dk_157 0 7 (dk_at dksX9_in_0 10 rfl rfl)
theorem dX9_in_13 : decode cX9_in 13 = .ok (.iconst 1, 1) := dk_4 (dk_at dksX9_in_0 13 rfl rfl)
theorem dX9_in_14 : decode cX9_in 14 = .ok (.goto 4, 3) := dk_167 0 4 (dk_at dksX9_in_0 14 rfl rfl)
theorem dX9_in_17 : decode cX9_in 17 = .ok (.iconst 0, 1) := dk_3 (dk_at dksX9_in_0 17 rfl rfl)
theorem dX9_in_18 : decode cX9_in 18 = .ok (.ireturn, 1) := dk_172 (dk_at dksX9_in_0 18 rfl rfl)
abbrev cX9_find : ByteArray := prog_16_method_5_code
def yX9_find : MethodName := ⟨RX9, "find", "(I)I"⟩
def dkwX9_find_0 : List UInt8 := [42, 27, 181, 0, 56, 18, 60, 27, 100, 172]
abbrev dktX9_find_0 : List UInt8 := dkwX9_find_0 ++ []
theorem dksX9_find_0 : cX9_find.data.toList.drop 0 = dktX9_find_0 := by decide +kernel
theorem dX9_find_0 : decode cX9_find 0 = .ok (.aload_n 0, 1) := dk_42 (dk_at dksX9_find_0 0 rfl rfl)
theorem dX9_find_1 : decode cX9_find 1 = .ok (.iload_n 1, 1) := dk_27 (dk_at dksX9_find_0 1 rfl rfl)
theorem dX9_find_2 : decode cX9_find 2 = .ok (.putfield 56, 3) := dk_181 0 56 (dk_at dksX9_find_0 2 rfl rfl)
theorem dX9_find_5 : decode cX9_find 5 = .ok (.ldc 60, 2) := dk_18 60 (dk_at dksX9_find_0 5 rfl rfl)
theorem dX9_find_7 : decode cX9_find 7 = .ok (.iload_n 1, 1) := dk_27 (dk_at dksX9_find_0 7 rfl rfl)
theorem dX9_find_8 : decode cX9_find 8 = .ok (.isub, 1) := dk_100 (dk_at dksX9_find_0 8 rfl rfl)
theorem dX9_find_9 : decode cX9_find 9 = .ok (.ireturn, 1) := dk_172 (dk_at dksX9_find_0 9 rfl rfl)
abbrev cX9_well : ByteArray := prog_16_method_6_code
def yX9_well : MethodName := ⟨RX9, "well", "(I)I"⟩
def dkwX9_well_0 : List UInt8 := [42, 3, 181, 0, 56, 27, 172]
abbrev dktX9_well_0 : List UInt8 := dkwX9_well_0 ++ []
theorem dksX9_well_0 : cX9_well.data.toList.drop 0 = dktX9_well_0 := by decide +kernel
theorem dX9_well_0 : decode cX9_well 0 = .ok (.aload_n 0, 1) := dk_42 (dk_at dksX9_well_0 0 rfl rfl)
theorem dX9_well_1 : decode cX9_well 1 = .ok (.iconst 0, 1) := dk_3 (dk_at dksX9_well_0 1 rfl rfl)
theorem dX9_well_2 : decode cX9_well 2 = .ok (.putfield 56, 3) := dk_181 0 56 (dk_at dksX9_well_0 2 rfl rfl)
theorem dX9_well_5 : decode cX9_well 5 = .ok (.iload_n 1, 1) := dk_27 (dk_at dksX9_well_0 5 rfl rfl)
theorem dX9_well_6 : decode cX9_well 6 = .ok (.ireturn, 1) := dk_172 (dk_at dksX9_well_0 6 rfl rfl)
abbrev cX9_set : ByteArray := prog_16_method_10_code
def yX9_set : MethodName := ⟨RX9, "set", "(III)I"⟩
def dkwX9_set_3 : List UInt8 := [180, 0, 16, 16, 40, 27, 104, 28, 96, 46, 182, 0, 78, 172]
abbrev dktX9_set_3 : List UInt8 := dkwX9_set_3 ++ []
def dkwX9_set_2 : List UInt8 := [172, 42, 180, 0, 16, 16, 40, 27, 104, 28, 96, 42, 180, 0, 7, 27, 46, 29, 184, 0, 81, 79, 42, 42]
abbrev dktX9_set_2 : List UInt8 := dkwX9_set_2 ++ dktX9_set_3
def dkwX9_set_1 : List UInt8 := [172, 28, 133, 9, 42, 180, 0, 13, 27, 46, 4, 100, 133, 184, 0, 63, 154, 0, 9, 42, 5, 182, 0, 74]
abbrev dktX9_set_1 : List UInt8 := dkwX9_set_1 ++ dktX9_set_2
def dkwX9_set_0 : List UInt8 := [27, 184, 0, 67, 154, 0, 6, 18, 73, 172, 42, 180, 0, 13, 27, 46, 156, 0, 9, 42, 4, 182, 0, 74]
abbrev dktX9_set_0 : List UInt8 := dkwX9_set_0 ++ dktX9_set_1
theorem dksX9_set_0 : cX9_set.data.toList.drop 0 = dktX9_set_0 := by decide +kernel
theorem dksX9_set_1 : cX9_set.data.toList.drop 24 = dktX9_set_1 := dk_seg dksX9_set_0 24 rfl rfl
theorem dksX9_set_2 : cX9_set.data.toList.drop 48 = dktX9_set_2 := dk_seg dksX9_set_1 24 rfl rfl
theorem dksX9_set_3 : cX9_set.data.toList.drop 72 = dktX9_set_3 := dk_seg dksX9_set_2 24 rfl rfl
theorem dX9_set_0 : decode cX9_set 0 = .ok (.iload_n 1, 1) := dk_27 (dk_at dksX9_set_0 0 rfl rfl)
theorem dX9_set_1 : decode cX9_set 1 = .ok (.invokestatic 67, 3) := dk_184 0 67 (dk_at dksX9_set_0 1 rfl rfl)
theorem dX9_set_4 : decode cX9_set 4 = .ok (.ifCond .ne 6, 3) := dk_154 0 6 (dk_at dksX9_set_0 4 rfl rfl)
theorem dX9_set_7 : decode cX9_set 7 = .ok (.ldc 73, 2) := dk_18 73 (dk_at dksX9_set_0 7 rfl rfl)
theorem dX9_set_9 : decode cX9_set 9 = .ok (.ireturn, 1) := dk_172 (dk_at dksX9_set_0 9 rfl rfl)
theorem dX9_set_10 : decode cX9_set 10 = .ok (.aload_n 0, 1) := dk_42 (dk_at dksX9_set_0 10 rfl rfl)
theorem dX9_set_11 : decode cX9_set 11 = .ok (.getfield 13, 3) := dk_180 0 13 (dk_at dksX9_set_0 11 rfl rfl)
theorem dX9_set_14 : decode cX9_set 14 = .ok (.iload_n 1, 1) := dk_27 (dk_at dksX9_set_0 14 rfl rfl)
theorem dX9_set_15 : decode cX9_set 15 = .ok (.iaload, 1) := dk_46 (dk_at dksX9_set_0 15 rfl rfl)
theorem dX9_set_16 : decode cX9_set 16 = .ok (.ifCond .ge 9, 3) := dk_156 0 9 (dk_at dksX9_set_0 16 rfl rfl)
theorem dX9_set_19 : decode cX9_set 19 = .ok (.aload_n 0, 1) := dk_42 (dk_at dksX9_set_0 19 rfl rfl)
theorem dX9_set_20 : decode cX9_set 20 = .ok (.iconst 1, 1) := dk_4 (dk_at dksX9_set_0 20 rfl rfl)
theorem dX9_set_21 : decode cX9_set 21 = .ok (.invokevirtual 74, 3) := dk_182 0 74 (dk_at dksX9_set_0 21 rfl rfl)
theorem dX9_set_24 : decode cX9_set 24 = .ok (.ireturn, 1) := dk_172 (dk_at dksX9_set_1 0 rfl rfl)
theorem dX9_set_25 : decode cX9_set 25 = .ok (.iload_n 2, 1) := dk_28 (dk_at dksX9_set_1 1 rfl rfl)
theorem dX9_set_26 : decode cX9_set 26 = .ok (.i2l, 1) := dk_133 (dk_at dksX9_set_1 2 rfl rfl)
theorem dX9_set_27 : decode cX9_set 27 = .ok (.lconst 0, 1) := dk_9 (dk_at dksX9_set_1 3 rfl rfl)
theorem dX9_set_28 : decode cX9_set 28 = .ok (.aload_n 0, 1) := dk_42 (dk_at dksX9_set_1 4 rfl rfl)
theorem dX9_set_29 : decode cX9_set 29 = .ok (.getfield 13, 3) := dk_180 0 13 (dk_at dksX9_set_1 5 rfl rfl)
theorem dX9_set_32 : decode cX9_set 32 = .ok (.iload_n 1, 1) := dk_27 (dk_at dksX9_set_1 8 rfl rfl)
theorem dX9_set_33 : decode cX9_set 33 = .ok (.iaload, 1) := dk_46 (dk_at dksX9_set_1 9 rfl rfl)
theorem dX9_set_34 : decode cX9_set 34 = .ok (.iconst 1, 1) := dk_4 (dk_at dksX9_set_1 10 rfl rfl)
theorem dX9_set_35 : decode cX9_set 35 = .ok (.isub, 1) := dk_100 (dk_at dksX9_set_1 11 rfl rfl)
theorem dX9_set_36 : decode cX9_set 36 = .ok (.i2l, 1) := dk_133 (dk_at dksX9_set_1 12 rfl rfl)
theorem dX9_set_37 : decode cX9_set 37 = .ok (.invokestatic 63, 3) := dk_184 0 63 (dk_at dksX9_set_1 13 rfl rfl)
theorem dX9_set_40 : decode cX9_set 40 = .ok (.ifCond .ne 9, 3) := dk_154 0 9 (dk_at dksX9_set_1 16 rfl rfl)
theorem dX9_set_43 : decode cX9_set 43 = .ok (.aload_n 0, 1) := dk_42 (dk_at dksX9_set_1 19 rfl rfl)
theorem dX9_set_44 : decode cX9_set 44 = .ok (.iconst 2, 1) := dk_5 (dk_at dksX9_set_1 20 rfl rfl)
theorem dX9_set_45 : decode cX9_set 45 = .ok (.invokevirtual 74, 3) := dk_182 0 74 (dk_at dksX9_set_1 21 rfl rfl)
theorem dX9_set_48 : decode cX9_set 48 = .ok (.ireturn, 1) := dk_172 (dk_at dksX9_set_2 0 rfl rfl)
theorem dX9_set_49 : decode cX9_set 49 = .ok (.aload_n 0, 1) := dk_42 (dk_at dksX9_set_2 1 rfl rfl)
theorem dX9_set_50 : decode cX9_set 50 = .ok (.getfield 16, 3) := dk_180 0 16 (dk_at dksX9_set_2 2 rfl rfl)
theorem dX9_set_53 : decode cX9_set 53 = .ok (.bipush 40, 2) := dk_16 40 (dk_at dksX9_set_2 5 rfl rfl)
theorem dX9_set_55 : decode cX9_set 55 = .ok (.iload_n 1, 1) := dk_27 (dk_at dksX9_set_2 7 rfl rfl)
theorem dX9_set_56 : decode cX9_set 56 = .ok (.imul, 1) := dk_104 (dk_at dksX9_set_2 8 rfl rfl)
theorem dX9_set_57 : decode cX9_set 57 = .ok (.iload_n 2, 1) := dk_28 (dk_at dksX9_set_2 9 rfl rfl)
theorem dX9_set_58 : decode cX9_set 58 = .ok (.iadd, 1) := dk_96 (dk_at dksX9_set_2 10 rfl rfl)
theorem dX9_set_59 : decode cX9_set 59 = .ok (.aload_n 0, 1) := dk_42 (dk_at dksX9_set_2 11 rfl rfl)
theorem dX9_set_60 : decode cX9_set 60 = .ok (.getfield 7, 3) := dk_180 0 7 (dk_at dksX9_set_2 12 rfl rfl)
theorem dX9_set_63 : decode cX9_set 63 = .ok (.iload_n 1, 1) := dk_27 (dk_at dksX9_set_2 15 rfl rfl)
theorem dX9_set_64 : decode cX9_set 64 = .ok (.iaload, 1) := dk_46 (dk_at dksX9_set_2 16 rfl rfl)
theorem dX9_set_65 : decode cX9_set 65 = .ok (.iload_n 3, 1) := dk_29 (dk_at dksX9_set_2 17 rfl rfl)
theorem dX9_set_66 : decode cX9_set 66 = .ok (.invokestatic 81, 3) := dk_184 0 81 (dk_at dksX9_set_2 18 rfl rfl)
theorem dX9_set_69 : decode cX9_set 69 = .ok (.iastore, 1) := dk_79 (dk_at dksX9_set_2 21 rfl rfl)
theorem dX9_set_70 : decode cX9_set 70 = .ok (.aload_n 0, 1) := dk_42 (dk_at dksX9_set_2 22 rfl rfl)
theorem dX9_set_71 : decode cX9_set 71 = .ok (.aload_n 0, 1) := dk_42 (dk_at dksX9_set_2 23 rfl rfl)
theorem dX9_set_72 : decode cX9_set 72 = .ok (.getfield 16, 3) := dk_180 0 16 (dk_at dksX9_set_3 0 rfl rfl)
theorem dX9_set_75 : decode cX9_set 75 = .ok (.bipush 40, 2) := dk_16 40 (dk_at dksX9_set_3 3 rfl rfl)
theorem dX9_set_77 : decode cX9_set 77 = .ok (.iload_n 1, 1) := dk_27 (dk_at dksX9_set_3 5 rfl rfl)
theorem dX9_set_78 : decode cX9_set 78 = .ok (.imul, 1) := dk_104 (dk_at dksX9_set_3 6 rfl rfl)
theorem dX9_set_79 : decode cX9_set 79 = .ok (.iload_n 2, 1) := dk_28 (dk_at dksX9_set_3 7 rfl rfl)
theorem dX9_set_80 : decode cX9_set 80 = .ok (.iadd, 1) := dk_96 (dk_at dksX9_set_3 8 rfl rfl)
theorem dX9_set_81 : decode cX9_set 81 = .ok (.iaload, 1) := dk_46 (dk_at dksX9_set_3 9 rfl rfl)
theorem dX9_set_82 : decode cX9_set 82 = .ok (.invokevirtual 78, 3) := dk_182 0 78 (dk_at dksX9_set_3 10 rfl rfl)
theorem dX9_set_85 : decode cX9_set 85 = .ok (.ireturn, 1) := dk_172 (dk_at dksX9_set_3 13 rfl rfl)
abbrev cX9_asLane : ByteArray := prog_16_method_9_code
def yX9_asLane : MethodName := ⟨RX9, "asLane", "(II)I"⟩
def dkwX9_asLane_1 : List UInt8 := [16, 16, 122, 167, 0, 4, 27, 172]
abbrev dktX9_asLane_1 : List UInt8 := dkwX9_asLane_1 ++ []
def dkwX9_asLane_0 : List UInt8 := [26, 154, 0, 13, 27, 16, 24, 120, 16, 24, 122, 167, 0, 19, 26, 4, 160, 0, 13, 27, 16, 16, 120]
abbrev dktX9_asLane_0 : List UInt8 := dkwX9_asLane_0 ++ dktX9_asLane_1
theorem dksX9_asLane_0 : cX9_asLane.data.toList.drop 0 = dktX9_asLane_0 := by decide +kernel
theorem dksX9_asLane_1 : cX9_asLane.data.toList.drop 23 = dktX9_asLane_1 := dk_seg dksX9_asLane_0 23 rfl rfl
theorem dX9_asLane_0 : decode cX9_asLane 0 = .ok (.iload_n 0, 1) := dk_26 (dk_at dksX9_asLane_0 0 rfl rfl)
theorem dX9_asLane_1 : decode cX9_asLane 1 = .ok (.ifCond .ne 13, 3) := dk_154 0 13 (dk_at dksX9_asLane_0 1 rfl rfl)
theorem dX9_asLane_4 : decode cX9_asLane 4 = .ok (.iload_n 1, 1) := dk_27 (dk_at dksX9_asLane_0 4 rfl rfl)
theorem dX9_asLane_5 : decode cX9_asLane 5 = .ok (.bipush 24, 2) := dk_16 24 (dk_at dksX9_asLane_0 5 rfl rfl)
theorem dX9_asLane_7 : decode cX9_asLane 7 = .ok (.ishl, 1) := dk_120 (dk_at dksX9_asLane_0 7 rfl rfl)
theorem dX9_asLane_8 : decode cX9_asLane 8 = .ok (.bipush 24, 2) := dk_16 24 (dk_at dksX9_asLane_0 8 rfl rfl)
theorem dX9_asLane_10 : decode cX9_asLane 10 = .ok (.ishr, 1) := dk_122 (dk_at dksX9_asLane_0 10 rfl rfl)
theorem dX9_asLane_11 : decode cX9_asLane 11 = .ok (.goto 19, 3) := dk_167 0 19 (dk_at dksX9_asLane_0 11 rfl rfl)
theorem dX9_asLane_14 : decode cX9_asLane 14 = .ok (.iload_n 0, 1) := dk_26 (dk_at dksX9_asLane_0 14 rfl rfl)
theorem dX9_asLane_15 : decode cX9_asLane 15 = .ok (.iconst 1, 1) := dk_4 (dk_at dksX9_asLane_0 15 rfl rfl)
theorem dX9_asLane_16 : decode cX9_asLane 16 = .ok (.if_icmp .ne 13, 3) := dk_160 0 13 (dk_at dksX9_asLane_0 16 rfl rfl)
theorem dX9_asLane_19 : decode cX9_asLane 19 = .ok (.iload_n 1, 1) := dk_27 (dk_at dksX9_asLane_0 19 rfl rfl)
theorem dX9_asLane_20 : decode cX9_asLane 20 = .ok (.bipush 16, 2) := dk_16 16 (dk_at dksX9_asLane_0 20 rfl rfl)
theorem dX9_asLane_22 : decode cX9_asLane 22 = .ok (.ishl, 1) := dk_120 (dk_at dksX9_asLane_0 22 rfl rfl)
theorem dX9_asLane_23 : decode cX9_asLane 23 = .ok (.bipush 16, 2) := dk_16 16 (dk_at dksX9_asLane_1 0 rfl rfl)
theorem dX9_asLane_25 : decode cX9_asLane 25 = .ok (.ishr, 1) := dk_122 (dk_at dksX9_asLane_1 2 rfl rfl)
theorem dX9_asLane_26 : decode cX9_asLane 26 = .ok (.goto 4, 3) := dk_167 0 4 (dk_at dksX9_asLane_1 3 rfl rfl)
theorem dX9_asLane_29 : decode cX9_asLane 29 = .ok (.iload_n 1, 1) := dk_27 (dk_at dksX9_asLane_1 6 rfl rfl)
theorem dX9_asLane_30 : decode cX9_asLane 30 = .ok (.ireturn, 1) := dk_172 (dk_at dksX9_asLane_1 7 rfl rfl)
abbrev cX9_copy : ByteArray := prog_16_method_11_code
def yX9_copy : MethodName := ⟨RX9, "copy", "(IIIII)I"⟩
def dkwX9_copy_8 : List UInt8 := [21, 5, 182, 0, 78, 172]
abbrev dktX9_copy_8 : List UInt8 := dkwX9_copy_8 ++ []
def dkwX9_copy_7 : List UInt8 := [29, 104, 21, 4, 96, 21, 6, 96, 42, 180, 0, 22, 21, 6, 46, 79, 132, 6, 1, 167, 255, 224, 42]
abbrev dktX9_copy_7 : List UInt8 := dkwX9_copy_7 ++ dktX9_copy_8
def dkwX9_copy_6 : List UInt8 := [46, 79, 132, 6, 1, 167, 255, 225, 3, 54, 6, 21, 6, 21, 5, 162, 0, 31, 42, 180, 0, 16, 16, 40]
abbrev dktX9_copy_6 : List UInt8 := dkwX9_copy_6 ++ dktX9_copy_7
def dkwX9_copy_5 : List UInt8 := [21, 5, 162, 0, 30, 42, 180, 0, 22, 21, 6, 42, 180, 0, 16, 16, 40, 27, 104, 28, 96, 21, 6, 96]
abbrev dktX9_copy_5 : List UInt8 := dkwX9_copy_5 ++ dktX9_copy_6
def dkwX9_copy_4 : List UInt8 := [29, 46, 133, 21, 5, 133, 101, 184, 0, 63, 154, 0, 9, 42, 5, 182, 0, 74, 172, 3, 54, 6, 21, 6]
abbrev dktX9_copy_4 : List UInt8 := dkwX9_copy_4 ++ dktX9_copy_5
def dkwX9_copy_3 : List UInt8 := [180, 0, 13, 27, 46, 133, 21, 5, 133, 101, 184, 0, 63, 153, 0, 24, 21, 4, 133, 9, 42, 180, 0, 13]
abbrev dktX9_copy_3 : List UInt8 := dkwX9_copy_3 ++ dktX9_copy_4
def dkwX9_copy_2 : List UInt8 := [42, 180, 0, 7, 29, 46, 159, 0, 9, 42, 8, 182, 0, 74, 172, 21, 5, 155, 0, 44, 28, 133, 9, 42]
abbrev dktX9_copy_2 : List UInt8 := dkwX9_copy_2 ++ dktX9_copy_3
def dkwX9_copy_1 : List UInt8 := [155, 0, 12, 42, 180, 0, 13, 29, 46, 156, 0, 9, 42, 4, 182, 0, 74, 172, 42, 180, 0, 7, 27, 46]
abbrev dktX9_copy_1 : List UInt8 := dkwX9_copy_1 ++ dktX9_copy_2
def dkwX9_copy_0 : List UInt8 := [27, 184, 0, 67, 153, 0, 10, 29, 184, 0, 67, 154, 0, 6, 18, 73, 172, 42, 180, 0, 13, 27, 46]
abbrev dktX9_copy_0 : List UInt8 := dkwX9_copy_0 ++ dktX9_copy_1
theorem dksX9_copy_0 : cX9_copy.data.toList.drop 0 = dktX9_copy_0 := by decide +kernel
theorem dksX9_copy_1 : cX9_copy.data.toList.drop 23 = dktX9_copy_1 := dk_seg dksX9_copy_0 23 rfl rfl
theorem dksX9_copy_2 : cX9_copy.data.toList.drop 47 = dktX9_copy_2 := dk_seg dksX9_copy_1 24 rfl rfl
theorem dksX9_copy_3 : cX9_copy.data.toList.drop 71 = dktX9_copy_3 := dk_seg dksX9_copy_2 24 rfl rfl
theorem dksX9_copy_4 : cX9_copy.data.toList.drop 95 = dktX9_copy_4 := dk_seg dksX9_copy_3 24 rfl rfl
theorem dksX9_copy_5 : cX9_copy.data.toList.drop 119 = dktX9_copy_5 := dk_seg dksX9_copy_4 24 rfl rfl
theorem dksX9_copy_6 : cX9_copy.data.toList.drop 143 = dktX9_copy_6 := dk_seg dksX9_copy_5 24 rfl rfl
theorem dksX9_copy_7 : cX9_copy.data.toList.drop 167 = dktX9_copy_7 := dk_seg dksX9_copy_6 24 rfl rfl
theorem dksX9_copy_8 : cX9_copy.data.toList.drop 190 = dktX9_copy_8 := dk_seg dksX9_copy_7 23 rfl rfl
theorem dX9_copy_0 : decode cX9_copy 0 = .ok (.iload_n 1, 1) := dk_27 (dk_at dksX9_copy_0 0 rfl rfl)
theorem dX9_copy_1 : decode cX9_copy 1 = .ok (.invokestatic 67, 3) := dk_184 0 67 (dk_at dksX9_copy_0 1 rfl rfl)
theorem dX9_copy_4 : decode cX9_copy 4 = .ok (.ifCond .eq 10, 3) := dk_153 0 10 (dk_at dksX9_copy_0 4 rfl rfl)
theorem dX9_copy_7 : decode cX9_copy 7 = .ok (.iload_n 3, 1) := dk_29 (dk_at dksX9_copy_0 7 rfl rfl)
theorem dX9_copy_8 : decode cX9_copy 8 = .ok (.invokestatic 67, 3) := dk_184 0 67 (dk_at dksX9_copy_0 8 rfl rfl)
theorem dX9_copy_11 : decode cX9_copy 11 = .ok (.ifCond .ne 6, 3) := dk_154 0 6 (dk_at dksX9_copy_0 11 rfl rfl)
theorem dX9_copy_14 : decode cX9_copy 14 = .ok (.ldc 73, 2) := dk_18 73 (dk_at dksX9_copy_0 14 rfl rfl)
theorem dX9_copy_16 : decode cX9_copy 16 = .ok (.ireturn, 1) := dk_172 (dk_at dksX9_copy_0 16 rfl rfl)
theorem dX9_copy_17 : decode cX9_copy 17 = .ok (.aload_n 0, 1) := dk_42 (dk_at dksX9_copy_0 17 rfl rfl)
theorem dX9_copy_18 : decode cX9_copy 18 = .ok (.getfield 13, 3) := dk_180 0 13 (dk_at dksX9_copy_0 18 rfl rfl)
theorem dX9_copy_21 : decode cX9_copy 21 = .ok (.iload_n 1, 1) := dk_27 (dk_at dksX9_copy_0 21 rfl rfl)
theorem dX9_copy_22 : decode cX9_copy 22 = .ok (.iaload, 1) := dk_46 (dk_at dksX9_copy_0 22 rfl rfl)
theorem dX9_copy_23 : decode cX9_copy 23 = .ok (.ifCond .lt 12, 3) := dk_155 0 12 (dk_at dksX9_copy_1 0 rfl rfl)
theorem dX9_copy_26 : decode cX9_copy 26 = .ok (.aload_n 0, 1) := dk_42 (dk_at dksX9_copy_1 3 rfl rfl)
theorem dX9_copy_27 : decode cX9_copy 27 = .ok (.getfield 13, 3) := dk_180 0 13 (dk_at dksX9_copy_1 4 rfl rfl)
theorem dX9_copy_30 : decode cX9_copy 30 = .ok (.iload_n 3, 1) := dk_29 (dk_at dksX9_copy_1 7 rfl rfl)
theorem dX9_copy_31 : decode cX9_copy 31 = .ok (.iaload, 1) := dk_46 (dk_at dksX9_copy_1 8 rfl rfl)
theorem dX9_copy_32 : decode cX9_copy 32 = .ok (.ifCond .ge 9, 3) := dk_156 0 9 (dk_at dksX9_copy_1 9 rfl rfl)
theorem dX9_copy_35 : decode cX9_copy 35 = .ok (.aload_n 0, 1) := dk_42 (dk_at dksX9_copy_1 12 rfl rfl)
theorem dX9_copy_36 : decode cX9_copy 36 = .ok (.iconst 1, 1) := dk_4 (dk_at dksX9_copy_1 13 rfl rfl)
theorem dX9_copy_37 : decode cX9_copy 37 = .ok (.invokevirtual 74, 3) := dk_182 0 74 (dk_at dksX9_copy_1 14 rfl rfl)
theorem dX9_copy_40 : decode cX9_copy 40 = .ok (.ireturn, 1) := dk_172 (dk_at dksX9_copy_1 17 rfl rfl)
theorem dX9_copy_41 : decode cX9_copy 41 = .ok (.aload_n 0, 1) := dk_42 (dk_at dksX9_copy_1 18 rfl rfl)
theorem dX9_copy_42 : decode cX9_copy 42 = .ok (.getfield 7, 3) := dk_180 0 7 (dk_at dksX9_copy_1 19 rfl rfl)
theorem dX9_copy_45 : decode cX9_copy 45 = .ok (.iload_n 1, 1) := dk_27 (dk_at dksX9_copy_1 22 rfl rfl)
theorem dX9_copy_46 : decode cX9_copy 46 = .ok (.iaload, 1) := dk_46 (dk_at dksX9_copy_1 23 rfl rfl)
theorem dX9_copy_47 : decode cX9_copy 47 = .ok (.aload_n 0, 1) := dk_42 (dk_at dksX9_copy_2 0 rfl rfl)
theorem dX9_copy_48 : decode cX9_copy 48 = .ok (.getfield 7, 3) := dk_180 0 7 (dk_at dksX9_copy_2 1 rfl rfl)
theorem dX9_copy_51 : decode cX9_copy 51 = .ok (.iload_n 3, 1) := dk_29 (dk_at dksX9_copy_2 4 rfl rfl)
theorem dX9_copy_52 : decode cX9_copy 52 = .ok (.iaload, 1) := dk_46 (dk_at dksX9_copy_2 5 rfl rfl)
theorem dX9_copy_53 : decode cX9_copy 53 = .ok (.if_icmp .eq 9, 3) := dk_159 0 9 (dk_at dksX9_copy_2 6 rfl rfl)
theorem dX9_copy_56 : decode cX9_copy 56 = .ok (.aload_n 0, 1) := dk_42 (dk_at dksX9_copy_2 9 rfl rfl)
theorem dX9_copy_57 : decode cX9_copy 57 = .ok (.iconst 5, 1) := dk_8 (dk_at dksX9_copy_2 10 rfl rfl)
theorem dX9_copy_58 : decode cX9_copy 58 = .ok (.invokevirtual 74, 3) := dk_182 0 74 (dk_at dksX9_copy_2 11 rfl rfl)
theorem dX9_copy_61 : decode cX9_copy 61 = .ok (.ireturn, 1) := dk_172 (dk_at dksX9_copy_2 14 rfl rfl)
theorem dX9_copy_62 : decode cX9_copy 62 = .ok (.iload 5, 2) := dk_21 5 (dk_at dksX9_copy_2 15 rfl rfl)
theorem dX9_copy_64 : decode cX9_copy 64 = .ok (.ifCond .lt 44, 3) := dk_155 0 44 (dk_at dksX9_copy_2 17 rfl rfl)
theorem dX9_copy_67 : decode cX9_copy 67 = .ok (.iload_n 2, 1) := dk_28 (dk_at dksX9_copy_2 20 rfl rfl)
theorem dX9_copy_68 : decode cX9_copy 68 = .ok (.i2l, 1) := dk_133 (dk_at dksX9_copy_2 21 rfl rfl)
theorem dX9_copy_69 : decode cX9_copy 69 = .ok (.lconst 0, 1) := dk_9 (dk_at dksX9_copy_2 22 rfl rfl)
theorem dX9_copy_70 : decode cX9_copy 70 = .ok (.aload_n 0, 1) := dk_42 (dk_at dksX9_copy_2 23 rfl rfl)
theorem dX9_copy_71 : decode cX9_copy 71 = .ok (.getfield 13, 3) := dk_180 0 13 (dk_at dksX9_copy_3 0 rfl rfl)
theorem dX9_copy_74 : decode cX9_copy 74 = .ok (.iload_n 1, 1) := dk_27 (dk_at dksX9_copy_3 3 rfl rfl)
theorem dX9_copy_75 : decode cX9_copy 75 = .ok (.iaload, 1) := dk_46 (dk_at dksX9_copy_3 4 rfl rfl)
theorem dX9_copy_76 : decode cX9_copy 76 = .ok (.i2l, 1) := dk_133 (dk_at dksX9_copy_3 5 rfl rfl)
theorem dX9_copy_77 : decode cX9_copy 77 = .ok (.iload 5, 2) := dk_21 5 (dk_at dksX9_copy_3 6 rfl rfl)
theorem dX9_copy_79 : decode cX9_copy 79 = .ok (.i2l, 1) := dk_133 (dk_at dksX9_copy_3 8 rfl rfl)
theorem dX9_copy_80 : decode cX9_copy 80 = .ok (.lsub, 1) := dk_101 (dk_at dksX9_copy_3 9 rfl rfl)
theorem dX9_copy_81 : decode cX9_copy 81 = .ok (.invokestatic 63, 3) := dk_184 0 63 (dk_at dksX9_copy_3 10 rfl rfl)
theorem dX9_copy_84 : decode cX9_copy 84 = .ok (.ifCond .eq 24, 3) := dk_153 0 24 (dk_at dksX9_copy_3 13 rfl rfl)
theorem dX9_copy_87 : decode cX9_copy 87 = .ok (.iload 4, 2) := dk_21 4 (dk_at dksX9_copy_3 16 rfl rfl)
theorem dX9_copy_89 : decode cX9_copy 89 = .ok (.i2l, 1) := dk_133 (dk_at dksX9_copy_3 18 rfl rfl)
theorem dX9_copy_90 : decode cX9_copy 90 = .ok (.lconst 0, 1) := dk_9 (dk_at dksX9_copy_3 19 rfl rfl)
theorem dX9_copy_91 : decode cX9_copy 91 = .ok (.aload_n 0, 1) := dk_42 (dk_at dksX9_copy_3 20 rfl rfl)
theorem dX9_copy_92 : decode cX9_copy 92 = .ok (.getfield 13, 3) := dk_180 0 13 (dk_at dksX9_copy_3 21 rfl rfl)
theorem dX9_copy_95 : decode cX9_copy 95 = .ok (.iload_n 3, 1) := dk_29 (dk_at dksX9_copy_4 0 rfl rfl)
theorem dX9_copy_96 : decode cX9_copy 96 = .ok (.iaload, 1) := dk_46 (dk_at dksX9_copy_4 1 rfl rfl)
theorem dX9_copy_97 : decode cX9_copy 97 = .ok (.i2l, 1) := dk_133 (dk_at dksX9_copy_4 2 rfl rfl)
theorem dX9_copy_98 : decode cX9_copy 98 = .ok (.iload 5, 2) := dk_21 5 (dk_at dksX9_copy_4 3 rfl rfl)
theorem dX9_copy_100 : decode cX9_copy 100 = .ok (.i2l, 1) := dk_133 (dk_at dksX9_copy_4 5 rfl rfl)
theorem dX9_copy_101 : decode cX9_copy 101 = .ok (.lsub, 1) := dk_101 (dk_at dksX9_copy_4 6 rfl rfl)
theorem dX9_copy_102 : decode cX9_copy 102 = .ok (.invokestatic 63, 3) := dk_184 0 63 (dk_at dksX9_copy_4 7 rfl rfl)
theorem dX9_copy_105 : decode cX9_copy 105 = .ok (.ifCond .ne 9, 3) := dk_154 0 9 (dk_at dksX9_copy_4 10 rfl rfl)
theorem dX9_copy_108 : decode cX9_copy 108 = .ok (.aload_n 0, 1) := dk_42 (dk_at dksX9_copy_4 13 rfl rfl)
theorem dX9_copy_109 : decode cX9_copy 109 = .ok (.iconst 2, 1) := dk_5 (dk_at dksX9_copy_4 14 rfl rfl)
theorem dX9_copy_110 : decode cX9_copy 110 = .ok (.invokevirtual 74, 3) := dk_182 0 74 (dk_at dksX9_copy_4 15 rfl rfl)
theorem dX9_copy_113 : decode cX9_copy 113 = .ok (.ireturn, 1) := dk_172 (dk_at dksX9_copy_4 18 rfl rfl)
theorem dX9_copy_114 : decode cX9_copy 114 = .ok (.iconst 0, 1) := dk_3 (dk_at dksX9_copy_4 19 rfl rfl)
theorem dX9_copy_115 : decode cX9_copy 115 = .ok (.istore 6, 2) := dk_54 6 (dk_at dksX9_copy_4 20 rfl rfl)
theorem dX9_copy_117 : decode cX9_copy 117 = .ok (.iload 6, 2) := dk_21 6 (dk_at dksX9_copy_4 22 rfl rfl)
theorem dX9_copy_119 : decode cX9_copy 119 = .ok (.iload 5, 2) := dk_21 5 (dk_at dksX9_copy_5 0 rfl rfl)
theorem dX9_copy_121 : decode cX9_copy 121 = .ok (.if_icmp .ge 30, 3) := dk_162 0 30 (dk_at dksX9_copy_5 2 rfl rfl)
theorem dX9_copy_124 : decode cX9_copy 124 = .ok (.aload_n 0, 1) := dk_42 (dk_at dksX9_copy_5 5 rfl rfl)
theorem dX9_copy_125 : decode cX9_copy 125 = .ok (.getfield 22, 3) := dk_180 0 22 (dk_at dksX9_copy_5 6 rfl rfl)
theorem dX9_copy_128 : decode cX9_copy 128 = .ok (.iload 6, 2) := dk_21 6 (dk_at dksX9_copy_5 9 rfl rfl)
theorem dX9_copy_130 : decode cX9_copy 130 = .ok (.aload_n 0, 1) := dk_42 (dk_at dksX9_copy_5 11 rfl rfl)
theorem dX9_copy_131 : decode cX9_copy 131 = .ok (.getfield 16, 3) := dk_180 0 16 (dk_at dksX9_copy_5 12 rfl rfl)
theorem dX9_copy_134 : decode cX9_copy 134 = .ok (.bipush 40, 2) := dk_16 40 (dk_at dksX9_copy_5 15 rfl rfl)
theorem dX9_copy_136 : decode cX9_copy 136 = .ok (.iload_n 1, 1) := dk_27 (dk_at dksX9_copy_5 17 rfl rfl)
theorem dX9_copy_137 : decode cX9_copy 137 = .ok (.imul, 1) := dk_104 (dk_at dksX9_copy_5 18 rfl rfl)
theorem dX9_copy_138 : decode cX9_copy 138 = .ok (.iload_n 2, 1) := dk_28 (dk_at dksX9_copy_5 19 rfl rfl)
theorem dX9_copy_139 : decode cX9_copy 139 = .ok (.iadd, 1) := dk_96 (dk_at dksX9_copy_5 20 rfl rfl)
theorem dX9_copy_140 : decode cX9_copy 140 = .ok (.iload 6, 2) := dk_21 6 (dk_at dksX9_copy_5 21 rfl rfl)
theorem dX9_copy_142 : decode cX9_copy 142 = .ok (.iadd, 1) := dk_96 (dk_at dksX9_copy_5 23 rfl rfl)
theorem dX9_copy_143 : decode cX9_copy 143 = .ok (.iaload, 1) := dk_46 (dk_at dksX9_copy_6 0 rfl rfl)
theorem dX9_copy_144 : decode cX9_copy 144 = .ok (.iastore, 1) := dk_79 (dk_at dksX9_copy_6 1 rfl rfl)
theorem dX9_copy_145 : decode cX9_copy 145 = .ok (.iinc 6 1, 3) := dk_132 6 1 (dk_at dksX9_copy_6 2 rfl rfl)
theorem dX9_copy_148 : decode cX9_copy 148 = .ok (.goto (-31), 3) := dk_167 255 225 (dk_at dksX9_copy_6 5 rfl rfl)
theorem dX9_copy_151 : decode cX9_copy 151 = .ok (.iconst 0, 1) := dk_3 (dk_at dksX9_copy_6 8 rfl rfl)
theorem dX9_copy_152 : decode cX9_copy 152 = .ok (.istore 6, 2) := dk_54 6 (dk_at dksX9_copy_6 9 rfl rfl)
theorem dX9_copy_154 : decode cX9_copy 154 = .ok (.iload 6, 2) := dk_21 6 (dk_at dksX9_copy_6 11 rfl rfl)
theorem dX9_copy_156 : decode cX9_copy 156 = .ok (.iload 5, 2) := dk_21 5 (dk_at dksX9_copy_6 13 rfl rfl)
theorem dX9_copy_158 : decode cX9_copy 158 = .ok (.if_icmp .ge 31, 3) := dk_162 0 31 (dk_at dksX9_copy_6 15 rfl rfl)
theorem dX9_copy_161 : decode cX9_copy 161 = .ok (.aload_n 0, 1) := dk_42 (dk_at dksX9_copy_6 18 rfl rfl)
theorem dX9_copy_162 : decode cX9_copy 162 = .ok (.getfield 16, 3) := dk_180 0 16 (dk_at dksX9_copy_6 19 rfl rfl)
theorem dX9_copy_165 : decode cX9_copy 165 = .ok (.bipush 40, 2) := dk_16 40 (dk_at dksX9_copy_6 22 rfl rfl)
theorem dX9_copy_167 : decode cX9_copy 167 = .ok (.iload_n 3, 1) := dk_29 (dk_at dksX9_copy_7 0 rfl rfl)
theorem dX9_copy_168 : decode cX9_copy 168 = .ok (.imul, 1) := dk_104 (dk_at dksX9_copy_7 1 rfl rfl)
theorem dX9_copy_169 : decode cX9_copy 169 = .ok (.iload 4, 2) := dk_21 4 (dk_at dksX9_copy_7 2 rfl rfl)
theorem dX9_copy_171 : decode cX9_copy 171 = .ok (.iadd, 1) := dk_96 (dk_at dksX9_copy_7 4 rfl rfl)
theorem dX9_copy_172 : decode cX9_copy 172 = .ok (.iload 6, 2) := dk_21 6 (dk_at dksX9_copy_7 5 rfl rfl)
theorem dX9_copy_174 : decode cX9_copy 174 = .ok (.iadd, 1) := dk_96 (dk_at dksX9_copy_7 7 rfl rfl)
theorem dX9_copy_175 : decode cX9_copy 175 = .ok (.aload_n 0, 1) := dk_42 (dk_at dksX9_copy_7 8 rfl rfl)
theorem dX9_copy_176 : decode cX9_copy 176 = .ok (.getfield 22, 3) := dk_180 0 22 (dk_at dksX9_copy_7 9 rfl rfl)
theorem dX9_copy_179 : decode cX9_copy 179 = .ok (.iload 6, 2) := dk_21 6 (dk_at dksX9_copy_7 12 rfl rfl)
theorem dX9_copy_181 : decode cX9_copy 181 = .ok (.iaload, 1) := dk_46 (dk_at dksX9_copy_7 14 rfl rfl)
theorem dX9_copy_182 : decode cX9_copy 182 = .ok (.iastore, 1) := dk_79 (dk_at dksX9_copy_7 15 rfl rfl)
theorem dX9_copy_183 : decode cX9_copy 183 = .ok (.iinc 6 1, 3) := dk_132 6 1 (dk_at dksX9_copy_7 16 rfl rfl)
theorem dX9_copy_186 : decode cX9_copy 186 = .ok (.goto (-32), 3) := dk_167 255 224 (dk_at dksX9_copy_7 19 rfl rfl)
theorem dX9_copy_189 : decode cX9_copy 189 = .ok (.aload_n 0, 1) := dk_42 (dk_at dksX9_copy_7 22 rfl rfl)
theorem dX9_copy_190 : decode cX9_copy 190 = .ok (.iload 5, 2) := dk_21 5 (dk_at dksX9_copy_8 0 rfl rfl)
theorem dX9_copy_192 : decode cX9_copy 192 = .ok (.invokevirtual 78, 3) := dk_182 0 78 (dk_at dksX9_copy_8 2 rfl rfl)
theorem dX9_copy_195 : decode cX9_copy 195 = .ok (.ireturn, 1) := dk_172 (dk_at dksX9_copy_8 5 rfl rfl)
abbrev cX9_drop : ByteArray := prog_16_method_12_code
def yX9_drop : MethodName := ⟨RX9, "drop", "(I)I"⟩
def dkwX9_drop_1 : List UInt8 := [172, 42, 180, 0, 13, 27, 46, 61, 42, 180, 0, 13, 27, 2, 79, 42, 28, 182, 0, 78, 172]
abbrev dktX9_drop_1 : List UInt8 := dkwX9_drop_1 ++ []
def dkwX9_drop_0 : List UInt8 := [27, 184, 0, 67, 154, 0, 6, 18, 73, 172, 42, 180, 0, 13, 27, 46, 156, 0, 9, 42, 4, 182, 0, 74]
abbrev dktX9_drop_0 : List UInt8 := dkwX9_drop_0 ++ dktX9_drop_1
theorem dksX9_drop_0 : cX9_drop.data.toList.drop 0 = dktX9_drop_0 := by decide +kernel
theorem dksX9_drop_1 : cX9_drop.data.toList.drop 24 = dktX9_drop_1 := dk_seg dksX9_drop_0 24 rfl rfl
theorem dX9_drop_0 : decode cX9_drop 0 = .ok (.iload_n 1, 1) := dk_27 (dk_at dksX9_drop_0 0 rfl rfl)
theorem dX9_drop_1 : decode cX9_drop 1 = .ok (.invokestatic 67, 3) := dk_184 0 67 (dk_at dksX9_drop_0 1 rfl rfl)
theorem dX9_drop_4 : decode cX9_drop 4 = .ok (.ifCond .ne 6, 3) := dk_154 0 6 (dk_at dksX9_drop_0 4 rfl rfl)
theorem dX9_drop_7 : decode cX9_drop 7 = .ok (.ldc 73, 2) := dk_18 73 (dk_at dksX9_drop_0 7 rfl rfl)
theorem dX9_drop_9 : decode cX9_drop 9 = .ok (.ireturn, 1) := dk_172 (dk_at dksX9_drop_0 9 rfl rfl)
theorem dX9_drop_10 : decode cX9_drop 10 = .ok (.aload_n 0, 1) := dk_42 (dk_at dksX9_drop_0 10 rfl rfl)
theorem dX9_drop_11 : decode cX9_drop 11 = .ok (.getfield 13, 3) := dk_180 0 13 (dk_at dksX9_drop_0 11 rfl rfl)
theorem dX9_drop_14 : decode cX9_drop 14 = .ok (.iload_n 1, 1) := dk_27 (dk_at dksX9_drop_0 14 rfl rfl)
theorem dX9_drop_15 : decode cX9_drop 15 = .ok (.iaload, 1) := dk_46 (dk_at dksX9_drop_0 15 rfl rfl)
theorem dX9_drop_16 : decode cX9_drop 16 = .ok (.ifCond .ge 9, 3) := dk_156 0 9 (dk_at dksX9_drop_0 16 rfl rfl)
theorem dX9_drop_19 : decode cX9_drop 19 = .ok (.aload_n 0, 1) := dk_42 (dk_at dksX9_drop_0 19 rfl rfl)
theorem dX9_drop_20 : decode cX9_drop 20 = .ok (.iconst 1, 1) := dk_4 (dk_at dksX9_drop_0 20 rfl rfl)
theorem dX9_drop_21 : decode cX9_drop 21 = .ok (.invokevirtual 74, 3) := dk_182 0 74 (dk_at dksX9_drop_0 21 rfl rfl)
theorem dX9_drop_24 : decode cX9_drop 24 = .ok (.ireturn, 1) := dk_172 (dk_at dksX9_drop_1 0 rfl rfl)
theorem dX9_drop_25 : decode cX9_drop 25 = .ok (.aload_n 0, 1) := dk_42 (dk_at dksX9_drop_1 1 rfl rfl)
theorem dX9_drop_26 : decode cX9_drop 26 = .ok (.getfield 13, 3) := dk_180 0 13 (dk_at dksX9_drop_1 2 rfl rfl)
theorem dX9_drop_29 : decode cX9_drop 29 = .ok (.iload_n 1, 1) := dk_27 (dk_at dksX9_drop_1 5 rfl rfl)
theorem dX9_drop_30 : decode cX9_drop 30 = .ok (.iaload, 1) := dk_46 (dk_at dksX9_drop_1 6 rfl rfl)
theorem dX9_drop_31 : decode cX9_drop 31 = .ok (.istore_n 2, 1) := dk_61 (dk_at dksX9_drop_1 7 rfl rfl)
theorem dX9_drop_32 : decode cX9_drop 32 = .ok (.aload_n 0, 1) := dk_42 (dk_at dksX9_drop_1 8 rfl rfl)
theorem dX9_drop_33 : decode cX9_drop 33 = .ok (.getfield 13, 3) := dk_180 0 13 (dk_at dksX9_drop_1 9 rfl rfl)
theorem dX9_drop_36 : decode cX9_drop 36 = .ok (.iload_n 1, 1) := dk_27 (dk_at dksX9_drop_1 12 rfl rfl)
theorem dX9_drop_37 : decode cX9_drop 37 = .ok (.iconst (-1), 1) := dk_2 (dk_at dksX9_drop_1 13 rfl rfl)
theorem dX9_drop_38 : decode cX9_drop 38 = .ok (.iastore, 1) := dk_79 (dk_at dksX9_drop_1 14 rfl rfl)
theorem dX9_drop_39 : decode cX9_drop 39 = .ok (.aload_n 0, 1) := dk_42 (dk_at dksX9_drop_1 15 rfl rfl)
theorem dX9_drop_40 : decode cX9_drop 40 = .ok (.iload_n 2, 1) := dk_28 (dk_at dksX9_drop_1 16 rfl rfl)
theorem dX9_drop_41 : decode cX9_drop 41 = .ok (.invokevirtual 78, 3) := dk_182 0 78 (dk_at dksX9_drop_1 17 rfl rfl)
theorem dX9_drop_44 : decode cX9_drop 44 = .ok (.ireturn, 1) := dk_172 (dk_at dksX9_drop_1 20 rfl rfl)
abbrev cX9_feed : ByteArray := prog_16_method_13_code
def yX9_feed : MethodName := ⟨RX9, "feed", "(I)I"⟩
def dkwX9_feed_2 : List UInt8 := [180, 0, 87, 172]
abbrev dktX9_feed_2 : List UInt8 := dkwX9_feed_2 ++ []
def dkwX9_feed_1 : List UInt8 := [18, 90, 172, 42, 180, 0, 25, 42, 180, 0, 87, 27, 79, 42, 89, 180, 0, 87, 4, 96, 181, 0, 87, 42]
abbrev dktX9_feed_1 : List UInt8 := dkwX9_feed_1 ++ dktX9_feed_2
def dkwX9_feed_0 : List UInt8 := [27, 133, 9, 20, 0, 85, 184, 0, 63, 154, 0, 6, 18, 73, 172, 42, 180, 0, 87, 16, 120, 160, 0, 6]
abbrev dktX9_feed_0 : List UInt8 := dkwX9_feed_0 ++ dktX9_feed_1
theorem dksX9_feed_0 : cX9_feed.data.toList.drop 0 = dktX9_feed_0 := by decide +kernel
theorem dksX9_feed_1 : cX9_feed.data.toList.drop 24 = dktX9_feed_1 := dk_seg dksX9_feed_0 24 rfl rfl
theorem dksX9_feed_2 : cX9_feed.data.toList.drop 48 = dktX9_feed_2 := dk_seg dksX9_feed_1 24 rfl rfl
theorem dX9_feed_0 : decode cX9_feed 0 = .ok (.iload_n 1, 1) := dk_27 (dk_at dksX9_feed_0 0 rfl rfl)
theorem dX9_feed_1 : decode cX9_feed 1 = .ok (.i2l, 1) := dk_133 (dk_at dksX9_feed_0 1 rfl rfl)
theorem dX9_feed_2 : decode cX9_feed 2 = .ok (.lconst 0, 1) := dk_9 (dk_at dksX9_feed_0 2 rfl rfl)
theorem dX9_feed_3 : decode cX9_feed 3 = .ok (.ldc2_w 85, 3) := dk_20 0 85 (dk_at dksX9_feed_0 3 rfl rfl)
theorem dX9_feed_6 : decode cX9_feed 6 = .ok (.invokestatic 63, 3) := dk_184 0 63 (dk_at dksX9_feed_0 6 rfl rfl)
theorem dX9_feed_9 : decode cX9_feed 9 = .ok (.ifCond .ne 6, 3) := dk_154 0 6 (dk_at dksX9_feed_0 9 rfl rfl)
theorem dX9_feed_12 : decode cX9_feed 12 = .ok (.ldc 73, 2) := dk_18 73 (dk_at dksX9_feed_0 12 rfl rfl)
theorem dX9_feed_14 : decode cX9_feed 14 = .ok (.ireturn, 1) := dk_172 (dk_at dksX9_feed_0 14 rfl rfl)
theorem dX9_feed_15 : decode cX9_feed 15 = .ok (.aload_n 0, 1) := dk_42 (dk_at dksX9_feed_0 15 rfl rfl)
theorem dX9_feed_16 : decode cX9_feed 16 = .ok (.getfield 87, 3) := dk_180 0 87 (dk_at dksX9_feed_0 16 rfl rfl)
theorem dX9_feed_19 : decode cX9_feed 19 = .ok (.bipush 120, 2) := dk_16 120 (dk_at dksX9_feed_0 19 rfl rfl)
theorem dX9_feed_21 : decode cX9_feed 21 = .ok (.if_icmp .ne 6, 3) := dk_160 0 6 (dk_at dksX9_feed_0 21 rfl rfl)
theorem dX9_feed_24 : decode cX9_feed 24 = .ok (.ldc 90, 2) := dk_18 90 (dk_at dksX9_feed_1 0 rfl rfl)
theorem dX9_feed_26 : decode cX9_feed 26 = .ok (.ireturn, 1) := dk_172 (dk_at dksX9_feed_1 2 rfl rfl)
theorem dX9_feed_27 : decode cX9_feed 27 = .ok (.aload_n 0, 1) := dk_42 (dk_at dksX9_feed_1 3 rfl rfl)
theorem dX9_feed_28 : decode cX9_feed 28 = .ok (.getfield 25, 3) := dk_180 0 25 (dk_at dksX9_feed_1 4 rfl rfl)
theorem dX9_feed_31 : decode cX9_feed 31 = .ok (.aload_n 0, 1) := dk_42 (dk_at dksX9_feed_1 7 rfl rfl)
theorem dX9_feed_32 : decode cX9_feed 32 = .ok (.getfield 87, 3) := dk_180 0 87 (dk_at dksX9_feed_1 8 rfl rfl)
theorem dX9_feed_35 : decode cX9_feed 35 = .ok (.iload_n 1, 1) := dk_27 (dk_at dksX9_feed_1 11 rfl rfl)
theorem dX9_feed_36 : decode cX9_feed 36 = .ok (.iastore, 1) := dk_79 (dk_at dksX9_feed_1 12 rfl rfl)
theorem dX9_feed_37 : decode cX9_feed 37 = .ok (.aload_n 0, 1) := dk_42 (dk_at dksX9_feed_1 13 rfl rfl)
theorem dX9_feed_38 : decode cX9_feed 38 = .ok (.dup, 1) := dk_89 (dk_at dksX9_feed_1 14 rfl rfl)
theorem dX9_feed_39 : decode cX9_feed 39 = .ok (.getfield 87, 3) := dk_180 0 87 (dk_at dksX9_feed_1 15 rfl rfl)
theorem dX9_feed_42 : decode cX9_feed 42 = .ok (.iconst 1, 1) := dk_4 (dk_at dksX9_feed_1 18 rfl rfl)
theorem dX9_feed_43 : decode cX9_feed 43 = .ok (.iadd, 1) := dk_96 (dk_at dksX9_feed_1 19 rfl rfl)
theorem dX9_feed_44 : decode cX9_feed 44 = .ok (.putfield 87, 3) := dk_181 0 87 (dk_at dksX9_feed_1 20 rfl rfl)
theorem dX9_feed_47 : decode cX9_feed 47 = .ok (.aload_n 0, 1) := dk_42 (dk_at dksX9_feed_1 23 rfl rfl)
theorem dX9_feed_48 : decode cX9_feed 48 = .ok (.getfield 87, 3) := dk_180 0 87 (dk_at dksX9_feed_2 0 rfl rfl)
theorem dX9_feed_51 : decode cX9_feed 51 = .ok (.ireturn, 1) := dk_172 (dk_at dksX9_feed_2 3 rfl rfl)
abbrev cX9_library : ByteArray := prog_16_method_23_code
def yX9_library : MethodName := ⟨RX9, "library", "()I"⟩
def dkwX9_library_3 : List UInt8 := [172]
abbrev dktX9_library_3 : List UInt8 := dkwX9_library_3 ++ []
def dkwX9_library_2 : List UInt8 := [46, 79, 132, 2, 1, 167, 255, 235, 42, 4, 181, 0, 147, 42, 3, 181, 0, 151, 42, 180, 0, 19, 4, 46]
abbrev dktX9_library_2 : List UInt8 := dkwX9_library_2 ++ dktX9_library_3
def dkwX9_library_1 : List UInt8 := [42, 180, 0, 94, 100, 172, 3, 61, 28, 16, 41, 162, 0, 21, 42, 180, 0, 19, 28, 42, 180, 0, 28, 28]
abbrev dktX9_library_1 : List UInt8 := dkwX9_library_1 ++ dktX9_library_2
def dkwX9_library_0 : List UInt8 := [42, 182, 0, 140, 60, 42, 3, 181, 0, 87, 27, 154, 0, 19, 42, 42, 180, 0, 111, 181, 0, 143, 18, 146]
abbrev dktX9_library_0 : List UInt8 := dkwX9_library_0 ++ dktX9_library_1
theorem dksX9_library_0 : cX9_library.data.toList.drop 0 = dktX9_library_0 := by decide +kernel
theorem dksX9_library_1 : cX9_library.data.toList.drop 24 = dktX9_library_1 := dk_seg dksX9_library_0 24 rfl rfl
theorem dksX9_library_2 : cX9_library.data.toList.drop 48 = dktX9_library_2 := dk_seg dksX9_library_1 24 rfl rfl
theorem dksX9_library_3 : cX9_library.data.toList.drop 72 = dktX9_library_3 := dk_seg dksX9_library_2 24 rfl rfl
theorem dX9_library_0 : decode cX9_library 0 = .ok (.aload_n 0, 1) := dk_42 (dk_at dksX9_library_0 0 rfl rfl)
theorem dX9_library_1 : decode cX9_library 1 = .ok (.invokevirtual 140, 3) := dk_182 0 140 (dk_at dksX9_library_0 1 rfl rfl)
theorem dX9_library_4 : decode cX9_library 4 = .ok (.istore_n 1, 1) := dk_60 (dk_at dksX9_library_0 4 rfl rfl)
theorem dX9_library_5 : decode cX9_library 5 = .ok (.aload_n 0, 1) := dk_42 (dk_at dksX9_library_0 5 rfl rfl)
theorem dX9_library_6 : decode cX9_library 6 = .ok (.iconst 0, 1) := dk_3 (dk_at dksX9_library_0 6 rfl rfl)
theorem dX9_library_7 : decode cX9_library 7 = .ok (.putfield 87, 3) := dk_181 0 87 (dk_at dksX9_library_0 7 rfl rfl)
theorem dX9_library_10 : decode cX9_library 10 = .ok (.iload_n 1, 1) := dk_27 (dk_at dksX9_library_0 10 rfl rfl)
theorem dX9_library_11 : decode cX9_library 11 = .ok (.ifCond .ne 19, 3) := dk_154 0 19 (dk_at dksX9_library_0 11 rfl rfl)
theorem dX9_library_14 : decode cX9_library 14 = .ok (.aload_n 0, 1) := dk_42 (dk_at dksX9_library_0 14 rfl rfl)
theorem dX9_library_15 : decode cX9_library 15 = .ok (.aload_n 0, 1) := dk_42 (dk_at dksX9_library_0 15 rfl rfl)
theorem dX9_library_16 : decode cX9_library 16 = .ok (.getfield 111, 3) := dk_180 0 111 (dk_at dksX9_library_0 16 rfl rfl)
theorem dX9_library_19 : decode cX9_library 19 = .ok (.putfield 143, 3) := dk_181 0 143 (dk_at dksX9_library_0 19 rfl rfl)
theorem dX9_library_22 : decode cX9_library 22 = .ok (.ldc 146, 2) := dk_18 146 (dk_at dksX9_library_0 22 rfl rfl)
theorem dX9_library_24 : decode cX9_library 24 = .ok (.aload_n 0, 1) := dk_42 (dk_at dksX9_library_1 0 rfl rfl)
theorem dX9_library_25 : decode cX9_library 25 = .ok (.getfield 94, 3) := dk_180 0 94 (dk_at dksX9_library_1 1 rfl rfl)
theorem dX9_library_28 : decode cX9_library 28 = .ok (.isub, 1) := dk_100 (dk_at dksX9_library_1 4 rfl rfl)
theorem dX9_library_29 : decode cX9_library 29 = .ok (.ireturn, 1) := dk_172 (dk_at dksX9_library_1 5 rfl rfl)
theorem dX9_library_30 : decode cX9_library 30 = .ok (.iconst 0, 1) := dk_3 (dk_at dksX9_library_1 6 rfl rfl)
theorem dX9_library_31 : decode cX9_library 31 = .ok (.istore_n 2, 1) := dk_61 (dk_at dksX9_library_1 7 rfl rfl)
theorem dX9_library_32 : decode cX9_library 32 = .ok (.iload_n 2, 1) := dk_28 (dk_at dksX9_library_1 8 rfl rfl)
theorem dX9_library_33 : decode cX9_library 33 = .ok (.bipush 41, 2) := dk_16 41 (dk_at dksX9_library_1 9 rfl rfl)
theorem dX9_library_35 : decode cX9_library 35 = .ok (.if_icmp .ge 21, 3) := dk_162 0 21 (dk_at dksX9_library_1 11 rfl rfl)
theorem dX9_library_38 : decode cX9_library 38 = .ok (.aload_n 0, 1) := dk_42 (dk_at dksX9_library_1 14 rfl rfl)
theorem dX9_library_39 : decode cX9_library 39 = .ok (.getfield 19, 3) := dk_180 0 19 (dk_at dksX9_library_1 15 rfl rfl)
theorem dX9_library_42 : decode cX9_library 42 = .ok (.iload_n 2, 1) := dk_28 (dk_at dksX9_library_1 18 rfl rfl)
theorem dX9_library_43 : decode cX9_library 43 = .ok (.aload_n 0, 1) := dk_42 (dk_at dksX9_library_1 19 rfl rfl)
theorem dX9_library_44 : decode cX9_library 44 = .ok (.getfield 28, 3) := dk_180 0 28 (dk_at dksX9_library_1 20 rfl rfl)
theorem dX9_library_47 : decode cX9_library 47 = .ok (.iload_n 2, 1) := dk_28 (dk_at dksX9_library_1 23 rfl rfl)
theorem dX9_library_48 : decode cX9_library 48 = .ok (.iaload, 1) := dk_46 (dk_at dksX9_library_2 0 rfl rfl)
theorem dX9_library_49 : decode cX9_library 49 = .ok (.iastore, 1) := dk_79 (dk_at dksX9_library_2 1 rfl rfl)
theorem dX9_library_50 : decode cX9_library 50 = .ok (.iinc 2 1, 3) := dk_132 2 1 (dk_at dksX9_library_2 2 rfl rfl)
theorem dX9_library_53 : decode cX9_library 53 = .ok (.goto (-21), 3) := dk_167 255 235 (dk_at dksX9_library_2 5 rfl rfl)
theorem dX9_library_56 : decode cX9_library 56 = .ok (.aload_n 0, 1) := dk_42 (dk_at dksX9_library_2 8 rfl rfl)
theorem dX9_library_57 : decode cX9_library 57 = .ok (.iconst 1, 1) := dk_4 (dk_at dksX9_library_2 9 rfl rfl)
theorem dX9_library_58 : decode cX9_library 58 = .ok (.putfield 147, 3) := dk_181 0 147 (dk_at dksX9_library_2 10 rfl rfl)
theorem dX9_library_61 : decode cX9_library 61 = .ok (.aload_n 0, 1) := dk_42 (dk_at dksX9_library_2 13 rfl rfl)
theorem dX9_library_62 : decode cX9_library 62 = .ok (.iconst 0, 1) := dk_3 (dk_at dksX9_library_2 14 rfl rfl)
theorem dX9_library_63 : decode cX9_library 63 = .ok (.putfield 151, 3) := dk_181 0 151 (dk_at dksX9_library_2 15 rfl rfl)
theorem dX9_library_66 : decode cX9_library 66 = .ok (.aload_n 0, 1) := dk_42 (dk_at dksX9_library_2 18 rfl rfl)
theorem dX9_library_67 : decode cX9_library 67 = .ok (.getfield 19, 3) := dk_180 0 19 (dk_at dksX9_library_2 19 rfl rfl)
theorem dX9_library_70 : decode cX9_library 70 = .ok (.iconst 1, 1) := dk_4 (dk_at dksX9_library_2 22 rfl rfl)
theorem dX9_library_71 : decode cX9_library 71 = .ok (.iaload, 1) := dk_46 (dk_at dksX9_library_2 23 rfl rfl)
theorem dX9_library_72 : decode cX9_library 72 = .ok (.ireturn, 1) := dk_172 (dk_at dksX9_library_3 0 rfl rfl)
abbrev cX9_readLibrary : ByteArray := prog_16_method_22_code
def yX9_readLibrary : MethodName := ⟨RX9, "readLibrary", "()Z"⟩
def dkwX9_readLibrary_6 : List UInt8 := [182, 0, 117, 60, 167, 255, 181, 27, 172]
abbrev dktX9_readLibrary_6 : List UInt8 := dkwX9_readLibrary_6 ++ []
def dkwX9_readLibrary_5 : List UInt8 := [182, 0, 133, 167, 0, 24, 42, 16, 98, 182, 0, 114, 153, 0, 10, 42, 182, 0, 136, 167, 0, 8, 42, 4]
abbrev dktX9_readLibrary_5 : List UInt8 := dkwX9_readLibrary_5 ++ dktX9_readLibrary_6
def dkwX9_readLibrary_4 : List UInt8 := [4, 160, 0, 13, 42, 180, 0, 100, 184, 0, 130, 167, 0, 4, 3, 61, 28, 158, 0, 11, 42, 28]
abbrev dktX9_readLibrary_4 : List UInt8 := dkwX9_readLibrary_4 ++ dktX9_readLibrary_5
def dkwX9_readLibrary_3 : List UInt8 := [153, 0, 77, 42, 180, 0, 97, 6, 160, 0, 12, 42, 180, 0, 28, 4, 46, 154, 0, 60, 42, 180, 0, 97]
abbrev dktX9_readLibrary_3 : List UInt8 := dkwX9_readLibrary_3 ++ dktX9_readLibrary_4
def dkwX9_readLibrary_2 : List UInt8 := [182, 0, 126, 153, 0, 16, 42, 3, 16, 8, 6, 16, 59, 182, 0, 126, 154, 0, 5, 3, 172, 4, 60, 27]
abbrev dktX9_readLibrary_2 : List UInt8 := dkwX9_readLibrary_2 ++ dktX9_readLibrary_3
def dkwX9_readLibrary_1 : List UInt8 := [167, 255, 240, 42, 182, 0, 120, 42, 16, 108, 182, 0, 123, 153, 0, 29, 42, 4, 16, 9, 5, 16, 44]
abbrev dktX9_readLibrary_1 : List UInt8 := dkwX9_readLibrary_1 ++ dktX9_readLibrary_2
def dkwX9_readLibrary_0 : List UInt8 := [42, 3, 181, 0, 91, 3, 60, 27, 16, 41, 162, 0, 16, 42, 180, 0, 28, 27, 3, 79, 132, 1, 1]
abbrev dktX9_readLibrary_0 : List UInt8 := dkwX9_readLibrary_0 ++ dktX9_readLibrary_1
theorem dksX9_readLibrary_0 : cX9_readLibrary.data.toList.drop 0 = dktX9_readLibrary_0 := by decide +kernel
theorem dksX9_readLibrary_1 : cX9_readLibrary.data.toList.drop 23 = dktX9_readLibrary_1 := dk_seg dksX9_readLibrary_0 23 rfl rfl
theorem dksX9_readLibrary_2 : cX9_readLibrary.data.toList.drop 46 = dktX9_readLibrary_2 := dk_seg dksX9_readLibrary_1 23 rfl rfl
theorem dksX9_readLibrary_3 : cX9_readLibrary.data.toList.drop 70 = dktX9_readLibrary_3 := dk_seg dksX9_readLibrary_2 24 rfl rfl
theorem dksX9_readLibrary_4 : cX9_readLibrary.data.toList.drop 94 = dktX9_readLibrary_4 := dk_seg dksX9_readLibrary_3 24 rfl rfl
theorem dksX9_readLibrary_5 : cX9_readLibrary.data.toList.drop 116 = dktX9_readLibrary_5 := dk_seg dksX9_readLibrary_4 22 rfl rfl
theorem dksX9_readLibrary_6 : cX9_readLibrary.data.toList.drop 140 = dktX9_readLibrary_6 := dk_seg dksX9_readLibrary_5 24 rfl rfl
theorem dX9_readLibrary_0 : decode cX9_readLibrary 0 = .ok (.aload_n 0, 1) := dk_42 (dk_at dksX9_readLibrary_0 0 rfl rfl)
theorem dX9_readLibrary_1 : decode cX9_readLibrary 1 = .ok (.iconst 0, 1) := dk_3 (dk_at dksX9_readLibrary_0 1 rfl rfl)
theorem dX9_readLibrary_2 : decode cX9_readLibrary 2 = .ok (.putfield 91, 3) := dk_181 0 91 (dk_at dksX9_readLibrary_0 2 rfl rfl)
theorem dX9_readLibrary_5 : decode cX9_readLibrary 5 = .ok (.iconst 0, 1) := dk_3 (dk_at dksX9_readLibrary_0 5 rfl rfl)
theorem dX9_readLibrary_6 : decode cX9_readLibrary 6 = .ok (.istore_n 1, 1) := dk_60 (dk_at dksX9_readLibrary_0 6 rfl rfl)
theorem dX9_readLibrary_7 : decode cX9_readLibrary 7 = .ok (.iload_n 1, 1) := dk_27 (dk_at dksX9_readLibrary_0 7 rfl rfl)
theorem dX9_readLibrary_8 : decode cX9_readLibrary 8 = .ok (.bipush 41, 2) := dk_16 41 (dk_at dksX9_readLibrary_0 8 rfl rfl)
theorem dX9_readLibrary_10 : decode cX9_readLibrary 10 = .ok (.if_icmp .ge 16, 3) := dk_162 0 16 (dk_at dksX9_readLibrary_0 10 rfl rfl)
theorem dX9_readLibrary_13 : decode cX9_readLibrary 13 = .ok (.aload_n 0, 1) := dk_42 (dk_at dksX9_readLibrary_0 13 rfl rfl)
theorem dX9_readLibrary_14 : decode cX9_readLibrary 14 = .ok (.getfield 28, 3) := dk_180 0 28 (dk_at dksX9_readLibrary_0 14 rfl rfl)
theorem dX9_readLibrary_17 : decode cX9_readLibrary 17 = .ok (.iload_n 1, 1) := dk_27 (dk_at dksX9_readLibrary_0 17 rfl rfl)
theorem dX9_readLibrary_18 : decode cX9_readLibrary 18 = .ok (.iconst 0, 1) := dk_3 (dk_at dksX9_readLibrary_0 18 rfl rfl)
theorem dX9_readLibrary_19 : decode cX9_readLibrary 19 = .ok (.iastore, 1) := dk_79 (dk_at dksX9_readLibrary_0 19 rfl rfl)
theorem dX9_readLibrary_20 : decode cX9_readLibrary 20 = .ok (.iinc 1 1, 3) := dk_132 1 1 (dk_at dksX9_readLibrary_0 20 rfl rfl)
theorem dX9_readLibrary_23 : decode cX9_readLibrary 23 = .ok (.goto (-16), 3) := dk_167 255 240 (dk_at dksX9_readLibrary_1 0 rfl rfl)
theorem dX9_readLibrary_26 : decode cX9_readLibrary 26 = .ok (.aload_n 0, 1) := dk_42 (dk_at dksX9_readLibrary_1 3 rfl rfl)
theorem dX9_readLibrary_27 : decode cX9_readLibrary 27 = .ok (.invokevirtual 120, 3) := dk_182 0 120 (dk_at dksX9_readLibrary_1 4 rfl rfl)
theorem dX9_readLibrary_30 : decode cX9_readLibrary 30 = .ok (.aload_n 0, 1) := dk_42 (dk_at dksX9_readLibrary_1 7 rfl rfl)
theorem dX9_readLibrary_31 : decode cX9_readLibrary 31 = .ok (.bipush 108, 2) := dk_16 108 (dk_at dksX9_readLibrary_1 8 rfl rfl)
theorem dX9_readLibrary_33 : decode cX9_readLibrary 33 = .ok (.invokevirtual 123, 3) := dk_182 0 123 (dk_at dksX9_readLibrary_1 10 rfl rfl)
theorem dX9_readLibrary_36 : decode cX9_readLibrary 36 = .ok (.ifCond .eq 29, 3) := dk_153 0 29 (dk_at dksX9_readLibrary_1 13 rfl rfl)
theorem dX9_readLibrary_39 : decode cX9_readLibrary 39 = .ok (.aload_n 0, 1) := dk_42 (dk_at dksX9_readLibrary_1 16 rfl rfl)
theorem dX9_readLibrary_40 : decode cX9_readLibrary 40 = .ok (.iconst 1, 1) := dk_4 (dk_at dksX9_readLibrary_1 17 rfl rfl)
theorem dX9_readLibrary_41 : decode cX9_readLibrary 41 = .ok (.bipush 9, 2) := dk_16 9 (dk_at dksX9_readLibrary_1 18 rfl rfl)
theorem dX9_readLibrary_43 : decode cX9_readLibrary 43 = .ok (.iconst 2, 1) := dk_5 (dk_at dksX9_readLibrary_1 20 rfl rfl)
theorem dX9_readLibrary_44 : decode cX9_readLibrary 44 = .ok (.bipush 44, 2) := dk_16 44 (dk_at dksX9_readLibrary_1 21 rfl rfl)
theorem dX9_readLibrary_46 : decode cX9_readLibrary 46 = .ok (.invokevirtual 126, 3) := dk_182 0 126 (dk_at dksX9_readLibrary_2 0 rfl rfl)
theorem dX9_readLibrary_49 : decode cX9_readLibrary 49 = .ok (.ifCond .eq 16, 3) := dk_153 0 16 (dk_at dksX9_readLibrary_2 3 rfl rfl)
theorem dX9_readLibrary_52 : decode cX9_readLibrary 52 = .ok (.aload_n 0, 1) := dk_42 (dk_at dksX9_readLibrary_2 6 rfl rfl)
theorem dX9_readLibrary_53 : decode cX9_readLibrary 53 = .ok (.iconst 0, 1) := dk_3 (dk_at dksX9_readLibrary_2 7 rfl rfl)
theorem dX9_readLibrary_54 : decode cX9_readLibrary 54 = .ok (.bipush 8, 2) := dk_16 8 (dk_at dksX9_readLibrary_2 8 rfl rfl)
theorem dX9_readLibrary_56 : decode cX9_readLibrary 56 = .ok (.iconst 3, 1) := dk_6 (dk_at dksX9_readLibrary_2 10 rfl rfl)
theorem dX9_readLibrary_57 : decode cX9_readLibrary 57 = .ok (.bipush 59, 2) := dk_16 59 (dk_at dksX9_readLibrary_2 11 rfl rfl)
theorem dX9_readLibrary_59 : decode cX9_readLibrary 59 = .ok (.invokevirtual 126, 3) := dk_182 0 126 (dk_at dksX9_readLibrary_2 13 rfl rfl)
theorem dX9_readLibrary_62 : decode cX9_readLibrary 62 = .ok (.ifCond .ne 5, 3) := dk_154 0 5 (dk_at dksX9_readLibrary_2 16 rfl rfl)
theorem dX9_readLibrary_65 : decode cX9_readLibrary 65 = .ok (.iconst 0, 1) := dk_3 (dk_at dksX9_readLibrary_2 19 rfl rfl)
theorem dX9_readLibrary_66 : decode cX9_readLibrary 66 = .ok (.ireturn, 1) := dk_172 (dk_at dksX9_readLibrary_2 20 rfl rfl)
theorem dX9_readLibrary_67 : decode cX9_readLibrary 67 = .ok (.iconst 1, 1) := dk_4 (dk_at dksX9_readLibrary_2 21 rfl rfl)
theorem dX9_readLibrary_68 : decode cX9_readLibrary 68 = .ok (.istore_n 1, 1) := dk_60 (dk_at dksX9_readLibrary_2 22 rfl rfl)
theorem dX9_readLibrary_69 : decode cX9_readLibrary 69 = .ok (.iload_n 1, 1) := dk_27 (dk_at dksX9_readLibrary_2 23 rfl rfl)
theorem dX9_readLibrary_70 : decode cX9_readLibrary 70 = .ok (.ifCond .eq 77, 3) := dk_153 0 77 (dk_at dksX9_readLibrary_3 0 rfl rfl)
theorem dX9_readLibrary_73 : decode cX9_readLibrary 73 = .ok (.aload_n 0, 1) := dk_42 (dk_at dksX9_readLibrary_3 3 rfl rfl)
theorem dX9_readLibrary_74 : decode cX9_readLibrary 74 = .ok (.getfield 97, 3) := dk_180 0 97 (dk_at dksX9_readLibrary_3 4 rfl rfl)
theorem dX9_readLibrary_77 : decode cX9_readLibrary 77 = .ok (.iconst 3, 1) := dk_6 (dk_at dksX9_readLibrary_3 7 rfl rfl)
theorem dX9_readLibrary_78 : decode cX9_readLibrary 78 = .ok (.if_icmp .ne 12, 3) := dk_160 0 12 (dk_at dksX9_readLibrary_3 8 rfl rfl)
theorem dX9_readLibrary_81 : decode cX9_readLibrary 81 = .ok (.aload_n 0, 1) := dk_42 (dk_at dksX9_readLibrary_3 11 rfl rfl)
theorem dX9_readLibrary_82 : decode cX9_readLibrary 82 = .ok (.getfield 28, 3) := dk_180 0 28 (dk_at dksX9_readLibrary_3 12 rfl rfl)
theorem dX9_readLibrary_85 : decode cX9_readLibrary 85 = .ok (.iconst 1, 1) := dk_4 (dk_at dksX9_readLibrary_3 15 rfl rfl)
theorem dX9_readLibrary_86 : decode cX9_readLibrary 86 = .ok (.iaload, 1) := dk_46 (dk_at dksX9_readLibrary_3 16 rfl rfl)
theorem dX9_readLibrary_87 : decode cX9_readLibrary 87 = .ok (.ifCond .ne 60, 3) := dk_154 0 60 (dk_at dksX9_readLibrary_3 17 rfl rfl)
theorem dX9_readLibrary_90 : decode cX9_readLibrary 90 = .ok (.aload_n 0, 1) := dk_42 (dk_at dksX9_readLibrary_3 20 rfl rfl)
theorem dX9_readLibrary_91 : decode cX9_readLibrary 91 = .ok (.getfield 97, 3) := dk_180 0 97 (dk_at dksX9_readLibrary_3 21 rfl rfl)
theorem dX9_readLibrary_94 : decode cX9_readLibrary 94 = .ok (.iconst 1, 1) := dk_4 (dk_at dksX9_readLibrary_4 0 rfl rfl)
theorem dX9_readLibrary_95 : decode cX9_readLibrary 95 = .ok (.if_icmp .ne 13, 3) := dk_160 0 13 (dk_at dksX9_readLibrary_4 1 rfl rfl)
theorem dX9_readLibrary_98 : decode cX9_readLibrary 98 = .ok (.aload_n 0, 1) := dk_42 (dk_at dksX9_readLibrary_4 4 rfl rfl)
theorem dX9_readLibrary_99 : decode cX9_readLibrary 99 = .ok (.getfield 100, 3) := dk_180 0 100 (dk_at dksX9_readLibrary_4 5 rfl rfl)
theorem dX9_readLibrary_102 : decode cX9_readLibrary 102 = .ok (.invokestatic 130, 3) := dk_184 0 130 (dk_at dksX9_readLibrary_4 8 rfl rfl)
theorem dX9_readLibrary_105 : decode cX9_readLibrary 105 = .ok (.goto 4, 3) := dk_167 0 4 (dk_at dksX9_readLibrary_4 11 rfl rfl)
theorem dX9_readLibrary_108 : decode cX9_readLibrary 108 = .ok (.iconst 0, 1) := dk_3 (dk_at dksX9_readLibrary_4 14 rfl rfl)
theorem dX9_readLibrary_109 : decode cX9_readLibrary 109 = .ok (.istore_n 2, 1) := dk_61 (dk_at dksX9_readLibrary_4 15 rfl rfl)
theorem dX9_readLibrary_110 : decode cX9_readLibrary 110 = .ok (.iload_n 2, 1) := dk_28 (dk_at dksX9_readLibrary_4 16 rfl rfl)
theorem dX9_readLibrary_111 : decode cX9_readLibrary 111 = .ok (.ifCond .le 11, 3) := dk_158 0 11 (dk_at dksX9_readLibrary_4 17 rfl rfl)
theorem dX9_readLibrary_114 : decode cX9_readLibrary 114 = .ok (.aload_n 0, 1) := dk_42 (dk_at dksX9_readLibrary_4 20 rfl rfl)
theorem dX9_readLibrary_115 : decode cX9_readLibrary 115 = .ok (.iload_n 2, 1) := dk_28 (dk_at dksX9_readLibrary_4 21 rfl rfl)
theorem dX9_readLibrary_116 : decode cX9_readLibrary 116 = .ok (.invokevirtual 133, 3) := dk_182 0 133 (dk_at dksX9_readLibrary_5 0 rfl rfl)
theorem dX9_readLibrary_119 : decode cX9_readLibrary 119 = .ok (.goto 24, 3) := dk_167 0 24 (dk_at dksX9_readLibrary_5 3 rfl rfl)
theorem dX9_readLibrary_122 : decode cX9_readLibrary 122 = .ok (.aload_n 0, 1) := dk_42 (dk_at dksX9_readLibrary_5 6 rfl rfl)
theorem dX9_readLibrary_123 : decode cX9_readLibrary 123 = .ok (.bipush 98, 2) := dk_16 98 (dk_at dksX9_readLibrary_5 7 rfl rfl)
theorem dX9_readLibrary_125 : decode cX9_readLibrary 125 = .ok (.invokevirtual 114, 3) := dk_182 0 114 (dk_at dksX9_readLibrary_5 9 rfl rfl)
theorem dX9_readLibrary_128 : decode cX9_readLibrary 128 = .ok (.ifCond .eq 10, 3) := dk_153 0 10 (dk_at dksX9_readLibrary_5 12 rfl rfl)
theorem dX9_readLibrary_131 : decode cX9_readLibrary 131 = .ok (.aload_n 0, 1) := dk_42 (dk_at dksX9_readLibrary_5 15 rfl rfl)
theorem dX9_readLibrary_132 : decode cX9_readLibrary 132 = .ok (.invokevirtual 136, 3) := dk_182 0 136 (dk_at dksX9_readLibrary_5 16 rfl rfl)
theorem dX9_readLibrary_135 : decode cX9_readLibrary 135 = .ok (.goto 8, 3) := dk_167 0 8 (dk_at dksX9_readLibrary_5 19 rfl rfl)
theorem dX9_readLibrary_138 : decode cX9_readLibrary 138 = .ok (.aload_n 0, 1) := dk_42 (dk_at dksX9_readLibrary_5 22 rfl rfl)
theorem dX9_readLibrary_139 : decode cX9_readLibrary 139 = .ok (.iconst 1, 1) := dk_4 (dk_at dksX9_readLibrary_5 23 rfl rfl)
theorem dX9_readLibrary_140 : decode cX9_readLibrary 140 = .ok (.invokevirtual 117, 3) := dk_182 0 117 (dk_at dksX9_readLibrary_6 0 rfl rfl)
theorem dX9_readLibrary_143 : decode cX9_readLibrary 143 = .ok (.istore_n 1, 1) := dk_60 (dk_at dksX9_readLibrary_6 3 rfl rfl)
theorem dX9_readLibrary_144 : decode cX9_readLibrary 144 = .ok (.goto (-75), 3) := dk_167 255 181 (dk_at dksX9_readLibrary_6 4 rfl rfl)
theorem dX9_readLibrary_147 : decode cX9_readLibrary 147 = .ok (.iload_n 1, 1) := dk_27 (dk_at dksX9_readLibrary_6 7 rfl rfl)
theorem dX9_readLibrary_148 : decode cX9_readLibrary 148 = .ok (.ireturn, 1) := dk_172 (dk_at dksX9_readLibrary_6 8 rfl rfl)
abbrev cX9_nextToken : ByteArray := prog_16_method_14_code
def yX9_nextToken : MethodName := ⟨RX9, "nextToken", "()V"⟩
def dkwX9_nextToken_9 : List UInt8 := [4, 167, 0, 4, 3, 181, 0, 97, 42, 89, 180, 0, 91, 4, 96, 181, 0, 91, 177]
abbrev dktX9_nextToken_9 : List UInt8 := dkwX9_nextToken_9 ++ []
def dkwX9_nextToken_8 : List UInt8 := [184, 0, 63, 154, 0, 21, 42, 180, 0, 100, 16, 44, 159, 0, 12, 42, 180, 0, 100, 16, 59, 160, 0, 7]
abbrev dktX9_nextToken_8 : List UInt8 := dkwX9_nextToken_8 ++ dktX9_nextToken_9
def dkwX9_nextToken_7 : List UInt8 := [180, 0, 25, 42, 180, 0, 91, 46, 181, 0, 100, 42, 42, 180, 0, 100, 133, 20, 0, 107, 20, 0, 109]
abbrev dktX9_nextToken_7 : List UInt8 := dkwX9_nextToken_7 ++ dktX9_nextToken_8
def dkwX9_nextToken_6 : List UInt8 := [164, 0, 7, 3, 167, 0, 4, 5, 181, 0, 97, 167, 0, 77, 42, 180, 0, 97, 154, 0, 70, 42, 42]
abbrev dktX9_nextToken_6 : List UInt8 := dkwX9_nextToken_6 ++ dktX9_nextToken_7
def dkwX9_nextToken_5 : List UInt8 := [42, 180, 0, 91, 42, 180, 0, 94, 164, 0, 28, 42, 42, 180, 0, 91, 42, 180, 0, 94, 100, 5]
abbrev dktX9_nextToken_5 : List UInt8 := dkwX9_nextToken_5 ++ dktX9_nextToken_6
def dkwX9_nextToken_4 : List UInt8 := [180, 0, 91, 46, 96, 16, 48, 100, 181, 0, 100, 42, 89, 180, 0, 91, 4, 96, 181, 0, 91, 167, 255, 173]
abbrev dktX9_nextToken_4 : List UInt8 := dkwX9_nextToken_4 ++ dktX9_nextToken_5
def dkwX9_nextToken_3 : List UInt8 := [16, 99, 164, 0, 10, 42, 180, 0, 100, 167, 0, 23, 16, 10, 42, 180, 0, 100, 104, 42, 180, 0, 25, 42]
abbrev dktX9_nextToken_3 : List UInt8 := dkwX9_nextToken_3 ++ dktX9_nextToken_4
def dkwX9_nextToken_2 : List UInt8 := [42, 180, 0, 91, 46, 133, 20, 0, 103, 20, 0, 105, 184, 0, 63, 153, 0, 56, 42, 42, 180, 0, 100]
abbrev dktX9_nextToken_2 : List UInt8 := dkwX9_nextToken_2 ++ dktX9_nextToken_3
def dkwX9_nextToken_1 : List UInt8 := [3, 181, 0, 97, 42, 3, 181, 0, 100, 42, 180, 0, 91, 42, 180, 0, 87, 162, 0, 78, 42, 180, 0, 25]
abbrev dktX9_nextToken_1 : List UInt8 := dkwX9_nextToken_1 ++ dktX9_nextToken_2
def dkwX9_nextToken_0 : List UInt8 := [42, 42, 180, 0, 91, 181, 0, 94, 42, 42, 180, 0, 91, 42, 180, 0, 87, 160, 0, 7, 6, 167, 0, 4]
abbrev dktX9_nextToken_0 : List UInt8 := dkwX9_nextToken_0 ++ dktX9_nextToken_1
theorem dksX9_nextToken_0 : cX9_nextToken.data.toList.drop 0 = dktX9_nextToken_0 := by decide +kernel
theorem dksX9_nextToken_1 : cX9_nextToken.data.toList.drop 24 = dktX9_nextToken_1 := dk_seg dksX9_nextToken_0 24 rfl rfl
theorem dksX9_nextToken_2 : cX9_nextToken.data.toList.drop 48 = dktX9_nextToken_2 := dk_seg dksX9_nextToken_1 24 rfl rfl
theorem dksX9_nextToken_3 : cX9_nextToken.data.toList.drop 71 = dktX9_nextToken_3 := dk_seg dksX9_nextToken_2 23 rfl rfl
theorem dksX9_nextToken_4 : cX9_nextToken.data.toList.drop 95 = dktX9_nextToken_4 := dk_seg dksX9_nextToken_3 24 rfl rfl
theorem dksX9_nextToken_5 : cX9_nextToken.data.toList.drop 119 = dktX9_nextToken_5 := dk_seg dksX9_nextToken_4 24 rfl rfl
theorem dksX9_nextToken_6 : cX9_nextToken.data.toList.drop 141 = dktX9_nextToken_6 := dk_seg dksX9_nextToken_5 22 rfl rfl
theorem dksX9_nextToken_7 : cX9_nextToken.data.toList.drop 164 = dktX9_nextToken_7 := dk_seg dksX9_nextToken_6 23 rfl rfl
theorem dksX9_nextToken_8 : cX9_nextToken.data.toList.drop 187 = dktX9_nextToken_8 := dk_seg dksX9_nextToken_7 23 rfl rfl
theorem dksX9_nextToken_9 : cX9_nextToken.data.toList.drop 211 = dktX9_nextToken_9 := dk_seg dksX9_nextToken_8 24 rfl rfl
theorem dX9_nextToken_0 : decode cX9_nextToken 0 = .ok (.aload_n 0, 1) := dk_42 (dk_at dksX9_nextToken_0 0 rfl rfl)
theorem dX9_nextToken_1 : decode cX9_nextToken 1 = .ok (.aload_n 0, 1) := dk_42 (dk_at dksX9_nextToken_0 1 rfl rfl)
theorem dX9_nextToken_2 : decode cX9_nextToken 2 = .ok (.getfield 91, 3) := dk_180 0 91 (dk_at dksX9_nextToken_0 2 rfl rfl)
theorem dX9_nextToken_5 : decode cX9_nextToken 5 = .ok (.putfield 94, 3) := dk_181 0 94 (dk_at dksX9_nextToken_0 5 rfl rfl)
theorem dX9_nextToken_8 : decode cX9_nextToken 8 = .ok (.aload_n 0, 1) := dk_42 (dk_at dksX9_nextToken_0 8 rfl rfl)
theorem dX9_nextToken_9 : decode cX9_nextToken 9 = .ok (.aload_n 0, 1) := dk_42 (dk_at dksX9_nextToken_0 9 rfl rfl)
theorem dX9_nextToken_10 : decode cX9_nextToken 10 = .ok (.getfield 91, 3) := dk_180 0 91 (dk_at dksX9_nextToken_0 10 rfl rfl)
theorem dX9_nextToken_13 : decode cX9_nextToken 13 = .ok (.aload_n 0, 1) := dk_42 (dk_at dksX9_nextToken_0 13 rfl rfl)
theorem dX9_nextToken_14 : decode cX9_nextToken 14 = .ok (.getfield 87, 3) := dk_180 0 87 (dk_at dksX9_nextToken_0 14 rfl rfl)
theorem dX9_nextToken_17 : decode cX9_nextToken 17 = .ok (.if_icmp .ne 7, 3) := dk_160 0 7 (dk_at dksX9_nextToken_0 17 rfl rfl)
theorem dX9_nextToken_20 : decode cX9_nextToken 20 = .ok (.iconst 3, 1) := dk_6 (dk_at dksX9_nextToken_0 20 rfl rfl)
theorem dX9_nextToken_21 : decode cX9_nextToken 21 = .ok (.goto 4, 3) := dk_167 0 4 (dk_at dksX9_nextToken_0 21 rfl rfl)
theorem dX9_nextToken_24 : decode cX9_nextToken 24 = .ok (.iconst 0, 1) := dk_3 (dk_at dksX9_nextToken_1 0 rfl rfl)
theorem dX9_nextToken_25 : decode cX9_nextToken 25 = .ok (.putfield 97, 3) := dk_181 0 97 (dk_at dksX9_nextToken_1 1 rfl rfl)
theorem dX9_nextToken_28 : decode cX9_nextToken 28 = .ok (.aload_n 0, 1) := dk_42 (dk_at dksX9_nextToken_1 4 rfl rfl)
theorem dX9_nextToken_29 : decode cX9_nextToken 29 = .ok (.iconst 0, 1) := dk_3 (dk_at dksX9_nextToken_1 5 rfl rfl)
theorem dX9_nextToken_30 : decode cX9_nextToken 30 = .ok (.putfield 100, 3) := dk_181 0 100 (dk_at dksX9_nextToken_1 6 rfl rfl)
theorem dX9_nextToken_33 : decode cX9_nextToken 33 = .ok (.aload_n 0, 1) := dk_42 (dk_at dksX9_nextToken_1 9 rfl rfl)
theorem dX9_nextToken_34 : decode cX9_nextToken 34 = .ok (.getfield 91, 3) := dk_180 0 91 (dk_at dksX9_nextToken_1 10 rfl rfl)
theorem dX9_nextToken_37 : decode cX9_nextToken 37 = .ok (.aload_n 0, 1) := dk_42 (dk_at dksX9_nextToken_1 13 rfl rfl)
theorem dX9_nextToken_38 : decode cX9_nextToken 38 = .ok (.getfield 87, 3) := dk_180 0 87 (dk_at dksX9_nextToken_1 14 rfl rfl)
theorem dX9_nextToken_41 : decode cX9_nextToken 41 = .ok (.if_icmp .ge 78, 3) := dk_162 0 78 (dk_at dksX9_nextToken_1 17 rfl rfl)
theorem dX9_nextToken_44 : decode cX9_nextToken 44 = .ok (.aload_n 0, 1) := dk_42 (dk_at dksX9_nextToken_1 20 rfl rfl)
theorem dX9_nextToken_45 : decode cX9_nextToken 45 = .ok (.getfield 25, 3) := dk_180 0 25 (dk_at dksX9_nextToken_1 21 rfl rfl)
theorem dX9_nextToken_48 : decode cX9_nextToken 48 = .ok (.aload_n 0, 1) := dk_42 (dk_at dksX9_nextToken_2 0 rfl rfl)
theorem dX9_nextToken_49 : decode cX9_nextToken 49 = .ok (.getfield 91, 3) := dk_180 0 91 (dk_at dksX9_nextToken_2 1 rfl rfl)
theorem dX9_nextToken_52 : decode cX9_nextToken 52 = .ok (.iaload, 1) := dk_46 (dk_at dksX9_nextToken_2 4 rfl rfl)
theorem dX9_nextToken_53 : decode cX9_nextToken 53 = .ok (.i2l, 1) := dk_133 (dk_at dksX9_nextToken_2 5 rfl rfl)
theorem dX9_nextToken_54 : decode cX9_nextToken 54 = .ok (.ldc2_w 103, 3) := dk_20 0 103 (dk_at dksX9_nextToken_2 6 rfl rfl)
theorem dX9_nextToken_57 : decode cX9_nextToken 57 = .ok (.ldc2_w 105, 3) := dk_20 0 105 (dk_at dksX9_nextToken_2 9 rfl rfl)
theorem dX9_nextToken_60 : decode cX9_nextToken 60 = .ok (.invokestatic 63, 3) := dk_184 0 63 (dk_at dksX9_nextToken_2 12 rfl rfl)
theorem dX9_nextToken_63 : decode cX9_nextToken 63 = .ok (.ifCond .eq 56, 3) := dk_153 0 56 (dk_at dksX9_nextToken_2 15 rfl rfl)
theorem dX9_nextToken_66 : decode cX9_nextToken 66 = .ok (.aload_n 0, 1) := dk_42 (dk_at dksX9_nextToken_2 18 rfl rfl)
theorem dX9_nextToken_67 : decode cX9_nextToken 67 = .ok (.aload_n 0, 1) := dk_42 (dk_at dksX9_nextToken_2 19 rfl rfl)
theorem dX9_nextToken_68 : decode cX9_nextToken 68 = .ok (.getfield 100, 3) := dk_180 0 100 (dk_at dksX9_nextToken_2 20 rfl rfl)
theorem dX9_nextToken_71 : decode cX9_nextToken 71 = .ok (.bipush 99, 2) := dk_16 99 (dk_at dksX9_nextToken_3 0 rfl rfl)
theorem dX9_nextToken_73 : decode cX9_nextToken 73 = .ok (.if_icmp .le 10, 3) := dk_164 0 10 (dk_at dksX9_nextToken_3 2 rfl rfl)
theorem dX9_nextToken_76 : decode cX9_nextToken 76 = .ok (.aload_n 0, 1) := dk_42 (dk_at dksX9_nextToken_3 5 rfl rfl)
theorem dX9_nextToken_77 : decode cX9_nextToken 77 = .ok (.getfield 100, 3) := dk_180 0 100 (dk_at dksX9_nextToken_3 6 rfl rfl)
theorem dX9_nextToken_80 : decode cX9_nextToken 80 = .ok (.goto 23, 3) := dk_167 0 23 (dk_at dksX9_nextToken_3 9 rfl rfl)
theorem dX9_nextToken_83 : decode cX9_nextToken 83 = .ok (.bipush 10, 2) := dk_16 10 (dk_at dksX9_nextToken_3 12 rfl rfl)
theorem dX9_nextToken_85 : decode cX9_nextToken 85 = .ok (.aload_n 0, 1) := dk_42 (dk_at dksX9_nextToken_3 14 rfl rfl)
theorem dX9_nextToken_86 : decode cX9_nextToken 86 = .ok (.getfield 100, 3) := dk_180 0 100 (dk_at dksX9_nextToken_3 15 rfl rfl)
theorem dX9_nextToken_89 : decode cX9_nextToken 89 = .ok (.imul, 1) := dk_104 (dk_at dksX9_nextToken_3 18 rfl rfl)
theorem dX9_nextToken_90 : decode cX9_nextToken 90 = .ok (.aload_n 0, 1) := dk_42 (dk_at dksX9_nextToken_3 19 rfl rfl)
theorem dX9_nextToken_91 : decode cX9_nextToken 91 = .ok (.getfield 25, 3) := dk_180 0 25 (dk_at dksX9_nextToken_3 20 rfl rfl)
theorem dX9_nextToken_94 : decode cX9_nextToken 94 = .ok (.aload_n 0, 1) := dk_42 (dk_at dksX9_nextToken_3 23 rfl rfl)
theorem dX9_nextToken_95 : decode cX9_nextToken 95 = .ok (.getfield 91, 3) := dk_180 0 91 (dk_at dksX9_nextToken_4 0 rfl rfl)
theorem dX9_nextToken_98 : decode cX9_nextToken 98 = .ok (.iaload, 1) := dk_46 (dk_at dksX9_nextToken_4 3 rfl rfl)
theorem dX9_nextToken_99 : decode cX9_nextToken 99 = .ok (.iadd, 1) := dk_96 (dk_at dksX9_nextToken_4 4 rfl rfl)
theorem dX9_nextToken_100 : decode cX9_nextToken 100 = .ok (.bipush 48, 2) := dk_16 48 (dk_at dksX9_nextToken_4 5 rfl rfl)
theorem dX9_nextToken_102 : decode cX9_nextToken 102 = .ok (.isub, 1) := dk_100 (dk_at dksX9_nextToken_4 7 rfl rfl)
theorem dX9_nextToken_103 : decode cX9_nextToken 103 = .ok (.putfield 100, 3) := dk_181 0 100 (dk_at dksX9_nextToken_4 8 rfl rfl)
theorem dX9_nextToken_106 : decode cX9_nextToken 106 = .ok (.aload_n 0, 1) := dk_42 (dk_at dksX9_nextToken_4 11 rfl rfl)
theorem dX9_nextToken_107 : decode cX9_nextToken 107 = .ok (.dup, 1) := dk_89 (dk_at dksX9_nextToken_4 12 rfl rfl)
theorem dX9_nextToken_108 : decode cX9_nextToken 108 = .ok (.getfield 91, 3) := dk_180 0 91 (dk_at dksX9_nextToken_4 13 rfl rfl)
theorem dX9_nextToken_111 : decode cX9_nextToken 111 = .ok (.iconst 1, 1) := dk_4 (dk_at dksX9_nextToken_4 16 rfl rfl)
theorem dX9_nextToken_112 : decode cX9_nextToken 112 = .ok (.iadd, 1) := dk_96 (dk_at dksX9_nextToken_4 17 rfl rfl)
theorem dX9_nextToken_113 : decode cX9_nextToken 113 = .ok (.putfield 91, 3) := dk_181 0 91 (dk_at dksX9_nextToken_4 18 rfl rfl)
theorem dX9_nextToken_116 : decode cX9_nextToken 116 = .ok (.goto (-83), 3) := dk_167 255 173 (dk_at dksX9_nextToken_4 21 rfl rfl)
theorem dX9_nextToken_119 : decode cX9_nextToken 119 = .ok (.aload_n 0, 1) := dk_42 (dk_at dksX9_nextToken_5 0 rfl rfl)
theorem dX9_nextToken_120 : decode cX9_nextToken 120 = .ok (.getfield 91, 3) := dk_180 0 91 (dk_at dksX9_nextToken_5 1 rfl rfl)
theorem dX9_nextToken_123 : decode cX9_nextToken 123 = .ok (.aload_n 0, 1) := dk_42 (dk_at dksX9_nextToken_5 4 rfl rfl)
theorem dX9_nextToken_124 : decode cX9_nextToken 124 = .ok (.getfield 94, 3) := dk_180 0 94 (dk_at dksX9_nextToken_5 5 rfl rfl)
theorem dX9_nextToken_127 : decode cX9_nextToken 127 = .ok (.if_icmp .le 28, 3) := dk_164 0 28 (dk_at dksX9_nextToken_5 8 rfl rfl)
theorem dX9_nextToken_130 : decode cX9_nextToken 130 = .ok (.aload_n 0, 1) := dk_42 (dk_at dksX9_nextToken_5 11 rfl rfl)
theorem dX9_nextToken_131 : decode cX9_nextToken 131 = .ok (.aload_n 0, 1) := dk_42 (dk_at dksX9_nextToken_5 12 rfl rfl)
theorem dX9_nextToken_132 : decode cX9_nextToken 132 = .ok (.getfield 91, 3) := dk_180 0 91 (dk_at dksX9_nextToken_5 13 rfl rfl)
theorem dX9_nextToken_135 : decode cX9_nextToken 135 = .ok (.aload_n 0, 1) := dk_42 (dk_at dksX9_nextToken_5 16 rfl rfl)
theorem dX9_nextToken_136 : decode cX9_nextToken 136 = .ok (.getfield 94, 3) := dk_180 0 94 (dk_at dksX9_nextToken_5 17 rfl rfl)
theorem dX9_nextToken_139 : decode cX9_nextToken 139 = .ok (.isub, 1) := dk_100 (dk_at dksX9_nextToken_5 20 rfl rfl)
theorem dX9_nextToken_140 : decode cX9_nextToken 140 = .ok (.iconst 2, 1) := dk_5 (dk_at dksX9_nextToken_5 21 rfl rfl)
theorem dX9_nextToken_141 : decode cX9_nextToken 141 = .ok (.if_icmp .le 7, 3) := dk_164 0 7 (dk_at dksX9_nextToken_6 0 rfl rfl)
theorem dX9_nextToken_144 : decode cX9_nextToken 144 = .ok (.iconst 0, 1) := dk_3 (dk_at dksX9_nextToken_6 3 rfl rfl)
theorem dX9_nextToken_145 : decode cX9_nextToken 145 = .ok (.goto 4, 3) := dk_167 0 4 (dk_at dksX9_nextToken_6 4 rfl rfl)
theorem dX9_nextToken_148 : decode cX9_nextToken 148 = .ok (.iconst 2, 1) := dk_5 (dk_at dksX9_nextToken_6 7 rfl rfl)
theorem dX9_nextToken_149 : decode cX9_nextToken 149 = .ok (.putfield 97, 3) := dk_181 0 97 (dk_at dksX9_nextToken_6 8 rfl rfl)
theorem dX9_nextToken_152 : decode cX9_nextToken 152 = .ok (.goto 77, 3) := dk_167 0 77 (dk_at dksX9_nextToken_6 11 rfl rfl)
theorem dX9_nextToken_155 : decode cX9_nextToken 155 = .ok (.aload_n 0, 1) := dk_42 (dk_at dksX9_nextToken_6 14 rfl rfl)
theorem dX9_nextToken_156 : decode cX9_nextToken 156 = .ok (.getfield 97, 3) := dk_180 0 97 (dk_at dksX9_nextToken_6 15 rfl rfl)
theorem dX9_nextToken_159 : decode cX9_nextToken 159 = .ok (.ifCond .ne 70, 3) := dk_154 0 70 (dk_at dksX9_nextToken_6 18 rfl rfl)
theorem dX9_nextToken_162 : decode cX9_nextToken 162 = .ok (.aload_n 0, 1) := dk_42 (dk_at dksX9_nextToken_6 21 rfl rfl)
theorem dX9_nextToken_163 : decode cX9_nextToken 163 = .ok (.aload_n 0, 1) := dk_42 (dk_at dksX9_nextToken_6 22 rfl rfl)
theorem dX9_nextToken_164 : decode cX9_nextToken 164 = .ok (.getfield 25, 3) := dk_180 0 25 (dk_at dksX9_nextToken_7 0 rfl rfl)
theorem dX9_nextToken_167 : decode cX9_nextToken 167 = .ok (.aload_n 0, 1) := dk_42 (dk_at dksX9_nextToken_7 3 rfl rfl)
theorem dX9_nextToken_168 : decode cX9_nextToken 168 = .ok (.getfield 91, 3) := dk_180 0 91 (dk_at dksX9_nextToken_7 4 rfl rfl)
theorem dX9_nextToken_171 : decode cX9_nextToken 171 = .ok (.iaload, 1) := dk_46 (dk_at dksX9_nextToken_7 7 rfl rfl)
theorem dX9_nextToken_172 : decode cX9_nextToken 172 = .ok (.putfield 100, 3) := dk_181 0 100 (dk_at dksX9_nextToken_7 8 rfl rfl)
theorem dX9_nextToken_175 : decode cX9_nextToken 175 = .ok (.aload_n 0, 1) := dk_42 (dk_at dksX9_nextToken_7 11 rfl rfl)
theorem dX9_nextToken_176 : decode cX9_nextToken 176 = .ok (.aload_n 0, 1) := dk_42 (dk_at dksX9_nextToken_7 12 rfl rfl)
theorem dX9_nextToken_177 : decode cX9_nextToken 177 = .ok (.getfield 100, 3) := dk_180 0 100 (dk_at dksX9_nextToken_7 13 rfl rfl)
theorem dX9_nextToken_180 : decode cX9_nextToken 180 = .ok (.i2l, 1) := dk_133 (dk_at dksX9_nextToken_7 16 rfl rfl)
theorem dX9_nextToken_181 : decode cX9_nextToken 181 = .ok (.ldc2_w 107, 3) := dk_20 0 107 (dk_at dksX9_nextToken_7 17 rfl rfl)
theorem dX9_nextToken_184 : decode cX9_nextToken 184 = .ok (.ldc2_w 109, 3) := dk_20 0 109 (dk_at dksX9_nextToken_7 20 rfl rfl)
theorem dX9_nextToken_187 : decode cX9_nextToken 187 = .ok (.invokestatic 63, 3) := dk_184 0 63 (dk_at dksX9_nextToken_8 0 rfl rfl)
theorem dX9_nextToken_190 : decode cX9_nextToken 190 = .ok (.ifCond .ne 21, 3) := dk_154 0 21 (dk_at dksX9_nextToken_8 3 rfl rfl)
theorem dX9_nextToken_193 : decode cX9_nextToken 193 = .ok (.aload_n 0, 1) := dk_42 (dk_at dksX9_nextToken_8 6 rfl rfl)
theorem dX9_nextToken_194 : decode cX9_nextToken 194 = .ok (.getfield 100, 3) := dk_180 0 100 (dk_at dksX9_nextToken_8 7 rfl rfl)
theorem dX9_nextToken_197 : decode cX9_nextToken 197 = .ok (.bipush 44, 2) := dk_16 44 (dk_at dksX9_nextToken_8 10 rfl rfl)
theorem dX9_nextToken_199 : decode cX9_nextToken 199 = .ok (.if_icmp .eq 12, 3) := dk_159 0 12 (dk_at dksX9_nextToken_8 12 rfl rfl)
theorem dX9_nextToken_202 : decode cX9_nextToken 202 = .ok (.aload_n 0, 1) := dk_42 (dk_at dksX9_nextToken_8 15 rfl rfl)
theorem dX9_nextToken_203 : decode cX9_nextToken 203 = .ok (.getfield 100, 3) := dk_180 0 100 (dk_at dksX9_nextToken_8 16 rfl rfl)
theorem dX9_nextToken_206 : decode cX9_nextToken 206 = .ok (.bipush 59, 2) := dk_16 59 (dk_at dksX9_nextToken_8 19 rfl rfl)
theorem dX9_nextToken_208 : decode cX9_nextToken 208 = .ok (.if_icmp .ne 7, 3) := dk_160 0 7 (dk_at dksX9_nextToken_8 21 rfl rfl)
theorem dX9_nextToken_211 : decode cX9_nextToken 211 = .ok (.iconst 1, 1) := dk_4 (dk_at dksX9_nextToken_9 0 rfl rfl)
theorem dX9_nextToken_212 : decode cX9_nextToken 212 = .ok (.goto 4, 3) := dk_167 0 4 (dk_at dksX9_nextToken_9 1 rfl rfl)
theorem dX9_nextToken_215 : decode cX9_nextToken 215 = .ok (.iconst 0, 1) := dk_3 (dk_at dksX9_nextToken_9 4 rfl rfl)
theorem dX9_nextToken_216 : decode cX9_nextToken 216 = .ok (.putfield 97, 3) := dk_181 0 97 (dk_at dksX9_nextToken_9 5 rfl rfl)
theorem dX9_nextToken_219 : decode cX9_nextToken 219 = .ok (.aload_n 0, 1) := dk_42 (dk_at dksX9_nextToken_9 8 rfl rfl)
theorem dX9_nextToken_220 : decode cX9_nextToken 220 = .ok (.dup, 1) := dk_89 (dk_at dksX9_nextToken_9 9 rfl rfl)
theorem dX9_nextToken_221 : decode cX9_nextToken 221 = .ok (.getfield 91, 3) := dk_180 0 91 (dk_at dksX9_nextToken_9 10 rfl rfl)
theorem dX9_nextToken_224 : decode cX9_nextToken 224 = .ok (.iconst 1, 1) := dk_4 (dk_at dksX9_nextToken_9 13 rfl rfl)
theorem dX9_nextToken_225 : decode cX9_nextToken 225 = .ok (.iadd, 1) := dk_96 (dk_at dksX9_nextToken_9 14 rfl rfl)
theorem dX9_nextToken_226 : decode cX9_nextToken 226 = .ok (.putfield 91, 3) := dk_181 0 91 (dk_at dksX9_nextToken_9 15 rfl rfl)
theorem dX9_nextToken_229 : decode cX9_nextToken 229 = .ok (.return_, 1) := dk_177 (dk_at dksX9_nextToken_9 18 rfl rfl)
abbrev cX9_takes : ByteArray := prog_16_method_17_code
def yX9_takes : MethodName := ⟨RX9, "takes", "(I)Z"⟩
def dkwX9_takes_0 : List UInt8 := [42, 27, 182, 0, 114, 154, 0, 9, 42, 4, 182, 0, 117, 172, 42, 182, 0, 120, 4, 172]
abbrev dktX9_takes_0 : List UInt8 := dkwX9_takes_0 ++ []
theorem dksX9_takes_0 : cX9_takes.data.toList.drop 0 = dktX9_takes_0 := by decide +kernel
theorem dX9_takes_0 : decode cX9_takes 0 = .ok (.aload_n 0, 1) := dk_42 (dk_at dksX9_takes_0 0 rfl rfl)
theorem dX9_takes_1 : decode cX9_takes 1 = .ok (.iload_n 1, 1) := dk_27 (dk_at dksX9_takes_0 1 rfl rfl)
theorem dX9_takes_2 : decode cX9_takes 2 = .ok (.invokevirtual 114, 3) := dk_182 0 114 (dk_at dksX9_takes_0 2 rfl rfl)
theorem dX9_takes_5 : decode cX9_takes 5 = .ok (.ifCond .ne 9, 3) := dk_154 0 9 (dk_at dksX9_takes_0 5 rfl rfl)
theorem dX9_takes_8 : decode cX9_takes 8 = .ok (.aload_n 0, 1) := dk_42 (dk_at dksX9_takes_0 8 rfl rfl)
theorem dX9_takes_9 : decode cX9_takes 9 = .ok (.iconst 1, 1) := dk_4 (dk_at dksX9_takes_0 9 rfl rfl)
theorem dX9_takes_10 : decode cX9_takes 10 = .ok (.invokevirtual 117, 3) := dk_182 0 117 (dk_at dksX9_takes_0 10 rfl rfl)
theorem dX9_takes_13 : decode cX9_takes 13 = .ok (.ireturn, 1) := dk_172 (dk_at dksX9_takes_0 13 rfl rfl)
theorem dX9_takes_14 : decode cX9_takes 14 = .ok (.aload_n 0, 1) := dk_42 (dk_at dksX9_takes_0 14 rfl rfl)
theorem dX9_takes_15 : decode cX9_takes 15 = .ok (.invokevirtual 120, 3) := dk_182 0 120 (dk_at dksX9_takes_0 15 rfl rfl)
theorem dX9_takes_18 : decode cX9_takes 18 = .ok (.iconst 1, 1) := dk_4 (dk_at dksX9_takes_0 18 rfl rfl)
theorem dX9_takes_19 : decode cX9_takes 19 = .ok (.ireturn, 1) := dk_172 (dk_at dksX9_takes_0 19 rfl rfl)
abbrev cX9_isLetter : ByteArray := prog_16_method_16_code
def yX9_isLetter : MethodName := ⟨RX9, "isLetter", "(I)Z"⟩
def dkwX9_isLetter_0 : List UInt8 := [42, 180, 0, 97, 4, 160, 0, 15, 42, 180, 0, 100, 27, 160, 0, 7, 4, 167, 0, 4, 3, 172]
abbrev dktX9_isLetter_0 : List UInt8 := dkwX9_isLetter_0 ++ []
theorem dksX9_isLetter_0 : cX9_isLetter.data.toList.drop 0 = dktX9_isLetter_0 := by decide +kernel
theorem dX9_isLetter_0 : decode cX9_isLetter 0 = .ok (.aload_n 0, 1) := dk_42 (dk_at dksX9_isLetter_0 0 rfl rfl)
theorem dX9_isLetter_1 : decode cX9_isLetter 1 = .ok (.getfield 97, 3) := dk_180 0 97 (dk_at dksX9_isLetter_0 1 rfl rfl)
theorem dX9_isLetter_4 : decode cX9_isLetter 4 = .ok (.iconst 1, 1) := dk_4 (dk_at dksX9_isLetter_0 4 rfl rfl)
theorem dX9_isLetter_5 : decode cX9_isLetter 5 = .ok (.if_icmp .ne 15, 3) := dk_160 0 15 (dk_at dksX9_isLetter_0 5 rfl rfl)
theorem dX9_isLetter_8 : decode cX9_isLetter 8 = .ok (.aload_n 0, 1) := dk_42 (dk_at dksX9_isLetter_0 8 rfl rfl)
theorem dX9_isLetter_9 : decode cX9_isLetter 9 = .ok (.getfield 100, 3) := dk_180 0 100 (dk_at dksX9_isLetter_0 9 rfl rfl)
theorem dX9_isLetter_12 : decode cX9_isLetter 12 = .ok (.iload_n 1, 1) := dk_27 (dk_at dksX9_isLetter_0 12 rfl rfl)
theorem dX9_isLetter_13 : decode cX9_isLetter 13 = .ok (.if_icmp .ne 7, 3) := dk_160 0 7 (dk_at dksX9_isLetter_0 13 rfl rfl)
theorem dX9_isLetter_16 : decode cX9_isLetter 16 = .ok (.iconst 1, 1) := dk_4 (dk_at dksX9_isLetter_0 16 rfl rfl)
theorem dX9_isLetter_17 : decode cX9_isLetter 17 = .ok (.goto 4, 3) := dk_167 0 4 (dk_at dksX9_isLetter_0 17 rfl rfl)
theorem dX9_isLetter_20 : decode cX9_isLetter 20 = .ok (.iconst 0, 1) := dk_3 (dk_at dksX9_isLetter_0 20 rfl rfl)
theorem dX9_isLetter_21 : decode cX9_isLetter 21 = .ok (.ireturn, 1) := dk_172 (dk_at dksX9_isLetter_0 21 rfl rfl)
abbrev cX9_faults : ByteArray := prog_16_method_15_code
def yX9_faults : MethodName := ⟨RX9, "faults", "(I)Z"⟩
def dkwX9_faults_0 : List UInt8 := [42, 27, 181, 0, 111, 3, 172]
abbrev dktX9_faults_0 : List UInt8 := dkwX9_faults_0 ++ []
theorem dksX9_faults_0 : cX9_faults.data.toList.drop 0 = dktX9_faults_0 := by decide +kernel
theorem dX9_faults_0 : decode cX9_faults 0 = .ok (.aload_n 0, 1) := dk_42 (dk_at dksX9_faults_0 0 rfl rfl)
theorem dX9_faults_1 : decode cX9_faults 1 = .ok (.iload_n 1, 1) := dk_27 (dk_at dksX9_faults_0 1 rfl rfl)
theorem dX9_faults_2 : decode cX9_faults 2 = .ok (.putfield 111, 3) := dk_181 0 111 (dk_at dksX9_faults_0 2 rfl rfl)
theorem dX9_faults_5 : decode cX9_faults 5 = .ok (.iconst 0, 1) := dk_3 (dk_at dksX9_faults_0 5 rfl rfl)
theorem dX9_faults_6 : decode cX9_faults 6 = .ok (.ireturn, 1) := dk_172 (dk_at dksX9_faults_0 6 rfl rfl)
abbrev cX9_takesNumber : ByteArray := prog_16_method_18_code
def yX9_takesNumber : MethodName := ⟨RX9, "takesNumber", "(IIII)Z"⟩
def dkwX9_takesNumber_2 : List UInt8 := [180, 0, 100, 79, 42, 182, 0, 120, 42, 21, 4, 182, 0, 123, 172]
abbrev dktX9_takesNumber_2 : List UInt8 := dkwX9_takesNumber_2 ++ []
def dkwX9_takesNumber_1 : List UInt8 := [42, 180, 0, 97, 5, 160, 0, 7, 5, 167, 0, 4, 4, 182, 0, 117, 172, 42, 180, 0, 28, 29, 42]
abbrev dktX9_takesNumber_1 : List UInt8 := dkwX9_takesNumber_1 ++ dktX9_takesNumber_2
def dkwX9_takesNumber_0 : List UInt8 := [42, 180, 0, 97, 5, 160, 0, 18, 42, 180, 0, 100, 133, 27, 133, 28, 133, 184, 0, 63, 154, 0, 21, 42]
abbrev dktX9_takesNumber_0 : List UInt8 := dkwX9_takesNumber_0 ++ dktX9_takesNumber_1
theorem dksX9_takesNumber_0 : cX9_takesNumber.data.toList.drop 0 = dktX9_takesNumber_0 := by decide +kernel
theorem dksX9_takesNumber_1 : cX9_takesNumber.data.toList.drop 24 = dktX9_takesNumber_1 := dk_seg dksX9_takesNumber_0 24 rfl rfl
theorem dksX9_takesNumber_2 : cX9_takesNumber.data.toList.drop 47 = dktX9_takesNumber_2 := dk_seg dksX9_takesNumber_1 23 rfl rfl
theorem dX9_takesNumber_0 : decode cX9_takesNumber 0 = .ok (.aload_n 0, 1) := dk_42 (dk_at dksX9_takesNumber_0 0 rfl rfl)
theorem dX9_takesNumber_1 : decode cX9_takesNumber 1 = .ok (.getfield 97, 3) := dk_180 0 97 (dk_at dksX9_takesNumber_0 1 rfl rfl)
theorem dX9_takesNumber_4 : decode cX9_takesNumber 4 = .ok (.iconst 2, 1) := dk_5 (dk_at dksX9_takesNumber_0 4 rfl rfl)
theorem dX9_takesNumber_5 : decode cX9_takesNumber 5 = .ok (.if_icmp .ne 18, 3) := dk_160 0 18 (dk_at dksX9_takesNumber_0 5 rfl rfl)
theorem dX9_takesNumber_8 : decode cX9_takesNumber 8 = .ok (.aload_n 0, 1) := dk_42 (dk_at dksX9_takesNumber_0 8 rfl rfl)
theorem dX9_takesNumber_9 : decode cX9_takesNumber 9 = .ok (.getfield 100, 3) := dk_180 0 100 (dk_at dksX9_takesNumber_0 9 rfl rfl)
theorem dX9_takesNumber_12 : decode cX9_takesNumber 12 = .ok (.i2l, 1) := dk_133 (dk_at dksX9_takesNumber_0 12 rfl rfl)
theorem dX9_takesNumber_13 : decode cX9_takesNumber 13 = .ok (.iload_n 1, 1) := dk_27 (dk_at dksX9_takesNumber_0 13 rfl rfl)
theorem dX9_takesNumber_14 : decode cX9_takesNumber 14 = .ok (.i2l, 1) := dk_133 (dk_at dksX9_takesNumber_0 14 rfl rfl)
theorem dX9_takesNumber_15 : decode cX9_takesNumber 15 = .ok (.iload_n 2, 1) := dk_28 (dk_at dksX9_takesNumber_0 15 rfl rfl)
theorem dX9_takesNumber_16 : decode cX9_takesNumber 16 = .ok (.i2l, 1) := dk_133 (dk_at dksX9_takesNumber_0 16 rfl rfl)
theorem dX9_takesNumber_17 : decode cX9_takesNumber 17 = .ok (.invokestatic 63, 3) := dk_184 0 63 (dk_at dksX9_takesNumber_0 17 rfl rfl)
theorem dX9_takesNumber_20 : decode cX9_takesNumber 20 = .ok (.ifCond .ne 21, 3) := dk_154 0 21 (dk_at dksX9_takesNumber_0 20 rfl rfl)
theorem dX9_takesNumber_23 : decode cX9_takesNumber 23 = .ok (.aload_n 0, 1) := dk_42 (dk_at dksX9_takesNumber_0 23 rfl rfl)
theorem dX9_takesNumber_24 : decode cX9_takesNumber 24 = .ok (.aload_n 0, 1) := dk_42 (dk_at dksX9_takesNumber_1 0 rfl rfl)
theorem dX9_takesNumber_25 : decode cX9_takesNumber 25 = .ok (.getfield 97, 3) := dk_180 0 97 (dk_at dksX9_takesNumber_1 1 rfl rfl)
theorem dX9_takesNumber_28 : decode cX9_takesNumber 28 = .ok (.iconst 2, 1) := dk_5 (dk_at dksX9_takesNumber_1 4 rfl rfl)
theorem dX9_takesNumber_29 : decode cX9_takesNumber 29 = .ok (.if_icmp .ne 7, 3) := dk_160 0 7 (dk_at dksX9_takesNumber_1 5 rfl rfl)
theorem dX9_takesNumber_32 : decode cX9_takesNumber 32 = .ok (.iconst 2, 1) := dk_5 (dk_at dksX9_takesNumber_1 8 rfl rfl)
theorem dX9_takesNumber_33 : decode cX9_takesNumber 33 = .ok (.goto 4, 3) := dk_167 0 4 (dk_at dksX9_takesNumber_1 9 rfl rfl)
theorem dX9_takesNumber_36 : decode cX9_takesNumber 36 = .ok (.iconst 1, 1) := dk_4 (dk_at dksX9_takesNumber_1 12 rfl rfl)
theorem dX9_takesNumber_37 : decode cX9_takesNumber 37 = .ok (.invokevirtual 117, 3) := dk_182 0 117 (dk_at dksX9_takesNumber_1 13 rfl rfl)
theorem dX9_takesNumber_40 : decode cX9_takesNumber 40 = .ok (.ireturn, 1) := dk_172 (dk_at dksX9_takesNumber_1 16 rfl rfl)
theorem dX9_takesNumber_41 : decode cX9_takesNumber 41 = .ok (.aload_n 0, 1) := dk_42 (dk_at dksX9_takesNumber_1 17 rfl rfl)
theorem dX9_takesNumber_42 : decode cX9_takesNumber 42 = .ok (.getfield 28, 3) := dk_180 0 28 (dk_at dksX9_takesNumber_1 18 rfl rfl)
theorem dX9_takesNumber_45 : decode cX9_takesNumber 45 = .ok (.iload_n 3, 1) := dk_29 (dk_at dksX9_takesNumber_1 21 rfl rfl)
theorem dX9_takesNumber_46 : decode cX9_takesNumber 46 = .ok (.aload_n 0, 1) := dk_42 (dk_at dksX9_takesNumber_1 22 rfl rfl)
theorem dX9_takesNumber_47 : decode cX9_takesNumber 47 = .ok (.getfield 100, 3) := dk_180 0 100 (dk_at dksX9_takesNumber_2 0 rfl rfl)
theorem dX9_takesNumber_50 : decode cX9_takesNumber 50 = .ok (.iastore, 1) := dk_79 (dk_at dksX9_takesNumber_2 3 rfl rfl)
theorem dX9_takesNumber_51 : decode cX9_takesNumber 51 = .ok (.aload_n 0, 1) := dk_42 (dk_at dksX9_takesNumber_2 4 rfl rfl)
theorem dX9_takesNumber_52 : decode cX9_takesNumber 52 = .ok (.invokevirtual 120, 3) := dk_182 0 120 (dk_at dksX9_takesNumber_2 5 rfl rfl)
theorem dX9_takesNumber_55 : decode cX9_takesNumber 55 = .ok (.aload_n 0, 1) := dk_42 (dk_at dksX9_takesNumber_2 8 rfl rfl)
theorem dX9_takesNumber_56 : decode cX9_takesNumber 56 = .ok (.iload 4, 2) := dk_21 4 (dk_at dksX9_takesNumber_2 9 rfl rfl)
theorem dX9_takesNumber_58 : decode cX9_takesNumber 58 = .ok (.invokevirtual 123, 3) := dk_182 0 123 (dk_at dksX9_takesNumber_2 11 rfl rfl)
theorem dX9_takesNumber_61 : decode cX9_takesNumber 61 = .ok (.ireturn, 1) := dk_172 (dk_at dksX9_takesNumber_2 14 rfl rfl)
abbrev cX9_kindBy : ByteArray := prog_16_method_20_code
def yX9_kindBy : MethodName := ⟨RX9, "kindBy", "(I)I"⟩
def dkwX9_kindBy_2 : List UInt8 := [167, 0, 4, 3, 172]
abbrev dktX9_kindBy_2 : List UInt8 := dkwX9_kindBy_2 ++ []
def dkwX9_kindBy_1 : List UInt8 := [160, 0, 7, 6, 167, 0, 24, 26, 16, 119, 160, 0, 7, 7, 167, 0, 14, 26, 16, 115, 160, 0, 7, 8]
abbrev dktX9_kindBy_1 : List UInt8 := dkwX9_kindBy_1 ++ dktX9_kindBy_2
def dkwX9_kindBy_0 : List UInt8 := [26, 16, 114, 160, 0, 7, 4, 167, 0, 44, 26, 16, 112, 160, 0, 7, 5, 167, 0, 34, 26, 16, 99]
abbrev dktX9_kindBy_0 : List UInt8 := dkwX9_kindBy_0 ++ dktX9_kindBy_1
theorem dksX9_kindBy_0 : cX9_kindBy.data.toList.drop 0 = dktX9_kindBy_0 := by decide +kernel
theorem dksX9_kindBy_1 : cX9_kindBy.data.toList.drop 23 = dktX9_kindBy_1 := dk_seg dksX9_kindBy_0 23 rfl rfl
theorem dksX9_kindBy_2 : cX9_kindBy.data.toList.drop 47 = dktX9_kindBy_2 := dk_seg dksX9_kindBy_1 24 rfl rfl
theorem dX9_kindBy_0 : decode cX9_kindBy 0 = .ok (.iload_n 0, 1) := dk_26 (dk_at dksX9_kindBy_0 0 rfl rfl)
theorem dX9_kindBy_1 : decode cX9_kindBy 1 = .ok (.bipush 114, 2) := dk_16 114 (dk_at dksX9_kindBy_0 1 rfl rfl)
theorem dX9_kindBy_3 : decode cX9_kindBy 3 = .ok (.if_icmp .ne 7, 3) := dk_160 0 7 (dk_at dksX9_kindBy_0 3 rfl rfl)
theorem dX9_kindBy_6 : decode cX9_kindBy 6 = .ok (.iconst 1, 1) := dk_4 (dk_at dksX9_kindBy_0 6 rfl rfl)
theorem dX9_kindBy_7 : decode cX9_kindBy 7 = .ok (.goto 44, 3) := dk_167 0 44 (dk_at dksX9_kindBy_0 7 rfl rfl)
theorem dX9_kindBy_10 : decode cX9_kindBy 10 = .ok (.iload_n 0, 1) := dk_26 (dk_at dksX9_kindBy_0 10 rfl rfl)
theorem dX9_kindBy_11 : decode cX9_kindBy 11 = .ok (.bipush 112, 2) := dk_16 112 (dk_at dksX9_kindBy_0 11 rfl rfl)
theorem dX9_kindBy_13 : decode cX9_kindBy 13 = .ok (.if_icmp .ne 7, 3) := dk_160 0 7 (dk_at dksX9_kindBy_0 13 rfl rfl)
theorem dX9_kindBy_16 : decode cX9_kindBy 16 = .ok (.iconst 2, 1) := dk_5 (dk_at dksX9_kindBy_0 16 rfl rfl)
theorem dX9_kindBy_17 : decode cX9_kindBy 17 = .ok (.goto 34, 3) := dk_167 0 34 (dk_at dksX9_kindBy_0 17 rfl rfl)
theorem dX9_kindBy_20 : decode cX9_kindBy 20 = .ok (.iload_n 0, 1) := dk_26 (dk_at dksX9_kindBy_0 20 rfl rfl)
theorem dX9_kindBy_21 : decode cX9_kindBy 21 = .ok (.bipush 99, 2) := dk_16 99 (dk_at dksX9_kindBy_0 21 rfl rfl)
theorem dX9_kindBy_23 : decode cX9_kindBy 23 = .ok (.if_icmp .ne 7, 3) := dk_160 0 7 (dk_at dksX9_kindBy_1 0 rfl rfl)
theorem dX9_kindBy_26 : decode cX9_kindBy 26 = .ok (.iconst 3, 1) := dk_6 (dk_at dksX9_kindBy_1 3 rfl rfl)
theorem dX9_kindBy_27 : decode cX9_kindBy 27 = .ok (.goto 24, 3) := dk_167 0 24 (dk_at dksX9_kindBy_1 4 rfl rfl)
theorem dX9_kindBy_30 : decode cX9_kindBy 30 = .ok (.iload_n 0, 1) := dk_26 (dk_at dksX9_kindBy_1 7 rfl rfl)
theorem dX9_kindBy_31 : decode cX9_kindBy 31 = .ok (.bipush 119, 2) := dk_16 119 (dk_at dksX9_kindBy_1 8 rfl rfl)
theorem dX9_kindBy_33 : decode cX9_kindBy 33 = .ok (.if_icmp .ne 7, 3) := dk_160 0 7 (dk_at dksX9_kindBy_1 10 rfl rfl)
theorem dX9_kindBy_36 : decode cX9_kindBy 36 = .ok (.iconst 4, 1) := dk_7 (dk_at dksX9_kindBy_1 13 rfl rfl)
theorem dX9_kindBy_37 : decode cX9_kindBy 37 = .ok (.goto 14, 3) := dk_167 0 14 (dk_at dksX9_kindBy_1 14 rfl rfl)
theorem dX9_kindBy_40 : decode cX9_kindBy 40 = .ok (.iload_n 0, 1) := dk_26 (dk_at dksX9_kindBy_1 17 rfl rfl)
theorem dX9_kindBy_41 : decode cX9_kindBy 41 = .ok (.bipush 115, 2) := dk_16 115 (dk_at dksX9_kindBy_1 18 rfl rfl)
theorem dX9_kindBy_43 : decode cX9_kindBy 43 = .ok (.if_icmp .ne 7, 3) := dk_160 0 7 (dk_at dksX9_kindBy_1 20 rfl rfl)
theorem dX9_kindBy_46 : decode cX9_kindBy 46 = .ok (.iconst 5, 1) := dk_8 (dk_at dksX9_kindBy_1 23 rfl rfl)
theorem dX9_kindBy_47 : decode cX9_kindBy 47 = .ok (.goto 4, 3) := dk_167 0 4 (dk_at dksX9_kindBy_2 0 rfl rfl)
theorem dX9_kindBy_50 : decode cX9_kindBy 50 = .ok (.iconst 0, 1) := dk_3 (dk_at dksX9_kindBy_2 3 rfl rfl)
theorem dX9_kindBy_51 : decode cX9_kindBy 51 = .ok (.ireturn, 1) := dk_172 (dk_at dksX9_kindBy_2 4 rfl rfl)
abbrev cX9_readFish : ByteArray := prog_16_method_21_code
def yX9_readFish : MethodName := ⟨RX9, "readFish", "(I)Z"⟩
def dkwX9_readFish_3 : List UInt8 := [180, 0, 28, 3, 46, 4, 100, 16, 31, 28, 96, 16, 59, 182, 0, 126, 172]
abbrev dktX9_readFish_3 : List UInt8 := dkwX9_readFish_3 ++ []
def dkwX9_readFish_2 : List UInt8 := [180, 0, 28, 16, 26, 28, 96, 27, 79, 42, 180, 0, 28, 4, 92, 46, 4, 96, 79, 42, 3, 42]
abbrev dktX9_readFish_2 : List UInt8 := dkwX9_readFish_2 ++ dktX9_readFish_3
def dkwX9_readFish_1 : List UInt8 := [180, 0, 28, 3, 46, 154, 0, 7, 4, 167, 0, 4, 6, 182, 0, 117, 172, 42, 182, 0, 120, 42]
abbrev dktX9_readFish_1 : List UInt8 := dkwX9_readFish_1 ++ dktX9_readFish_2
def dkwX9_readFish_0 : List UInt8 := [42, 180, 0, 28, 4, 46, 61, 42, 180, 0, 28, 3, 46, 153, 0, 8, 28, 8, 160, 0, 22, 42, 42]
abbrev dktX9_readFish_0 : List UInt8 := dkwX9_readFish_0 ++ dktX9_readFish_1
theorem dksX9_readFish_0 : cX9_readFish.data.toList.drop 0 = dktX9_readFish_0 := by decide +kernel
theorem dksX9_readFish_1 : cX9_readFish.data.toList.drop 23 = dktX9_readFish_1 := dk_seg dksX9_readFish_0 23 rfl rfl
theorem dksX9_readFish_2 : cX9_readFish.data.toList.drop 45 = dktX9_readFish_2 := dk_seg dksX9_readFish_1 22 rfl rfl
theorem dksX9_readFish_3 : cX9_readFish.data.toList.drop 67 = dktX9_readFish_3 := dk_seg dksX9_readFish_2 22 rfl rfl
theorem dX9_readFish_0 : decode cX9_readFish 0 = .ok (.aload_n 0, 1) := dk_42 (dk_at dksX9_readFish_0 0 rfl rfl)
theorem dX9_readFish_1 : decode cX9_readFish 1 = .ok (.getfield 28, 3) := dk_180 0 28 (dk_at dksX9_readFish_0 1 rfl rfl)
theorem dX9_readFish_4 : decode cX9_readFish 4 = .ok (.iconst 1, 1) := dk_4 (dk_at dksX9_readFish_0 4 rfl rfl)
theorem dX9_readFish_5 : decode cX9_readFish 5 = .ok (.iaload, 1) := dk_46 (dk_at dksX9_readFish_0 5 rfl rfl)
theorem dX9_readFish_6 : decode cX9_readFish 6 = .ok (.istore_n 2, 1) := dk_61 (dk_at dksX9_readFish_0 6 rfl rfl)
theorem dX9_readFish_7 : decode cX9_readFish 7 = .ok (.aload_n 0, 1) := dk_42 (dk_at dksX9_readFish_0 7 rfl rfl)
theorem dX9_readFish_8 : decode cX9_readFish 8 = .ok (.getfield 28, 3) := dk_180 0 28 (dk_at dksX9_readFish_0 8 rfl rfl)
theorem dX9_readFish_11 : decode cX9_readFish 11 = .ok (.iconst 0, 1) := dk_3 (dk_at dksX9_readFish_0 11 rfl rfl)
theorem dX9_readFish_12 : decode cX9_readFish 12 = .ok (.iaload, 1) := dk_46 (dk_at dksX9_readFish_0 12 rfl rfl)
theorem dX9_readFish_13 : decode cX9_readFish 13 = .ok (.ifCond .eq 8, 3) := dk_153 0 8 (dk_at dksX9_readFish_0 13 rfl rfl)
theorem dX9_readFish_16 : decode cX9_readFish 16 = .ok (.iload_n 2, 1) := dk_28 (dk_at dksX9_readFish_0 16 rfl rfl)
theorem dX9_readFish_17 : decode cX9_readFish 17 = .ok (.iconst 5, 1) := dk_8 (dk_at dksX9_readFish_0 17 rfl rfl)
theorem dX9_readFish_18 : decode cX9_readFish 18 = .ok (.if_icmp .ne 22, 3) := dk_160 0 22 (dk_at dksX9_readFish_0 18 rfl rfl)
theorem dX9_readFish_21 : decode cX9_readFish 21 = .ok (.aload_n 0, 1) := dk_42 (dk_at dksX9_readFish_0 21 rfl rfl)
theorem dX9_readFish_22 : decode cX9_readFish 22 = .ok (.aload_n 0, 1) := dk_42 (dk_at dksX9_readFish_0 22 rfl rfl)
theorem dX9_readFish_23 : decode cX9_readFish 23 = .ok (.getfield 28, 3) := dk_180 0 28 (dk_at dksX9_readFish_1 0 rfl rfl)
theorem dX9_readFish_26 : decode cX9_readFish 26 = .ok (.iconst 0, 1) := dk_3 (dk_at dksX9_readFish_1 3 rfl rfl)
theorem dX9_readFish_27 : decode cX9_readFish 27 = .ok (.iaload, 1) := dk_46 (dk_at dksX9_readFish_1 4 rfl rfl)
theorem dX9_readFish_28 : decode cX9_readFish 28 = .ok (.ifCond .ne 7, 3) := dk_154 0 7 (dk_at dksX9_readFish_1 5 rfl rfl)
theorem dX9_readFish_31 : decode cX9_readFish 31 = .ok (.iconst 1, 1) := dk_4 (dk_at dksX9_readFish_1 8 rfl rfl)
theorem dX9_readFish_32 : decode cX9_readFish 32 = .ok (.goto 4, 3) := dk_167 0 4 (dk_at dksX9_readFish_1 9 rfl rfl)
theorem dX9_readFish_35 : decode cX9_readFish 35 = .ok (.iconst 3, 1) := dk_6 (dk_at dksX9_readFish_1 12 rfl rfl)
theorem dX9_readFish_36 : decode cX9_readFish 36 = .ok (.invokevirtual 117, 3) := dk_182 0 117 (dk_at dksX9_readFish_1 13 rfl rfl)
theorem dX9_readFish_39 : decode cX9_readFish 39 = .ok (.ireturn, 1) := dk_172 (dk_at dksX9_readFish_1 16 rfl rfl)
theorem dX9_readFish_40 : decode cX9_readFish 40 = .ok (.aload_n 0, 1) := dk_42 (dk_at dksX9_readFish_1 17 rfl rfl)
theorem dX9_readFish_41 : decode cX9_readFish 41 = .ok (.invokevirtual 120, 3) := dk_182 0 120 (dk_at dksX9_readFish_1 18 rfl rfl)
theorem dX9_readFish_44 : decode cX9_readFish 44 = .ok (.aload_n 0, 1) := dk_42 (dk_at dksX9_readFish_1 21 rfl rfl)
theorem dX9_readFish_45 : decode cX9_readFish 45 = .ok (.getfield 28, 3) := dk_180 0 28 (dk_at dksX9_readFish_2 0 rfl rfl)
theorem dX9_readFish_48 : decode cX9_readFish 48 = .ok (.bipush 26, 2) := dk_16 26 (dk_at dksX9_readFish_2 3 rfl rfl)
theorem dX9_readFish_50 : decode cX9_readFish 50 = .ok (.iload_n 2, 1) := dk_28 (dk_at dksX9_readFish_2 5 rfl rfl)
theorem dX9_readFish_51 : decode cX9_readFish 51 = .ok (.iadd, 1) := dk_96 (dk_at dksX9_readFish_2 6 rfl rfl)
theorem dX9_readFish_52 : decode cX9_readFish 52 = .ok (.iload_n 1, 1) := dk_27 (dk_at dksX9_readFish_2 7 rfl rfl)
theorem dX9_readFish_53 : decode cX9_readFish 53 = .ok (.iastore, 1) := dk_79 (dk_at dksX9_readFish_2 8 rfl rfl)
theorem dX9_readFish_54 : decode cX9_readFish 54 = .ok (.aload_n 0, 1) := dk_42 (dk_at dksX9_readFish_2 9 rfl rfl)
theorem dX9_readFish_55 : decode cX9_readFish 55 = .ok (.getfield 28, 3) := dk_180 0 28 (dk_at dksX9_readFish_2 10 rfl rfl)
theorem dX9_readFish_58 : decode cX9_readFish 58 = .ok (.iconst 1, 1) := dk_4 (dk_at dksX9_readFish_2 13 rfl rfl)
theorem dX9_readFish_59 : decode cX9_readFish 59 = .ok (.dup2, 1) := dk_92 (dk_at dksX9_readFish_2 14 rfl rfl)
theorem dX9_readFish_60 : decode cX9_readFish 60 = .ok (.iaload, 1) := dk_46 (dk_at dksX9_readFish_2 15 rfl rfl)
theorem dX9_readFish_61 : decode cX9_readFish 61 = .ok (.iconst 1, 1) := dk_4 (dk_at dksX9_readFish_2 16 rfl rfl)
theorem dX9_readFish_62 : decode cX9_readFish 62 = .ok (.iadd, 1) := dk_96 (dk_at dksX9_readFish_2 17 rfl rfl)
theorem dX9_readFish_63 : decode cX9_readFish 63 = .ok (.iastore, 1) := dk_79 (dk_at dksX9_readFish_2 18 rfl rfl)
theorem dX9_readFish_64 : decode cX9_readFish 64 = .ok (.aload_n 0, 1) := dk_42 (dk_at dksX9_readFish_2 19 rfl rfl)
theorem dX9_readFish_65 : decode cX9_readFish 65 = .ok (.iconst 0, 1) := dk_3 (dk_at dksX9_readFish_2 20 rfl rfl)
theorem dX9_readFish_66 : decode cX9_readFish 66 = .ok (.aload_n 0, 1) := dk_42 (dk_at dksX9_readFish_2 21 rfl rfl)
theorem dX9_readFish_67 : decode cX9_readFish 67 = .ok (.getfield 28, 3) := dk_180 0 28 (dk_at dksX9_readFish_3 0 rfl rfl)
theorem dX9_readFish_70 : decode cX9_readFish 70 = .ok (.iconst 0, 1) := dk_3 (dk_at dksX9_readFish_3 3 rfl rfl)
theorem dX9_readFish_71 : decode cX9_readFish 71 = .ok (.iaload, 1) := dk_46 (dk_at dksX9_readFish_3 4 rfl rfl)
theorem dX9_readFish_72 : decode cX9_readFish 72 = .ok (.iconst 1, 1) := dk_4 (dk_at dksX9_readFish_3 5 rfl rfl)
theorem dX9_readFish_73 : decode cX9_readFish 73 = .ok (.isub, 1) := dk_100 (dk_at dksX9_readFish_3 6 rfl rfl)
theorem dX9_readFish_74 : decode cX9_readFish 74 = .ok (.bipush 31, 2) := dk_16 31 (dk_at dksX9_readFish_3 7 rfl rfl)
theorem dX9_readFish_76 : decode cX9_readFish 76 = .ok (.iload_n 2, 1) := dk_28 (dk_at dksX9_readFish_3 9 rfl rfl)
theorem dX9_readFish_77 : decode cX9_readFish 77 = .ok (.iadd, 1) := dk_96 (dk_at dksX9_readFish_3 10 rfl rfl)
theorem dX9_readFish_78 : decode cX9_readFish 78 = .ok (.bipush 59, 2) := dk_16 59 (dk_at dksX9_readFish_3 11 rfl rfl)
theorem dX9_readFish_80 : decode cX9_readFish 80 = .ok (.invokevirtual 126, 3) := dk_182 0 126 (dk_at dksX9_readFish_3 13 rfl rfl)
theorem dX9_readFish_83 : decode cX9_readFish 83 = .ok (.ireturn, 1) := dk_172 (dk_at dksX9_readFish_3 16 rfl rfl)
abbrev cX9_readBook : ByteArray := prog_16_method_19_code
def yX9_readBook : MethodName := ⟨RX9, "readBook", "()Z"⟩
def dkwX9_readBook_4 : List UInt8 := [182, 0, 126, 153, 0, 7, 4, 167, 0, 4, 3, 172]
abbrev dktX9_readBook_4 : List UInt8 := dkwX9_readBook_4 ++ []
def dkwX9_readBook_3 : List UInt8 := [16, 8, 27, 96, 16, 44, 182, 0, 126, 153, 0, 23, 42, 3, 16, 9, 16, 14, 27, 96, 16, 59]
abbrev dktX9_readBook_3 : List UInt8 := dkwX9_readBook_3 ++ dktX9_readBook_4
def dkwX9_readBook_2 : List UInt8 := [180, 0, 28, 16, 20, 27, 96, 27, 79, 42, 180, 0, 28, 3, 92, 46, 4, 96, 79, 42, 3, 16, 99]
abbrev dktX9_readBook_2 : List UInt8 := dkwX9_readBook_2 ++ dktX9_readBook_3
def dkwX9_readBook_1 : List UInt8 := [180, 0, 28, 4, 46, 158, 0, 7, 4, 167, 0, 4, 6, 182, 0, 117, 172, 42, 182, 0, 120, 42]
abbrev dktX9_readBook_1 : List UInt8 := dkwX9_readBook_1 ++ dktX9_readBook_2
def dkwX9_readBook_0 : List UInt8 := [42, 180, 0, 28, 3, 46, 60, 42, 180, 0, 28, 4, 46, 157, 0, 9, 27, 16, 6, 160, 0, 22, 42, 42]
abbrev dktX9_readBook_0 : List UInt8 := dkwX9_readBook_0 ++ dktX9_readBook_1
theorem dksX9_readBook_0 : cX9_readBook.data.toList.drop 0 = dktX9_readBook_0 := by decide +kernel
theorem dksX9_readBook_1 : cX9_readBook.data.toList.drop 24 = dktX9_readBook_1 := dk_seg dksX9_readBook_0 24 rfl rfl
theorem dksX9_readBook_2 : cX9_readBook.data.toList.drop 46 = dktX9_readBook_2 := dk_seg dksX9_readBook_1 22 rfl rfl
theorem dksX9_readBook_3 : cX9_readBook.data.toList.drop 69 = dktX9_readBook_3 := dk_seg dksX9_readBook_2 23 rfl rfl
theorem dksX9_readBook_4 : cX9_readBook.data.toList.drop 91 = dktX9_readBook_4 := dk_seg dksX9_readBook_3 22 rfl rfl
theorem dX9_readBook_0 : decode cX9_readBook 0 = .ok (.aload_n 0, 1) := dk_42 (dk_at dksX9_readBook_0 0 rfl rfl)
theorem dX9_readBook_1 : decode cX9_readBook 1 = .ok (.getfield 28, 3) := dk_180 0 28 (dk_at dksX9_readBook_0 1 rfl rfl)
theorem dX9_readBook_4 : decode cX9_readBook 4 = .ok (.iconst 0, 1) := dk_3 (dk_at dksX9_readBook_0 4 rfl rfl)
theorem dX9_readBook_5 : decode cX9_readBook 5 = .ok (.iaload, 1) := dk_46 (dk_at dksX9_readBook_0 5 rfl rfl)
theorem dX9_readBook_6 : decode cX9_readBook 6 = .ok (.istore_n 1, 1) := dk_60 (dk_at dksX9_readBook_0 6 rfl rfl)
theorem dX9_readBook_7 : decode cX9_readBook 7 = .ok (.aload_n 0, 1) := dk_42 (dk_at dksX9_readBook_0 7 rfl rfl)
theorem dX9_readBook_8 : decode cX9_readBook 8 = .ok (.getfield 28, 3) := dk_180 0 28 (dk_at dksX9_readBook_0 8 rfl rfl)
theorem dX9_readBook_11 : decode cX9_readBook 11 = .ok (.iconst 1, 1) := dk_4 (dk_at dksX9_readBook_0 11 rfl rfl)
theorem dX9_readBook_12 : decode cX9_readBook 12 = .ok (.iaload, 1) := dk_46 (dk_at dksX9_readBook_0 12 rfl rfl)
theorem dX9_readBook_13 : decode cX9_readBook 13 = .ok (.ifCond .gt 9, 3) := dk_157 0 9 (dk_at dksX9_readBook_0 13 rfl rfl)
theorem dX9_readBook_16 : decode cX9_readBook 16 = .ok (.iload_n 1, 1) := dk_27 (dk_at dksX9_readBook_0 16 rfl rfl)
theorem dX9_readBook_17 : decode cX9_readBook 17 = .ok (.bipush 6, 2) := dk_16 6 (dk_at dksX9_readBook_0 17 rfl rfl)
theorem dX9_readBook_19 : decode cX9_readBook 19 = .ok (.if_icmp .ne 22, 3) := dk_160 0 22 (dk_at dksX9_readBook_0 19 rfl rfl)
theorem dX9_readBook_22 : decode cX9_readBook 22 = .ok (.aload_n 0, 1) := dk_42 (dk_at dksX9_readBook_0 22 rfl rfl)
theorem dX9_readBook_23 : decode cX9_readBook 23 = .ok (.aload_n 0, 1) := dk_42 (dk_at dksX9_readBook_0 23 rfl rfl)
theorem dX9_readBook_24 : decode cX9_readBook 24 = .ok (.getfield 28, 3) := dk_180 0 28 (dk_at dksX9_readBook_1 0 rfl rfl)
theorem dX9_readBook_27 : decode cX9_readBook 27 = .ok (.iconst 1, 1) := dk_4 (dk_at dksX9_readBook_1 3 rfl rfl)
theorem dX9_readBook_28 : decode cX9_readBook 28 = .ok (.iaload, 1) := dk_46 (dk_at dksX9_readBook_1 4 rfl rfl)
theorem dX9_readBook_29 : decode cX9_readBook 29 = .ok (.ifCond .le 7, 3) := dk_158 0 7 (dk_at dksX9_readBook_1 5 rfl rfl)
theorem dX9_readBook_32 : decode cX9_readBook 32 = .ok (.iconst 1, 1) := dk_4 (dk_at dksX9_readBook_1 8 rfl rfl)
theorem dX9_readBook_33 : decode cX9_readBook 33 = .ok (.goto 4, 3) := dk_167 0 4 (dk_at dksX9_readBook_1 9 rfl rfl)
theorem dX9_readBook_36 : decode cX9_readBook 36 = .ok (.iconst 3, 1) := dk_6 (dk_at dksX9_readBook_1 12 rfl rfl)
theorem dX9_readBook_37 : decode cX9_readBook 37 = .ok (.invokevirtual 117, 3) := dk_182 0 117 (dk_at dksX9_readBook_1 13 rfl rfl)
theorem dX9_readBook_40 : decode cX9_readBook 40 = .ok (.ireturn, 1) := dk_172 (dk_at dksX9_readBook_1 16 rfl rfl)
theorem dX9_readBook_41 : decode cX9_readBook 41 = .ok (.aload_n 0, 1) := dk_42 (dk_at dksX9_readBook_1 17 rfl rfl)
theorem dX9_readBook_42 : decode cX9_readBook 42 = .ok (.invokevirtual 120, 3) := dk_182 0 120 (dk_at dksX9_readBook_1 18 rfl rfl)
theorem dX9_readBook_45 : decode cX9_readBook 45 = .ok (.aload_n 0, 1) := dk_42 (dk_at dksX9_readBook_1 21 rfl rfl)
theorem dX9_readBook_46 : decode cX9_readBook 46 = .ok (.getfield 28, 3) := dk_180 0 28 (dk_at dksX9_readBook_2 0 rfl rfl)
theorem dX9_readBook_49 : decode cX9_readBook 49 = .ok (.bipush 20, 2) := dk_16 20 (dk_at dksX9_readBook_2 3 rfl rfl)
theorem dX9_readBook_51 : decode cX9_readBook 51 = .ok (.iload_n 1, 1) := dk_27 (dk_at dksX9_readBook_2 5 rfl rfl)
theorem dX9_readBook_52 : decode cX9_readBook 52 = .ok (.iadd, 1) := dk_96 (dk_at dksX9_readBook_2 6 rfl rfl)
theorem dX9_readBook_53 : decode cX9_readBook 53 = .ok (.iload_n 1, 1) := dk_27 (dk_at dksX9_readBook_2 7 rfl rfl)
theorem dX9_readBook_54 : decode cX9_readBook 54 = .ok (.iastore, 1) := dk_79 (dk_at dksX9_readBook_2 8 rfl rfl)
theorem dX9_readBook_55 : decode cX9_readBook 55 = .ok (.aload_n 0, 1) := dk_42 (dk_at dksX9_readBook_2 9 rfl rfl)
theorem dX9_readBook_56 : decode cX9_readBook 56 = .ok (.getfield 28, 3) := dk_180 0 28 (dk_at dksX9_readBook_2 10 rfl rfl)
theorem dX9_readBook_59 : decode cX9_readBook 59 = .ok (.iconst 0, 1) := dk_3 (dk_at dksX9_readBook_2 13 rfl rfl)
theorem dX9_readBook_60 : decode cX9_readBook 60 = .ok (.dup2, 1) := dk_92 (dk_at dksX9_readBook_2 14 rfl rfl)
theorem dX9_readBook_61 : decode cX9_readBook 61 = .ok (.iaload, 1) := dk_46 (dk_at dksX9_readBook_2 15 rfl rfl)
theorem dX9_readBook_62 : decode cX9_readBook 62 = .ok (.iconst 1, 1) := dk_4 (dk_at dksX9_readBook_2 16 rfl rfl)
theorem dX9_readBook_63 : decode cX9_readBook 63 = .ok (.iadd, 1) := dk_96 (dk_at dksX9_readBook_2 17 rfl rfl)
theorem dX9_readBook_64 : decode cX9_readBook 64 = .ok (.iastore, 1) := dk_79 (dk_at dksX9_readBook_2 18 rfl rfl)
theorem dX9_readBook_65 : decode cX9_readBook 65 = .ok (.aload_n 0, 1) := dk_42 (dk_at dksX9_readBook_2 19 rfl rfl)
theorem dX9_readBook_66 : decode cX9_readBook 66 = .ok (.iconst 0, 1) := dk_3 (dk_at dksX9_readBook_2 20 rfl rfl)
theorem dX9_readBook_67 : decode cX9_readBook 67 = .ok (.bipush 99, 2) := dk_16 99 (dk_at dksX9_readBook_2 21 rfl rfl)
theorem dX9_readBook_69 : decode cX9_readBook 69 = .ok (.bipush 8, 2) := dk_16 8 (dk_at dksX9_readBook_3 0 rfl rfl)
theorem dX9_readBook_71 : decode cX9_readBook 71 = .ok (.iload_n 1, 1) := dk_27 (dk_at dksX9_readBook_3 2 rfl rfl)
theorem dX9_readBook_72 : decode cX9_readBook 72 = .ok (.iadd, 1) := dk_96 (dk_at dksX9_readBook_3 3 rfl rfl)
theorem dX9_readBook_73 : decode cX9_readBook 73 = .ok (.bipush 44, 2) := dk_16 44 (dk_at dksX9_readBook_3 4 rfl rfl)
theorem dX9_readBook_75 : decode cX9_readBook 75 = .ok (.invokevirtual 126, 3) := dk_182 0 126 (dk_at dksX9_readBook_3 6 rfl rfl)
theorem dX9_readBook_78 : decode cX9_readBook 78 = .ok (.ifCond .eq 23, 3) := dk_153 0 23 (dk_at dksX9_readBook_3 9 rfl rfl)
theorem dX9_readBook_81 : decode cX9_readBook 81 = .ok (.aload_n 0, 1) := dk_42 (dk_at dksX9_readBook_3 12 rfl rfl)
theorem dX9_readBook_82 : decode cX9_readBook 82 = .ok (.iconst 0, 1) := dk_3 (dk_at dksX9_readBook_3 13 rfl rfl)
theorem dX9_readBook_83 : decode cX9_readBook 83 = .ok (.bipush 9, 2) := dk_16 9 (dk_at dksX9_readBook_3 14 rfl rfl)
theorem dX9_readBook_85 : decode cX9_readBook 85 = .ok (.bipush 14, 2) := dk_16 14 (dk_at dksX9_readBook_3 16 rfl rfl)
theorem dX9_readBook_87 : decode cX9_readBook 87 = .ok (.iload_n 1, 1) := dk_27 (dk_at dksX9_readBook_3 18 rfl rfl)
theorem dX9_readBook_88 : decode cX9_readBook 88 = .ok (.iadd, 1) := dk_96 (dk_at dksX9_readBook_3 19 rfl rfl)
theorem dX9_readBook_89 : decode cX9_readBook 89 = .ok (.bipush 59, 2) := dk_16 59 (dk_at dksX9_readBook_3 20 rfl rfl)
theorem dX9_readBook_91 : decode cX9_readBook 91 = .ok (.invokevirtual 126, 3) := dk_182 0 126 (dk_at dksX9_readBook_4 0 rfl rfl)
theorem dX9_readBook_94 : decode cX9_readBook 94 = .ok (.ifCond .eq 7, 3) := dk_153 0 7 (dk_at dksX9_readBook_4 3 rfl rfl)
theorem dX9_readBook_97 : decode cX9_readBook 97 = .ok (.iconst 1, 1) := dk_4 (dk_at dksX9_readBook_4 6 rfl rfl)
theorem dX9_readBook_98 : decode cX9_readBook 98 = .ok (.goto 4, 3) := dk_167 0 4 (dk_at dksX9_readBook_4 7 rfl rfl)
theorem dX9_readBook_101 : decode cX9_readBook 101 = .ok (.iconst 0, 1) := dk_3 (dk_at dksX9_readBook_4 10 rfl rfl)
theorem dX9_readBook_102 : decode cX9_readBook 102 = .ok (.ireturn, 1) := dk_172 (dk_at dksX9_readBook_4 11 rfl rfl)
abbrev cX9_fault : ByteArray := prog_16_method_24_code
def yX9_fault : MethodName := ⟨RX9, "fault", "()I"⟩
theorem dX9_fault_0 : decode cX9_fault 0 = .ok (.aload_n 0, 1) := by decide +kernel
theorem dX9_fault_1 : decode cX9_fault 1 = .ok (.getfield 143, 3) := by decide +kernel
theorem dX9_fault_4 : decode cX9_fault 4 = .ok (.ireturn, 1) := by decide +kernel
abbrev cX9_undo : ByteArray := prog_16_method_37_code
def yX9_undo : MethodName := ⟨RX9, "undo", "()I"⟩
def dkwX9_undo_2 : List UInt8 := [79, 132, 1, 1, 167, 255, 227, 42, 180, 0, 151, 172]
abbrev dktX9_undo_2 : List UInt8 := dkwX9_undo_2 ++ []
def dkwX9_undo_1 : List UInt8 := [16, 41, 162, 0, 29, 42, 180, 0, 19, 27, 42, 180, 0, 34, 16, 41, 42, 180, 0, 151, 104, 27, 96, 46]
abbrev dktX9_undo_1 : List UInt8 := dkwX9_undo_1 ++ dktX9_undo_2
def dkwX9_undo_0 : List UInt8 := [42, 180, 0, 151, 154, 0, 6, 18, 181, 172, 42, 89, 180, 0, 151, 4, 100, 181, 0, 151, 3, 60, 27]
abbrev dktX9_undo_0 : List UInt8 := dkwX9_undo_0 ++ dktX9_undo_1
theorem dksX9_undo_0 : cX9_undo.data.toList.drop 0 = dktX9_undo_0 := by decide +kernel
theorem dksX9_undo_1 : cX9_undo.data.toList.drop 23 = dktX9_undo_1 := dk_seg dksX9_undo_0 23 rfl rfl
theorem dksX9_undo_2 : cX9_undo.data.toList.drop 47 = dktX9_undo_2 := dk_seg dksX9_undo_1 24 rfl rfl
theorem dX9_undo_0 : decode cX9_undo 0 = .ok (.aload_n 0, 1) := dk_42 (dk_at dksX9_undo_0 0 rfl rfl)
theorem dX9_undo_1 : decode cX9_undo 1 = .ok (.getfield 151, 3) := dk_180 0 151 (dk_at dksX9_undo_0 1 rfl rfl)
theorem dX9_undo_4 : decode cX9_undo 4 = .ok (.ifCond .ne 6, 3) := dk_154 0 6 (dk_at dksX9_undo_0 4 rfl rfl)
theorem dX9_undo_7 : decode cX9_undo 7 = .ok (.ldc 181, 2) := dk_18 181 (dk_at dksX9_undo_0 7 rfl rfl)
theorem dX9_undo_9 : decode cX9_undo 9 = .ok (.ireturn, 1) := dk_172 (dk_at dksX9_undo_0 9 rfl rfl)
theorem dX9_undo_10 : decode cX9_undo 10 = .ok (.aload_n 0, 1) := dk_42 (dk_at dksX9_undo_0 10 rfl rfl)
theorem dX9_undo_11 : decode cX9_undo 11 = .ok (.dup, 1) := dk_89 (dk_at dksX9_undo_0 11 rfl rfl)
theorem dX9_undo_12 : decode cX9_undo 12 = .ok (.getfield 151, 3) := dk_180 0 151 (dk_at dksX9_undo_0 12 rfl rfl)
theorem dX9_undo_15 : decode cX9_undo 15 = .ok (.iconst 1, 1) := dk_4 (dk_at dksX9_undo_0 15 rfl rfl)
theorem dX9_undo_16 : decode cX9_undo 16 = .ok (.isub, 1) := dk_100 (dk_at dksX9_undo_0 16 rfl rfl)
theorem dX9_undo_17 : decode cX9_undo 17 = .ok (.putfield 151, 3) := dk_181 0 151 (dk_at dksX9_undo_0 17 rfl rfl)
theorem dX9_undo_20 : decode cX9_undo 20 = .ok (.iconst 0, 1) := dk_3 (dk_at dksX9_undo_0 20 rfl rfl)
theorem dX9_undo_21 : decode cX9_undo 21 = .ok (.istore_n 1, 1) := dk_60 (dk_at dksX9_undo_0 21 rfl rfl)
theorem dX9_undo_22 : decode cX9_undo 22 = .ok (.iload_n 1, 1) := dk_27 (dk_at dksX9_undo_0 22 rfl rfl)
theorem dX9_undo_23 : decode cX9_undo 23 = .ok (.bipush 41, 2) := dk_16 41 (dk_at dksX9_undo_1 0 rfl rfl)
theorem dX9_undo_25 : decode cX9_undo 25 = .ok (.if_icmp .ge 29, 3) := dk_162 0 29 (dk_at dksX9_undo_1 2 rfl rfl)
theorem dX9_undo_28 : decode cX9_undo 28 = .ok (.aload_n 0, 1) := dk_42 (dk_at dksX9_undo_1 5 rfl rfl)
theorem dX9_undo_29 : decode cX9_undo 29 = .ok (.getfield 19, 3) := dk_180 0 19 (dk_at dksX9_undo_1 6 rfl rfl)
theorem dX9_undo_32 : decode cX9_undo 32 = .ok (.iload_n 1, 1) := dk_27 (dk_at dksX9_undo_1 9 rfl rfl)
theorem dX9_undo_33 : decode cX9_undo 33 = .ok (.aload_n 0, 1) := dk_42 (dk_at dksX9_undo_1 10 rfl rfl)
theorem dX9_undo_34 : decode cX9_undo 34 = .ok (.getfield 34, 3) := dk_180 0 34 (dk_at dksX9_undo_1 11 rfl rfl)
theorem dX9_undo_37 : decode cX9_undo 37 = .ok (.bipush 41, 2) := dk_16 41 (dk_at dksX9_undo_1 14 rfl rfl)
theorem dX9_undo_39 : decode cX9_undo 39 = .ok (.aload_n 0, 1) := dk_42 (dk_at dksX9_undo_1 16 rfl rfl)
theorem dX9_undo_40 : decode cX9_undo 40 = .ok (.getfield 151, 3) := dk_180 0 151 (dk_at dksX9_undo_1 17 rfl rfl)
theorem dX9_undo_43 : decode cX9_undo 43 = .ok (.imul, 1) := dk_104 (dk_at dksX9_undo_1 20 rfl rfl)
theorem dX9_undo_44 : decode cX9_undo 44 = .ok (.iload_n 1, 1) := dk_27 (dk_at dksX9_undo_1 21 rfl rfl)
theorem dX9_undo_45 : decode cX9_undo 45 = .ok (.iadd, 1) := dk_96 (dk_at dksX9_undo_1 22 rfl rfl)
theorem dX9_undo_46 : decode cX9_undo 46 = .ok (.iaload, 1) := dk_46 (dk_at dksX9_undo_1 23 rfl rfl)
theorem dX9_undo_47 : decode cX9_undo 47 = .ok (.iastore, 1) := dk_79 (dk_at dksX9_undo_2 0 rfl rfl)
theorem dX9_undo_48 : decode cX9_undo 48 = .ok (.iinc 1 1, 3) := dk_132 1 1 (dk_at dksX9_undo_2 1 rfl rfl)
theorem dX9_undo_51 : decode cX9_undo 51 = .ok (.goto (-29), 3) := dk_167 255 227 (dk_at dksX9_undo_2 4 rfl rfl)
theorem dX9_undo_54 : decode cX9_undo 54 = .ok (.aload_n 0, 1) := dk_42 (dk_at dksX9_undo_2 7 rfl rfl)
theorem dX9_undo_55 : decode cX9_undo 55 = .ok (.getfield 151, 3) := dk_180 0 151 (dk_at dksX9_undo_2 8 rfl rfl)
theorem dX9_undo_58 : decode cX9_undo 58 = .ok (.ireturn, 1) := dk_172 (dk_at dksX9_undo_2 11 rfl rfl)
abbrev cX9_nights : ByteArray := prog_16_method_38_code
def yX9_nights : MethodName := ⟨RX9, "nights", "(I)I"⟩
def dkwX9_nights_2 : List UInt8 := [162, 0, 17, 42, 182, 0, 184, 42, 182, 0, 187, 132, 2, 1, 167, 255, 240, 42, 182, 0, 190, 172]
abbrev dktX9_nights_2 : List UInt8 := dkwX9_nights_2 ++ []
def dkwX9_nights_1 : List UInt8 := [172, 42, 180, 0, 19, 7, 46, 27, 96, 17, 3, 231, 164, 0, 6, 18, 90, 172, 3, 61, 28, 27]
abbrev dktX9_nights_1 : List UInt8 := dkwX9_nights_1 ++ dktX9_nights_2
def dkwX9_nights_0 : List UInt8 := [42, 180, 0, 147, 154, 0, 6, 18, 181, 172, 27, 133, 10, 20, 0, 182, 184, 0, 63, 154, 0, 6, 18, 73]
abbrev dktX9_nights_0 : List UInt8 := dkwX9_nights_0 ++ dktX9_nights_1
theorem dksX9_nights_0 : cX9_nights.data.toList.drop 0 = dktX9_nights_0 := by decide +kernel
theorem dksX9_nights_1 : cX9_nights.data.toList.drop 24 = dktX9_nights_1 := dk_seg dksX9_nights_0 24 rfl rfl
theorem dksX9_nights_2 : cX9_nights.data.toList.drop 46 = dktX9_nights_2 := dk_seg dksX9_nights_1 22 rfl rfl
theorem dX9_nights_0 : decode cX9_nights 0 = .ok (.aload_n 0, 1) := dk_42 (dk_at dksX9_nights_0 0 rfl rfl)
theorem dX9_nights_1 : decode cX9_nights 1 = .ok (.getfield 147, 3) := dk_180 0 147 (dk_at dksX9_nights_0 1 rfl rfl)
theorem dX9_nights_4 : decode cX9_nights 4 = .ok (.ifCond .ne 6, 3) := dk_154 0 6 (dk_at dksX9_nights_0 4 rfl rfl)
theorem dX9_nights_7 : decode cX9_nights 7 = .ok (.ldc 181, 2) := dk_18 181 (dk_at dksX9_nights_0 7 rfl rfl)
theorem dX9_nights_9 : decode cX9_nights 9 = .ok (.ireturn, 1) := dk_172 (dk_at dksX9_nights_0 9 rfl rfl)
theorem dX9_nights_10 : decode cX9_nights 10 = .ok (.iload_n 1, 1) := dk_27 (dk_at dksX9_nights_0 10 rfl rfl)
theorem dX9_nights_11 : decode cX9_nights 11 = .ok (.i2l, 1) := dk_133 (dk_at dksX9_nights_0 11 rfl rfl)
theorem dX9_nights_12 : decode cX9_nights 12 = .ok (.lconst 1, 1) := dk_10 (dk_at dksX9_nights_0 12 rfl rfl)
theorem dX9_nights_13 : decode cX9_nights 13 = .ok (.ldc2_w 182, 3) := dk_20 0 182 (dk_at dksX9_nights_0 13 rfl rfl)
theorem dX9_nights_16 : decode cX9_nights 16 = .ok (.invokestatic 63, 3) := dk_184 0 63 (dk_at dksX9_nights_0 16 rfl rfl)
theorem dX9_nights_19 : decode cX9_nights 19 = .ok (.ifCond .ne 6, 3) := dk_154 0 6 (dk_at dksX9_nights_0 19 rfl rfl)
theorem dX9_nights_22 : decode cX9_nights 22 = .ok (.ldc 73, 2) := dk_18 73 (dk_at dksX9_nights_0 22 rfl rfl)
theorem dX9_nights_24 : decode cX9_nights 24 = .ok (.ireturn, 1) := dk_172 (dk_at dksX9_nights_1 0 rfl rfl)
theorem dX9_nights_25 : decode cX9_nights 25 = .ok (.aload_n 0, 1) := dk_42 (dk_at dksX9_nights_1 1 rfl rfl)
theorem dX9_nights_26 : decode cX9_nights 26 = .ok (.getfield 19, 3) := dk_180 0 19 (dk_at dksX9_nights_1 2 rfl rfl)
theorem dX9_nights_29 : decode cX9_nights 29 = .ok (.iconst 4, 1) := dk_7 (dk_at dksX9_nights_1 5 rfl rfl)
theorem dX9_nights_30 : decode cX9_nights 30 = .ok (.iaload, 1) := dk_46 (dk_at dksX9_nights_1 6 rfl rfl)
theorem dX9_nights_31 : decode cX9_nights 31 = .ok (.iload_n 1, 1) := dk_27 (dk_at dksX9_nights_1 7 rfl rfl)
theorem dX9_nights_32 : decode cX9_nights 32 = .ok (.iadd, 1) := dk_96 (dk_at dksX9_nights_1 8 rfl rfl)
theorem dX9_nights_33 : decode cX9_nights 33 = .ok (.sipush 999, 3) := dk_17 3 231 (dk_at dksX9_nights_1 9 rfl rfl)
theorem dX9_nights_36 : decode cX9_nights 36 = .ok (.if_icmp .le 6, 3) := dk_164 0 6 (dk_at dksX9_nights_1 12 rfl rfl)
theorem dX9_nights_39 : decode cX9_nights 39 = .ok (.ldc 90, 2) := dk_18 90 (dk_at dksX9_nights_1 15 rfl rfl)
theorem dX9_nights_41 : decode cX9_nights 41 = .ok (.ireturn, 1) := dk_172 (dk_at dksX9_nights_1 17 rfl rfl)
theorem dX9_nights_42 : decode cX9_nights 42 = .ok (.iconst 0, 1) := dk_3 (dk_at dksX9_nights_1 18 rfl rfl)
theorem dX9_nights_43 : decode cX9_nights 43 = .ok (.istore_n 2, 1) := dk_61 (dk_at dksX9_nights_1 19 rfl rfl)
theorem dX9_nights_44 : decode cX9_nights 44 = .ok (.iload_n 2, 1) := dk_28 (dk_at dksX9_nights_1 20 rfl rfl)
theorem dX9_nights_45 : decode cX9_nights 45 = .ok (.iload_n 1, 1) := dk_27 (dk_at dksX9_nights_1 21 rfl rfl)
theorem dX9_nights_46 : decode cX9_nights 46 = .ok (.if_icmp .ge 17, 3) := dk_162 0 17 (dk_at dksX9_nights_2 0 rfl rfl)
theorem dX9_nights_49 : decode cX9_nights 49 = .ok (.aload_n 0, 1) := dk_42 (dk_at dksX9_nights_2 3 rfl rfl)
theorem dX9_nights_50 : decode cX9_nights 50 = .ok (.invokevirtual 184, 3) := dk_182 0 184 (dk_at dksX9_nights_2 4 rfl rfl)
theorem dX9_nights_53 : decode cX9_nights 53 = .ok (.aload_n 0, 1) := dk_42 (dk_at dksX9_nights_2 7 rfl rfl)
theorem dX9_nights_54 : decode cX9_nights 54 = .ok (.invokevirtual 187, 3) := dk_182 0 187 (dk_at dksX9_nights_2 8 rfl rfl)
theorem dX9_nights_57 : decode cX9_nights 57 = .ok (.iinc 2 1, 3) := dk_132 2 1 (dk_at dksX9_nights_2 11 rfl rfl)
theorem dX9_nights_60 : decode cX9_nights 60 = .ok (.goto (-16), 3) := dk_167 255 240 (dk_at dksX9_nights_2 14 rfl rfl)
theorem dX9_nights_63 : decode cX9_nights 63 = .ok (.aload_n 0, 1) := dk_42 (dk_at dksX9_nights_2 17 rfl rfl)
theorem dX9_nights_64 : decode cX9_nights 64 = .ok (.invokevirtual 190, 3) := dk_182 0 190 (dk_at dksX9_nights_2 18 rfl rfl)
theorem dX9_nights_67 : decode cX9_nights 67 = .ok (.ireturn, 1) := dk_172 (dk_at dksX9_nights_2 21 rfl rfl)
abbrev cX9_note : ByteArray := prog_16_method_36_code
def yX9_note : MethodName := ⟨RX9, "note", "()V"⟩
def dkwX9_note_3 : List UInt8 := [42, 180, 0, 19, 27, 46, 79, 132, 1, 1, 167, 255, 227, 42, 89, 180, 0, 151, 4, 96, 181, 0, 151, 177]
abbrev dktX9_note_3 : List UInt8 := dkwX9_note_3 ++ []
def dkwX9_note_2 : List UInt8 := [181, 0, 151, 3, 60, 27, 16, 41, 162, 0, 29, 42, 180, 0, 34, 16, 41, 42, 180, 0, 151, 104, 27, 96]
abbrev dktX9_note_2 : List UInt8 := dkwX9_note_2 ++ dktX9_note_3
def dkwX9_note_1 : List UInt8 := [180, 0, 34, 27, 16, 41, 96, 46, 79, 132, 1, 1, 167, 255, 231, 42, 89, 180, 0, 151, 4, 100]
abbrev dktX9_note_1 : List UInt8 := dkwX9_note_1 ++ dktX9_note_2
def dkwX9_note_0 : List UInt8 := [42, 180, 0, 151, 16, 24, 160, 0, 43, 3, 60, 27, 17, 3, 175, 162, 0, 24, 42, 180, 0, 34, 27, 42]
abbrev dktX9_note_0 : List UInt8 := dkwX9_note_0 ++ dktX9_note_1
theorem dksX9_note_0 : cX9_note.data.toList.drop 0 = dktX9_note_0 := by decide +kernel
theorem dksX9_note_1 : cX9_note.data.toList.drop 24 = dktX9_note_1 := dk_seg dksX9_note_0 24 rfl rfl
theorem dksX9_note_2 : cX9_note.data.toList.drop 46 = dktX9_note_2 := dk_seg dksX9_note_1 22 rfl rfl
theorem dksX9_note_3 : cX9_note.data.toList.drop 70 = dktX9_note_3 := dk_seg dksX9_note_2 24 rfl rfl
theorem dX9_note_0 : decode cX9_note 0 = .ok (.aload_n 0, 1) := dk_42 (dk_at dksX9_note_0 0 rfl rfl)
theorem dX9_note_1 : decode cX9_note 1 = .ok (.getfield 151, 3) := dk_180 0 151 (dk_at dksX9_note_0 1 rfl rfl)
theorem dX9_note_4 : decode cX9_note 4 = .ok (.bipush 24, 2) := dk_16 24 (dk_at dksX9_note_0 4 rfl rfl)
theorem dX9_note_6 : decode cX9_note 6 = .ok (.if_icmp .ne 43, 3) := dk_160 0 43 (dk_at dksX9_note_0 6 rfl rfl)
theorem dX9_note_9 : decode cX9_note 9 = .ok (.iconst 0, 1) := dk_3 (dk_at dksX9_note_0 9 rfl rfl)
theorem dX9_note_10 : decode cX9_note 10 = .ok (.istore_n 1, 1) := dk_60 (dk_at dksX9_note_0 10 rfl rfl)
theorem dX9_note_11 : decode cX9_note 11 = .ok (.iload_n 1, 1) := dk_27 (dk_at dksX9_note_0 11 rfl rfl)
theorem dX9_note_12 : decode cX9_note 12 = .ok (.sipush 943, 3) := dk_17 3 175 (dk_at dksX9_note_0 12 rfl rfl)
theorem dX9_note_15 : decode cX9_note 15 = .ok (.if_icmp .ge 24, 3) := dk_162 0 24 (dk_at dksX9_note_0 15 rfl rfl)
theorem dX9_note_18 : decode cX9_note 18 = .ok (.aload_n 0, 1) := dk_42 (dk_at dksX9_note_0 18 rfl rfl)
theorem dX9_note_19 : decode cX9_note 19 = .ok (.getfield 34, 3) := dk_180 0 34 (dk_at dksX9_note_0 19 rfl rfl)
theorem dX9_note_22 : decode cX9_note 22 = .ok (.iload_n 1, 1) := dk_27 (dk_at dksX9_note_0 22 rfl rfl)
theorem dX9_note_23 : decode cX9_note 23 = .ok (.aload_n 0, 1) := dk_42 (dk_at dksX9_note_0 23 rfl rfl)
theorem dX9_note_24 : decode cX9_note 24 = .ok (.getfield 34, 3) := dk_180 0 34 (dk_at dksX9_note_1 0 rfl rfl)
theorem dX9_note_27 : decode cX9_note 27 = .ok (.iload_n 1, 1) := dk_27 (dk_at dksX9_note_1 3 rfl rfl)
theorem dX9_note_28 : decode cX9_note 28 = .ok (.bipush 41, 2) := dk_16 41 (dk_at dksX9_note_1 4 rfl rfl)
theorem dX9_note_30 : decode cX9_note 30 = .ok (.iadd, 1) := dk_96 (dk_at dksX9_note_1 6 rfl rfl)
theorem dX9_note_31 : decode cX9_note 31 = .ok (.iaload, 1) := dk_46 (dk_at dksX9_note_1 7 rfl rfl)
theorem dX9_note_32 : decode cX9_note 32 = .ok (.iastore, 1) := dk_79 (dk_at dksX9_note_1 8 rfl rfl)
theorem dX9_note_33 : decode cX9_note 33 = .ok (.iinc 1 1, 3) := dk_132 1 1 (dk_at dksX9_note_1 9 rfl rfl)
theorem dX9_note_36 : decode cX9_note 36 = .ok (.goto (-25), 3) := dk_167 255 231 (dk_at dksX9_note_1 12 rfl rfl)
theorem dX9_note_39 : decode cX9_note 39 = .ok (.aload_n 0, 1) := dk_42 (dk_at dksX9_note_1 15 rfl rfl)
theorem dX9_note_40 : decode cX9_note 40 = .ok (.dup, 1) := dk_89 (dk_at dksX9_note_1 16 rfl rfl)
theorem dX9_note_41 : decode cX9_note 41 = .ok (.getfield 151, 3) := dk_180 0 151 (dk_at dksX9_note_1 17 rfl rfl)
theorem dX9_note_44 : decode cX9_note 44 = .ok (.iconst 1, 1) := dk_4 (dk_at dksX9_note_1 20 rfl rfl)
theorem dX9_note_45 : decode cX9_note 45 = .ok (.isub, 1) := dk_100 (dk_at dksX9_note_1 21 rfl rfl)
theorem dX9_note_46 : decode cX9_note 46 = .ok (.putfield 151, 3) := dk_181 0 151 (dk_at dksX9_note_2 0 rfl rfl)
theorem dX9_note_49 : decode cX9_note 49 = .ok (.iconst 0, 1) := dk_3 (dk_at dksX9_note_2 3 rfl rfl)
theorem dX9_note_50 : decode cX9_note 50 = .ok (.istore_n 1, 1) := dk_60 (dk_at dksX9_note_2 4 rfl rfl)
theorem dX9_note_51 : decode cX9_note 51 = .ok (.iload_n 1, 1) := dk_27 (dk_at dksX9_note_2 5 rfl rfl)
theorem dX9_note_52 : decode cX9_note 52 = .ok (.bipush 41, 2) := dk_16 41 (dk_at dksX9_note_2 6 rfl rfl)
theorem dX9_note_54 : decode cX9_note 54 = .ok (.if_icmp .ge 29, 3) := dk_162 0 29 (dk_at dksX9_note_2 8 rfl rfl)
theorem dX9_note_57 : decode cX9_note 57 = .ok (.aload_n 0, 1) := dk_42 (dk_at dksX9_note_2 11 rfl rfl)
theorem dX9_note_58 : decode cX9_note 58 = .ok (.getfield 34, 3) := dk_180 0 34 (dk_at dksX9_note_2 12 rfl rfl)
theorem dX9_note_61 : decode cX9_note 61 = .ok (.bipush 41, 2) := dk_16 41 (dk_at dksX9_note_2 15 rfl rfl)
theorem dX9_note_63 : decode cX9_note 63 = .ok (.aload_n 0, 1) := dk_42 (dk_at dksX9_note_2 17 rfl rfl)
theorem dX9_note_64 : decode cX9_note 64 = .ok (.getfield 151, 3) := dk_180 0 151 (dk_at dksX9_note_2 18 rfl rfl)
theorem dX9_note_67 : decode cX9_note 67 = .ok (.imul, 1) := dk_104 (dk_at dksX9_note_2 21 rfl rfl)
theorem dX9_note_68 : decode cX9_note 68 = .ok (.iload_n 1, 1) := dk_27 (dk_at dksX9_note_2 22 rfl rfl)
theorem dX9_note_69 : decode cX9_note 69 = .ok (.iadd, 1) := dk_96 (dk_at dksX9_note_2 23 rfl rfl)
theorem dX9_note_70 : decode cX9_note 70 = .ok (.aload_n 0, 1) := dk_42 (dk_at dksX9_note_3 0 rfl rfl)
theorem dX9_note_71 : decode cX9_note 71 = .ok (.getfield 19, 3) := dk_180 0 19 (dk_at dksX9_note_3 1 rfl rfl)
theorem dX9_note_74 : decode cX9_note 74 = .ok (.iload_n 1, 1) := dk_27 (dk_at dksX9_note_3 4 rfl rfl)
theorem dX9_note_75 : decode cX9_note 75 = .ok (.iaload, 1) := dk_46 (dk_at dksX9_note_3 5 rfl rfl)
theorem dX9_note_76 : decode cX9_note 76 = .ok (.iastore, 1) := dk_79 (dk_at dksX9_note_3 6 rfl rfl)
theorem dX9_note_77 : decode cX9_note 77 = .ok (.iinc 1 1, 3) := dk_132 1 1 (dk_at dksX9_note_3 7 rfl rfl)
theorem dX9_note_80 : decode cX9_note 80 = .ok (.goto (-29), 3) := dk_167 255 227 (dk_at dksX9_note_3 10 rfl rfl)
theorem dX9_note_83 : decode cX9_note 83 = .ok (.aload_n 0, 1) := dk_42 (dk_at dksX9_note_3 13 rfl rfl)
theorem dX9_note_84 : decode cX9_note 84 = .ok (.dup, 1) := dk_89 (dk_at dksX9_note_3 14 rfl rfl)
theorem dX9_note_85 : decode cX9_note 85 = .ok (.getfield 151, 3) := dk_180 0 151 (dk_at dksX9_note_3 15 rfl rfl)
theorem dX9_note_88 : decode cX9_note 88 = .ok (.iconst 1, 1) := dk_4 (dk_at dksX9_note_3 18 rfl rfl)
theorem dX9_note_89 : decode cX9_note 89 = .ok (.iadd, 1) := dk_96 (dk_at dksX9_note_3 19 rfl rfl)
theorem dX9_note_90 : decode cX9_note 90 = .ok (.putfield 151, 3) := dk_181 0 151 (dk_at dksX9_note_3 20 rfl rfl)
theorem dX9_note_93 : decode cX9_note 93 = .ok (.return_, 1) := dk_177 (dk_at dksX9_note_3 23 rfl rfl)
abbrev cX9_oneNight : ByteArray := prog_16_method_34_code
def yX9_oneNight : MethodName := ⟨RX9, "oneNight", "()V"⟩
def dkwX9_oneNight_5 : List UInt8 := [180, 0, 19, 7, 92, 46, 4, 96, 79, 177]
abbrev dktX9_oneNight_5 : List UInt8 := dkwX9_oneNight_5 ++ []
def dkwX9_oneNight_4 : List UInt8 := [162, 0, 16, 42, 180, 0, 19, 16, 14, 27, 96, 92, 46, 4, 96, 79, 132, 1, 1, 167, 255, 190, 42]
abbrev dktX9_oneNight_4 : List UInt8 := dkwX9_oneNight_4 ++ dktX9_oneNight_5
def dkwX9_oneNight_3 : List UInt8 := [180, 0, 19, 16, 6, 46, 27, 184, 0, 154, 154, 0, 30, 42, 180, 0, 19, 16, 14, 27, 96, 46, 16, 9]
abbrev dktX9_oneNight_3 : List UInt8 := dkwX9_oneNight_3 ++ dktX9_oneNight_4
def dkwX9_oneNight_2 : List UInt8 := [42, 180, 0, 19, 3, 46, 162, 0, 62, 42, 180, 0, 19, 7, 46, 7, 112, 6, 160, 0, 50, 42]
abbrev dktX9_oneNight_2 : List UInt8 := dkwX9_oneNight_2 ++ dktX9_oneNight_3
def dkwX9_oneNight_1 : List UInt8 := [16, 31, 27, 96, 42, 27, 182, 0, 174, 79, 42, 27, 182, 0, 177, 132, 1, 1, 167, 255, 216, 3, 60, 27]
abbrev dktX9_oneNight_1 : List UInt8 := dkwX9_oneNight_1 ++ dktX9_oneNight_2
def dkwX9_oneNight_0 : List UInt8 := [3, 60, 27, 42, 180, 0, 19, 4, 46, 162, 0, 36, 42, 27, 182, 0, 171, 154, 0, 22, 42, 180, 0, 19]
abbrev dktX9_oneNight_0 : List UInt8 := dkwX9_oneNight_0 ++ dktX9_oneNight_1
theorem dksX9_oneNight_0 : cX9_oneNight.data.toList.drop 0 = dktX9_oneNight_0 := by decide +kernel
theorem dksX9_oneNight_1 : cX9_oneNight.data.toList.drop 24 = dktX9_oneNight_1 := dk_seg dksX9_oneNight_0 24 rfl rfl
theorem dksX9_oneNight_2 : cX9_oneNight.data.toList.drop 48 = dktX9_oneNight_2 := dk_seg dksX9_oneNight_1 24 rfl rfl
theorem dksX9_oneNight_3 : cX9_oneNight.data.toList.drop 70 = dktX9_oneNight_3 := dk_seg dksX9_oneNight_2 22 rfl rfl
theorem dksX9_oneNight_4 : cX9_oneNight.data.toList.drop 94 = dktX9_oneNight_4 := dk_seg dksX9_oneNight_3 24 rfl rfl
theorem dksX9_oneNight_5 : cX9_oneNight.data.toList.drop 117 = dktX9_oneNight_5 := dk_seg dksX9_oneNight_4 23 rfl rfl
theorem dX9_oneNight_0 : decode cX9_oneNight 0 = .ok (.iconst 0, 1) := dk_3 (dk_at dksX9_oneNight_0 0 rfl rfl)
theorem dX9_oneNight_1 : decode cX9_oneNight 1 = .ok (.istore_n 1, 1) := dk_60 (dk_at dksX9_oneNight_0 1 rfl rfl)
theorem dX9_oneNight_2 : decode cX9_oneNight 2 = .ok (.iload_n 1, 1) := dk_27 (dk_at dksX9_oneNight_0 2 rfl rfl)
theorem dX9_oneNight_3 : decode cX9_oneNight 3 = .ok (.aload_n 0, 1) := dk_42 (dk_at dksX9_oneNight_0 3 rfl rfl)
theorem dX9_oneNight_4 : decode cX9_oneNight 4 = .ok (.getfield 19, 3) := dk_180 0 19 (dk_at dksX9_oneNight_0 4 rfl rfl)
theorem dX9_oneNight_7 : decode cX9_oneNight 7 = .ok (.iconst 1, 1) := dk_4 (dk_at dksX9_oneNight_0 7 rfl rfl)
theorem dX9_oneNight_8 : decode cX9_oneNight 8 = .ok (.iaload, 1) := dk_46 (dk_at dksX9_oneNight_0 8 rfl rfl)
theorem dX9_oneNight_9 : decode cX9_oneNight 9 = .ok (.if_icmp .ge 36, 3) := dk_162 0 36 (dk_at dksX9_oneNight_0 9 rfl rfl)
theorem dX9_oneNight_12 : decode cX9_oneNight 12 = .ok (.aload_n 0, 1) := dk_42 (dk_at dksX9_oneNight_0 12 rfl rfl)
theorem dX9_oneNight_13 : decode cX9_oneNight 13 = .ok (.iload_n 1, 1) := dk_27 (dk_at dksX9_oneNight_0 13 rfl rfl)
theorem dX9_oneNight_14 : decode cX9_oneNight 14 = .ok (.invokevirtual 171, 3) := dk_182 0 171 (dk_at dksX9_oneNight_0 14 rfl rfl)
theorem dX9_oneNight_17 : decode cX9_oneNight 17 = .ok (.ifCond .ne 22, 3) := dk_154 0 22 (dk_at dksX9_oneNight_0 17 rfl rfl)
theorem dX9_oneNight_20 : decode cX9_oneNight 20 = .ok (.aload_n 0, 1) := dk_42 (dk_at dksX9_oneNight_0 20 rfl rfl)
theorem dX9_oneNight_21 : decode cX9_oneNight 21 = .ok (.getfield 19, 3) := dk_180 0 19 (dk_at dksX9_oneNight_0 21 rfl rfl)
theorem dX9_oneNight_24 : decode cX9_oneNight 24 = .ok (.bipush 31, 2) := dk_16 31 (dk_at dksX9_oneNight_1 0 rfl rfl)
theorem dX9_oneNight_26 : decode cX9_oneNight 26 = .ok (.iload_n 1, 1) := dk_27 (dk_at dksX9_oneNight_1 2 rfl rfl)
theorem dX9_oneNight_27 : decode cX9_oneNight 27 = .ok (.iadd, 1) := dk_96 (dk_at dksX9_oneNight_1 3 rfl rfl)
theorem dX9_oneNight_28 : decode cX9_oneNight 28 = .ok (.aload_n 0, 1) := dk_42 (dk_at dksX9_oneNight_1 4 rfl rfl)
theorem dX9_oneNight_29 : decode cX9_oneNight 29 = .ok (.iload_n 1, 1) := dk_27 (dk_at dksX9_oneNight_1 5 rfl rfl)
theorem dX9_oneNight_30 : decode cX9_oneNight 30 = .ok (.invokevirtual 174, 3) := dk_182 0 174 (dk_at dksX9_oneNight_1 6 rfl rfl)
theorem dX9_oneNight_33 : decode cX9_oneNight 33 = .ok (.iastore, 1) := dk_79 (dk_at dksX9_oneNight_1 9 rfl rfl)
theorem dX9_oneNight_34 : decode cX9_oneNight 34 = .ok (.aload_n 0, 1) := dk_42 (dk_at dksX9_oneNight_1 10 rfl rfl)
theorem dX9_oneNight_35 : decode cX9_oneNight 35 = .ok (.iload_n 1, 1) := dk_27 (dk_at dksX9_oneNight_1 11 rfl rfl)
theorem dX9_oneNight_36 : decode cX9_oneNight 36 = .ok (.invokevirtual 177, 3) := dk_182 0 177 (dk_at dksX9_oneNight_1 12 rfl rfl)
theorem dX9_oneNight_39 : decode cX9_oneNight 39 = .ok (.iinc 1 1, 3) := dk_132 1 1 (dk_at dksX9_oneNight_1 15 rfl rfl)
theorem dX9_oneNight_42 : decode cX9_oneNight 42 = .ok (.goto (-40), 3) := dk_167 255 216 (dk_at dksX9_oneNight_1 18 rfl rfl)
theorem dX9_oneNight_45 : decode cX9_oneNight 45 = .ok (.iconst 0, 1) := dk_3 (dk_at dksX9_oneNight_1 21 rfl rfl)
theorem dX9_oneNight_46 : decode cX9_oneNight 46 = .ok (.istore_n 1, 1) := dk_60 (dk_at dksX9_oneNight_1 22 rfl rfl)
theorem dX9_oneNight_47 : decode cX9_oneNight 47 = .ok (.iload_n 1, 1) := dk_27 (dk_at dksX9_oneNight_1 23 rfl rfl)
theorem dX9_oneNight_48 : decode cX9_oneNight 48 = .ok (.aload_n 0, 1) := dk_42 (dk_at dksX9_oneNight_2 0 rfl rfl)
theorem dX9_oneNight_49 : decode cX9_oneNight 49 = .ok (.getfield 19, 3) := dk_180 0 19 (dk_at dksX9_oneNight_2 1 rfl rfl)
theorem dX9_oneNight_52 : decode cX9_oneNight 52 = .ok (.iconst 0, 1) := dk_3 (dk_at dksX9_oneNight_2 4 rfl rfl)
theorem dX9_oneNight_53 : decode cX9_oneNight 53 = .ok (.iaload, 1) := dk_46 (dk_at dksX9_oneNight_2 5 rfl rfl)
theorem dX9_oneNight_54 : decode cX9_oneNight 54 = .ok (.if_icmp .ge 62, 3) := dk_162 0 62 (dk_at dksX9_oneNight_2 6 rfl rfl)
theorem dX9_oneNight_57 : decode cX9_oneNight 57 = .ok (.aload_n 0, 1) := dk_42 (dk_at dksX9_oneNight_2 9 rfl rfl)
theorem dX9_oneNight_58 : decode cX9_oneNight 58 = .ok (.getfield 19, 3) := dk_180 0 19 (dk_at dksX9_oneNight_2 10 rfl rfl)
theorem dX9_oneNight_61 : decode cX9_oneNight 61 = .ok (.iconst 4, 1) := dk_7 (dk_at dksX9_oneNight_2 13 rfl rfl)
theorem dX9_oneNight_62 : decode cX9_oneNight 62 = .ok (.iaload, 1) := dk_46 (dk_at dksX9_oneNight_2 14 rfl rfl)
theorem dX9_oneNight_63 : decode cX9_oneNight 63 = .ok (.iconst 4, 1) := dk_7 (dk_at dksX9_oneNight_2 15 rfl rfl)
theorem dX9_oneNight_64 : decode cX9_oneNight 64 = .ok (.irem, 1) := dk_112 (dk_at dksX9_oneNight_2 16 rfl rfl)
theorem dX9_oneNight_65 : decode cX9_oneNight 65 = .ok (.iconst 3, 1) := dk_6 (dk_at dksX9_oneNight_2 17 rfl rfl)
theorem dX9_oneNight_66 : decode cX9_oneNight 66 = .ok (.if_icmp .ne 50, 3) := dk_160 0 50 (dk_at dksX9_oneNight_2 18 rfl rfl)
theorem dX9_oneNight_69 : decode cX9_oneNight 69 = .ok (.aload_n 0, 1) := dk_42 (dk_at dksX9_oneNight_2 21 rfl rfl)
theorem dX9_oneNight_70 : decode cX9_oneNight 70 = .ok (.getfield 19, 3) := dk_180 0 19 (dk_at dksX9_oneNight_3 0 rfl rfl)
theorem dX9_oneNight_73 : decode cX9_oneNight 73 = .ok (.bipush 6, 2) := dk_16 6 (dk_at dksX9_oneNight_3 3 rfl rfl)
theorem dX9_oneNight_75 : decode cX9_oneNight 75 = .ok (.iaload, 1) := dk_46 (dk_at dksX9_oneNight_3 5 rfl rfl)
theorem dX9_oneNight_76 : decode cX9_oneNight 76 = .ok (.iload_n 1, 1) := dk_27 (dk_at dksX9_oneNight_3 6 rfl rfl)
theorem dX9_oneNight_77 : decode cX9_oneNight 77 = .ok (.invokestatic 154, 3) := dk_184 0 154 (dk_at dksX9_oneNight_3 7 rfl rfl)
theorem dX9_oneNight_80 : decode cX9_oneNight 80 = .ok (.ifCond .ne 30, 3) := dk_154 0 30 (dk_at dksX9_oneNight_3 10 rfl rfl)
theorem dX9_oneNight_83 : decode cX9_oneNight 83 = .ok (.aload_n 0, 1) := dk_42 (dk_at dksX9_oneNight_3 13 rfl rfl)
theorem dX9_oneNight_84 : decode cX9_oneNight 84 = .ok (.getfield 19, 3) := dk_180 0 19 (dk_at dksX9_oneNight_3 14 rfl rfl)
theorem dX9_oneNight_87 : decode cX9_oneNight 87 = .ok (.bipush 14, 2) := dk_16 14 (dk_at dksX9_oneNight_3 17 rfl rfl)
theorem dX9_oneNight_89 : decode cX9_oneNight 89 = .ok (.iload_n 1, 1) := dk_27 (dk_at dksX9_oneNight_3 19 rfl rfl)
theorem dX9_oneNight_90 : decode cX9_oneNight 90 = .ok (.iadd, 1) := dk_96 (dk_at dksX9_oneNight_3 20 rfl rfl)
theorem dX9_oneNight_91 : decode cX9_oneNight 91 = .ok (.iaload, 1) := dk_46 (dk_at dksX9_oneNight_3 21 rfl rfl)
theorem dX9_oneNight_92 : decode cX9_oneNight 92 = .ok (.bipush 9, 2) := dk_16 9 (dk_at dksX9_oneNight_3 22 rfl rfl)
theorem dX9_oneNight_94 : decode cX9_oneNight 94 = .ok (.if_icmp .ge 16, 3) := dk_162 0 16 (dk_at dksX9_oneNight_4 0 rfl rfl)
theorem dX9_oneNight_97 : decode cX9_oneNight 97 = .ok (.aload_n 0, 1) := dk_42 (dk_at dksX9_oneNight_4 3 rfl rfl)
theorem dX9_oneNight_98 : decode cX9_oneNight 98 = .ok (.getfield 19, 3) := dk_180 0 19 (dk_at dksX9_oneNight_4 4 rfl rfl)
theorem dX9_oneNight_101 : decode cX9_oneNight 101 = .ok (.bipush 14, 2) := dk_16 14 (dk_at dksX9_oneNight_4 7 rfl rfl)
theorem dX9_oneNight_103 : decode cX9_oneNight 103 = .ok (.iload_n 1, 1) := dk_27 (dk_at dksX9_oneNight_4 9 rfl rfl)
theorem dX9_oneNight_104 : decode cX9_oneNight 104 = .ok (.iadd, 1) := dk_96 (dk_at dksX9_oneNight_4 10 rfl rfl)
theorem dX9_oneNight_105 : decode cX9_oneNight 105 = .ok (.dup2, 1) := dk_92 (dk_at dksX9_oneNight_4 11 rfl rfl)
theorem dX9_oneNight_106 : decode cX9_oneNight 106 = .ok (.iaload, 1) := dk_46 (dk_at dksX9_oneNight_4 12 rfl rfl)
theorem dX9_oneNight_107 : decode cX9_oneNight 107 = .ok (.iconst 1, 1) := dk_4 (dk_at dksX9_oneNight_4 13 rfl rfl)
theorem dX9_oneNight_108 : decode cX9_oneNight 108 = .ok (.iadd, 1) := dk_96 (dk_at dksX9_oneNight_4 14 rfl rfl)
theorem dX9_oneNight_109 : decode cX9_oneNight 109 = .ok (.iastore, 1) := dk_79 (dk_at dksX9_oneNight_4 15 rfl rfl)
theorem dX9_oneNight_110 : decode cX9_oneNight 110 = .ok (.iinc 1 1, 3) := dk_132 1 1 (dk_at dksX9_oneNight_4 16 rfl rfl)
theorem dX9_oneNight_113 : decode cX9_oneNight 113 = .ok (.goto (-66), 3) := dk_167 255 190 (dk_at dksX9_oneNight_4 19 rfl rfl)
theorem dX9_oneNight_116 : decode cX9_oneNight 116 = .ok (.aload_n 0, 1) := dk_42 (dk_at dksX9_oneNight_4 22 rfl rfl)
theorem dX9_oneNight_117 : decode cX9_oneNight 117 = .ok (.getfield 19, 3) := dk_180 0 19 (dk_at dksX9_oneNight_5 0 rfl rfl)
theorem dX9_oneNight_120 : decode cX9_oneNight 120 = .ok (.iconst 4, 1) := dk_7 (dk_at dksX9_oneNight_5 3 rfl rfl)
theorem dX9_oneNight_121 : decode cX9_oneNight 121 = .ok (.dup2, 1) := dk_92 (dk_at dksX9_oneNight_5 4 rfl rfl)
theorem dX9_oneNight_122 : decode cX9_oneNight 122 = .ok (.iaload, 1) := dk_46 (dk_at dksX9_oneNight_5 5 rfl rfl)
theorem dX9_oneNight_123 : decode cX9_oneNight 123 = .ok (.iconst 1, 1) := dk_4 (dk_at dksX9_oneNight_5 6 rfl rfl)
theorem dX9_oneNight_124 : decode cX9_oneNight 124 = .ok (.iadd, 1) := dk_96 (dk_at dksX9_oneNight_5 7 rfl rfl)
theorem dX9_oneNight_125 : decode cX9_oneNight 125 = .ok (.iastore, 1) := dk_79 (dk_at dksX9_oneNight_5 8 rfl rfl)
theorem dX9_oneNight_126 : decode cX9_oneNight 126 = .ok (.return_, 1) := dk_177 (dk_at dksX9_oneNight_5 9 rfl rfl)
abbrev cX9_isCaught : ByteArray := prog_16_method_27_code
def yX9_isCaught : MethodName := ⟨RX9, "isCaught", "(I)Z"⟩
def dkwX9_isCaught_0 : List UInt8 := [42, 180, 0, 19, 16, 7, 46, 27, 184, 0, 154, 172]
abbrev dktX9_isCaught_0 : List UInt8 := dkwX9_isCaught_0 ++ []
theorem dksX9_isCaught_0 : cX9_isCaught.data.toList.drop 0 = dktX9_isCaught_0 := by decide +kernel
theorem dX9_isCaught_0 : decode cX9_isCaught 0 = .ok (.aload_n 0, 1) := dk_42 (dk_at dksX9_isCaught_0 0 rfl rfl)
theorem dX9_isCaught_1 : decode cX9_isCaught 1 = .ok (.getfield 19, 3) := dk_180 0 19 (dk_at dksX9_isCaught_0 1 rfl rfl)
theorem dX9_isCaught_4 : decode cX9_isCaught 4 = .ok (.bipush 7, 2) := dk_16 7 (dk_at dksX9_isCaught_0 4 rfl rfl)
theorem dX9_isCaught_6 : decode cX9_isCaught 6 = .ok (.iaload, 1) := dk_46 (dk_at dksX9_isCaught_0 6 rfl rfl)
theorem dX9_isCaught_7 : decode cX9_isCaught 7 = .ok (.iload_n 1, 1) := dk_27 (dk_at dksX9_isCaught_0 7 rfl rfl)
theorem dX9_isCaught_8 : decode cX9_isCaught 8 = .ok (.invokestatic 154, 3) := dk_184 0 154 (dk_at dksX9_isCaught_0 8 rfl rfl)
theorem dX9_isCaught_11 : decode cX9_isCaught 11 = .ok (.ireturn, 1) := dk_172 (dk_at dksX9_isCaught_0 11 rfl rfl)
abbrev cX9_has : ByteArray := prog_16_method_3_code
def yX9_has : MethodName := ⟨RX9, "has", "(II)Z"⟩
def dkwX9_has_0 : List UInt8 := [26, 27, 122, 4, 126, 4, 160, 0, 7, 4, 167, 0, 4, 3, 172]
abbrev dktX9_has_0 : List UInt8 := dkwX9_has_0 ++ []
theorem dksX9_has_0 : cX9_has.data.toList.drop 0 = dktX9_has_0 := by decide +kernel
theorem dX9_has_0 : decode cX9_has 0 = .ok (.iload_n 0, 1) := dk_26 (dk_at dksX9_has_0 0 rfl rfl)
theorem dX9_has_1 : decode cX9_has 1 = .ok (.iload_n 1, 1) := dk_27 (dk_at dksX9_has_0 1 rfl rfl)
theorem dX9_has_2 : decode cX9_has 2 = .ok (.ishr, 1) := dk_122 (dk_at dksX9_has_0 2 rfl rfl)
theorem dX9_has_3 : decode cX9_has 3 = .ok (.iconst 1, 1) := dk_4 (dk_at dksX9_has_0 3 rfl rfl)
theorem dX9_has_4 : decode cX9_has 4 = .ok (.iand, 1) := dk_126 (dk_at dksX9_has_0 4 rfl rfl)
theorem dX9_has_5 : decode cX9_has 5 = .ok (.iconst 1, 1) := dk_4 (dk_at dksX9_has_0 5 rfl rfl)
theorem dX9_has_6 : decode cX9_has 6 = .ok (.if_icmp .ne 7, 3) := dk_160 0 7 (dk_at dksX9_has_0 6 rfl rfl)
theorem dX9_has_9 : decode cX9_has 9 = .ok (.iconst 1, 1) := dk_4 (dk_at dksX9_has_0 9 rfl rfl)
theorem dX9_has_10 : decode cX9_has 10 = .ok (.goto 4, 3) := dk_167 0 4 (dk_at dksX9_has_0 10 rfl rfl)
theorem dX9_has_13 : decode cX9_has 13 = .ok (.iconst 0, 1) := dk_3 (dk_at dksX9_has_0 13 rfl rfl)
theorem dX9_has_14 : decode cX9_has 14 = .ok (.ireturn, 1) := dk_172 (dk_at dksX9_has_0 14 rfl rfl)
abbrev cX9_goesTo : ByteArray := prog_16_method_32_code
def yX9_goesTo : MethodName := ⟨RX9, "goesTo", "(I)I"⟩
def dkwX9_goesTo_6 : List UInt8 := [28, 172]
abbrev dktX9_goesTo_6 : List UInt8 := dkwX9_goesTo_6 ++ []
def dkwX9_goesTo_5 : List UInt8 := [180, 0, 19, 16, 8, 29, 96, 46, 154, 0, 16, 28, 4, 96, 42, 180, 0, 19, 3, 46, 112, 167, 0, 4]
abbrev dktX9_goesTo_5 : List UInt8 := dkwX9_goesTo_5 ++ dktX9_goesTo_6
def dkwX9_goesTo_4 : List UInt8 := [167, 0, 6, 28, 4, 100, 172, 21, 4, 7, 159, 0, 23, 42, 29, 182, 0, 165, 154, 0, 15, 42]
abbrev dktX9_goesTo_4 : List UInt8 := dkwX9_goesTo_4 ++ dktX9_goesTo_5
def dkwX9_goesTo_3 : List UInt8 := [155, 0, 9, 21, 5, 28, 160, 0, 7, 28, 167, 0, 18, 21, 5, 28, 164, 0, 9, 28, 4, 96]
abbrev dktX9_goesTo_3 : List UInt8 := dkwX9_goesTo_3 ++ dktX9_goesTo_4
def dkwX9_goesTo_2 : List UInt8 := [96, 42, 180, 0, 19, 3, 46, 112, 172, 21, 4, 7, 162, 0, 41, 42, 27, 182, 0, 168, 54, 5, 21, 5]
abbrev dktX9_goesTo_2 : List UInt8 := dkwX9_goesTo_2 ++ dktX9_goesTo_3
def dkwX9_goesTo_1 : List UInt8 := [46, 54, 4, 21, 4, 6, 160, 0, 27, 42, 180, 0, 19, 8, 46, 29, 184, 0, 154, 153, 0, 14, 28, 5]
abbrev dktX9_goesTo_1 : List UInt8 := dkwX9_goesTo_1 ++ dktX9_goesTo_2
def dkwX9_goesTo_0 : List UInt8 := [42, 180, 0, 19, 16, 31, 27, 96, 46, 61, 42, 28, 182, 0, 159, 62, 42, 180, 0, 19, 16, 26, 27, 96]
abbrev dktX9_goesTo_0 : List UInt8 := dkwX9_goesTo_0 ++ dktX9_goesTo_1
theorem dksX9_goesTo_0 : cX9_goesTo.data.toList.drop 0 = dktX9_goesTo_0 := by decide +kernel
theorem dksX9_goesTo_1 : cX9_goesTo.data.toList.drop 24 = dktX9_goesTo_1 := dk_seg dksX9_goesTo_0 24 rfl rfl
theorem dksX9_goesTo_2 : cX9_goesTo.data.toList.drop 48 = dktX9_goesTo_2 := dk_seg dksX9_goesTo_1 24 rfl rfl
theorem dksX9_goesTo_3 : cX9_goesTo.data.toList.drop 72 = dktX9_goesTo_3 := dk_seg dksX9_goesTo_2 24 rfl rfl
theorem dksX9_goesTo_4 : cX9_goesTo.data.toList.drop 94 = dktX9_goesTo_4 := dk_seg dksX9_goesTo_3 22 rfl rfl
theorem dksX9_goesTo_5 : cX9_goesTo.data.toList.drop 116 = dktX9_goesTo_5 := dk_seg dksX9_goesTo_4 22 rfl rfl
theorem dksX9_goesTo_6 : cX9_goesTo.data.toList.drop 140 = dktX9_goesTo_6 := dk_seg dksX9_goesTo_5 24 rfl rfl
theorem dX9_goesTo_0 : decode cX9_goesTo 0 = .ok (.aload_n 0, 1) := dk_42 (dk_at dksX9_goesTo_0 0 rfl rfl)
theorem dX9_goesTo_1 : decode cX9_goesTo 1 = .ok (.getfield 19, 3) := dk_180 0 19 (dk_at dksX9_goesTo_0 1 rfl rfl)
theorem dX9_goesTo_4 : decode cX9_goesTo 4 = .ok (.bipush 31, 2) := dk_16 31 (dk_at dksX9_goesTo_0 4 rfl rfl)
theorem dX9_goesTo_6 : decode cX9_goesTo 6 = .ok (.iload_n 1, 1) := dk_27 (dk_at dksX9_goesTo_0 6 rfl rfl)
theorem dX9_goesTo_7 : decode cX9_goesTo 7 = .ok (.iadd, 1) := dk_96 (dk_at dksX9_goesTo_0 7 rfl rfl)
theorem dX9_goesTo_8 : decode cX9_goesTo 8 = .ok (.iaload, 1) := dk_46 (dk_at dksX9_goesTo_0 8 rfl rfl)
theorem dX9_goesTo_9 : decode cX9_goesTo 9 = .ok (.istore_n 2, 1) := dk_61 (dk_at dksX9_goesTo_0 9 rfl rfl)
theorem dX9_goesTo_10 : decode cX9_goesTo 10 = .ok (.aload_n 0, 1) := dk_42 (dk_at dksX9_goesTo_0 10 rfl rfl)
theorem dX9_goesTo_11 : decode cX9_goesTo 11 = .ok (.iload_n 2, 1) := dk_28 (dk_at dksX9_goesTo_0 11 rfl rfl)
theorem dX9_goesTo_12 : decode cX9_goesTo 12 = .ok (.invokevirtual 159, 3) := dk_182 0 159 (dk_at dksX9_goesTo_0 12 rfl rfl)
theorem dX9_goesTo_15 : decode cX9_goesTo 15 = .ok (.istore_n 3, 1) := dk_62 (dk_at dksX9_goesTo_0 15 rfl rfl)
theorem dX9_goesTo_16 : decode cX9_goesTo 16 = .ok (.aload_n 0, 1) := dk_42 (dk_at dksX9_goesTo_0 16 rfl rfl)
theorem dX9_goesTo_17 : decode cX9_goesTo 17 = .ok (.getfield 19, 3) := dk_180 0 19 (dk_at dksX9_goesTo_0 17 rfl rfl)
theorem dX9_goesTo_20 : decode cX9_goesTo 20 = .ok (.bipush 26, 2) := dk_16 26 (dk_at dksX9_goesTo_0 20 rfl rfl)
theorem dX9_goesTo_22 : decode cX9_goesTo 22 = .ok (.iload_n 1, 1) := dk_27 (dk_at dksX9_goesTo_0 22 rfl rfl)
theorem dX9_goesTo_23 : decode cX9_goesTo 23 = .ok (.iadd, 1) := dk_96 (dk_at dksX9_goesTo_0 23 rfl rfl)
theorem dX9_goesTo_24 : decode cX9_goesTo 24 = .ok (.iaload, 1) := dk_46 (dk_at dksX9_goesTo_1 0 rfl rfl)
theorem dX9_goesTo_25 : decode cX9_goesTo 25 = .ok (.istore 4, 2) := dk_54 4 (dk_at dksX9_goesTo_1 1 rfl rfl)
theorem dX9_goesTo_27 : decode cX9_goesTo 27 = .ok (.iload 4, 2) := dk_21 4 (dk_at dksX9_goesTo_1 3 rfl rfl)
theorem dX9_goesTo_29 : decode cX9_goesTo 29 = .ok (.iconst 3, 1) := dk_6 (dk_at dksX9_goesTo_1 5 rfl rfl)
theorem dX9_goesTo_30 : decode cX9_goesTo 30 = .ok (.if_icmp .ne 27, 3) := dk_160 0 27 (dk_at dksX9_goesTo_1 6 rfl rfl)
theorem dX9_goesTo_33 : decode cX9_goesTo 33 = .ok (.aload_n 0, 1) := dk_42 (dk_at dksX9_goesTo_1 9 rfl rfl)
theorem dX9_goesTo_34 : decode cX9_goesTo 34 = .ok (.getfield 19, 3) := dk_180 0 19 (dk_at dksX9_goesTo_1 10 rfl rfl)
theorem dX9_goesTo_37 : decode cX9_goesTo 37 = .ok (.iconst 5, 1) := dk_8 (dk_at dksX9_goesTo_1 13 rfl rfl)
theorem dX9_goesTo_38 : decode cX9_goesTo 38 = .ok (.iaload, 1) := dk_46 (dk_at dksX9_goesTo_1 14 rfl rfl)
theorem dX9_goesTo_39 : decode cX9_goesTo 39 = .ok (.iload_n 3, 1) := dk_29 (dk_at dksX9_goesTo_1 15 rfl rfl)
theorem dX9_goesTo_40 : decode cX9_goesTo 40 = .ok (.invokestatic 154, 3) := dk_184 0 154 (dk_at dksX9_goesTo_1 16 rfl rfl)
theorem dX9_goesTo_43 : decode cX9_goesTo 43 = .ok (.ifCond .eq 14, 3) := dk_153 0 14 (dk_at dksX9_goesTo_1 19 rfl rfl)
theorem dX9_goesTo_46 : decode cX9_goesTo 46 = .ok (.iload_n 2, 1) := dk_28 (dk_at dksX9_goesTo_1 22 rfl rfl)
theorem dX9_goesTo_47 : decode cX9_goesTo 47 = .ok (.iconst 2, 1) := dk_5 (dk_at dksX9_goesTo_1 23 rfl rfl)
theorem dX9_goesTo_48 : decode cX9_goesTo 48 = .ok (.iadd, 1) := dk_96 (dk_at dksX9_goesTo_2 0 rfl rfl)
theorem dX9_goesTo_49 : decode cX9_goesTo 49 = .ok (.aload_n 0, 1) := dk_42 (dk_at dksX9_goesTo_2 1 rfl rfl)
theorem dX9_goesTo_50 : decode cX9_goesTo 50 = .ok (.getfield 19, 3) := dk_180 0 19 (dk_at dksX9_goesTo_2 2 rfl rfl)
theorem dX9_goesTo_53 : decode cX9_goesTo 53 = .ok (.iconst 0, 1) := dk_3 (dk_at dksX9_goesTo_2 5 rfl rfl)
theorem dX9_goesTo_54 : decode cX9_goesTo 54 = .ok (.iaload, 1) := dk_46 (dk_at dksX9_goesTo_2 6 rfl rfl)
theorem dX9_goesTo_55 : decode cX9_goesTo 55 = .ok (.irem, 1) := dk_112 (dk_at dksX9_goesTo_2 7 rfl rfl)
theorem dX9_goesTo_56 : decode cX9_goesTo 56 = .ok (.ireturn, 1) := dk_172 (dk_at dksX9_goesTo_2 8 rfl rfl)
theorem dX9_goesTo_57 : decode cX9_goesTo 57 = .ok (.iload 4, 2) := dk_21 4 (dk_at dksX9_goesTo_2 9 rfl rfl)
theorem dX9_goesTo_59 : decode cX9_goesTo 59 = .ok (.iconst 4, 1) := dk_7 (dk_at dksX9_goesTo_2 11 rfl rfl)
theorem dX9_goesTo_60 : decode cX9_goesTo 60 = .ok (.if_icmp .ge 41, 3) := dk_162 0 41 (dk_at dksX9_goesTo_2 12 rfl rfl)
theorem dX9_goesTo_63 : decode cX9_goesTo 63 = .ok (.aload_n 0, 1) := dk_42 (dk_at dksX9_goesTo_2 15 rfl rfl)
theorem dX9_goesTo_64 : decode cX9_goesTo 64 = .ok (.iload_n 1, 1) := dk_27 (dk_at dksX9_goesTo_2 16 rfl rfl)
theorem dX9_goesTo_65 : decode cX9_goesTo 65 = .ok (.invokevirtual 168, 3) := dk_182 0 168 (dk_at dksX9_goesTo_2 17 rfl rfl)
theorem dX9_goesTo_68 : decode cX9_goesTo 68 = .ok (.istore 5, 2) := dk_54 5 (dk_at dksX9_goesTo_2 20 rfl rfl)
theorem dX9_goesTo_70 : decode cX9_goesTo 70 = .ok (.iload 5, 2) := dk_21 5 (dk_at dksX9_goesTo_2 22 rfl rfl)
theorem dX9_goesTo_72 : decode cX9_goesTo 72 = .ok (.ifCond .lt 9, 3) := dk_155 0 9 (dk_at dksX9_goesTo_3 0 rfl rfl)
theorem dX9_goesTo_75 : decode cX9_goesTo 75 = .ok (.iload 5, 2) := dk_21 5 (dk_at dksX9_goesTo_3 3 rfl rfl)
theorem dX9_goesTo_77 : decode cX9_goesTo 77 = .ok (.iload_n 2, 1) := dk_28 (dk_at dksX9_goesTo_3 5 rfl rfl)
theorem dX9_goesTo_78 : decode cX9_goesTo 78 = .ok (.if_icmp .ne 7, 3) := dk_160 0 7 (dk_at dksX9_goesTo_3 6 rfl rfl)
theorem dX9_goesTo_81 : decode cX9_goesTo 81 = .ok (.iload_n 2, 1) := dk_28 (dk_at dksX9_goesTo_3 9 rfl rfl)
theorem dX9_goesTo_82 : decode cX9_goesTo 82 = .ok (.goto 18, 3) := dk_167 0 18 (dk_at dksX9_goesTo_3 10 rfl rfl)
theorem dX9_goesTo_85 : decode cX9_goesTo 85 = .ok (.iload 5, 2) := dk_21 5 (dk_at dksX9_goesTo_3 13 rfl rfl)
theorem dX9_goesTo_87 : decode cX9_goesTo 87 = .ok (.iload_n 2, 1) := dk_28 (dk_at dksX9_goesTo_3 15 rfl rfl)
theorem dX9_goesTo_88 : decode cX9_goesTo 88 = .ok (.if_icmp .le 9, 3) := dk_164 0 9 (dk_at dksX9_goesTo_3 16 rfl rfl)
theorem dX9_goesTo_91 : decode cX9_goesTo 91 = .ok (.iload_n 2, 1) := dk_28 (dk_at dksX9_goesTo_3 19 rfl rfl)
theorem dX9_goesTo_92 : decode cX9_goesTo 92 = .ok (.iconst 1, 1) := dk_4 (dk_at dksX9_goesTo_3 20 rfl rfl)
theorem dX9_goesTo_93 : decode cX9_goesTo 93 = .ok (.iadd, 1) := dk_96 (dk_at dksX9_goesTo_3 21 rfl rfl)
theorem dX9_goesTo_94 : decode cX9_goesTo 94 = .ok (.goto 6, 3) := dk_167 0 6 (dk_at dksX9_goesTo_4 0 rfl rfl)
theorem dX9_goesTo_97 : decode cX9_goesTo 97 = .ok (.iload_n 2, 1) := dk_28 (dk_at dksX9_goesTo_4 3 rfl rfl)
theorem dX9_goesTo_98 : decode cX9_goesTo 98 = .ok (.iconst 1, 1) := dk_4 (dk_at dksX9_goesTo_4 4 rfl rfl)
theorem dX9_goesTo_99 : decode cX9_goesTo 99 = .ok (.isub, 1) := dk_100 (dk_at dksX9_goesTo_4 5 rfl rfl)
theorem dX9_goesTo_100 : decode cX9_goesTo 100 = .ok (.ireturn, 1) := dk_172 (dk_at dksX9_goesTo_4 6 rfl rfl)
theorem dX9_goesTo_101 : decode cX9_goesTo 101 = .ok (.iload 4, 2) := dk_21 4 (dk_at dksX9_goesTo_4 7 rfl rfl)
theorem dX9_goesTo_103 : decode cX9_goesTo 103 = .ok (.iconst 4, 1) := dk_7 (dk_at dksX9_goesTo_4 9 rfl rfl)
theorem dX9_goesTo_104 : decode cX9_goesTo 104 = .ok (.if_icmp .eq 23, 3) := dk_159 0 23 (dk_at dksX9_goesTo_4 10 rfl rfl)
theorem dX9_goesTo_107 : decode cX9_goesTo 107 = .ok (.aload_n 0, 1) := dk_42 (dk_at dksX9_goesTo_4 13 rfl rfl)
theorem dX9_goesTo_108 : decode cX9_goesTo 108 = .ok (.iload_n 3, 1) := dk_29 (dk_at dksX9_goesTo_4 14 rfl rfl)
theorem dX9_goesTo_109 : decode cX9_goesTo 109 = .ok (.invokevirtual 165, 3) := dk_182 0 165 (dk_at dksX9_goesTo_4 15 rfl rfl)
theorem dX9_goesTo_112 : decode cX9_goesTo 112 = .ok (.ifCond .ne 15, 3) := dk_154 0 15 (dk_at dksX9_goesTo_4 18 rfl rfl)
theorem dX9_goesTo_115 : decode cX9_goesTo 115 = .ok (.aload_n 0, 1) := dk_42 (dk_at dksX9_goesTo_4 21 rfl rfl)
theorem dX9_goesTo_116 : decode cX9_goesTo 116 = .ok (.getfield 19, 3) := dk_180 0 19 (dk_at dksX9_goesTo_5 0 rfl rfl)
theorem dX9_goesTo_119 : decode cX9_goesTo 119 = .ok (.bipush 8, 2) := dk_16 8 (dk_at dksX9_goesTo_5 3 rfl rfl)
theorem dX9_goesTo_121 : decode cX9_goesTo 121 = .ok (.iload_n 3, 1) := dk_29 (dk_at dksX9_goesTo_5 5 rfl rfl)
theorem dX9_goesTo_122 : decode cX9_goesTo 122 = .ok (.iadd, 1) := dk_96 (dk_at dksX9_goesTo_5 6 rfl rfl)
theorem dX9_goesTo_123 : decode cX9_goesTo 123 = .ok (.iaload, 1) := dk_46 (dk_at dksX9_goesTo_5 7 rfl rfl)
theorem dX9_goesTo_124 : decode cX9_goesTo 124 = .ok (.ifCond .ne 16, 3) := dk_154 0 16 (dk_at dksX9_goesTo_5 8 rfl rfl)
theorem dX9_goesTo_127 : decode cX9_goesTo 127 = .ok (.iload_n 2, 1) := dk_28 (dk_at dksX9_goesTo_5 11 rfl rfl)
theorem dX9_goesTo_128 : decode cX9_goesTo 128 = .ok (.iconst 1, 1) := dk_4 (dk_at dksX9_goesTo_5 12 rfl rfl)
theorem dX9_goesTo_129 : decode cX9_goesTo 129 = .ok (.iadd, 1) := dk_96 (dk_at dksX9_goesTo_5 13 rfl rfl)
theorem dX9_goesTo_130 : decode cX9_goesTo 130 = .ok (.aload_n 0, 1) := dk_42 (dk_at dksX9_goesTo_5 14 rfl rfl)
theorem dX9_goesTo_131 : decode cX9_goesTo 131 = .ok (.getfield 19, 3) := dk_180 0 19 (dk_at dksX9_goesTo_5 15 rfl rfl)
theorem dX9_goesTo_134 : decode cX9_goesTo 134 = .ok (.iconst 0, 1) := dk_3 (dk_at dksX9_goesTo_5 18 rfl rfl)
theorem dX9_goesTo_135 : decode cX9_goesTo 135 = .ok (.iaload, 1) := dk_46 (dk_at dksX9_goesTo_5 19 rfl rfl)
theorem dX9_goesTo_136 : decode cX9_goesTo 136 = .ok (.irem, 1) := dk_112 (dk_at dksX9_goesTo_5 20 rfl rfl)
theorem dX9_goesTo_137 : decode cX9_goesTo 137 = .ok (.goto 4, 3) := dk_167 0 4 (dk_at dksX9_goesTo_5 21 rfl rfl)
theorem dX9_goesTo_140 : decode cX9_goesTo 140 = .ok (.iload_n 2, 1) := dk_28 (dk_at dksX9_goesTo_6 0 rfl rfl)
theorem dX9_goesTo_141 : decode cX9_goesTo 141 = .ok (.ireturn, 1) := dk_172 (dk_at dksX9_goesTo_6 1 rfl rfl)
abbrev cX9_bookAt : ByteArray := prog_16_method_28_code
def yX9_bookAt : MethodName := ⟨RX9, "bookAt", "(I)I"⟩
def dkwX9_bookAt_0 : List UInt8 := [3, 61, 42, 180, 0, 19, 16, 20, 28, 96, 46, 27, 159, 0, 9, 132, 2, 1, 167, 255, 240, 28, 172]
abbrev dktX9_bookAt_0 : List UInt8 := dkwX9_bookAt_0 ++ []
theorem dksX9_bookAt_0 : cX9_bookAt.data.toList.drop 0 = dktX9_bookAt_0 := by decide +kernel
theorem dX9_bookAt_0 : decode cX9_bookAt 0 = .ok (.iconst 0, 1) := dk_3 (dk_at dksX9_bookAt_0 0 rfl rfl)
theorem dX9_bookAt_1 : decode cX9_bookAt 1 = .ok (.istore_n 2, 1) := dk_61 (dk_at dksX9_bookAt_0 1 rfl rfl)
theorem dX9_bookAt_2 : decode cX9_bookAt 2 = .ok (.aload_n 0, 1) := dk_42 (dk_at dksX9_bookAt_0 2 rfl rfl)
theorem dX9_bookAt_3 : decode cX9_bookAt 3 = .ok (.getfield 19, 3) := dk_180 0 19 (dk_at dksX9_bookAt_0 3 rfl rfl)
theorem dX9_bookAt_6 : decode cX9_bookAt 6 = .ok (.bipush 20, 2) := dk_16 20 (dk_at dksX9_bookAt_0 6 rfl rfl)
theorem dX9_bookAt_8 : decode cX9_bookAt 8 = .ok (.iload_n 2, 1) := dk_28 (dk_at dksX9_bookAt_0 8 rfl rfl)
theorem dX9_bookAt_9 : decode cX9_bookAt 9 = .ok (.iadd, 1) := dk_96 (dk_at dksX9_bookAt_0 9 rfl rfl)
theorem dX9_bookAt_10 : decode cX9_bookAt 10 = .ok (.iaload, 1) := dk_46 (dk_at dksX9_bookAt_0 10 rfl rfl)
theorem dX9_bookAt_11 : decode cX9_bookAt 11 = .ok (.iload_n 1, 1) := dk_27 (dk_at dksX9_bookAt_0 11 rfl rfl)
theorem dX9_bookAt_12 : decode cX9_bookAt 12 = .ok (.if_icmp .eq 9, 3) := dk_159 0 9 (dk_at dksX9_bookAt_0 12 rfl rfl)
theorem dX9_bookAt_15 : decode cX9_bookAt 15 = .ok (.iinc 2 1, 3) := dk_132 2 1 (dk_at dksX9_bookAt_0 15 rfl rfl)
theorem dX9_bookAt_18 : decode cX9_bookAt 18 = .ok (.goto (-16), 3) := dk_167 255 240 (dk_at dksX9_bookAt_0 18 rfl rfl)
theorem dX9_bookAt_21 : decode cX9_bookAt 21 = .ok (.iload_n 2, 1) := dk_28 (dk_at dksX9_bookAt_0 21 rfl rfl)
theorem dX9_bookAt_22 : decode cX9_bookAt 22 = .ok (.ireturn, 1) := dk_172 (dk_at dksX9_bookAt_0 22 rfl rfl)
abbrev cX9_likedBy : ByteArray := prog_16_method_31_code
def yX9_likedBy : MethodName := ⟨RX9, "likedBy", "(I)I"⟩
def dkwX9_likedBy_3 : List UInt8 := [28, 155, 0, 9, 21, 6, 29, 164, 0, 9, 21, 4, 61, 21, 6, 62, 132, 4, 1, 167, 255, 174, 28, 172]
abbrev dktX9_likedBy_3 : List UInt8 := dkwX9_likedBy_3 ++ []
def dkwX9_likedBy_2 : List UInt8 := [54, 6, 42, 21, 5, 182, 0, 165, 154, 0, 32, 42, 180, 0, 19, 16, 8, 21, 5, 96, 46, 158, 0, 19]
abbrev dktX9_likedBy_2 : List UInt8 := dkwX9_likedBy_2 ++ dktX9_likedBy_3
def dkwX9_likedBy_1 : List UInt8 := [16, 26, 27, 96, 46, 7, 162, 0, 64, 42, 21, 4, 182, 0, 159, 54, 5, 42, 27, 21, 5, 182, 0, 162]
abbrev dktX9_likedBy_1 : List UInt8 := dkwX9_likedBy_1 ++ dktX9_likedBy_2
def dkwX9_likedBy_0 : List UInt8 := [18, 158, 61, 3, 62, 3, 54, 4, 21, 4, 42, 180, 0, 19, 3, 46, 162, 0, 77, 42, 180, 0, 19]
abbrev dktX9_likedBy_0 : List UInt8 := dkwX9_likedBy_0 ++ dktX9_likedBy_1
theorem dksX9_likedBy_0 : cX9_likedBy.data.toList.drop 0 = dktX9_likedBy_0 := by decide +kernel
theorem dksX9_likedBy_1 : cX9_likedBy.data.toList.drop 23 = dktX9_likedBy_1 := dk_seg dksX9_likedBy_0 23 rfl rfl
theorem dksX9_likedBy_2 : cX9_likedBy.data.toList.drop 47 = dktX9_likedBy_2 := dk_seg dksX9_likedBy_1 24 rfl rfl
theorem dksX9_likedBy_3 : cX9_likedBy.data.toList.drop 71 = dktX9_likedBy_3 := dk_seg dksX9_likedBy_2 24 rfl rfl
theorem dX9_likedBy_0 : decode cX9_likedBy 0 = .ok (.ldc 158, 2) := dk_18 158 (dk_at dksX9_likedBy_0 0 rfl rfl)
theorem dX9_likedBy_2 : decode cX9_likedBy 2 = .ok (.istore_n 2, 1) := dk_61 (dk_at dksX9_likedBy_0 2 rfl rfl)
theorem dX9_likedBy_3 : decode cX9_likedBy 3 = .ok (.iconst 0, 1) := dk_3 (dk_at dksX9_likedBy_0 3 rfl rfl)
theorem dX9_likedBy_4 : decode cX9_likedBy 4 = .ok (.istore_n 3, 1) := dk_62 (dk_at dksX9_likedBy_0 4 rfl rfl)
theorem dX9_likedBy_5 : decode cX9_likedBy 5 = .ok (.iconst 0, 1) := dk_3 (dk_at dksX9_likedBy_0 5 rfl rfl)
theorem dX9_likedBy_6 : decode cX9_likedBy 6 = .ok (.istore 4, 2) := dk_54 4 (dk_at dksX9_likedBy_0 6 rfl rfl)
theorem dX9_likedBy_8 : decode cX9_likedBy 8 = .ok (.iload 4, 2) := dk_21 4 (dk_at dksX9_likedBy_0 8 rfl rfl)
theorem dX9_likedBy_10 : decode cX9_likedBy 10 = .ok (.aload_n 0, 1) := dk_42 (dk_at dksX9_likedBy_0 10 rfl rfl)
theorem dX9_likedBy_11 : decode cX9_likedBy 11 = .ok (.getfield 19, 3) := dk_180 0 19 (dk_at dksX9_likedBy_0 11 rfl rfl)
theorem dX9_likedBy_14 : decode cX9_likedBy 14 = .ok (.iconst 0, 1) := dk_3 (dk_at dksX9_likedBy_0 14 rfl rfl)
theorem dX9_likedBy_15 : decode cX9_likedBy 15 = .ok (.iaload, 1) := dk_46 (dk_at dksX9_likedBy_0 15 rfl rfl)
theorem dX9_likedBy_16 : decode cX9_likedBy 16 = .ok (.if_icmp .ge 77, 3) := dk_162 0 77 (dk_at dksX9_likedBy_0 16 rfl rfl)
theorem dX9_likedBy_19 : decode cX9_likedBy 19 = .ok (.aload_n 0, 1) := dk_42 (dk_at dksX9_likedBy_0 19 rfl rfl)
theorem dX9_likedBy_20 : decode cX9_likedBy 20 = .ok (.getfield 19, 3) := dk_180 0 19 (dk_at dksX9_likedBy_0 20 rfl rfl)
theorem dX9_likedBy_23 : decode cX9_likedBy 23 = .ok (.bipush 26, 2) := dk_16 26 (dk_at dksX9_likedBy_1 0 rfl rfl)
theorem dX9_likedBy_25 : decode cX9_likedBy 25 = .ok (.iload_n 1, 1) := dk_27 (dk_at dksX9_likedBy_1 2 rfl rfl)
theorem dX9_likedBy_26 : decode cX9_likedBy 26 = .ok (.iadd, 1) := dk_96 (dk_at dksX9_likedBy_1 3 rfl rfl)
theorem dX9_likedBy_27 : decode cX9_likedBy 27 = .ok (.iaload, 1) := dk_46 (dk_at dksX9_likedBy_1 4 rfl rfl)
theorem dX9_likedBy_28 : decode cX9_likedBy 28 = .ok (.iconst 4, 1) := dk_7 (dk_at dksX9_likedBy_1 5 rfl rfl)
theorem dX9_likedBy_29 : decode cX9_likedBy 29 = .ok (.if_icmp .ge 64, 3) := dk_162 0 64 (dk_at dksX9_likedBy_1 6 rfl rfl)
theorem dX9_likedBy_32 : decode cX9_likedBy 32 = .ok (.aload_n 0, 1) := dk_42 (dk_at dksX9_likedBy_1 9 rfl rfl)
theorem dX9_likedBy_33 : decode cX9_likedBy 33 = .ok (.iload 4, 2) := dk_21 4 (dk_at dksX9_likedBy_1 10 rfl rfl)
theorem dX9_likedBy_35 : decode cX9_likedBy 35 = .ok (.invokevirtual 159, 3) := dk_182 0 159 (dk_at dksX9_likedBy_1 12 rfl rfl)
theorem dX9_likedBy_38 : decode cX9_likedBy 38 = .ok (.istore 5, 2) := dk_54 5 (dk_at dksX9_likedBy_1 15 rfl rfl)
theorem dX9_likedBy_40 : decode cX9_likedBy 40 = .ok (.aload_n 0, 1) := dk_42 (dk_at dksX9_likedBy_1 17 rfl rfl)
theorem dX9_likedBy_41 : decode cX9_likedBy 41 = .ok (.iload_n 1, 1) := dk_27 (dk_at dksX9_likedBy_1 18 rfl rfl)
theorem dX9_likedBy_42 : decode cX9_likedBy 42 = .ok (.iload 5, 2) := dk_21 5 (dk_at dksX9_likedBy_1 19 rfl rfl)
theorem dX9_likedBy_44 : decode cX9_likedBy 44 = .ok (.invokevirtual 162, 3) := dk_182 0 162 (dk_at dksX9_likedBy_1 21 rfl rfl)
theorem dX9_likedBy_47 : decode cX9_likedBy 47 = .ok (.istore 6, 2) := dk_54 6 (dk_at dksX9_likedBy_2 0 rfl rfl)
theorem dX9_likedBy_49 : decode cX9_likedBy 49 = .ok (.aload_n 0, 1) := dk_42 (dk_at dksX9_likedBy_2 2 rfl rfl)
theorem dX9_likedBy_50 : decode cX9_likedBy 50 = .ok (.iload 5, 2) := dk_21 5 (dk_at dksX9_likedBy_2 3 rfl rfl)
theorem dX9_likedBy_52 : decode cX9_likedBy 52 = .ok (.invokevirtual 165, 3) := dk_182 0 165 (dk_at dksX9_likedBy_2 5 rfl rfl)
theorem dX9_likedBy_55 : decode cX9_likedBy 55 = .ok (.ifCond .ne 32, 3) := dk_154 0 32 (dk_at dksX9_likedBy_2 8 rfl rfl)
theorem dX9_likedBy_58 : decode cX9_likedBy 58 = .ok (.aload_n 0, 1) := dk_42 (dk_at dksX9_likedBy_2 11 rfl rfl)
theorem dX9_likedBy_59 : decode cX9_likedBy 59 = .ok (.getfield 19, 3) := dk_180 0 19 (dk_at dksX9_likedBy_2 12 rfl rfl)
theorem dX9_likedBy_62 : decode cX9_likedBy 62 = .ok (.bipush 8, 2) := dk_16 8 (dk_at dksX9_likedBy_2 15 rfl rfl)
theorem dX9_likedBy_64 : decode cX9_likedBy 64 = .ok (.iload 5, 2) := dk_21 5 (dk_at dksX9_likedBy_2 17 rfl rfl)
theorem dX9_likedBy_66 : decode cX9_likedBy 66 = .ok (.iadd, 1) := dk_96 (dk_at dksX9_likedBy_2 19 rfl rfl)
theorem dX9_likedBy_67 : decode cX9_likedBy 67 = .ok (.iaload, 1) := dk_46 (dk_at dksX9_likedBy_2 20 rfl rfl)
theorem dX9_likedBy_68 : decode cX9_likedBy 68 = .ok (.ifCond .le 19, 3) := dk_158 0 19 (dk_at dksX9_likedBy_2 21 rfl rfl)
theorem dX9_likedBy_71 : decode cX9_likedBy 71 = .ok (.iload_n 2, 1) := dk_28 (dk_at dksX9_likedBy_3 0 rfl rfl)
theorem dX9_likedBy_72 : decode cX9_likedBy 72 = .ok (.ifCond .lt 9, 3) := dk_155 0 9 (dk_at dksX9_likedBy_3 1 rfl rfl)
theorem dX9_likedBy_75 : decode cX9_likedBy 75 = .ok (.iload 6, 2) := dk_21 6 (dk_at dksX9_likedBy_3 4 rfl rfl)
theorem dX9_likedBy_77 : decode cX9_likedBy 77 = .ok (.iload_n 3, 1) := dk_29 (dk_at dksX9_likedBy_3 6 rfl rfl)
theorem dX9_likedBy_78 : decode cX9_likedBy 78 = .ok (.if_icmp .le 9, 3) := dk_164 0 9 (dk_at dksX9_likedBy_3 7 rfl rfl)
theorem dX9_likedBy_81 : decode cX9_likedBy 81 = .ok (.iload 4, 2) := dk_21 4 (dk_at dksX9_likedBy_3 10 rfl rfl)
theorem dX9_likedBy_83 : decode cX9_likedBy 83 = .ok (.istore_n 2, 1) := dk_61 (dk_at dksX9_likedBy_3 12 rfl rfl)
theorem dX9_likedBy_84 : decode cX9_likedBy 84 = .ok (.iload 6, 2) := dk_21 6 (dk_at dksX9_likedBy_3 13 rfl rfl)
theorem dX9_likedBy_86 : decode cX9_likedBy 86 = .ok (.istore_n 3, 1) := dk_62 (dk_at dksX9_likedBy_3 15 rfl rfl)
theorem dX9_likedBy_87 : decode cX9_likedBy 87 = .ok (.iinc 4 1, 3) := dk_132 4 1 (dk_at dksX9_likedBy_3 16 rfl rfl)
theorem dX9_likedBy_90 : decode cX9_likedBy 90 = .ok (.goto (-82), 3) := dk_167 255 174 (dk_at dksX9_likedBy_3 19 rfl rfl)
theorem dX9_likedBy_93 : decode cX9_likedBy 93 = .ok (.iload_n 2, 1) := dk_28 (dk_at dksX9_likedBy_3 22 rfl rfl)
theorem dX9_likedBy_94 : decode cX9_likedBy 94 = .ok (.ireturn, 1) := dk_172 (dk_at dksX9_likedBy_3 23 rfl rfl)
abbrev cX9_likes : ByteArray := prog_16_method_30_code
def yX9_likes : MethodName := ⟨RX9, "likes", "(II)I"⟩
def dkwX9_likes_3 : List UInt8 := [96, 29, 156, 0, 8, 29, 116, 167, 0, 4, 29, 100, 172]
abbrev dktX9_likes_3 : List UInt8 := dkwX9_likes_3 ++ []
def dkwX9_likes_2 : List UInt8 := [180, 0, 19, 16, 14, 28, 96, 46, 54, 4, 21, 4, 42, 180, 0, 19, 16, 8, 28, 96, 46, 16, 10, 108]
abbrev dktX9_likes_2 : List UInt8 := dkwX9_likes_2 ++ dktX9_likes_3
def dkwX9_likes_1 : List UInt8 := [16, 26, 27, 96, 46, 5, 160, 0, 17, 5, 42, 180, 0, 19, 16, 14, 28, 96, 46, 104, 167, 0, 12, 42]
abbrev dktX9_likes_1 : List UInt8 := dkwX9_likes_1 ++ dktX9_likes_2
def dkwX9_likes_0 : List UInt8 := [42, 180, 0, 19, 16, 20, 28, 96, 46, 42, 180, 0, 19, 16, 31, 27, 96, 46, 100, 62, 42, 180, 0, 19]
abbrev dktX9_likes_0 : List UInt8 := dkwX9_likes_0 ++ dktX9_likes_1
theorem dksX9_likes_0 : cX9_likes.data.toList.drop 0 = dktX9_likes_0 := by decide +kernel
theorem dksX9_likes_1 : cX9_likes.data.toList.drop 24 = dktX9_likes_1 := dk_seg dksX9_likes_0 24 rfl rfl
theorem dksX9_likes_2 : cX9_likes.data.toList.drop 48 = dktX9_likes_2 := dk_seg dksX9_likes_1 24 rfl rfl
theorem dksX9_likes_3 : cX9_likes.data.toList.drop 72 = dktX9_likes_3 := dk_seg dksX9_likes_2 24 rfl rfl
theorem dX9_likes_0 : decode cX9_likes 0 = .ok (.aload_n 0, 1) := dk_42 (dk_at dksX9_likes_0 0 rfl rfl)
theorem dX9_likes_1 : decode cX9_likes 1 = .ok (.getfield 19, 3) := dk_180 0 19 (dk_at dksX9_likes_0 1 rfl rfl)
theorem dX9_likes_4 : decode cX9_likes 4 = .ok (.bipush 20, 2) := dk_16 20 (dk_at dksX9_likes_0 4 rfl rfl)
theorem dX9_likes_6 : decode cX9_likes 6 = .ok (.iload_n 2, 1) := dk_28 (dk_at dksX9_likes_0 6 rfl rfl)
theorem dX9_likes_7 : decode cX9_likes 7 = .ok (.iadd, 1) := dk_96 (dk_at dksX9_likes_0 7 rfl rfl)
theorem dX9_likes_8 : decode cX9_likes 8 = .ok (.iaload, 1) := dk_46 (dk_at dksX9_likes_0 8 rfl rfl)
theorem dX9_likes_9 : decode cX9_likes 9 = .ok (.aload_n 0, 1) := dk_42 (dk_at dksX9_likes_0 9 rfl rfl)
theorem dX9_likes_10 : decode cX9_likes 10 = .ok (.getfield 19, 3) := dk_180 0 19 (dk_at dksX9_likes_0 10 rfl rfl)
theorem dX9_likes_13 : decode cX9_likes 13 = .ok (.bipush 31, 2) := dk_16 31 (dk_at dksX9_likes_0 13 rfl rfl)
theorem dX9_likes_15 : decode cX9_likes 15 = .ok (.iload_n 1, 1) := dk_27 (dk_at dksX9_likes_0 15 rfl rfl)
theorem dX9_likes_16 : decode cX9_likes 16 = .ok (.iadd, 1) := dk_96 (dk_at dksX9_likes_0 16 rfl rfl)
theorem dX9_likes_17 : decode cX9_likes 17 = .ok (.iaload, 1) := dk_46 (dk_at dksX9_likes_0 17 rfl rfl)
theorem dX9_likes_18 : decode cX9_likes 18 = .ok (.isub, 1) := dk_100 (dk_at dksX9_likes_0 18 rfl rfl)
theorem dX9_likes_19 : decode cX9_likes 19 = .ok (.istore_n 3, 1) := dk_62 (dk_at dksX9_likes_0 19 rfl rfl)
theorem dX9_likes_20 : decode cX9_likes 20 = .ok (.aload_n 0, 1) := dk_42 (dk_at dksX9_likes_0 20 rfl rfl)
theorem dX9_likes_21 : decode cX9_likes 21 = .ok (.getfield 19, 3) := dk_180 0 19 (dk_at dksX9_likes_0 21 rfl rfl)
theorem dX9_likes_24 : decode cX9_likes 24 = .ok (.bipush 26, 2) := dk_16 26 (dk_at dksX9_likes_1 0 rfl rfl)
theorem dX9_likes_26 : decode cX9_likes 26 = .ok (.iload_n 1, 1) := dk_27 (dk_at dksX9_likes_1 2 rfl rfl)
theorem dX9_likes_27 : decode cX9_likes 27 = .ok (.iadd, 1) := dk_96 (dk_at dksX9_likes_1 3 rfl rfl)
theorem dX9_likes_28 : decode cX9_likes 28 = .ok (.iaload, 1) := dk_46 (dk_at dksX9_likes_1 4 rfl rfl)
theorem dX9_likes_29 : decode cX9_likes 29 = .ok (.iconst 2, 1) := dk_5 (dk_at dksX9_likes_1 5 rfl rfl)
theorem dX9_likes_30 : decode cX9_likes 30 = .ok (.if_icmp .ne 17, 3) := dk_160 0 17 (dk_at dksX9_likes_1 6 rfl rfl)
theorem dX9_likes_33 : decode cX9_likes 33 = .ok (.iconst 2, 1) := dk_5 (dk_at dksX9_likes_1 9 rfl rfl)
theorem dX9_likes_34 : decode cX9_likes 34 = .ok (.aload_n 0, 1) := dk_42 (dk_at dksX9_likes_1 10 rfl rfl)
theorem dX9_likes_35 : decode cX9_likes 35 = .ok (.getfield 19, 3) := dk_180 0 19 (dk_at dksX9_likes_1 11 rfl rfl)
theorem dX9_likes_38 : decode cX9_likes 38 = .ok (.bipush 14, 2) := dk_16 14 (dk_at dksX9_likes_1 14 rfl rfl)
theorem dX9_likes_40 : decode cX9_likes 40 = .ok (.iload_n 2, 1) := dk_28 (dk_at dksX9_likes_1 16 rfl rfl)
theorem dX9_likes_41 : decode cX9_likes 41 = .ok (.iadd, 1) := dk_96 (dk_at dksX9_likes_1 17 rfl rfl)
theorem dX9_likes_42 : decode cX9_likes 42 = .ok (.iaload, 1) := dk_46 (dk_at dksX9_likes_1 18 rfl rfl)
theorem dX9_likes_43 : decode cX9_likes 43 = .ok (.imul, 1) := dk_104 (dk_at dksX9_likes_1 19 rfl rfl)
theorem dX9_likes_44 : decode cX9_likes 44 = .ok (.goto 12, 3) := dk_167 0 12 (dk_at dksX9_likes_1 20 rfl rfl)
theorem dX9_likes_47 : decode cX9_likes 47 = .ok (.aload_n 0, 1) := dk_42 (dk_at dksX9_likes_1 23 rfl rfl)
theorem dX9_likes_48 : decode cX9_likes 48 = .ok (.getfield 19, 3) := dk_180 0 19 (dk_at dksX9_likes_2 0 rfl rfl)
theorem dX9_likes_51 : decode cX9_likes 51 = .ok (.bipush 14, 2) := dk_16 14 (dk_at dksX9_likes_2 3 rfl rfl)
theorem dX9_likes_53 : decode cX9_likes 53 = .ok (.iload_n 2, 1) := dk_28 (dk_at dksX9_likes_2 5 rfl rfl)
theorem dX9_likes_54 : decode cX9_likes 54 = .ok (.iadd, 1) := dk_96 (dk_at dksX9_likes_2 6 rfl rfl)
theorem dX9_likes_55 : decode cX9_likes 55 = .ok (.iaload, 1) := dk_46 (dk_at dksX9_likes_2 7 rfl rfl)
theorem dX9_likes_56 : decode cX9_likes 56 = .ok (.istore 4, 2) := dk_54 4 (dk_at dksX9_likes_2 8 rfl rfl)
theorem dX9_likes_58 : decode cX9_likes 58 = .ok (.iload 4, 2) := dk_21 4 (dk_at dksX9_likes_2 10 rfl rfl)
theorem dX9_likes_60 : decode cX9_likes 60 = .ok (.aload_n 0, 1) := dk_42 (dk_at dksX9_likes_2 12 rfl rfl)
theorem dX9_likes_61 : decode cX9_likes 61 = .ok (.getfield 19, 3) := dk_180 0 19 (dk_at dksX9_likes_2 13 rfl rfl)
theorem dX9_likes_64 : decode cX9_likes 64 = .ok (.bipush 8, 2) := dk_16 8 (dk_at dksX9_likes_2 16 rfl rfl)
theorem dX9_likes_66 : decode cX9_likes 66 = .ok (.iload_n 2, 1) := dk_28 (dk_at dksX9_likes_2 18 rfl rfl)
theorem dX9_likes_67 : decode cX9_likes 67 = .ok (.iadd, 1) := dk_96 (dk_at dksX9_likes_2 19 rfl rfl)
theorem dX9_likes_68 : decode cX9_likes 68 = .ok (.iaload, 1) := dk_46 (dk_at dksX9_likes_2 20 rfl rfl)
theorem dX9_likes_69 : decode cX9_likes 69 = .ok (.bipush 10, 2) := dk_16 10 (dk_at dksX9_likes_2 21 rfl rfl)
theorem dX9_likes_71 : decode cX9_likes 71 = .ok (.idiv, 1) := dk_108 (dk_at dksX9_likes_2 23 rfl rfl)
theorem dX9_likes_72 : decode cX9_likes 72 = .ok (.iadd, 1) := dk_96 (dk_at dksX9_likes_3 0 rfl rfl)
theorem dX9_likes_73 : decode cX9_likes 73 = .ok (.iload_n 3, 1) := dk_29 (dk_at dksX9_likes_3 1 rfl rfl)
theorem dX9_likes_74 : decode cX9_likes 74 = .ok (.ifCond .ge 8, 3) := dk_156 0 8 (dk_at dksX9_likes_3 2 rfl rfl)
theorem dX9_likes_77 : decode cX9_likes 77 = .ok (.iload_n 3, 1) := dk_29 (dk_at dksX9_likes_3 5 rfl rfl)
theorem dX9_likes_78 : decode cX9_likes 78 = .ok (.ineg, 1) := dk_116 (dk_at dksX9_likes_3 6 rfl rfl)
theorem dX9_likes_79 : decode cX9_likes 79 = .ok (.goto 4, 3) := dk_167 0 4 (dk_at dksX9_likes_3 7 rfl rfl)
theorem dX9_likes_82 : decode cX9_likes 82 = .ok (.iload_n 3, 1) := dk_29 (dk_at dksX9_likes_3 10 rfl rfl)
theorem dX9_likes_83 : decode cX9_likes 83 = .ok (.isub, 1) := dk_100 (dk_at dksX9_likes_3 11 rfl rfl)
theorem dX9_likes_84 : decode cX9_likes 84 = .ok (.ireturn, 1) := dk_172 (dk_at dksX9_likes_3 12 rfl rfl)
abbrev cX9_isShut : ByteArray := prog_16_method_29_code
def yX9_isShut : MethodName := ⟨RX9, "isShut", "(I)Z"⟩
def dkwX9_isShut_0 : List UInt8 := [42, 180, 0, 19, 8, 46, 42, 180, 0, 19, 16, 6, 46, 128, 27, 184, 0, 154, 172]
abbrev dktX9_isShut_0 : List UInt8 := dkwX9_isShut_0 ++ []
theorem dksX9_isShut_0 : cX9_isShut.data.toList.drop 0 = dktX9_isShut_0 := by decide +kernel
theorem dX9_isShut_0 : decode cX9_isShut 0 = .ok (.aload_n 0, 1) := dk_42 (dk_at dksX9_isShut_0 0 rfl rfl)
theorem dX9_isShut_1 : decode cX9_isShut 1 = .ok (.getfield 19, 3) := dk_180 0 19 (dk_at dksX9_isShut_0 1 rfl rfl)
theorem dX9_isShut_4 : decode cX9_isShut 4 = .ok (.iconst 5, 1) := dk_8 (dk_at dksX9_isShut_0 4 rfl rfl)
theorem dX9_isShut_5 : decode cX9_isShut 5 = .ok (.iaload, 1) := dk_46 (dk_at dksX9_isShut_0 5 rfl rfl)
theorem dX9_isShut_6 : decode cX9_isShut 6 = .ok (.aload_n 0, 1) := dk_42 (dk_at dksX9_isShut_0 6 rfl rfl)
theorem dX9_isShut_7 : decode cX9_isShut 7 = .ok (.getfield 19, 3) := dk_180 0 19 (dk_at dksX9_isShut_0 7 rfl rfl)
theorem dX9_isShut_10 : decode cX9_isShut 10 = .ok (.bipush 6, 2) := dk_16 6 (dk_at dksX9_isShut_0 10 rfl rfl)
theorem dX9_isShut_12 : decode cX9_isShut 12 = .ok (.iaload, 1) := dk_46 (dk_at dksX9_isShut_0 12 rfl rfl)
theorem dX9_isShut_13 : decode cX9_isShut 13 = .ok (.ior, 1) := dk_128 (dk_at dksX9_isShut_0 13 rfl rfl)
theorem dX9_isShut_14 : decode cX9_isShut 14 = .ok (.iload_n 1, 1) := dk_27 (dk_at dksX9_isShut_0 14 rfl rfl)
theorem dX9_isShut_15 : decode cX9_isShut 15 = .ok (.invokestatic 154, 3) := dk_184 0 154 (dk_at dksX9_isShut_0 15 rfl rfl)
theorem dX9_isShut_18 : decode cX9_isShut 18 = .ok (.ireturn, 1) := dk_172 (dk_at dksX9_isShut_0 18 rfl rfl)
abbrev cX9_eats : ByteArray := prog_16_method_33_code
def yX9_eats : MethodName := ⟨RX9, "eats", "(I)V"⟩
def dkwX9_eats_5 : List UInt8 := [96, 79, 42, 180, 0, 31, 27, 92, 46, 29, 158, 0, 9, 4, 28, 120, 167, 0, 4, 3, 128, 79, 177]
abbrev dktX9_eats_5 : List UInt8 := dkwX9_eats_5 ++ []
def dkwX9_eats_4 : List UInt8 := [29, 96, 17, 3, 231, 164, 0, 9, 17, 3, 231, 167, 0, 14, 42, 180, 0, 19, 16, 36, 27, 96, 46, 29]
abbrev dktX9_eats_4 : List UInt8 := dkwX9_eats_4 ++ dktX9_eats_5
def dkwX9_eats_3 : List UInt8 := [28, 96, 92, 46, 29, 100, 79, 42, 180, 0, 19, 16, 36, 27, 96, 42, 180, 0, 19, 16, 36, 27, 96, 46]
abbrev dktX9_eats_3 : List UInt8 := dkwX9_eats_3 ++ dktX9_eats_4
def dkwX9_eats_2 : List UInt8 := [180, 0, 19, 16, 8, 28, 96, 46, 167, 0, 9, 42, 180, 0, 19, 5, 46, 62, 42, 180, 0, 19, 16, 8]
abbrev dktX9_eats_2 : List UInt8 := dkwX9_eats_2 ++ dktX9_eats_3
def dkwX9_eats_1 : List UInt8 := [167, 0, 39, 42, 180, 0, 19, 16, 8, 28, 96, 46, 42, 180, 0, 19, 5, 46, 162, 0, 15, 42]
abbrev dktX9_eats_1 : List UInt8 := dkwX9_eats_1 ++ dktX9_eats_2
def dkwX9_eats_0 : List UInt8 := [42, 42, 180, 0, 19, 16, 31, 27, 96, 46, 182, 0, 159, 61, 42, 28, 182, 0, 165, 153, 0, 7, 3]
abbrev dktX9_eats_0 : List UInt8 := dkwX9_eats_0 ++ dktX9_eats_1
theorem dksX9_eats_0 : cX9_eats.data.toList.drop 0 = dktX9_eats_0 := by decide +kernel
theorem dksX9_eats_1 : cX9_eats.data.toList.drop 23 = dktX9_eats_1 := dk_seg dksX9_eats_0 23 rfl rfl
theorem dksX9_eats_2 : cX9_eats.data.toList.drop 45 = dktX9_eats_2 := dk_seg dksX9_eats_1 22 rfl rfl
theorem dksX9_eats_3 : cX9_eats.data.toList.drop 69 = dktX9_eats_3 := dk_seg dksX9_eats_2 24 rfl rfl
theorem dksX9_eats_4 : cX9_eats.data.toList.drop 93 = dktX9_eats_4 := dk_seg dksX9_eats_3 24 rfl rfl
theorem dksX9_eats_5 : cX9_eats.data.toList.drop 117 = dktX9_eats_5 := dk_seg dksX9_eats_4 24 rfl rfl
theorem dX9_eats_0 : decode cX9_eats 0 = .ok (.aload_n 0, 1) := dk_42 (dk_at dksX9_eats_0 0 rfl rfl)
theorem dX9_eats_1 : decode cX9_eats 1 = .ok (.aload_n 0, 1) := dk_42 (dk_at dksX9_eats_0 1 rfl rfl)
theorem dX9_eats_2 : decode cX9_eats 2 = .ok (.getfield 19, 3) := dk_180 0 19 (dk_at dksX9_eats_0 2 rfl rfl)
theorem dX9_eats_5 : decode cX9_eats 5 = .ok (.bipush 31, 2) := dk_16 31 (dk_at dksX9_eats_0 5 rfl rfl)
theorem dX9_eats_7 : decode cX9_eats 7 = .ok (.iload_n 1, 1) := dk_27 (dk_at dksX9_eats_0 7 rfl rfl)
theorem dX9_eats_8 : decode cX9_eats 8 = .ok (.iadd, 1) := dk_96 (dk_at dksX9_eats_0 8 rfl rfl)
theorem dX9_eats_9 : decode cX9_eats 9 = .ok (.iaload, 1) := dk_46 (dk_at dksX9_eats_0 9 rfl rfl)
theorem dX9_eats_10 : decode cX9_eats 10 = .ok (.invokevirtual 159, 3) := dk_182 0 159 (dk_at dksX9_eats_0 10 rfl rfl)
theorem dX9_eats_13 : decode cX9_eats 13 = .ok (.istore_n 2, 1) := dk_61 (dk_at dksX9_eats_0 13 rfl rfl)
theorem dX9_eats_14 : decode cX9_eats 14 = .ok (.aload_n 0, 1) := dk_42 (dk_at dksX9_eats_0 14 rfl rfl)
theorem dX9_eats_15 : decode cX9_eats 15 = .ok (.iload_n 2, 1) := dk_28 (dk_at dksX9_eats_0 15 rfl rfl)
theorem dX9_eats_16 : decode cX9_eats 16 = .ok (.invokevirtual 165, 3) := dk_182 0 165 (dk_at dksX9_eats_0 16 rfl rfl)
theorem dX9_eats_19 : decode cX9_eats 19 = .ok (.ifCond .eq 7, 3) := dk_153 0 7 (dk_at dksX9_eats_0 19 rfl rfl)
theorem dX9_eats_22 : decode cX9_eats 22 = .ok (.iconst 0, 1) := dk_3 (dk_at dksX9_eats_0 22 rfl rfl)
theorem dX9_eats_23 : decode cX9_eats 23 = .ok (.goto 39, 3) := dk_167 0 39 (dk_at dksX9_eats_1 0 rfl rfl)
theorem dX9_eats_26 : decode cX9_eats 26 = .ok (.aload_n 0, 1) := dk_42 (dk_at dksX9_eats_1 3 rfl rfl)
theorem dX9_eats_27 : decode cX9_eats 27 = .ok (.getfield 19, 3) := dk_180 0 19 (dk_at dksX9_eats_1 4 rfl rfl)
theorem dX9_eats_30 : decode cX9_eats 30 = .ok (.bipush 8, 2) := dk_16 8 (dk_at dksX9_eats_1 7 rfl rfl)
theorem dX9_eats_32 : decode cX9_eats 32 = .ok (.iload_n 2, 1) := dk_28 (dk_at dksX9_eats_1 9 rfl rfl)
theorem dX9_eats_33 : decode cX9_eats 33 = .ok (.iadd, 1) := dk_96 (dk_at dksX9_eats_1 10 rfl rfl)
theorem dX9_eats_34 : decode cX9_eats 34 = .ok (.iaload, 1) := dk_46 (dk_at dksX9_eats_1 11 rfl rfl)
theorem dX9_eats_35 : decode cX9_eats 35 = .ok (.aload_n 0, 1) := dk_42 (dk_at dksX9_eats_1 12 rfl rfl)
theorem dX9_eats_36 : decode cX9_eats 36 = .ok (.getfield 19, 3) := dk_180 0 19 (dk_at dksX9_eats_1 13 rfl rfl)
theorem dX9_eats_39 : decode cX9_eats 39 = .ok (.iconst 2, 1) := dk_5 (dk_at dksX9_eats_1 16 rfl rfl)
theorem dX9_eats_40 : decode cX9_eats 40 = .ok (.iaload, 1) := dk_46 (dk_at dksX9_eats_1 17 rfl rfl)
theorem dX9_eats_41 : decode cX9_eats 41 = .ok (.if_icmp .ge 15, 3) := dk_162 0 15 (dk_at dksX9_eats_1 18 rfl rfl)
theorem dX9_eats_44 : decode cX9_eats 44 = .ok (.aload_n 0, 1) := dk_42 (dk_at dksX9_eats_1 21 rfl rfl)
theorem dX9_eats_45 : decode cX9_eats 45 = .ok (.getfield 19, 3) := dk_180 0 19 (dk_at dksX9_eats_2 0 rfl rfl)
theorem dX9_eats_48 : decode cX9_eats 48 = .ok (.bipush 8, 2) := dk_16 8 (dk_at dksX9_eats_2 3 rfl rfl)
theorem dX9_eats_50 : decode cX9_eats 50 = .ok (.iload_n 2, 1) := dk_28 (dk_at dksX9_eats_2 5 rfl rfl)
theorem dX9_eats_51 : decode cX9_eats 51 = .ok (.iadd, 1) := dk_96 (dk_at dksX9_eats_2 6 rfl rfl)
theorem dX9_eats_52 : decode cX9_eats 52 = .ok (.iaload, 1) := dk_46 (dk_at dksX9_eats_2 7 rfl rfl)
theorem dX9_eats_53 : decode cX9_eats 53 = .ok (.goto 9, 3) := dk_167 0 9 (dk_at dksX9_eats_2 8 rfl rfl)
theorem dX9_eats_56 : decode cX9_eats 56 = .ok (.aload_n 0, 1) := dk_42 (dk_at dksX9_eats_2 11 rfl rfl)
theorem dX9_eats_57 : decode cX9_eats 57 = .ok (.getfield 19, 3) := dk_180 0 19 (dk_at dksX9_eats_2 12 rfl rfl)
theorem dX9_eats_60 : decode cX9_eats 60 = .ok (.iconst 2, 1) := dk_5 (dk_at dksX9_eats_2 15 rfl rfl)
theorem dX9_eats_61 : decode cX9_eats 61 = .ok (.iaload, 1) := dk_46 (dk_at dksX9_eats_2 16 rfl rfl)
theorem dX9_eats_62 : decode cX9_eats 62 = .ok (.istore_n 3, 1) := dk_62 (dk_at dksX9_eats_2 17 rfl rfl)
theorem dX9_eats_63 : decode cX9_eats 63 = .ok (.aload_n 0, 1) := dk_42 (dk_at dksX9_eats_2 18 rfl rfl)
theorem dX9_eats_64 : decode cX9_eats 64 = .ok (.getfield 19, 3) := dk_180 0 19 (dk_at dksX9_eats_2 19 rfl rfl)
theorem dX9_eats_67 : decode cX9_eats 67 = .ok (.bipush 8, 2) := dk_16 8 (dk_at dksX9_eats_2 22 rfl rfl)
theorem dX9_eats_69 : decode cX9_eats 69 = .ok (.iload_n 2, 1) := dk_28 (dk_at dksX9_eats_3 0 rfl rfl)
theorem dX9_eats_70 : decode cX9_eats 70 = .ok (.iadd, 1) := dk_96 (dk_at dksX9_eats_3 1 rfl rfl)
theorem dX9_eats_71 : decode cX9_eats 71 = .ok (.dup2, 1) := dk_92 (dk_at dksX9_eats_3 2 rfl rfl)
theorem dX9_eats_72 : decode cX9_eats 72 = .ok (.iaload, 1) := dk_46 (dk_at dksX9_eats_3 3 rfl rfl)
theorem dX9_eats_73 : decode cX9_eats 73 = .ok (.iload_n 3, 1) := dk_29 (dk_at dksX9_eats_3 4 rfl rfl)
theorem dX9_eats_74 : decode cX9_eats 74 = .ok (.isub, 1) := dk_100 (dk_at dksX9_eats_3 5 rfl rfl)
theorem dX9_eats_75 : decode cX9_eats 75 = .ok (.iastore, 1) := dk_79 (dk_at dksX9_eats_3 6 rfl rfl)
theorem dX9_eats_76 : decode cX9_eats 76 = .ok (.aload_n 0, 1) := dk_42 (dk_at dksX9_eats_3 7 rfl rfl)
theorem dX9_eats_77 : decode cX9_eats 77 = .ok (.getfield 19, 3) := dk_180 0 19 (dk_at dksX9_eats_3 8 rfl rfl)
theorem dX9_eats_80 : decode cX9_eats 80 = .ok (.bipush 36, 2) := dk_16 36 (dk_at dksX9_eats_3 11 rfl rfl)
theorem dX9_eats_82 : decode cX9_eats 82 = .ok (.iload_n 1, 1) := dk_27 (dk_at dksX9_eats_3 13 rfl rfl)
theorem dX9_eats_83 : decode cX9_eats 83 = .ok (.iadd, 1) := dk_96 (dk_at dksX9_eats_3 14 rfl rfl)
theorem dX9_eats_84 : decode cX9_eats 84 = .ok (.aload_n 0, 1) := dk_42 (dk_at dksX9_eats_3 15 rfl rfl)
theorem dX9_eats_85 : decode cX9_eats 85 = .ok (.getfield 19, 3) := dk_180 0 19 (dk_at dksX9_eats_3 16 rfl rfl)
theorem dX9_eats_88 : decode cX9_eats 88 = .ok (.bipush 36, 2) := dk_16 36 (dk_at dksX9_eats_3 19 rfl rfl)
theorem dX9_eats_90 : decode cX9_eats 90 = .ok (.iload_n 1, 1) := dk_27 (dk_at dksX9_eats_3 21 rfl rfl)
theorem dX9_eats_91 : decode cX9_eats 91 = .ok (.iadd, 1) := dk_96 (dk_at dksX9_eats_3 22 rfl rfl)
theorem dX9_eats_92 : decode cX9_eats 92 = .ok (.iaload, 1) := dk_46 (dk_at dksX9_eats_3 23 rfl rfl)
theorem dX9_eats_93 : decode cX9_eats 93 = .ok (.iload_n 3, 1) := dk_29 (dk_at dksX9_eats_4 0 rfl rfl)
theorem dX9_eats_94 : decode cX9_eats 94 = .ok (.iadd, 1) := dk_96 (dk_at dksX9_eats_4 1 rfl rfl)
theorem dX9_eats_95 : decode cX9_eats 95 = .ok (.sipush 999, 3) := dk_17 3 231 (dk_at dksX9_eats_4 2 rfl rfl)
theorem dX9_eats_98 : decode cX9_eats 98 = .ok (.if_icmp .le 9, 3) := dk_164 0 9 (dk_at dksX9_eats_4 5 rfl rfl)
theorem dX9_eats_101 : decode cX9_eats 101 = .ok (.sipush 999, 3) := dk_17 3 231 (dk_at dksX9_eats_4 8 rfl rfl)
theorem dX9_eats_104 : decode cX9_eats 104 = .ok (.goto 14, 3) := dk_167 0 14 (dk_at dksX9_eats_4 11 rfl rfl)
theorem dX9_eats_107 : decode cX9_eats 107 = .ok (.aload_n 0, 1) := dk_42 (dk_at dksX9_eats_4 14 rfl rfl)
theorem dX9_eats_108 : decode cX9_eats 108 = .ok (.getfield 19, 3) := dk_180 0 19 (dk_at dksX9_eats_4 15 rfl rfl)
theorem dX9_eats_111 : decode cX9_eats 111 = .ok (.bipush 36, 2) := dk_16 36 (dk_at dksX9_eats_4 18 rfl rfl)
theorem dX9_eats_113 : decode cX9_eats 113 = .ok (.iload_n 1, 1) := dk_27 (dk_at dksX9_eats_4 20 rfl rfl)
theorem dX9_eats_114 : decode cX9_eats 114 = .ok (.iadd, 1) := dk_96 (dk_at dksX9_eats_4 21 rfl rfl)
theorem dX9_eats_115 : decode cX9_eats 115 = .ok (.iaload, 1) := dk_46 (dk_at dksX9_eats_4 22 rfl rfl)
theorem dX9_eats_116 : decode cX9_eats 116 = .ok (.iload_n 3, 1) := dk_29 (dk_at dksX9_eats_4 23 rfl rfl)
theorem dX9_eats_117 : decode cX9_eats 117 = .ok (.iadd, 1) := dk_96 (dk_at dksX9_eats_5 0 rfl rfl)
theorem dX9_eats_118 : decode cX9_eats 118 = .ok (.iastore, 1) := dk_79 (dk_at dksX9_eats_5 1 rfl rfl)
theorem dX9_eats_119 : decode cX9_eats 119 = .ok (.aload_n 0, 1) := dk_42 (dk_at dksX9_eats_5 2 rfl rfl)
theorem dX9_eats_120 : decode cX9_eats 120 = .ok (.getfield 31, 3) := dk_180 0 31 (dk_at dksX9_eats_5 3 rfl rfl)
theorem dX9_eats_123 : decode cX9_eats 123 = .ok (.iload_n 1, 1) := dk_27 (dk_at dksX9_eats_5 6 rfl rfl)
theorem dX9_eats_124 : decode cX9_eats 124 = .ok (.dup2, 1) := dk_92 (dk_at dksX9_eats_5 7 rfl rfl)
theorem dX9_eats_125 : decode cX9_eats 125 = .ok (.iaload, 1) := dk_46 (dk_at dksX9_eats_5 8 rfl rfl)
theorem dX9_eats_126 : decode cX9_eats 126 = .ok (.iload_n 3, 1) := dk_29 (dk_at dksX9_eats_5 9 rfl rfl)
theorem dX9_eats_127 : decode cX9_eats 127 = .ok (.ifCond .le 9, 3) := dk_158 0 9 (dk_at dksX9_eats_5 10 rfl rfl)
theorem dX9_eats_130 : decode cX9_eats 130 = .ok (.iconst 1, 1) := dk_4 (dk_at dksX9_eats_5 13 rfl rfl)
theorem dX9_eats_131 : decode cX9_eats 131 = .ok (.iload_n 2, 1) := dk_28 (dk_at dksX9_eats_5 14 rfl rfl)
theorem dX9_eats_132 : decode cX9_eats 132 = .ok (.ishl, 1) := dk_120 (dk_at dksX9_eats_5 15 rfl rfl)
theorem dX9_eats_133 : decode cX9_eats 133 = .ok (.goto 4, 3) := dk_167 0 4 (dk_at dksX9_eats_5 16 rfl rfl)
theorem dX9_eats_136 : decode cX9_eats 136 = .ok (.iconst 0, 1) := dk_3 (dk_at dksX9_eats_5 19 rfl rfl)
theorem dX9_eats_137 : decode cX9_eats 137 = .ok (.ior, 1) := dk_128 (dk_at dksX9_eats_5 20 rfl rfl)
theorem dX9_eats_138 : decode cX9_eats 138 = .ok (.iastore, 1) := dk_79 (dk_at dksX9_eats_5 21 rfl rfl)
theorem dX9_eats_139 : decode cX9_eats 139 = .ok (.return_, 1) := dk_177 (dk_at dksX9_eats_5 22 rfl rfl)
abbrev cX9_allPages : ByteArray := prog_16_method_35_code
def yX9_allPages : MethodName := ⟨RX9, "allPages", "()I"⟩
def dkwX9_allPages_1 : List UInt8 := [96, 60, 132, 2, 1, 167, 255, 231, 27, 172]
abbrev dktX9_allPages_1 : List UInt8 := dkwX9_allPages_1 ++ []
def dkwX9_allPages_0 : List UInt8 := [3, 60, 3, 61, 28, 42, 180, 0, 19, 3, 46, 162, 0, 21, 27, 42, 180, 0, 19, 16, 8, 28, 96, 46]
abbrev dktX9_allPages_0 : List UInt8 := dkwX9_allPages_0 ++ dktX9_allPages_1
theorem dksX9_allPages_0 : cX9_allPages.data.toList.drop 0 = dktX9_allPages_0 := by decide +kernel
theorem dksX9_allPages_1 : cX9_allPages.data.toList.drop 24 = dktX9_allPages_1 := dk_seg dksX9_allPages_0 24 rfl rfl
theorem dX9_allPages_0 : decode cX9_allPages 0 = .ok (.iconst 0, 1) := dk_3 (dk_at dksX9_allPages_0 0 rfl rfl)
theorem dX9_allPages_1 : decode cX9_allPages 1 = .ok (.istore_n 1, 1) := dk_60 (dk_at dksX9_allPages_0 1 rfl rfl)
theorem dX9_allPages_2 : decode cX9_allPages 2 = .ok (.iconst 0, 1) := dk_3 (dk_at dksX9_allPages_0 2 rfl rfl)
theorem dX9_allPages_3 : decode cX9_allPages 3 = .ok (.istore_n 2, 1) := dk_61 (dk_at dksX9_allPages_0 3 rfl rfl)
theorem dX9_allPages_4 : decode cX9_allPages 4 = .ok (.iload_n 2, 1) := dk_28 (dk_at dksX9_allPages_0 4 rfl rfl)
theorem dX9_allPages_5 : decode cX9_allPages 5 = .ok (.aload_n 0, 1) := dk_42 (dk_at dksX9_allPages_0 5 rfl rfl)
theorem dX9_allPages_6 : decode cX9_allPages 6 = .ok (.getfield 19, 3) := dk_180 0 19 (dk_at dksX9_allPages_0 6 rfl rfl)
theorem dX9_allPages_9 : decode cX9_allPages 9 = .ok (.iconst 0, 1) := dk_3 (dk_at dksX9_allPages_0 9 rfl rfl)
theorem dX9_allPages_10 : decode cX9_allPages 10 = .ok (.iaload, 1) := dk_46 (dk_at dksX9_allPages_0 10 rfl rfl)
theorem dX9_allPages_11 : decode cX9_allPages 11 = .ok (.if_icmp .ge 21, 3) := dk_162 0 21 (dk_at dksX9_allPages_0 11 rfl rfl)
theorem dX9_allPages_14 : decode cX9_allPages 14 = .ok (.iload_n 1, 1) := dk_27 (dk_at dksX9_allPages_0 14 rfl rfl)
theorem dX9_allPages_15 : decode cX9_allPages 15 = .ok (.aload_n 0, 1) := dk_42 (dk_at dksX9_allPages_0 15 rfl rfl)
theorem dX9_allPages_16 : decode cX9_allPages 16 = .ok (.getfield 19, 3) := dk_180 0 19 (dk_at dksX9_allPages_0 16 rfl rfl)
theorem dX9_allPages_19 : decode cX9_allPages 19 = .ok (.bipush 8, 2) := dk_16 8 (dk_at dksX9_allPages_0 19 rfl rfl)
theorem dX9_allPages_21 : decode cX9_allPages 21 = .ok (.iload_n 2, 1) := dk_28 (dk_at dksX9_allPages_0 21 rfl rfl)
theorem dX9_allPages_22 : decode cX9_allPages 22 = .ok (.iadd, 1) := dk_96 (dk_at dksX9_allPages_0 22 rfl rfl)
theorem dX9_allPages_23 : decode cX9_allPages 23 = .ok (.iaload, 1) := dk_46 (dk_at dksX9_allPages_0 23 rfl rfl)
theorem dX9_allPages_24 : decode cX9_allPages 24 = .ok (.iadd, 1) := dk_96 (dk_at dksX9_allPages_1 0 rfl rfl)
theorem dX9_allPages_25 : decode cX9_allPages 25 = .ok (.istore_n 1, 1) := dk_60 (dk_at dksX9_allPages_1 1 rfl rfl)
theorem dX9_allPages_26 : decode cX9_allPages 26 = .ok (.iinc 2 1, 3) := dk_132 2 1 (dk_at dksX9_allPages_1 2 rfl rfl)
theorem dX9_allPages_29 : decode cX9_allPages 29 = .ok (.goto (-25), 3) := dk_167 255 231 (dk_at dksX9_allPages_1 5 rfl rfl)
theorem dX9_allPages_32 : decode cX9_allPages 32 = .ok (.iload_n 1, 1) := dk_27 (dk_at dksX9_allPages_1 8 rfl rfl)
theorem dX9_allPages_33 : decode cX9_allPages 33 = .ok (.ireturn, 1) := dk_172 (dk_at dksX9_allPages_1 9 rfl rfl)
abbrev cX9_light : ByteArray := prog_16_method_39_code
def yX9_light : MethodName := ⟨RX9, "light", "(II)I"⟩
def dkwX9_light_3 : List UInt8 := [42, 182, 0, 184, 42, 180, 0, 19, 8, 92, 46, 4, 27, 120, 130, 79, 42, 180, 0, 19, 8, 46, 172]
abbrev dktX9_light_3 : List UInt8 := dkwX9_light_3 ++ []
def dkwX9_light_2 : List UInt8 := [160, 0, 24, 42, 180, 0, 19, 8, 46, 184, 0, 197, 42, 180, 0, 19, 6, 46, 161, 0, 6, 18, 181, 172]
abbrev dktX9_light_2 : List UInt8 := dkwX9_light_2 ++ dktX9_light_3
def dkwX9_light_1 : List UInt8 := [180, 0, 19, 8, 46, 27, 184, 0, 154, 28, 4, 160, 0, 7, 4, 167, 0, 4, 3, 159, 0, 26, 28, 4]
abbrev dktX9_light_1 : List UInt8 := dkwX9_light_1 ++ dktX9_light_2
def dkwX9_light_0 : List UInt8 := [42, 27, 182, 0, 194, 153, 0, 13, 28, 133, 9, 10, 184, 0, 63, 154, 0, 6, 18, 73, 172, 42]
abbrev dktX9_light_0 : List UInt8 := dkwX9_light_0 ++ dktX9_light_1
theorem dksX9_light_0 : cX9_light.data.toList.drop 0 = dktX9_light_0 := by decide +kernel
theorem dksX9_light_1 : cX9_light.data.toList.drop 22 = dktX9_light_1 := dk_seg dksX9_light_0 22 rfl rfl
theorem dksX9_light_2 : cX9_light.data.toList.drop 46 = dktX9_light_2 := dk_seg dksX9_light_1 24 rfl rfl
theorem dksX9_light_3 : cX9_light.data.toList.drop 70 = dktX9_light_3 := dk_seg dksX9_light_2 24 rfl rfl
theorem dX9_light_0 : decode cX9_light 0 = .ok (.aload_n 0, 1) := dk_42 (dk_at dksX9_light_0 0 rfl rfl)
theorem dX9_light_1 : decode cX9_light 1 = .ok (.iload_n 1, 1) := dk_27 (dk_at dksX9_light_0 1 rfl rfl)
theorem dX9_light_2 : decode cX9_light 2 = .ok (.invokevirtual 194, 3) := dk_182 0 194 (dk_at dksX9_light_0 2 rfl rfl)
theorem dX9_light_5 : decode cX9_light 5 = .ok (.ifCond .eq 13, 3) := dk_153 0 13 (dk_at dksX9_light_0 5 rfl rfl)
theorem dX9_light_8 : decode cX9_light 8 = .ok (.iload_n 2, 1) := dk_28 (dk_at dksX9_light_0 8 rfl rfl)
theorem dX9_light_9 : decode cX9_light 9 = .ok (.i2l, 1) := dk_133 (dk_at dksX9_light_0 9 rfl rfl)
theorem dX9_light_10 : decode cX9_light 10 = .ok (.lconst 0, 1) := dk_9 (dk_at dksX9_light_0 10 rfl rfl)
theorem dX9_light_11 : decode cX9_light 11 = .ok (.lconst 1, 1) := dk_10 (dk_at dksX9_light_0 11 rfl rfl)
theorem dX9_light_12 : decode cX9_light 12 = .ok (.invokestatic 63, 3) := dk_184 0 63 (dk_at dksX9_light_0 12 rfl rfl)
theorem dX9_light_15 : decode cX9_light 15 = .ok (.ifCond .ne 6, 3) := dk_154 0 6 (dk_at dksX9_light_0 15 rfl rfl)
theorem dX9_light_18 : decode cX9_light 18 = .ok (.ldc 73, 2) := dk_18 73 (dk_at dksX9_light_0 18 rfl rfl)
theorem dX9_light_20 : decode cX9_light 20 = .ok (.ireturn, 1) := dk_172 (dk_at dksX9_light_0 20 rfl rfl)
theorem dX9_light_21 : decode cX9_light 21 = .ok (.aload_n 0, 1) := dk_42 (dk_at dksX9_light_0 21 rfl rfl)
theorem dX9_light_22 : decode cX9_light 22 = .ok (.getfield 19, 3) := dk_180 0 19 (dk_at dksX9_light_1 0 rfl rfl)
theorem dX9_light_25 : decode cX9_light 25 = .ok (.iconst 5, 1) := dk_8 (dk_at dksX9_light_1 3 rfl rfl)
theorem dX9_light_26 : decode cX9_light 26 = .ok (.iaload, 1) := dk_46 (dk_at dksX9_light_1 4 rfl rfl)
theorem dX9_light_27 : decode cX9_light 27 = .ok (.iload_n 1, 1) := dk_27 (dk_at dksX9_light_1 5 rfl rfl)
theorem dX9_light_28 : decode cX9_light 28 = .ok (.invokestatic 154, 3) := dk_184 0 154 (dk_at dksX9_light_1 6 rfl rfl)
theorem dX9_light_31 : decode cX9_light 31 = .ok (.iload_n 2, 1) := dk_28 (dk_at dksX9_light_1 9 rfl rfl)
theorem dX9_light_32 : decode cX9_light 32 = .ok (.iconst 1, 1) := dk_4 (dk_at dksX9_light_1 10 rfl rfl)
theorem dX9_light_33 : decode cX9_light 33 = .ok (.if_icmp .ne 7, 3) := dk_160 0 7 (dk_at dksX9_light_1 11 rfl rfl)
theorem dX9_light_36 : decode cX9_light 36 = .ok (.iconst 1, 1) := dk_4 (dk_at dksX9_light_1 14 rfl rfl)
theorem dX9_light_37 : decode cX9_light 37 = .ok (.goto 4, 3) := dk_167 0 4 (dk_at dksX9_light_1 15 rfl rfl)
theorem dX9_light_40 : decode cX9_light 40 = .ok (.iconst 0, 1) := dk_3 (dk_at dksX9_light_1 18 rfl rfl)
theorem dX9_light_41 : decode cX9_light 41 = .ok (.if_icmp .eq 26, 3) := dk_159 0 26 (dk_at dksX9_light_1 19 rfl rfl)
theorem dX9_light_44 : decode cX9_light 44 = .ok (.iload_n 2, 1) := dk_28 (dk_at dksX9_light_1 22 rfl rfl)
theorem dX9_light_45 : decode cX9_light 45 = .ok (.iconst 1, 1) := dk_4 (dk_at dksX9_light_1 23 rfl rfl)
theorem dX9_light_46 : decode cX9_light 46 = .ok (.if_icmp .ne 24, 3) := dk_160 0 24 (dk_at dksX9_light_2 0 rfl rfl)
theorem dX9_light_49 : decode cX9_light 49 = .ok (.aload_n 0, 1) := dk_42 (dk_at dksX9_light_2 3 rfl rfl)
theorem dX9_light_50 : decode cX9_light 50 = .ok (.getfield 19, 3) := dk_180 0 19 (dk_at dksX9_light_2 4 rfl rfl)
theorem dX9_light_53 : decode cX9_light 53 = .ok (.iconst 5, 1) := dk_8 (dk_at dksX9_light_2 7 rfl rfl)
theorem dX9_light_54 : decode cX9_light 54 = .ok (.iaload, 1) := dk_46 (dk_at dksX9_light_2 8 rfl rfl)
theorem dX9_light_55 : decode cX9_light 55 = .ok (.invokestatic 197, 3) := dk_184 0 197 (dk_at dksX9_light_2 9 rfl rfl)
theorem dX9_light_58 : decode cX9_light 58 = .ok (.aload_n 0, 1) := dk_42 (dk_at dksX9_light_2 12 rfl rfl)
theorem dX9_light_59 : decode cX9_light 59 = .ok (.getfield 19, 3) := dk_180 0 19 (dk_at dksX9_light_2 13 rfl rfl)
theorem dX9_light_62 : decode cX9_light 62 = .ok (.iconst 3, 1) := dk_6 (dk_at dksX9_light_2 16 rfl rfl)
theorem dX9_light_63 : decode cX9_light 63 = .ok (.iaload, 1) := dk_46 (dk_at dksX9_light_2 17 rfl rfl)
theorem dX9_light_64 : decode cX9_light 64 = .ok (.if_icmp .lt 6, 3) := dk_161 0 6 (dk_at dksX9_light_2 18 rfl rfl)
theorem dX9_light_67 : decode cX9_light 67 = .ok (.ldc 181, 2) := dk_18 181 (dk_at dksX9_light_2 21 rfl rfl)
theorem dX9_light_69 : decode cX9_light 69 = .ok (.ireturn, 1) := dk_172 (dk_at dksX9_light_2 23 rfl rfl)
theorem dX9_light_70 : decode cX9_light 70 = .ok (.aload_n 0, 1) := dk_42 (dk_at dksX9_light_3 0 rfl rfl)
theorem dX9_light_71 : decode cX9_light 71 = .ok (.invokevirtual 184, 3) := dk_182 0 184 (dk_at dksX9_light_3 1 rfl rfl)
theorem dX9_light_74 : decode cX9_light 74 = .ok (.aload_n 0, 1) := dk_42 (dk_at dksX9_light_3 4 rfl rfl)
theorem dX9_light_75 : decode cX9_light 75 = .ok (.getfield 19, 3) := dk_180 0 19 (dk_at dksX9_light_3 5 rfl rfl)
theorem dX9_light_78 : decode cX9_light 78 = .ok (.iconst 5, 1) := dk_8 (dk_at dksX9_light_3 8 rfl rfl)
theorem dX9_light_79 : decode cX9_light 79 = .ok (.dup2, 1) := dk_92 (dk_at dksX9_light_3 9 rfl rfl)
theorem dX9_light_80 : decode cX9_light 80 = .ok (.iaload, 1) := dk_46 (dk_at dksX9_light_3 10 rfl rfl)
theorem dX9_light_81 : decode cX9_light 81 = .ok (.iconst 1, 1) := dk_4 (dk_at dksX9_light_3 11 rfl rfl)
theorem dX9_light_82 : decode cX9_light 82 = .ok (.iload_n 1, 1) := dk_27 (dk_at dksX9_light_3 12 rfl rfl)
theorem dX9_light_83 : decode cX9_light 83 = .ok (.ishl, 1) := dk_120 (dk_at dksX9_light_3 13 rfl rfl)
theorem dX9_light_84 : decode cX9_light 84 = .ok (.ixor, 1) := dk_130 (dk_at dksX9_light_3 14 rfl rfl)
theorem dX9_light_85 : decode cX9_light 85 = .ok (.iastore, 1) := dk_79 (dk_at dksX9_light_3 15 rfl rfl)
theorem dX9_light_86 : decode cX9_light 86 = .ok (.aload_n 0, 1) := dk_42 (dk_at dksX9_light_3 16 rfl rfl)
theorem dX9_light_87 : decode cX9_light 87 = .ok (.getfield 19, 3) := dk_180 0 19 (dk_at dksX9_light_3 17 rfl rfl)
theorem dX9_light_90 : decode cX9_light 90 = .ok (.iconst 5, 1) := dk_8 (dk_at dksX9_light_3 20 rfl rfl)
theorem dX9_light_91 : decode cX9_light 91 = .ok (.iaload, 1) := dk_46 (dk_at dksX9_light_3 21 rfl rfl)
theorem dX9_light_92 : decode cX9_light 92 = .ok (.ireturn, 1) := dk_172 (dk_at dksX9_light_3 22 rfl rfl)
abbrev cX9_isBook : ByteArray := prog_16_method_25_code
def yX9_isBook : MethodName := ⟨RX9, "isBook", "(I)Z"⟩
def dkwX9_isBook_0 : List UInt8 := [27, 133, 9, 42, 180, 0, 19, 3, 46, 4, 100, 133, 184, 0, 63, 172]
abbrev dktX9_isBook_0 : List UInt8 := dkwX9_isBook_0 ++ []
theorem dksX9_isBook_0 : cX9_isBook.data.toList.drop 0 = dktX9_isBook_0 := by decide +kernel
theorem dX9_isBook_0 : decode cX9_isBook 0 = .ok (.iload_n 1, 1) := dk_27 (dk_at dksX9_isBook_0 0 rfl rfl)
theorem dX9_isBook_1 : decode cX9_isBook 1 = .ok (.i2l, 1) := dk_133 (dk_at dksX9_isBook_0 1 rfl rfl)
theorem dX9_isBook_2 : decode cX9_isBook 2 = .ok (.lconst 0, 1) := dk_9 (dk_at dksX9_isBook_0 2 rfl rfl)
theorem dX9_isBook_3 : decode cX9_isBook 3 = .ok (.aload_n 0, 1) := dk_42 (dk_at dksX9_isBook_0 3 rfl rfl)
theorem dX9_isBook_4 : decode cX9_isBook 4 = .ok (.getfield 19, 3) := dk_180 0 19 (dk_at dksX9_isBook_0 4 rfl rfl)
theorem dX9_isBook_7 : decode cX9_isBook 7 = .ok (.iconst 0, 1) := dk_3 (dk_at dksX9_isBook_0 7 rfl rfl)
theorem dX9_isBook_8 : decode cX9_isBook 8 = .ok (.iaload, 1) := dk_46 (dk_at dksX9_isBook_0 8 rfl rfl)
theorem dX9_isBook_9 : decode cX9_isBook 9 = .ok (.iconst 1, 1) := dk_4 (dk_at dksX9_isBook_0 9 rfl rfl)
theorem dX9_isBook_10 : decode cX9_isBook 10 = .ok (.isub, 1) := dk_100 (dk_at dksX9_isBook_0 10 rfl rfl)
theorem dX9_isBook_11 : decode cX9_isBook 11 = .ok (.i2l, 1) := dk_133 (dk_at dksX9_isBook_0 11 rfl rfl)
theorem dX9_isBook_12 : decode cX9_isBook 12 = .ok (.invokestatic 63, 3) := dk_184 0 63 (dk_at dksX9_isBook_0 12 rfl rfl)
theorem dX9_isBook_15 : decode cX9_isBook 15 = .ok (.ireturn, 1) := dk_172 (dk_at dksX9_isBook_0 15 rfl rfl)
abbrev cX9_ones : ByteArray := prog_16_method_4_code
def yX9_ones : MethodName := ⟨RX9, "ones", "(I)I"⟩
def dkwX9_ones_0 : List UInt8 := [3, 60, 26, 61, 28, 153, 0, 15, 132, 1, 1, 28, 28, 4, 100, 126, 61, 167, 255, 243, 27, 172]
abbrev dktX9_ones_0 : List UInt8 := dkwX9_ones_0 ++ []
theorem dksX9_ones_0 : cX9_ones.data.toList.drop 0 = dktX9_ones_0 := by decide +kernel
theorem dX9_ones_0 : decode cX9_ones 0 = .ok (.iconst 0, 1) := dk_3 (dk_at dksX9_ones_0 0 rfl rfl)
theorem dX9_ones_1 : decode cX9_ones 1 = .ok (.istore_n 1, 1) := dk_60 (dk_at dksX9_ones_0 1 rfl rfl)
theorem dX9_ones_2 : decode cX9_ones 2 = .ok (.iload_n 0, 1) := dk_26 (dk_at dksX9_ones_0 2 rfl rfl)
theorem dX9_ones_3 : decode cX9_ones 3 = .ok (.istore_n 2, 1) := dk_61 (dk_at dksX9_ones_0 3 rfl rfl)
theorem dX9_ones_4 : decode cX9_ones 4 = .ok (.iload_n 2, 1) := dk_28 (dk_at dksX9_ones_0 4 rfl rfl)
theorem dX9_ones_5 : decode cX9_ones 5 = .ok (.ifCond .eq 15, 3) := dk_153 0 15 (dk_at dksX9_ones_0 5 rfl rfl)
theorem dX9_ones_8 : decode cX9_ones 8 = .ok (.iinc 1 1, 3) := dk_132 1 1 (dk_at dksX9_ones_0 8 rfl rfl)
theorem dX9_ones_11 : decode cX9_ones 11 = .ok (.iload_n 2, 1) := dk_28 (dk_at dksX9_ones_0 11 rfl rfl)
theorem dX9_ones_12 : decode cX9_ones 12 = .ok (.iload_n 2, 1) := dk_28 (dk_at dksX9_ones_0 12 rfl rfl)
theorem dX9_ones_13 : decode cX9_ones 13 = .ok (.iconst 1, 1) := dk_4 (dk_at dksX9_ones_0 13 rfl rfl)
theorem dX9_ones_14 : decode cX9_ones 14 = .ok (.isub, 1) := dk_100 (dk_at dksX9_ones_0 14 rfl rfl)
theorem dX9_ones_15 : decode cX9_ones 15 = .ok (.iand, 1) := dk_126 (dk_at dksX9_ones_0 15 rfl rfl)
theorem dX9_ones_16 : decode cX9_ones 16 = .ok (.istore_n 2, 1) := dk_61 (dk_at dksX9_ones_0 16 rfl rfl)
theorem dX9_ones_17 : decode cX9_ones 17 = .ok (.goto (-13), 3) := dk_167 255 243 (dk_at dksX9_ones_0 17 rfl rfl)
theorem dX9_ones_20 : decode cX9_ones 20 = .ok (.iload_n 1, 1) := dk_27 (dk_at dksX9_ones_0 20 rfl rfl)
theorem dX9_ones_21 : decode cX9_ones 21 = .ok (.ireturn, 1) := dk_172 (dk_at dksX9_ones_0 21 rfl rfl)
abbrev cX9_keepIt : ByteArray := prog_16_method_40_code
def yX9_keepIt : MethodName := ⟨RX9, "keepIt", "(II)I"⟩
def dkwX9_keepIt_3 : List UInt8 := [16, 6, 46, 172]
abbrev dktX9_keepIt_3 : List UInt8 := dkwX9_keepIt_3 ++ []
def dkwX9_keepIt_2 : List UInt8 := [18, 181, 172, 42, 182, 0, 184, 42, 180, 0, 19, 16, 6, 92, 46, 4, 27, 120, 130, 79, 42, 180, 0, 19]
abbrev dktX9_keepIt_2 : List UInt8 := dkwX9_keepIt_2 ++ dktX9_keepIt_3
def dkwX9_keepIt_1 : List UInt8 := [180, 0, 19, 16, 6, 46, 27, 184, 0, 154, 28, 4, 160, 0, 7, 4, 167, 0, 4, 3, 160, 0, 6]
abbrev dktX9_keepIt_1 : List UInt8 := dkwX9_keepIt_1 ++ dktX9_keepIt_2
def dkwX9_keepIt_0 : List UInt8 := [42, 27, 182, 0, 194, 153, 0, 13, 28, 133, 9, 10, 184, 0, 63, 154, 0, 6, 18, 73, 172, 42]
abbrev dktX9_keepIt_0 : List UInt8 := dkwX9_keepIt_0 ++ dktX9_keepIt_1
theorem dksX9_keepIt_0 : cX9_keepIt.data.toList.drop 0 = dktX9_keepIt_0 := by decide +kernel
theorem dksX9_keepIt_1 : cX9_keepIt.data.toList.drop 22 = dktX9_keepIt_1 := dk_seg dksX9_keepIt_0 22 rfl rfl
theorem dksX9_keepIt_2 : cX9_keepIt.data.toList.drop 45 = dktX9_keepIt_2 := dk_seg dksX9_keepIt_1 23 rfl rfl
theorem dksX9_keepIt_3 : cX9_keepIt.data.toList.drop 69 = dktX9_keepIt_3 := dk_seg dksX9_keepIt_2 24 rfl rfl
theorem dX9_keepIt_0 : decode cX9_keepIt 0 = .ok (.aload_n 0, 1) := dk_42 (dk_at dksX9_keepIt_0 0 rfl rfl)
theorem dX9_keepIt_1 : decode cX9_keepIt 1 = .ok (.iload_n 1, 1) := dk_27 (dk_at dksX9_keepIt_0 1 rfl rfl)
theorem dX9_keepIt_2 : decode cX9_keepIt 2 = .ok (.invokevirtual 194, 3) := dk_182 0 194 (dk_at dksX9_keepIt_0 2 rfl rfl)
theorem dX9_keepIt_5 : decode cX9_keepIt 5 = .ok (.ifCond .eq 13, 3) := dk_153 0 13 (dk_at dksX9_keepIt_0 5 rfl rfl)
theorem dX9_keepIt_8 : decode cX9_keepIt 8 = .ok (.iload_n 2, 1) := dk_28 (dk_at dksX9_keepIt_0 8 rfl rfl)
theorem dX9_keepIt_9 : decode cX9_keepIt 9 = .ok (.i2l, 1) := dk_133 (dk_at dksX9_keepIt_0 9 rfl rfl)
theorem dX9_keepIt_10 : decode cX9_keepIt 10 = .ok (.lconst 0, 1) := dk_9 (dk_at dksX9_keepIt_0 10 rfl rfl)
theorem dX9_keepIt_11 : decode cX9_keepIt 11 = .ok (.lconst 1, 1) := dk_10 (dk_at dksX9_keepIt_0 11 rfl rfl)
theorem dX9_keepIt_12 : decode cX9_keepIt 12 = .ok (.invokestatic 63, 3) := dk_184 0 63 (dk_at dksX9_keepIt_0 12 rfl rfl)
theorem dX9_keepIt_15 : decode cX9_keepIt 15 = .ok (.ifCond .ne 6, 3) := dk_154 0 6 (dk_at dksX9_keepIt_0 15 rfl rfl)
theorem dX9_keepIt_18 : decode cX9_keepIt 18 = .ok (.ldc 73, 2) := dk_18 73 (dk_at dksX9_keepIt_0 18 rfl rfl)
theorem dX9_keepIt_20 : decode cX9_keepIt 20 = .ok (.ireturn, 1) := dk_172 (dk_at dksX9_keepIt_0 20 rfl rfl)
theorem dX9_keepIt_21 : decode cX9_keepIt 21 = .ok (.aload_n 0, 1) := dk_42 (dk_at dksX9_keepIt_0 21 rfl rfl)
theorem dX9_keepIt_22 : decode cX9_keepIt 22 = .ok (.getfield 19, 3) := dk_180 0 19 (dk_at dksX9_keepIt_1 0 rfl rfl)
theorem dX9_keepIt_25 : decode cX9_keepIt 25 = .ok (.bipush 6, 2) := dk_16 6 (dk_at dksX9_keepIt_1 3 rfl rfl)
theorem dX9_keepIt_27 : decode cX9_keepIt 27 = .ok (.iaload, 1) := dk_46 (dk_at dksX9_keepIt_1 5 rfl rfl)
theorem dX9_keepIt_28 : decode cX9_keepIt 28 = .ok (.iload_n 1, 1) := dk_27 (dk_at dksX9_keepIt_1 6 rfl rfl)
theorem dX9_keepIt_29 : decode cX9_keepIt 29 = .ok (.invokestatic 154, 3) := dk_184 0 154 (dk_at dksX9_keepIt_1 7 rfl rfl)
theorem dX9_keepIt_32 : decode cX9_keepIt 32 = .ok (.iload_n 2, 1) := dk_28 (dk_at dksX9_keepIt_1 10 rfl rfl)
theorem dX9_keepIt_33 : decode cX9_keepIt 33 = .ok (.iconst 1, 1) := dk_4 (dk_at dksX9_keepIt_1 11 rfl rfl)
theorem dX9_keepIt_34 : decode cX9_keepIt 34 = .ok (.if_icmp .ne 7, 3) := dk_160 0 7 (dk_at dksX9_keepIt_1 12 rfl rfl)
theorem dX9_keepIt_37 : decode cX9_keepIt 37 = .ok (.iconst 1, 1) := dk_4 (dk_at dksX9_keepIt_1 15 rfl rfl)
theorem dX9_keepIt_38 : decode cX9_keepIt 38 = .ok (.goto 4, 3) := dk_167 0 4 (dk_at dksX9_keepIt_1 16 rfl rfl)
theorem dX9_keepIt_41 : decode cX9_keepIt 41 = .ok (.iconst 0, 1) := dk_3 (dk_at dksX9_keepIt_1 19 rfl rfl)
theorem dX9_keepIt_42 : decode cX9_keepIt 42 = .ok (.if_icmp .ne 6, 3) := dk_160 0 6 (dk_at dksX9_keepIt_1 20 rfl rfl)
theorem dX9_keepIt_45 : decode cX9_keepIt 45 = .ok (.ldc 181, 2) := dk_18 181 (dk_at dksX9_keepIt_2 0 rfl rfl)
theorem dX9_keepIt_47 : decode cX9_keepIt 47 = .ok (.ireturn, 1) := dk_172 (dk_at dksX9_keepIt_2 2 rfl rfl)
theorem dX9_keepIt_48 : decode cX9_keepIt 48 = .ok (.aload_n 0, 1) := dk_42 (dk_at dksX9_keepIt_2 3 rfl rfl)
theorem dX9_keepIt_49 : decode cX9_keepIt 49 = .ok (.invokevirtual 184, 3) := dk_182 0 184 (dk_at dksX9_keepIt_2 4 rfl rfl)
theorem dX9_keepIt_52 : decode cX9_keepIt 52 = .ok (.aload_n 0, 1) := dk_42 (dk_at dksX9_keepIt_2 7 rfl rfl)
theorem dX9_keepIt_53 : decode cX9_keepIt 53 = .ok (.getfield 19, 3) := dk_180 0 19 (dk_at dksX9_keepIt_2 8 rfl rfl)
theorem dX9_keepIt_56 : decode cX9_keepIt 56 = .ok (.bipush 6, 2) := dk_16 6 (dk_at dksX9_keepIt_2 11 rfl rfl)
theorem dX9_keepIt_58 : decode cX9_keepIt 58 = .ok (.dup2, 1) := dk_92 (dk_at dksX9_keepIt_2 13 rfl rfl)
theorem dX9_keepIt_59 : decode cX9_keepIt 59 = .ok (.iaload, 1) := dk_46 (dk_at dksX9_keepIt_2 14 rfl rfl)
theorem dX9_keepIt_60 : decode cX9_keepIt 60 = .ok (.iconst 1, 1) := dk_4 (dk_at dksX9_keepIt_2 15 rfl rfl)
theorem dX9_keepIt_61 : decode cX9_keepIt 61 = .ok (.iload_n 1, 1) := dk_27 (dk_at dksX9_keepIt_2 16 rfl rfl)
theorem dX9_keepIt_62 : decode cX9_keepIt 62 = .ok (.ishl, 1) := dk_120 (dk_at dksX9_keepIt_2 17 rfl rfl)
theorem dX9_keepIt_63 : decode cX9_keepIt 63 = .ok (.ixor, 1) := dk_130 (dk_at dksX9_keepIt_2 18 rfl rfl)
theorem dX9_keepIt_64 : decode cX9_keepIt 64 = .ok (.iastore, 1) := dk_79 (dk_at dksX9_keepIt_2 19 rfl rfl)
theorem dX9_keepIt_65 : decode cX9_keepIt 65 = .ok (.aload_n 0, 1) := dk_42 (dk_at dksX9_keepIt_2 20 rfl rfl)
theorem dX9_keepIt_66 : decode cX9_keepIt 66 = .ok (.getfield 19, 3) := dk_180 0 19 (dk_at dksX9_keepIt_2 21 rfl rfl)
theorem dX9_keepIt_69 : decode cX9_keepIt 69 = .ok (.bipush 6, 2) := dk_16 6 (dk_at dksX9_keepIt_3 0 rfl rfl)
theorem dX9_keepIt_71 : decode cX9_keepIt 71 = .ok (.iaload, 1) := dk_46 (dk_at dksX9_keepIt_3 2 rfl rfl)
theorem dX9_keepIt_72 : decode cX9_keepIt 72 = .ok (.ireturn, 1) := dk_172 (dk_at dksX9_keepIt_3 3 rfl rfl)
abbrev cX9_change : ByteArray := prog_16_method_41_code
def yX9_change : MethodName := ⟨RX9, "change", "(II)I"⟩
def dkwX9_change_3 : List UInt8 := [16, 20, 27, 96, 46, 172]
abbrev dktX9_change_3 : List UInt8 := dkwX9_change_3 ++ []
def dkwX9_change_2 : List UInt8 := [180, 0, 19, 16, 20, 28, 96, 46, 79, 42, 180, 0, 19, 16, 20, 28, 96, 29, 79, 42, 180, 0, 19]
abbrev dktX9_change_2 : List UInt8 := dkwX9_change_2 ++ dktX9_change_3
def dkwX9_change_1 : List UInt8 := [42, 182, 0, 184, 42, 180, 0, 19, 16, 20, 27, 96, 46, 62, 42, 180, 0, 19, 16, 20, 27, 96, 42]
abbrev dktX9_change_1 : List UInt8 := dkwX9_change_1 ++ dktX9_change_2
def dkwX9_change_0 : List UInt8 := [42, 27, 182, 0, 194, 153, 0, 16, 42, 28, 182, 0, 194, 153, 0, 8, 27, 28, 160, 0, 6, 18, 73, 172]
abbrev dktX9_change_0 : List UInt8 := dkwX9_change_0 ++ dktX9_change_1
theorem dksX9_change_0 : cX9_change.data.toList.drop 0 = dktX9_change_0 := by decide +kernel
theorem dksX9_change_1 : cX9_change.data.toList.drop 24 = dktX9_change_1 := dk_seg dksX9_change_0 24 rfl rfl
theorem dksX9_change_2 : cX9_change.data.toList.drop 47 = dktX9_change_2 := dk_seg dksX9_change_1 23 rfl rfl
theorem dksX9_change_3 : cX9_change.data.toList.drop 70 = dktX9_change_3 := dk_seg dksX9_change_2 23 rfl rfl
theorem dX9_change_0 : decode cX9_change 0 = .ok (.aload_n 0, 1) := dk_42 (dk_at dksX9_change_0 0 rfl rfl)
theorem dX9_change_1 : decode cX9_change 1 = .ok (.iload_n 1, 1) := dk_27 (dk_at dksX9_change_0 1 rfl rfl)
theorem dX9_change_2 : decode cX9_change 2 = .ok (.invokevirtual 194, 3) := dk_182 0 194 (dk_at dksX9_change_0 2 rfl rfl)
theorem dX9_change_5 : decode cX9_change 5 = .ok (.ifCond .eq 16, 3) := dk_153 0 16 (dk_at dksX9_change_0 5 rfl rfl)
theorem dX9_change_8 : decode cX9_change 8 = .ok (.aload_n 0, 1) := dk_42 (dk_at dksX9_change_0 8 rfl rfl)
theorem dX9_change_9 : decode cX9_change 9 = .ok (.iload_n 2, 1) := dk_28 (dk_at dksX9_change_0 9 rfl rfl)
theorem dX9_change_10 : decode cX9_change 10 = .ok (.invokevirtual 194, 3) := dk_182 0 194 (dk_at dksX9_change_0 10 rfl rfl)
theorem dX9_change_13 : decode cX9_change 13 = .ok (.ifCond .eq 8, 3) := dk_153 0 8 (dk_at dksX9_change_0 13 rfl rfl)
theorem dX9_change_16 : decode cX9_change 16 = .ok (.iload_n 1, 1) := dk_27 (dk_at dksX9_change_0 16 rfl rfl)
theorem dX9_change_17 : decode cX9_change 17 = .ok (.iload_n 2, 1) := dk_28 (dk_at dksX9_change_0 17 rfl rfl)
theorem dX9_change_18 : decode cX9_change 18 = .ok (.if_icmp .ne 6, 3) := dk_160 0 6 (dk_at dksX9_change_0 18 rfl rfl)
theorem dX9_change_21 : decode cX9_change 21 = .ok (.ldc 73, 2) := dk_18 73 (dk_at dksX9_change_0 21 rfl rfl)
theorem dX9_change_23 : decode cX9_change 23 = .ok (.ireturn, 1) := dk_172 (dk_at dksX9_change_0 23 rfl rfl)
theorem dX9_change_24 : decode cX9_change 24 = .ok (.aload_n 0, 1) := dk_42 (dk_at dksX9_change_1 0 rfl rfl)
theorem dX9_change_25 : decode cX9_change 25 = .ok (.invokevirtual 184, 3) := dk_182 0 184 (dk_at dksX9_change_1 1 rfl rfl)
theorem dX9_change_28 : decode cX9_change 28 = .ok (.aload_n 0, 1) := dk_42 (dk_at dksX9_change_1 4 rfl rfl)
theorem dX9_change_29 : decode cX9_change 29 = .ok (.getfield 19, 3) := dk_180 0 19 (dk_at dksX9_change_1 5 rfl rfl)
theorem dX9_change_32 : decode cX9_change 32 = .ok (.bipush 20, 2) := dk_16 20 (dk_at dksX9_change_1 8 rfl rfl)
theorem dX9_change_34 : decode cX9_change 34 = .ok (.iload_n 1, 1) := dk_27 (dk_at dksX9_change_1 10 rfl rfl)
theorem dX9_change_35 : decode cX9_change 35 = .ok (.iadd, 1) := dk_96 (dk_at dksX9_change_1 11 rfl rfl)
theorem dX9_change_36 : decode cX9_change 36 = .ok (.iaload, 1) := dk_46 (dk_at dksX9_change_1 12 rfl rfl)
theorem dX9_change_37 : decode cX9_change 37 = .ok (.istore_n 3, 1) := dk_62 (dk_at dksX9_change_1 13 rfl rfl)
theorem dX9_change_38 : decode cX9_change 38 = .ok (.aload_n 0, 1) := dk_42 (dk_at dksX9_change_1 14 rfl rfl)
theorem dX9_change_39 : decode cX9_change 39 = .ok (.getfield 19, 3) := dk_180 0 19 (dk_at dksX9_change_1 15 rfl rfl)
theorem dX9_change_42 : decode cX9_change 42 = .ok (.bipush 20, 2) := dk_16 20 (dk_at dksX9_change_1 18 rfl rfl)
theorem dX9_change_44 : decode cX9_change 44 = .ok (.iload_n 1, 1) := dk_27 (dk_at dksX9_change_1 20 rfl rfl)
theorem dX9_change_45 : decode cX9_change 45 = .ok (.iadd, 1) := dk_96 (dk_at dksX9_change_1 21 rfl rfl)
theorem dX9_change_46 : decode cX9_change 46 = .ok (.aload_n 0, 1) := dk_42 (dk_at dksX9_change_1 22 rfl rfl)
theorem dX9_change_47 : decode cX9_change 47 = .ok (.getfield 19, 3) := dk_180 0 19 (dk_at dksX9_change_2 0 rfl rfl)
theorem dX9_change_50 : decode cX9_change 50 = .ok (.bipush 20, 2) := dk_16 20 (dk_at dksX9_change_2 3 rfl rfl)
theorem dX9_change_52 : decode cX9_change 52 = .ok (.iload_n 2, 1) := dk_28 (dk_at dksX9_change_2 5 rfl rfl)
theorem dX9_change_53 : decode cX9_change 53 = .ok (.iadd, 1) := dk_96 (dk_at dksX9_change_2 6 rfl rfl)
theorem dX9_change_54 : decode cX9_change 54 = .ok (.iaload, 1) := dk_46 (dk_at dksX9_change_2 7 rfl rfl)
theorem dX9_change_55 : decode cX9_change 55 = .ok (.iastore, 1) := dk_79 (dk_at dksX9_change_2 8 rfl rfl)
theorem dX9_change_56 : decode cX9_change 56 = .ok (.aload_n 0, 1) := dk_42 (dk_at dksX9_change_2 9 rfl rfl)
theorem dX9_change_57 : decode cX9_change 57 = .ok (.getfield 19, 3) := dk_180 0 19 (dk_at dksX9_change_2 10 rfl rfl)
theorem dX9_change_60 : decode cX9_change 60 = .ok (.bipush 20, 2) := dk_16 20 (dk_at dksX9_change_2 13 rfl rfl)
theorem dX9_change_62 : decode cX9_change 62 = .ok (.iload_n 2, 1) := dk_28 (dk_at dksX9_change_2 15 rfl rfl)
theorem dX9_change_63 : decode cX9_change 63 = .ok (.iadd, 1) := dk_96 (dk_at dksX9_change_2 16 rfl rfl)
theorem dX9_change_64 : decode cX9_change 64 = .ok (.iload_n 3, 1) := dk_29 (dk_at dksX9_change_2 17 rfl rfl)
theorem dX9_change_65 : decode cX9_change 65 = .ok (.iastore, 1) := dk_79 (dk_at dksX9_change_2 18 rfl rfl)
theorem dX9_change_66 : decode cX9_change 66 = .ok (.aload_n 0, 1) := dk_42 (dk_at dksX9_change_2 19 rfl rfl)
theorem dX9_change_67 : decode cX9_change 67 = .ok (.getfield 19, 3) := dk_180 0 19 (dk_at dksX9_change_2 20 rfl rfl)
theorem dX9_change_70 : decode cX9_change 70 = .ok (.bipush 20, 2) := dk_16 20 (dk_at dksX9_change_3 0 rfl rfl)
theorem dX9_change_72 : decode cX9_change 72 = .ok (.iload_n 1, 1) := dk_27 (dk_at dksX9_change_3 2 rfl rfl)
theorem dX9_change_73 : decode cX9_change 73 = .ok (.iadd, 1) := dk_96 (dk_at dksX9_change_3 3 rfl rfl)
theorem dX9_change_74 : decode cX9_change 74 = .ok (.iaload, 1) := dk_46 (dk_at dksX9_change_3 4 rfl rfl)
theorem dX9_change_75 : decode cX9_change 75 = .ok (.ireturn, 1) := dk_172 (dk_at dksX9_change_3 5 rfl rfl)
abbrev cX9_move : ByteArray := prog_16_method_42_code
def yX9_move : MethodName := ⟨RX9, "move", "(II)I"⟩
def dkwX9_move_2 : List UInt8 := [182, 0, 184, 42, 180, 0, 19, 16, 31, 27, 96, 28, 79, 29, 172]
abbrev dktX9_move_2 : List UInt8 := dkwX9_move_2 ++ []
def dkwX9_move_1 : List UInt8 := [16, 31, 27, 96, 46, 62, 42, 27, 182, 0, 171, 154, 0, 8, 29, 28, 160, 0, 6, 18, 181, 172, 42]
abbrev dktX9_move_1 : List UInt8 := dkwX9_move_1 ++ dktX9_move_2
def dkwX9_move_0 : List UInt8 := [42, 27, 182, 0, 200, 153, 0, 11, 42, 28, 182, 0, 194, 154, 0, 6, 18, 73, 172, 42, 180, 0, 19]
abbrev dktX9_move_0 : List UInt8 := dkwX9_move_0 ++ dktX9_move_1
theorem dksX9_move_0 : cX9_move.data.toList.drop 0 = dktX9_move_0 := by decide +kernel
theorem dksX9_move_1 : cX9_move.data.toList.drop 23 = dktX9_move_1 := dk_seg dksX9_move_0 23 rfl rfl
theorem dksX9_move_2 : cX9_move.data.toList.drop 46 = dktX9_move_2 := dk_seg dksX9_move_1 23 rfl rfl
theorem dX9_move_0 : decode cX9_move 0 = .ok (.aload_n 0, 1) := dk_42 (dk_at dksX9_move_0 0 rfl rfl)
theorem dX9_move_1 : decode cX9_move 1 = .ok (.iload_n 1, 1) := dk_27 (dk_at dksX9_move_0 1 rfl rfl)
theorem dX9_move_2 : decode cX9_move 2 = .ok (.invokevirtual 200, 3) := dk_182 0 200 (dk_at dksX9_move_0 2 rfl rfl)
theorem dX9_move_5 : decode cX9_move 5 = .ok (.ifCond .eq 11, 3) := dk_153 0 11 (dk_at dksX9_move_0 5 rfl rfl)
theorem dX9_move_8 : decode cX9_move 8 = .ok (.aload_n 0, 1) := dk_42 (dk_at dksX9_move_0 8 rfl rfl)
theorem dX9_move_9 : decode cX9_move 9 = .ok (.iload_n 2, 1) := dk_28 (dk_at dksX9_move_0 9 rfl rfl)
theorem dX9_move_10 : decode cX9_move 10 = .ok (.invokevirtual 194, 3) := dk_182 0 194 (dk_at dksX9_move_0 10 rfl rfl)
theorem dX9_move_13 : decode cX9_move 13 = .ok (.ifCond .ne 6, 3) := dk_154 0 6 (dk_at dksX9_move_0 13 rfl rfl)
theorem dX9_move_16 : decode cX9_move 16 = .ok (.ldc 73, 2) := dk_18 73 (dk_at dksX9_move_0 16 rfl rfl)
theorem dX9_move_18 : decode cX9_move 18 = .ok (.ireturn, 1) := dk_172 (dk_at dksX9_move_0 18 rfl rfl)
theorem dX9_move_19 : decode cX9_move 19 = .ok (.aload_n 0, 1) := dk_42 (dk_at dksX9_move_0 19 rfl rfl)
theorem dX9_move_20 : decode cX9_move 20 = .ok (.getfield 19, 3) := dk_180 0 19 (dk_at dksX9_move_0 20 rfl rfl)
theorem dX9_move_23 : decode cX9_move 23 = .ok (.bipush 31, 2) := dk_16 31 (dk_at dksX9_move_1 0 rfl rfl)
theorem dX9_move_25 : decode cX9_move 25 = .ok (.iload_n 1, 1) := dk_27 (dk_at dksX9_move_1 2 rfl rfl)
theorem dX9_move_26 : decode cX9_move 26 = .ok (.iadd, 1) := dk_96 (dk_at dksX9_move_1 3 rfl rfl)
theorem dX9_move_27 : decode cX9_move 27 = .ok (.iaload, 1) := dk_46 (dk_at dksX9_move_1 4 rfl rfl)
theorem dX9_move_28 : decode cX9_move 28 = .ok (.istore_n 3, 1) := dk_62 (dk_at dksX9_move_1 5 rfl rfl)
theorem dX9_move_29 : decode cX9_move 29 = .ok (.aload_n 0, 1) := dk_42 (dk_at dksX9_move_1 6 rfl rfl)
theorem dX9_move_30 : decode cX9_move 30 = .ok (.iload_n 1, 1) := dk_27 (dk_at dksX9_move_1 7 rfl rfl)
theorem dX9_move_31 : decode cX9_move 31 = .ok (.invokevirtual 171, 3) := dk_182 0 171 (dk_at dksX9_move_1 8 rfl rfl)
theorem dX9_move_34 : decode cX9_move 34 = .ok (.ifCond .ne 8, 3) := dk_154 0 8 (dk_at dksX9_move_1 11 rfl rfl)
theorem dX9_move_37 : decode cX9_move 37 = .ok (.iload_n 3, 1) := dk_29 (dk_at dksX9_move_1 14 rfl rfl)
theorem dX9_move_38 : decode cX9_move 38 = .ok (.iload_n 2, 1) := dk_28 (dk_at dksX9_move_1 15 rfl rfl)
theorem dX9_move_39 : decode cX9_move 39 = .ok (.if_icmp .ne 6, 3) := dk_160 0 6 (dk_at dksX9_move_1 16 rfl rfl)
theorem dX9_move_42 : decode cX9_move 42 = .ok (.ldc 181, 2) := dk_18 181 (dk_at dksX9_move_1 19 rfl rfl)
theorem dX9_move_44 : decode cX9_move 44 = .ok (.ireturn, 1) := dk_172 (dk_at dksX9_move_1 21 rfl rfl)
theorem dX9_move_45 : decode cX9_move 45 = .ok (.aload_n 0, 1) := dk_42 (dk_at dksX9_move_1 22 rfl rfl)
theorem dX9_move_46 : decode cX9_move 46 = .ok (.invokevirtual 184, 3) := dk_182 0 184 (dk_at dksX9_move_2 0 rfl rfl)
theorem dX9_move_49 : decode cX9_move 49 = .ok (.aload_n 0, 1) := dk_42 (dk_at dksX9_move_2 3 rfl rfl)
theorem dX9_move_50 : decode cX9_move 50 = .ok (.getfield 19, 3) := dk_180 0 19 (dk_at dksX9_move_2 4 rfl rfl)
theorem dX9_move_53 : decode cX9_move 53 = .ok (.bipush 31, 2) := dk_16 31 (dk_at dksX9_move_2 7 rfl rfl)
theorem dX9_move_55 : decode cX9_move 55 = .ok (.iload_n 1, 1) := dk_27 (dk_at dksX9_move_2 9 rfl rfl)
theorem dX9_move_56 : decode cX9_move 56 = .ok (.iadd, 1) := dk_96 (dk_at dksX9_move_2 10 rfl rfl)
theorem dX9_move_57 : decode cX9_move 57 = .ok (.iload_n 2, 1) := dk_28 (dk_at dksX9_move_2 11 rfl rfl)
theorem dX9_move_58 : decode cX9_move 58 = .ok (.iastore, 1) := dk_79 (dk_at dksX9_move_2 12 rfl rfl)
theorem dX9_move_59 : decode cX9_move 59 = .ok (.iload_n 3, 1) := dk_29 (dk_at dksX9_move_2 13 rfl rfl)
theorem dX9_move_60 : decode cX9_move 60 = .ok (.ireturn, 1) := dk_172 (dk_at dksX9_move_2 14 rfl rfl)
abbrev cX9_isFish : ByteArray := prog_16_method_26_code
def yX9_isFish : MethodName := ⟨RX9, "isFish", "(I)Z"⟩
def dkwX9_isFish_0 : List UInt8 := [27, 133, 9, 42, 180, 0, 19, 4, 46, 4, 100, 133, 184, 0, 63, 172]
abbrev dktX9_isFish_0 : List UInt8 := dkwX9_isFish_0 ++ []
theorem dksX9_isFish_0 : cX9_isFish.data.toList.drop 0 = dktX9_isFish_0 := by decide +kernel
theorem dX9_isFish_0 : decode cX9_isFish 0 = .ok (.iload_n 1, 1) := dk_27 (dk_at dksX9_isFish_0 0 rfl rfl)
theorem dX9_isFish_1 : decode cX9_isFish 1 = .ok (.i2l, 1) := dk_133 (dk_at dksX9_isFish_0 1 rfl rfl)
theorem dX9_isFish_2 : decode cX9_isFish 2 = .ok (.lconst 0, 1) := dk_9 (dk_at dksX9_isFish_0 2 rfl rfl)
theorem dX9_isFish_3 : decode cX9_isFish 3 = .ok (.aload_n 0, 1) := dk_42 (dk_at dksX9_isFish_0 3 rfl rfl)
theorem dX9_isFish_4 : decode cX9_isFish 4 = .ok (.getfield 19, 3) := dk_180 0 19 (dk_at dksX9_isFish_0 4 rfl rfl)
theorem dX9_isFish_7 : decode cX9_isFish 7 = .ok (.iconst 1, 1) := dk_4 (dk_at dksX9_isFish_0 7 rfl rfl)
theorem dX9_isFish_8 : decode cX9_isFish 8 = .ok (.iaload, 1) := dk_46 (dk_at dksX9_isFish_0 8 rfl rfl)
theorem dX9_isFish_9 : decode cX9_isFish 9 = .ok (.iconst 1, 1) := dk_4 (dk_at dksX9_isFish_0 9 rfl rfl)
theorem dX9_isFish_10 : decode cX9_isFish 10 = .ok (.isub, 1) := dk_100 (dk_at dksX9_isFish_0 10 rfl rfl)
theorem dX9_isFish_11 : decode cX9_isFish 11 = .ok (.i2l, 1) := dk_133 (dk_at dksX9_isFish_0 11 rfl rfl)
theorem dX9_isFish_12 : decode cX9_isFish 12 = .ok (.invokestatic 63, 3) := dk_184 0 63 (dk_at dksX9_isFish_0 12 rfl rfl)
theorem dX9_isFish_15 : decode cX9_isFish 15 = .ok (.ireturn, 1) := dk_172 (dk_at dksX9_isFish_0 15 rfl rfl)
abbrev cX9_catchIt : ByteArray := prog_16_method_43_code
def yX9_catchIt : MethodName := ⟨RX9, "catchIt", "(I)I"⟩
def dkwX9_catchIt_1 : List UInt8 := [182, 0, 184, 42, 180, 0, 19, 16, 7, 92, 46, 4, 27, 120, 128, 79, 42, 180, 0, 19, 16, 7, 46, 172]
abbrev dktX9_catchIt_1 : List UInt8 := dkwX9_catchIt_1 ++ []
def dkwX9_catchIt_0 : List UInt8 := [42, 27, 182, 0, 200, 154, 0, 6, 18, 73, 172, 42, 27, 182, 0, 171, 153, 0, 6, 18, 181, 172, 42]
abbrev dktX9_catchIt_0 : List UInt8 := dkwX9_catchIt_0 ++ dktX9_catchIt_1
theorem dksX9_catchIt_0 : cX9_catchIt.data.toList.drop 0 = dktX9_catchIt_0 := by decide +kernel
theorem dksX9_catchIt_1 : cX9_catchIt.data.toList.drop 23 = dktX9_catchIt_1 := dk_seg dksX9_catchIt_0 23 rfl rfl
theorem dX9_catchIt_0 : decode cX9_catchIt 0 = .ok (.aload_n 0, 1) := dk_42 (dk_at dksX9_catchIt_0 0 rfl rfl)
theorem dX9_catchIt_1 : decode cX9_catchIt 1 = .ok (.iload_n 1, 1) := dk_27 (dk_at dksX9_catchIt_0 1 rfl rfl)
theorem dX9_catchIt_2 : decode cX9_catchIt 2 = .ok (.invokevirtual 200, 3) := dk_182 0 200 (dk_at dksX9_catchIt_0 2 rfl rfl)
theorem dX9_catchIt_5 : decode cX9_catchIt 5 = .ok (.ifCond .ne 6, 3) := dk_154 0 6 (dk_at dksX9_catchIt_0 5 rfl rfl)
theorem dX9_catchIt_8 : decode cX9_catchIt 8 = .ok (.ldc 73, 2) := dk_18 73 (dk_at dksX9_catchIt_0 8 rfl rfl)
theorem dX9_catchIt_10 : decode cX9_catchIt 10 = .ok (.ireturn, 1) := dk_172 (dk_at dksX9_catchIt_0 10 rfl rfl)
theorem dX9_catchIt_11 : decode cX9_catchIt 11 = .ok (.aload_n 0, 1) := dk_42 (dk_at dksX9_catchIt_0 11 rfl rfl)
theorem dX9_catchIt_12 : decode cX9_catchIt 12 = .ok (.iload_n 1, 1) := dk_27 (dk_at dksX9_catchIt_0 12 rfl rfl)
theorem dX9_catchIt_13 : decode cX9_catchIt 13 = .ok (.invokevirtual 171, 3) := dk_182 0 171 (dk_at dksX9_catchIt_0 13 rfl rfl)
theorem dX9_catchIt_16 : decode cX9_catchIt 16 = .ok (.ifCond .eq 6, 3) := dk_153 0 6 (dk_at dksX9_catchIt_0 16 rfl rfl)
theorem dX9_catchIt_19 : decode cX9_catchIt 19 = .ok (.ldc 181, 2) := dk_18 181 (dk_at dksX9_catchIt_0 19 rfl rfl)
theorem dX9_catchIt_21 : decode cX9_catchIt 21 = .ok (.ireturn, 1) := dk_172 (dk_at dksX9_catchIt_0 21 rfl rfl)
theorem dX9_catchIt_22 : decode cX9_catchIt 22 = .ok (.aload_n 0, 1) := dk_42 (dk_at dksX9_catchIt_0 22 rfl rfl)
theorem dX9_catchIt_23 : decode cX9_catchIt 23 = .ok (.invokevirtual 184, 3) := dk_182 0 184 (dk_at dksX9_catchIt_1 0 rfl rfl)
theorem dX9_catchIt_26 : decode cX9_catchIt 26 = .ok (.aload_n 0, 1) := dk_42 (dk_at dksX9_catchIt_1 3 rfl rfl)
theorem dX9_catchIt_27 : decode cX9_catchIt 27 = .ok (.getfield 19, 3) := dk_180 0 19 (dk_at dksX9_catchIt_1 4 rfl rfl)
theorem dX9_catchIt_30 : decode cX9_catchIt 30 = .ok (.bipush 7, 2) := dk_16 7 (dk_at dksX9_catchIt_1 7 rfl rfl)
theorem dX9_catchIt_32 : decode cX9_catchIt 32 = .ok (.dup2, 1) := dk_92 (dk_at dksX9_catchIt_1 9 rfl rfl)
theorem dX9_catchIt_33 : decode cX9_catchIt 33 = .ok (.iaload, 1) := dk_46 (dk_at dksX9_catchIt_1 10 rfl rfl)
theorem dX9_catchIt_34 : decode cX9_catchIt 34 = .ok (.iconst 1, 1) := dk_4 (dk_at dksX9_catchIt_1 11 rfl rfl)
theorem dX9_catchIt_35 : decode cX9_catchIt 35 = .ok (.iload_n 1, 1) := dk_27 (dk_at dksX9_catchIt_1 12 rfl rfl)
theorem dX9_catchIt_36 : decode cX9_catchIt 36 = .ok (.ishl, 1) := dk_120 (dk_at dksX9_catchIt_1 13 rfl rfl)
theorem dX9_catchIt_37 : decode cX9_catchIt 37 = .ok (.ior, 1) := dk_128 (dk_at dksX9_catchIt_1 14 rfl rfl)
theorem dX9_catchIt_38 : decode cX9_catchIt 38 = .ok (.iastore, 1) := dk_79 (dk_at dksX9_catchIt_1 15 rfl rfl)
theorem dX9_catchIt_39 : decode cX9_catchIt 39 = .ok (.aload_n 0, 1) := dk_42 (dk_at dksX9_catchIt_1 16 rfl rfl)
theorem dX9_catchIt_40 : decode cX9_catchIt 40 = .ok (.getfield 19, 3) := dk_180 0 19 (dk_at dksX9_catchIt_1 17 rfl rfl)
theorem dX9_catchIt_43 : decode cX9_catchIt 43 = .ok (.bipush 7, 2) := dk_16 7 (dk_at dksX9_catchIt_1 20 rfl rfl)
theorem dX9_catchIt_45 : decode cX9_catchIt 45 = .ok (.iaload, 1) := dk_46 (dk_at dksX9_catchIt_1 22 rfl rfl)
theorem dX9_catchIt_46 : decode cX9_catchIt 46 = .ok (.ireturn, 1) := dk_172 (dk_at dksX9_catchIt_1 23 rfl rfl)
abbrev cX9_book : ByteArray := prog_16_method_45_code
def yX9_book : MethodName := ⟨RX9, "book", "(II)I"⟩
def dkwX9_book_5 : List UInt8 := [180, 0, 19, 16, 20, 27, 96, 46, 182, 0, 203, 172, 18, 73, 172]
abbrev dktX9_book_5 : List UInt8 := dkwX9_book_5 ++ []
def dkwX9_book_4 : List UInt8 := [172, 42, 180, 0, 19, 16, 6, 46, 27, 184, 0, 154, 153, 0, 7, 4, 167, 0, 4, 3, 172, 42, 42]
abbrev dktX9_book_4 : List UInt8 := dkwX9_book_4 ++ dktX9_book_5
def dkwX9_book_3 : List UInt8 := [16, 20, 27, 96, 46, 172, 42, 180, 0, 19, 8, 46, 27, 184, 0, 154, 153, 0, 7, 4, 167, 0, 4, 3]
abbrev dktX9_book_3 : List UInt8 := dkwX9_book_3 ++ dktX9_book_4
def dkwX9_book_2 : List UInt8 := [42, 180, 0, 19, 16, 8, 27, 96, 46, 172, 42, 180, 0, 19, 16, 14, 27, 96, 46, 172, 42, 180, 0, 19]
abbrev dktX9_book_2 : List UInt8 := dkwX9_book_2 ++ dktX9_book_3
def dkwX9_book_1 : List UInt8 := [170, 0, 0, 0, 0, 0, 0, 123, 0, 0, 0, 0, 0, 0, 0, 5, 0, 0, 0, 40, 0, 0, 0, 50, 0, 0, 0, 60, 0, 0, 0, 70, 0, 0, 0, 89, 0, 0, 0, 109]
abbrev dktX9_book_1 : List UInt8 := dkwX9_book_1 ++ dktX9_book_2
def dkwX9_book_0 : List UInt8 := [42, 27, 182, 0, 194, 154, 0, 6, 18, 73, 172, 28]
abbrev dktX9_book_0 : List UInt8 := dkwX9_book_0 ++ dktX9_book_1
theorem dksX9_book_0 : cX9_book.data.toList.drop 0 = dktX9_book_0 := by decide +kernel
theorem dksX9_book_1 : cX9_book.data.toList.drop 12 = dktX9_book_1 := dk_seg dksX9_book_0 12 rfl rfl
theorem dksX9_book_2 : cX9_book.data.toList.drop 52 = dktX9_book_2 := dk_seg dksX9_book_1 40 rfl rfl
theorem dksX9_book_3 : cX9_book.data.toList.drop 76 = dktX9_book_3 := dk_seg dksX9_book_2 24 rfl rfl
theorem dksX9_book_4 : cX9_book.data.toList.drop 100 = dktX9_book_4 := dk_seg dksX9_book_3 24 rfl rfl
theorem dksX9_book_5 : cX9_book.data.toList.drop 123 = dktX9_book_5 := dk_seg dksX9_book_4 23 rfl rfl
theorem dX9_book_0 : decode cX9_book 0 = .ok (.aload_n 0, 1) := dk_42 (dk_at dksX9_book_0 0 rfl rfl)
theorem dX9_book_1 : decode cX9_book 1 = .ok (.iload_n 1, 1) := dk_27 (dk_at dksX9_book_0 1 rfl rfl)
theorem dX9_book_2 : decode cX9_book 2 = .ok (.invokevirtual 194, 3) := dk_182 0 194 (dk_at dksX9_book_0 2 rfl rfl)
theorem dX9_book_5 : decode cX9_book 5 = .ok (.ifCond .ne 6, 3) := dk_154 0 6 (dk_at dksX9_book_0 5 rfl rfl)
theorem dX9_book_8 : decode cX9_book 8 = .ok (.ldc 73, 2) := dk_18 73 (dk_at dksX9_book_0 8 rfl rfl)
theorem dX9_book_10 : decode cX9_book 10 = .ok (.ireturn, 1) := dk_172 (dk_at dksX9_book_0 10 rfl rfl)
theorem dX9_book_11 : decode cX9_book 11 = .ok (.iload_n 2, 1) := dk_28 (dk_at dksX9_book_0 11 rfl rfl)
theorem dX9_book_12 : decode cX9_book 12 = .ok (.tableswitch 123 0 5 #[40, 50, 60, 70, 89, 109], 40) := by decide +kernel
theorem dX9_book_52 : decode cX9_book 52 = .ok (.aload_n 0, 1) := dk_42 (dk_at dksX9_book_2 0 rfl rfl)
theorem dX9_book_53 : decode cX9_book 53 = .ok (.getfield 19, 3) := dk_180 0 19 (dk_at dksX9_book_2 1 rfl rfl)
theorem dX9_book_56 : decode cX9_book 56 = .ok (.bipush 8, 2) := dk_16 8 (dk_at dksX9_book_2 4 rfl rfl)
theorem dX9_book_58 : decode cX9_book 58 = .ok (.iload_n 1, 1) := dk_27 (dk_at dksX9_book_2 6 rfl rfl)
theorem dX9_book_59 : decode cX9_book 59 = .ok (.iadd, 1) := dk_96 (dk_at dksX9_book_2 7 rfl rfl)
theorem dX9_book_60 : decode cX9_book 60 = .ok (.iaload, 1) := dk_46 (dk_at dksX9_book_2 8 rfl rfl)
theorem dX9_book_61 : decode cX9_book 61 = .ok (.ireturn, 1) := dk_172 (dk_at dksX9_book_2 9 rfl rfl)
theorem dX9_book_62 : decode cX9_book 62 = .ok (.aload_n 0, 1) := dk_42 (dk_at dksX9_book_2 10 rfl rfl)
theorem dX9_book_63 : decode cX9_book 63 = .ok (.getfield 19, 3) := dk_180 0 19 (dk_at dksX9_book_2 11 rfl rfl)
theorem dX9_book_66 : decode cX9_book 66 = .ok (.bipush 14, 2) := dk_16 14 (dk_at dksX9_book_2 14 rfl rfl)
theorem dX9_book_68 : decode cX9_book 68 = .ok (.iload_n 1, 1) := dk_27 (dk_at dksX9_book_2 16 rfl rfl)
theorem dX9_book_69 : decode cX9_book 69 = .ok (.iadd, 1) := dk_96 (dk_at dksX9_book_2 17 rfl rfl)
theorem dX9_book_70 : decode cX9_book 70 = .ok (.iaload, 1) := dk_46 (dk_at dksX9_book_2 18 rfl rfl)
theorem dX9_book_71 : decode cX9_book 71 = .ok (.ireturn, 1) := dk_172 (dk_at dksX9_book_2 19 rfl rfl)
theorem dX9_book_72 : decode cX9_book 72 = .ok (.aload_n 0, 1) := dk_42 (dk_at dksX9_book_2 20 rfl rfl)
theorem dX9_book_73 : decode cX9_book 73 = .ok (.getfield 19, 3) := dk_180 0 19 (dk_at dksX9_book_2 21 rfl rfl)
theorem dX9_book_76 : decode cX9_book 76 = .ok (.bipush 20, 2) := dk_16 20 (dk_at dksX9_book_3 0 rfl rfl)
theorem dX9_book_78 : decode cX9_book 78 = .ok (.iload_n 1, 1) := dk_27 (dk_at dksX9_book_3 2 rfl rfl)
theorem dX9_book_79 : decode cX9_book 79 = .ok (.iadd, 1) := dk_96 (dk_at dksX9_book_3 3 rfl rfl)
theorem dX9_book_80 : decode cX9_book 80 = .ok (.iaload, 1) := dk_46 (dk_at dksX9_book_3 4 rfl rfl)
theorem dX9_book_81 : decode cX9_book 81 = .ok (.ireturn, 1) := dk_172 (dk_at dksX9_book_3 5 rfl rfl)
theorem dX9_book_82 : decode cX9_book 82 = .ok (.aload_n 0, 1) := dk_42 (dk_at dksX9_book_3 6 rfl rfl)
theorem dX9_book_83 : decode cX9_book 83 = .ok (.getfield 19, 3) := dk_180 0 19 (dk_at dksX9_book_3 7 rfl rfl)
theorem dX9_book_86 : decode cX9_book 86 = .ok (.iconst 5, 1) := dk_8 (dk_at dksX9_book_3 10 rfl rfl)
theorem dX9_book_87 : decode cX9_book 87 = .ok (.iaload, 1) := dk_46 (dk_at dksX9_book_3 11 rfl rfl)
theorem dX9_book_88 : decode cX9_book 88 = .ok (.iload_n 1, 1) := dk_27 (dk_at dksX9_book_3 12 rfl rfl)
theorem dX9_book_89 : decode cX9_book 89 = .ok (.invokestatic 154, 3) := dk_184 0 154 (dk_at dksX9_book_3 13 rfl rfl)
theorem dX9_book_92 : decode cX9_book 92 = .ok (.ifCond .eq 7, 3) := dk_153 0 7 (dk_at dksX9_book_3 16 rfl rfl)
theorem dX9_book_95 : decode cX9_book 95 = .ok (.iconst 1, 1) := dk_4 (dk_at dksX9_book_3 19 rfl rfl)
theorem dX9_book_96 : decode cX9_book 96 = .ok (.goto 4, 3) := dk_167 0 4 (dk_at dksX9_book_3 20 rfl rfl)
theorem dX9_book_99 : decode cX9_book 99 = .ok (.iconst 0, 1) := dk_3 (dk_at dksX9_book_3 23 rfl rfl)
theorem dX9_book_100 : decode cX9_book 100 = .ok (.ireturn, 1) := dk_172 (dk_at dksX9_book_4 0 rfl rfl)
theorem dX9_book_101 : decode cX9_book 101 = .ok (.aload_n 0, 1) := dk_42 (dk_at dksX9_book_4 1 rfl rfl)
theorem dX9_book_102 : decode cX9_book 102 = .ok (.getfield 19, 3) := dk_180 0 19 (dk_at dksX9_book_4 2 rfl rfl)
theorem dX9_book_105 : decode cX9_book 105 = .ok (.bipush 6, 2) := dk_16 6 (dk_at dksX9_book_4 5 rfl rfl)
theorem dX9_book_107 : decode cX9_book 107 = .ok (.iaload, 1) := dk_46 (dk_at dksX9_book_4 7 rfl rfl)
theorem dX9_book_108 : decode cX9_book 108 = .ok (.iload_n 1, 1) := dk_27 (dk_at dksX9_book_4 8 rfl rfl)
theorem dX9_book_109 : decode cX9_book 109 = .ok (.invokestatic 154, 3) := dk_184 0 154 (dk_at dksX9_book_4 9 rfl rfl)
theorem dX9_book_112 : decode cX9_book 112 = .ok (.ifCond .eq 7, 3) := dk_153 0 7 (dk_at dksX9_book_4 12 rfl rfl)
theorem dX9_book_115 : decode cX9_book 115 = .ok (.iconst 1, 1) := dk_4 (dk_at dksX9_book_4 15 rfl rfl)
theorem dX9_book_116 : decode cX9_book 116 = .ok (.goto 4, 3) := dk_167 0 4 (dk_at dksX9_book_4 16 rfl rfl)
theorem dX9_book_119 : decode cX9_book 119 = .ok (.iconst 0, 1) := dk_3 (dk_at dksX9_book_4 19 rfl rfl)
theorem dX9_book_120 : decode cX9_book 120 = .ok (.ireturn, 1) := dk_172 (dk_at dksX9_book_4 20 rfl rfl)
theorem dX9_book_121 : decode cX9_book 121 = .ok (.aload_n 0, 1) := dk_42 (dk_at dksX9_book_4 21 rfl rfl)
theorem dX9_book_122 : decode cX9_book 122 = .ok (.aload_n 0, 1) := dk_42 (dk_at dksX9_book_4 22 rfl rfl)
theorem dX9_book_123 : decode cX9_book 123 = .ok (.getfield 19, 3) := dk_180 0 19 (dk_at dksX9_book_5 0 rfl rfl)
theorem dX9_book_126 : decode cX9_book 126 = .ok (.bipush 20, 2) := dk_16 20 (dk_at dksX9_book_5 3 rfl rfl)
theorem dX9_book_128 : decode cX9_book 128 = .ok (.iload_n 1, 1) := dk_27 (dk_at dksX9_book_5 5 rfl rfl)
theorem dX9_book_129 : decode cX9_book 129 = .ok (.iadd, 1) := dk_96 (dk_at dksX9_book_5 6 rfl rfl)
theorem dX9_book_130 : decode cX9_book 130 = .ok (.iaload, 1) := dk_46 (dk_at dksX9_book_5 7 rfl rfl)
theorem dX9_book_131 : decode cX9_book 131 = .ok (.invokevirtual 203, 3) := dk_182 0 203 (dk_at dksX9_book_5 8 rfl rfl)
theorem dX9_book_134 : decode cX9_book 134 = .ok (.ireturn, 1) := dk_172 (dk_at dksX9_book_5 11 rfl rfl)
theorem dX9_book_135 : decode cX9_book 135 = .ok (.ldc 73, 2) := dk_18 73 (dk_at dksX9_book_5 12 rfl rfl)
theorem dX9_book_137 : decode cX9_book 137 = .ok (.ireturn, 1) := dk_172 (dk_at dksX9_book_5 14 rfl rfl)
abbrev cX9_fishAt : ByteArray := prog_16_method_44_code
def yX9_fishAt : MethodName := ⟨RX9, "fishAt", "(I)I"⟩
def dkwX9_fishAt_2 : List UInt8 := [167, 255, 212, 28, 172]
abbrev dktX9_fishAt_2 : List UInt8 := dkwX9_fishAt_2 ++ []
def dkwX9_fishAt_1 : List UInt8 := [180, 0, 19, 16, 31, 29, 96, 46, 27, 160, 0, 9, 4, 29, 120, 167, 0, 4, 3, 128, 61, 132, 3, 1]
abbrev dktX9_fishAt_1 : List UInt8 := dkwX9_fishAt_1 ++ dktX9_fishAt_2
def dkwX9_fishAt_0 : List UInt8 := [3, 61, 3, 62, 29, 42, 180, 0, 19, 4, 46, 162, 0, 40, 28, 42, 29, 182, 0, 171, 154, 0, 22, 42]
abbrev dktX9_fishAt_0 : List UInt8 := dkwX9_fishAt_0 ++ dktX9_fishAt_1
theorem dksX9_fishAt_0 : cX9_fishAt.data.toList.drop 0 = dktX9_fishAt_0 := by decide +kernel
theorem dksX9_fishAt_1 : cX9_fishAt.data.toList.drop 24 = dktX9_fishAt_1 := dk_seg dksX9_fishAt_0 24 rfl rfl
theorem dksX9_fishAt_2 : cX9_fishAt.data.toList.drop 48 = dktX9_fishAt_2 := dk_seg dksX9_fishAt_1 24 rfl rfl
theorem dX9_fishAt_0 : decode cX9_fishAt 0 = .ok (.iconst 0, 1) := dk_3 (dk_at dksX9_fishAt_0 0 rfl rfl)
theorem dX9_fishAt_1 : decode cX9_fishAt 1 = .ok (.istore_n 2, 1) := dk_61 (dk_at dksX9_fishAt_0 1 rfl rfl)
theorem dX9_fishAt_2 : decode cX9_fishAt 2 = .ok (.iconst 0, 1) := dk_3 (dk_at dksX9_fishAt_0 2 rfl rfl)
theorem dX9_fishAt_3 : decode cX9_fishAt 3 = .ok (.istore_n 3, 1) := dk_62 (dk_at dksX9_fishAt_0 3 rfl rfl)
theorem dX9_fishAt_4 : decode cX9_fishAt 4 = .ok (.iload_n 3, 1) := dk_29 (dk_at dksX9_fishAt_0 4 rfl rfl)
theorem dX9_fishAt_5 : decode cX9_fishAt 5 = .ok (.aload_n 0, 1) := dk_42 (dk_at dksX9_fishAt_0 5 rfl rfl)
theorem dX9_fishAt_6 : decode cX9_fishAt 6 = .ok (.getfield 19, 3) := dk_180 0 19 (dk_at dksX9_fishAt_0 6 rfl rfl)
theorem dX9_fishAt_9 : decode cX9_fishAt 9 = .ok (.iconst 1, 1) := dk_4 (dk_at dksX9_fishAt_0 9 rfl rfl)
theorem dX9_fishAt_10 : decode cX9_fishAt 10 = .ok (.iaload, 1) := dk_46 (dk_at dksX9_fishAt_0 10 rfl rfl)
theorem dX9_fishAt_11 : decode cX9_fishAt 11 = .ok (.if_icmp .ge 40, 3) := dk_162 0 40 (dk_at dksX9_fishAt_0 11 rfl rfl)
theorem dX9_fishAt_14 : decode cX9_fishAt 14 = .ok (.iload_n 2, 1) := dk_28 (dk_at dksX9_fishAt_0 14 rfl rfl)
theorem dX9_fishAt_15 : decode cX9_fishAt 15 = .ok (.aload_n 0, 1) := dk_42 (dk_at dksX9_fishAt_0 15 rfl rfl)
theorem dX9_fishAt_16 : decode cX9_fishAt 16 = .ok (.iload_n 3, 1) := dk_29 (dk_at dksX9_fishAt_0 16 rfl rfl)
theorem dX9_fishAt_17 : decode cX9_fishAt 17 = .ok (.invokevirtual 171, 3) := dk_182 0 171 (dk_at dksX9_fishAt_0 17 rfl rfl)
theorem dX9_fishAt_20 : decode cX9_fishAt 20 = .ok (.ifCond .ne 22, 3) := dk_154 0 22 (dk_at dksX9_fishAt_0 20 rfl rfl)
theorem dX9_fishAt_23 : decode cX9_fishAt 23 = .ok (.aload_n 0, 1) := dk_42 (dk_at dksX9_fishAt_0 23 rfl rfl)
theorem dX9_fishAt_24 : decode cX9_fishAt 24 = .ok (.getfield 19, 3) := dk_180 0 19 (dk_at dksX9_fishAt_1 0 rfl rfl)
theorem dX9_fishAt_27 : decode cX9_fishAt 27 = .ok (.bipush 31, 2) := dk_16 31 (dk_at dksX9_fishAt_1 3 rfl rfl)
theorem dX9_fishAt_29 : decode cX9_fishAt 29 = .ok (.iload_n 3, 1) := dk_29 (dk_at dksX9_fishAt_1 5 rfl rfl)
theorem dX9_fishAt_30 : decode cX9_fishAt 30 = .ok (.iadd, 1) := dk_96 (dk_at dksX9_fishAt_1 6 rfl rfl)
theorem dX9_fishAt_31 : decode cX9_fishAt 31 = .ok (.iaload, 1) := dk_46 (dk_at dksX9_fishAt_1 7 rfl rfl)
theorem dX9_fishAt_32 : decode cX9_fishAt 32 = .ok (.iload_n 1, 1) := dk_27 (dk_at dksX9_fishAt_1 8 rfl rfl)
theorem dX9_fishAt_33 : decode cX9_fishAt 33 = .ok (.if_icmp .ne 9, 3) := dk_160 0 9 (dk_at dksX9_fishAt_1 9 rfl rfl)
theorem dX9_fishAt_36 : decode cX9_fishAt 36 = .ok (.iconst 1, 1) := dk_4 (dk_at dksX9_fishAt_1 12 rfl rfl)
theorem dX9_fishAt_37 : decode cX9_fishAt 37 = .ok (.iload_n 3, 1) := dk_29 (dk_at dksX9_fishAt_1 13 rfl rfl)
theorem dX9_fishAt_38 : decode cX9_fishAt 38 = .ok (.ishl, 1) := dk_120 (dk_at dksX9_fishAt_1 14 rfl rfl)
theorem dX9_fishAt_39 : decode cX9_fishAt 39 = .ok (.goto 4, 3) := dk_167 0 4 (dk_at dksX9_fishAt_1 15 rfl rfl)
theorem dX9_fishAt_42 : decode cX9_fishAt 42 = .ok (.iconst 0, 1) := dk_3 (dk_at dksX9_fishAt_1 18 rfl rfl)
theorem dX9_fishAt_43 : decode cX9_fishAt 43 = .ok (.ior, 1) := dk_128 (dk_at dksX9_fishAt_1 19 rfl rfl)
theorem dX9_fishAt_44 : decode cX9_fishAt 44 = .ok (.istore_n 2, 1) := dk_61 (dk_at dksX9_fishAt_1 20 rfl rfl)
theorem dX9_fishAt_45 : decode cX9_fishAt 45 = .ok (.iinc 3 1, 3) := dk_132 3 1 (dk_at dksX9_fishAt_1 21 rfl rfl)
theorem dX9_fishAt_48 : decode cX9_fishAt 48 = .ok (.goto (-44), 3) := dk_167 255 212 (dk_at dksX9_fishAt_2 0 rfl rfl)
theorem dX9_fishAt_51 : decode cX9_fishAt 51 = .ok (.iload_n 2, 1) := dk_28 (dk_at dksX9_fishAt_2 3 rfl rfl)
theorem dX9_fishAt_52 : decode cX9_fishAt 52 = .ok (.ireturn, 1) := dk_172 (dk_at dksX9_fishAt_2 4 rfl rfl)
abbrev cX9_fish : ByteArray := prog_16_method_46_code
def yX9_fish : MethodName := ⟨RX9, "fish", "(II)I"⟩
def dkwX9_fish_3 : List UInt8 := [182, 0, 168, 167, 0, 16, 42, 42, 180, 0, 19, 16, 31, 27, 96, 46, 182, 0, 159, 172]
abbrev dktX9_fish_3 : List UInt8 := dkwX9_fish_3 ++ []
def dkwX9_fish_2 : List UInt8 := [172, 28, 154, 0, 15, 42, 180, 0, 19, 16, 31, 27, 96, 46, 167, 0, 29, 28, 5, 160, 0, 11, 42, 27]
abbrev dktX9_fish_2 : List UInt8 := dkwX9_fish_2 ++ dktX9_fish_3
def dkwX9_fish_1 : List UInt8 := [4, 160, 0, 13, 42, 180, 0, 19, 16, 36, 27, 96, 46, 172, 42, 27, 182, 0, 171, 153, 0, 6, 18, 158]
abbrev dktX9_fish_1 : List UInt8 := dkwX9_fish_1 ++ dktX9_fish_2
def dkwX9_fish_0 : List UInt8 := [42, 27, 182, 0, 200, 153, 0, 15, 28, 133, 9, 20, 0, 206, 184, 0, 63, 154, 0, 6, 18, 73, 172, 28]
abbrev dktX9_fish_0 : List UInt8 := dkwX9_fish_0 ++ dktX9_fish_1
theorem dksX9_fish_0 : cX9_fish.data.toList.drop 0 = dktX9_fish_0 := by decide +kernel
theorem dksX9_fish_1 : cX9_fish.data.toList.drop 24 = dktX9_fish_1 := dk_seg dksX9_fish_0 24 rfl rfl
theorem dksX9_fish_2 : cX9_fish.data.toList.drop 48 = dktX9_fish_2 := dk_seg dksX9_fish_1 24 rfl rfl
theorem dksX9_fish_3 : cX9_fish.data.toList.drop 72 = dktX9_fish_3 := dk_seg dksX9_fish_2 24 rfl rfl
theorem dX9_fish_0 : decode cX9_fish 0 = .ok (.aload_n 0, 1) := dk_42 (dk_at dksX9_fish_0 0 rfl rfl)
theorem dX9_fish_1 : decode cX9_fish 1 = .ok (.iload_n 1, 1) := dk_27 (dk_at dksX9_fish_0 1 rfl rfl)
theorem dX9_fish_2 : decode cX9_fish 2 = .ok (.invokevirtual 200, 3) := dk_182 0 200 (dk_at dksX9_fish_0 2 rfl rfl)
theorem dX9_fish_5 : decode cX9_fish 5 = .ok (.ifCond .eq 15, 3) := dk_153 0 15 (dk_at dksX9_fish_0 5 rfl rfl)
theorem dX9_fish_8 : decode cX9_fish 8 = .ok (.iload_n 2, 1) := dk_28 (dk_at dksX9_fish_0 8 rfl rfl)
theorem dX9_fish_9 : decode cX9_fish 9 = .ok (.i2l, 1) := dk_133 (dk_at dksX9_fish_0 9 rfl rfl)
theorem dX9_fish_10 : decode cX9_fish 10 = .ok (.lconst 0, 1) := dk_9 (dk_at dksX9_fish_0 10 rfl rfl)
theorem dX9_fish_11 : decode cX9_fish 11 = .ok (.ldc2_w 206, 3) := dk_20 0 206 (dk_at dksX9_fish_0 11 rfl rfl)
theorem dX9_fish_14 : decode cX9_fish 14 = .ok (.invokestatic 63, 3) := dk_184 0 63 (dk_at dksX9_fish_0 14 rfl rfl)
theorem dX9_fish_17 : decode cX9_fish 17 = .ok (.ifCond .ne 6, 3) := dk_154 0 6 (dk_at dksX9_fish_0 17 rfl rfl)
theorem dX9_fish_20 : decode cX9_fish 20 = .ok (.ldc 73, 2) := dk_18 73 (dk_at dksX9_fish_0 20 rfl rfl)
theorem dX9_fish_22 : decode cX9_fish 22 = .ok (.ireturn, 1) := dk_172 (dk_at dksX9_fish_0 22 rfl rfl)
theorem dX9_fish_23 : decode cX9_fish 23 = .ok (.iload_n 2, 1) := dk_28 (dk_at dksX9_fish_0 23 rfl rfl)
theorem dX9_fish_24 : decode cX9_fish 24 = .ok (.iconst 1, 1) := dk_4 (dk_at dksX9_fish_1 0 rfl rfl)
theorem dX9_fish_25 : decode cX9_fish 25 = .ok (.if_icmp .ne 13, 3) := dk_160 0 13 (dk_at dksX9_fish_1 1 rfl rfl)
theorem dX9_fish_28 : decode cX9_fish 28 = .ok (.aload_n 0, 1) := dk_42 (dk_at dksX9_fish_1 4 rfl rfl)
theorem dX9_fish_29 : decode cX9_fish 29 = .ok (.getfield 19, 3) := dk_180 0 19 (dk_at dksX9_fish_1 5 rfl rfl)
theorem dX9_fish_32 : decode cX9_fish 32 = .ok (.bipush 36, 2) := dk_16 36 (dk_at dksX9_fish_1 8 rfl rfl)
theorem dX9_fish_34 : decode cX9_fish 34 = .ok (.iload_n 1, 1) := dk_27 (dk_at dksX9_fish_1 10 rfl rfl)
theorem dX9_fish_35 : decode cX9_fish 35 = .ok (.iadd, 1) := dk_96 (dk_at dksX9_fish_1 11 rfl rfl)
theorem dX9_fish_36 : decode cX9_fish 36 = .ok (.iaload, 1) := dk_46 (dk_at dksX9_fish_1 12 rfl rfl)
theorem dX9_fish_37 : decode cX9_fish 37 = .ok (.ireturn, 1) := dk_172 (dk_at dksX9_fish_1 13 rfl rfl)
theorem dX9_fish_38 : decode cX9_fish 38 = .ok (.aload_n 0, 1) := dk_42 (dk_at dksX9_fish_1 14 rfl rfl)
theorem dX9_fish_39 : decode cX9_fish 39 = .ok (.iload_n 1, 1) := dk_27 (dk_at dksX9_fish_1 15 rfl rfl)
theorem dX9_fish_40 : decode cX9_fish 40 = .ok (.invokevirtual 171, 3) := dk_182 0 171 (dk_at dksX9_fish_1 16 rfl rfl)
theorem dX9_fish_43 : decode cX9_fish 43 = .ok (.ifCond .eq 6, 3) := dk_153 0 6 (dk_at dksX9_fish_1 19 rfl rfl)
theorem dX9_fish_46 : decode cX9_fish 46 = .ok (.ldc 158, 2) := dk_18 158 (dk_at dksX9_fish_1 22 rfl rfl)
theorem dX9_fish_48 : decode cX9_fish 48 = .ok (.ireturn, 1) := dk_172 (dk_at dksX9_fish_2 0 rfl rfl)
theorem dX9_fish_49 : decode cX9_fish 49 = .ok (.iload_n 2, 1) := dk_28 (dk_at dksX9_fish_2 1 rfl rfl)
theorem dX9_fish_50 : decode cX9_fish 50 = .ok (.ifCond .ne 15, 3) := dk_154 0 15 (dk_at dksX9_fish_2 2 rfl rfl)
theorem dX9_fish_53 : decode cX9_fish 53 = .ok (.aload_n 0, 1) := dk_42 (dk_at dksX9_fish_2 5 rfl rfl)
theorem dX9_fish_54 : decode cX9_fish 54 = .ok (.getfield 19, 3) := dk_180 0 19 (dk_at dksX9_fish_2 6 rfl rfl)
theorem dX9_fish_57 : decode cX9_fish 57 = .ok (.bipush 31, 2) := dk_16 31 (dk_at dksX9_fish_2 9 rfl rfl)
theorem dX9_fish_59 : decode cX9_fish 59 = .ok (.iload_n 1, 1) := dk_27 (dk_at dksX9_fish_2 11 rfl rfl)
theorem dX9_fish_60 : decode cX9_fish 60 = .ok (.iadd, 1) := dk_96 (dk_at dksX9_fish_2 12 rfl rfl)
theorem dX9_fish_61 : decode cX9_fish 61 = .ok (.iaload, 1) := dk_46 (dk_at dksX9_fish_2 13 rfl rfl)
theorem dX9_fish_62 : decode cX9_fish 62 = .ok (.goto 29, 3) := dk_167 0 29 (dk_at dksX9_fish_2 14 rfl rfl)
theorem dX9_fish_65 : decode cX9_fish 65 = .ok (.iload_n 2, 1) := dk_28 (dk_at dksX9_fish_2 17 rfl rfl)
theorem dX9_fish_66 : decode cX9_fish 66 = .ok (.iconst 2, 1) := dk_5 (dk_at dksX9_fish_2 18 rfl rfl)
theorem dX9_fish_67 : decode cX9_fish 67 = .ok (.if_icmp .ne 11, 3) := dk_160 0 11 (dk_at dksX9_fish_2 19 rfl rfl)
theorem dX9_fish_70 : decode cX9_fish 70 = .ok (.aload_n 0, 1) := dk_42 (dk_at dksX9_fish_2 22 rfl rfl)
theorem dX9_fish_71 : decode cX9_fish 71 = .ok (.iload_n 1, 1) := dk_27 (dk_at dksX9_fish_2 23 rfl rfl)
theorem dX9_fish_72 : decode cX9_fish 72 = .ok (.invokevirtual 168, 3) := dk_182 0 168 (dk_at dksX9_fish_3 0 rfl rfl)
theorem dX9_fish_75 : decode cX9_fish 75 = .ok (.goto 16, 3) := dk_167 0 16 (dk_at dksX9_fish_3 3 rfl rfl)
theorem dX9_fish_78 : decode cX9_fish 78 = .ok (.aload_n 0, 1) := dk_42 (dk_at dksX9_fish_3 6 rfl rfl)
theorem dX9_fish_79 : decode cX9_fish 79 = .ok (.aload_n 0, 1) := dk_42 (dk_at dksX9_fish_3 7 rfl rfl)
theorem dX9_fish_80 : decode cX9_fish 80 = .ok (.getfield 19, 3) := dk_180 0 19 (dk_at dksX9_fish_3 8 rfl rfl)
theorem dX9_fish_83 : decode cX9_fish 83 = .ok (.bipush 31, 2) := dk_16 31 (dk_at dksX9_fish_3 11 rfl rfl)
theorem dX9_fish_85 : decode cX9_fish 85 = .ok (.iload_n 1, 1) := dk_27 (dk_at dksX9_fish_3 13 rfl rfl)
theorem dX9_fish_86 : decode cX9_fish 86 = .ok (.iadd, 1) := dk_96 (dk_at dksX9_fish_3 14 rfl rfl)
theorem dX9_fish_87 : decode cX9_fish 87 = .ok (.iaload, 1) := dk_46 (dk_at dksX9_fish_3 15 rfl rfl)
theorem dX9_fish_88 : decode cX9_fish 88 = .ok (.invokevirtual 159, 3) := dk_182 0 159 (dk_at dksX9_fish_3 16 rfl rfl)
theorem dX9_fish_91 : decode cX9_fish 91 = .ok (.ireturn, 1) := dk_172 (dk_at dksX9_fish_3 19 rfl rfl)
abbrev cX9_stand : ByteArray := prog_16_method_47_code
def yX9_stand : MethodName := ⟨RX9, "stand", "(I)I"⟩
def dkwX9_stand_3 : List UInt8 := [182, 0, 190, 172, 42, 180, 0, 19, 5, 46, 172, 42, 180, 0, 19, 6, 46, 172, 18, 73, 172]
abbrev dktX9_stand_3 : List UInt8 := dkwX9_stand_3 ++ []
def dkwX9_stand_2 : List UInt8 := [42, 180, 0, 19, 8, 46, 172, 42, 180, 0, 19, 16, 6, 46, 172, 42, 180, 0, 19, 16, 7, 46, 172, 42]
abbrev dktX9_stand_2 : List UInt8 := dkwX9_stand_2 ++ dktX9_stand_3
def dkwX9_stand_1 : List UInt8 := [170, 0, 0, 0, 79, 0, 0, 0, 0, 0, 0, 0, 5, 0, 0, 0, 37, 0, 0, 0, 44, 0, 0, 0, 52, 0, 0, 0, 60, 0, 0, 0, 65, 0, 0, 0, 72]
abbrev dktX9_stand_1 : List UInt8 := dkwX9_stand_1 ++ dktX9_stand_2
def dkwX9_stand_0 : List UInt8 := [42, 180, 0, 147, 154, 0, 6, 18, 181, 172, 27]
abbrev dktX9_stand_0 : List UInt8 := dkwX9_stand_0 ++ dktX9_stand_1
theorem dksX9_stand_0 : cX9_stand.data.toList.drop 0 = dktX9_stand_0 := by decide +kernel
theorem dksX9_stand_1 : cX9_stand.data.toList.drop 11 = dktX9_stand_1 := dk_seg dksX9_stand_0 11 rfl rfl
theorem dksX9_stand_2 : cX9_stand.data.toList.drop 48 = dktX9_stand_2 := dk_seg dksX9_stand_1 37 rfl rfl
theorem dksX9_stand_3 : cX9_stand.data.toList.drop 72 = dktX9_stand_3 := dk_seg dksX9_stand_2 24 rfl rfl
theorem dX9_stand_0 : decode cX9_stand 0 = .ok (.aload_n 0, 1) := dk_42 (dk_at dksX9_stand_0 0 rfl rfl)
theorem dX9_stand_1 : decode cX9_stand 1 = .ok (.getfield 147, 3) := dk_180 0 147 (dk_at dksX9_stand_0 1 rfl rfl)
theorem dX9_stand_4 : decode cX9_stand 4 = .ok (.ifCond .ne 6, 3) := dk_154 0 6 (dk_at dksX9_stand_0 4 rfl rfl)
theorem dX9_stand_7 : decode cX9_stand 7 = .ok (.ldc 181, 2) := dk_18 181 (dk_at dksX9_stand_0 7 rfl rfl)
theorem dX9_stand_9 : decode cX9_stand 9 = .ok (.ireturn, 1) := dk_172 (dk_at dksX9_stand_0 9 rfl rfl)
theorem dX9_stand_10 : decode cX9_stand 10 = .ok (.iload_n 1, 1) := dk_27 (dk_at dksX9_stand_0 10 rfl rfl)
theorem dX9_stand_11 : decode cX9_stand 11 = .ok (.tableswitch 79 0 5 #[37, 44, 52, 60, 65, 72], 37) := by decide +kernel
theorem dX9_stand_48 : decode cX9_stand 48 = .ok (.aload_n 0, 1) := dk_42 (dk_at dksX9_stand_2 0 rfl rfl)
theorem dX9_stand_49 : decode cX9_stand 49 = .ok (.getfield 19, 3) := dk_180 0 19 (dk_at dksX9_stand_2 1 rfl rfl)
theorem dX9_stand_52 : decode cX9_stand 52 = .ok (.iconst 5, 1) := dk_8 (dk_at dksX9_stand_2 4 rfl rfl)
theorem dX9_stand_53 : decode cX9_stand 53 = .ok (.iaload, 1) := dk_46 (dk_at dksX9_stand_2 5 rfl rfl)
theorem dX9_stand_54 : decode cX9_stand 54 = .ok (.ireturn, 1) := dk_172 (dk_at dksX9_stand_2 6 rfl rfl)
theorem dX9_stand_55 : decode cX9_stand 55 = .ok (.aload_n 0, 1) := dk_42 (dk_at dksX9_stand_2 7 rfl rfl)
theorem dX9_stand_56 : decode cX9_stand 56 = .ok (.getfield 19, 3) := dk_180 0 19 (dk_at dksX9_stand_2 8 rfl rfl)
theorem dX9_stand_59 : decode cX9_stand 59 = .ok (.bipush 6, 2) := dk_16 6 (dk_at dksX9_stand_2 11 rfl rfl)
theorem dX9_stand_61 : decode cX9_stand 61 = .ok (.iaload, 1) := dk_46 (dk_at dksX9_stand_2 13 rfl rfl)
theorem dX9_stand_62 : decode cX9_stand 62 = .ok (.ireturn, 1) := dk_172 (dk_at dksX9_stand_2 14 rfl rfl)
theorem dX9_stand_63 : decode cX9_stand 63 = .ok (.aload_n 0, 1) := dk_42 (dk_at dksX9_stand_2 15 rfl rfl)
theorem dX9_stand_64 : decode cX9_stand 64 = .ok (.getfield 19, 3) := dk_180 0 19 (dk_at dksX9_stand_2 16 rfl rfl)
theorem dX9_stand_67 : decode cX9_stand 67 = .ok (.bipush 7, 2) := dk_16 7 (dk_at dksX9_stand_2 19 rfl rfl)
theorem dX9_stand_69 : decode cX9_stand 69 = .ok (.iaload, 1) := dk_46 (dk_at dksX9_stand_2 21 rfl rfl)
theorem dX9_stand_70 : decode cX9_stand 70 = .ok (.ireturn, 1) := dk_172 (dk_at dksX9_stand_2 22 rfl rfl)
theorem dX9_stand_71 : decode cX9_stand 71 = .ok (.aload_n 0, 1) := dk_42 (dk_at dksX9_stand_2 23 rfl rfl)
theorem dX9_stand_72 : decode cX9_stand 72 = .ok (.invokevirtual 190, 3) := dk_182 0 190 (dk_at dksX9_stand_3 0 rfl rfl)
theorem dX9_stand_75 : decode cX9_stand 75 = .ok (.ireturn, 1) := dk_172 (dk_at dksX9_stand_3 3 rfl rfl)
theorem dX9_stand_76 : decode cX9_stand 76 = .ok (.aload_n 0, 1) := dk_42 (dk_at dksX9_stand_3 4 rfl rfl)
theorem dX9_stand_77 : decode cX9_stand 77 = .ok (.getfield 19, 3) := dk_180 0 19 (dk_at dksX9_stand_3 5 rfl rfl)
theorem dX9_stand_80 : decode cX9_stand 80 = .ok (.iconst 2, 1) := dk_5 (dk_at dksX9_stand_3 8 rfl rfl)
theorem dX9_stand_81 : decode cX9_stand 81 = .ok (.iaload, 1) := dk_46 (dk_at dksX9_stand_3 9 rfl rfl)
theorem dX9_stand_82 : decode cX9_stand 82 = .ok (.ireturn, 1) := dk_172 (dk_at dksX9_stand_3 10 rfl rfl)
theorem dX9_stand_83 : decode cX9_stand 83 = .ok (.aload_n 0, 1) := dk_42 (dk_at dksX9_stand_3 11 rfl rfl)
theorem dX9_stand_84 : decode cX9_stand 84 = .ok (.getfield 19, 3) := dk_180 0 19 (dk_at dksX9_stand_3 12 rfl rfl)
theorem dX9_stand_87 : decode cX9_stand 87 = .ok (.iconst 3, 1) := dk_6 (dk_at dksX9_stand_3 15 rfl rfl)
theorem dX9_stand_88 : decode cX9_stand 88 = .ok (.iaload, 1) := dk_46 (dk_at dksX9_stand_3 16 rfl rfl)
theorem dX9_stand_89 : decode cX9_stand 89 = .ok (.ireturn, 1) := dk_172 (dk_at dksX9_stand_3 17 rfl rfl)
theorem dX9_stand_90 : decode cX9_stand 90 = .ok (.ldc 73, 2) := dk_18 73 (dk_at dksX9_stand_3 18 rfl rfl)
theorem dX9_stand_92 : decode cX9_stand 92 = .ok (.ireturn, 1) := dk_172 (dk_at dksX9_stand_3 20 rfl rfl)
abbrev cX9_ahead : ByteArray := prog_16_method_53_code
def yX9_ahead : MethodName := ⟨RX9, "ahead", "(III)I"⟩
def dkwX9_ahead_3 : List UInt8 := [21, 4, 172]
abbrev dktX9_ahead_3 : List UInt8 := dkwX9_ahead_3 ++ []
def dkwX9_ahead_2 : List UInt8 := [16, 8, 27, 96, 46, 167, 0, 12, 42, 180, 0, 19, 16, 14, 27, 96, 46, 54, 4, 42, 182, 0, 211]
abbrev dktX9_ahead_2 : List UInt8 := dkwX9_ahead_2 ++ dktX9_ahead_3
def dkwX9_ahead_1 : List UInt8 := [154, 0, 6, 18, 73, 172, 42, 182, 0, 219, 42, 28, 182, 0, 208, 29, 154, 0, 15, 42, 180, 0, 19]
abbrev dktX9_ahead_1 : List UInt8 := dkwX9_ahead_1 ++ dktX9_ahead_2
def dkwX9_ahead_0 : List UInt8 := [42, 27, 182, 0, 194, 153, 0, 22, 28, 133, 9, 20, 0, 214, 184, 0, 63, 153, 0, 10, 29, 184, 0, 216]
abbrev dktX9_ahead_0 : List UInt8 := dkwX9_ahead_0 ++ dktX9_ahead_1
theorem dksX9_ahead_0 : cX9_ahead.data.toList.drop 0 = dktX9_ahead_0 := by decide +kernel
theorem dksX9_ahead_1 : cX9_ahead.data.toList.drop 24 = dktX9_ahead_1 := dk_seg dksX9_ahead_0 24 rfl rfl
theorem dksX9_ahead_2 : cX9_ahead.data.toList.drop 47 = dktX9_ahead_2 := dk_seg dksX9_ahead_1 23 rfl rfl
theorem dksX9_ahead_3 : cX9_ahead.data.toList.drop 70 = dktX9_ahead_3 := dk_seg dksX9_ahead_2 23 rfl rfl
theorem dX9_ahead_0 : decode cX9_ahead 0 = .ok (.aload_n 0, 1) := dk_42 (dk_at dksX9_ahead_0 0 rfl rfl)
theorem dX9_ahead_1 : decode cX9_ahead 1 = .ok (.iload_n 1, 1) := dk_27 (dk_at dksX9_ahead_0 1 rfl rfl)
theorem dX9_ahead_2 : decode cX9_ahead 2 = .ok (.invokevirtual 194, 3) := dk_182 0 194 (dk_at dksX9_ahead_0 2 rfl rfl)
theorem dX9_ahead_5 : decode cX9_ahead 5 = .ok (.ifCond .eq 22, 3) := dk_153 0 22 (dk_at dksX9_ahead_0 5 rfl rfl)
theorem dX9_ahead_8 : decode cX9_ahead 8 = .ok (.iload_n 2, 1) := dk_28 (dk_at dksX9_ahead_0 8 rfl rfl)
theorem dX9_ahead_9 : decode cX9_ahead 9 = .ok (.i2l, 1) := dk_133 (dk_at dksX9_ahead_0 9 rfl rfl)
theorem dX9_ahead_10 : decode cX9_ahead 10 = .ok (.lconst 0, 1) := dk_9 (dk_at dksX9_ahead_0 10 rfl rfl)
theorem dX9_ahead_11 : decode cX9_ahead 11 = .ok (.ldc2_w 214, 3) := dk_20 0 214 (dk_at dksX9_ahead_0 11 rfl rfl)
theorem dX9_ahead_14 : decode cX9_ahead 14 = .ok (.invokestatic 63, 3) := dk_184 0 63 (dk_at dksX9_ahead_0 14 rfl rfl)
theorem dX9_ahead_17 : decode cX9_ahead 17 = .ok (.ifCond .eq 10, 3) := dk_153 0 10 (dk_at dksX9_ahead_0 17 rfl rfl)
theorem dX9_ahead_20 : decode cX9_ahead 20 = .ok (.iload_n 3, 1) := dk_29 (dk_at dksX9_ahead_0 20 rfl rfl)
theorem dX9_ahead_21 : decode cX9_ahead 21 = .ok (.invokestatic 216, 3) := dk_184 0 216 (dk_at dksX9_ahead_0 21 rfl rfl)
theorem dX9_ahead_24 : decode cX9_ahead 24 = .ok (.ifCond .ne 6, 3) := dk_154 0 6 (dk_at dksX9_ahead_1 0 rfl rfl)
theorem dX9_ahead_27 : decode cX9_ahead 27 = .ok (.ldc 73, 2) := dk_18 73 (dk_at dksX9_ahead_1 3 rfl rfl)
theorem dX9_ahead_29 : decode cX9_ahead 29 = .ok (.ireturn, 1) := dk_172 (dk_at dksX9_ahead_1 5 rfl rfl)
theorem dX9_ahead_30 : decode cX9_ahead 30 = .ok (.aload_n 0, 1) := dk_42 (dk_at dksX9_ahead_1 6 rfl rfl)
theorem dX9_ahead_31 : decode cX9_ahead 31 = .ok (.invokevirtual 219, 3) := dk_182 0 219 (dk_at dksX9_ahead_1 7 rfl rfl)
theorem dX9_ahead_34 : decode cX9_ahead 34 = .ok (.aload_n 0, 1) := dk_42 (dk_at dksX9_ahead_1 10 rfl rfl)
theorem dX9_ahead_35 : decode cX9_ahead 35 = .ok (.iload_n 2, 1) := dk_28 (dk_at dksX9_ahead_1 11 rfl rfl)
theorem dX9_ahead_36 : decode cX9_ahead 36 = .ok (.invokevirtual 208, 3) := dk_182 0 208 (dk_at dksX9_ahead_1 12 rfl rfl)
theorem dX9_ahead_39 : decode cX9_ahead 39 = .ok (.iload_n 3, 1) := dk_29 (dk_at dksX9_ahead_1 15 rfl rfl)
theorem dX9_ahead_40 : decode cX9_ahead 40 = .ok (.ifCond .ne 15, 3) := dk_154 0 15 (dk_at dksX9_ahead_1 16 rfl rfl)
theorem dX9_ahead_43 : decode cX9_ahead 43 = .ok (.aload_n 0, 1) := dk_42 (dk_at dksX9_ahead_1 19 rfl rfl)
theorem dX9_ahead_44 : decode cX9_ahead 44 = .ok (.getfield 19, 3) := dk_180 0 19 (dk_at dksX9_ahead_1 20 rfl rfl)
theorem dX9_ahead_47 : decode cX9_ahead 47 = .ok (.bipush 8, 2) := dk_16 8 (dk_at dksX9_ahead_2 0 rfl rfl)
theorem dX9_ahead_49 : decode cX9_ahead 49 = .ok (.iload_n 1, 1) := dk_27 (dk_at dksX9_ahead_2 2 rfl rfl)
theorem dX9_ahead_50 : decode cX9_ahead 50 = .ok (.iadd, 1) := dk_96 (dk_at dksX9_ahead_2 3 rfl rfl)
theorem dX9_ahead_51 : decode cX9_ahead 51 = .ok (.iaload, 1) := dk_46 (dk_at dksX9_ahead_2 4 rfl rfl)
theorem dX9_ahead_52 : decode cX9_ahead 52 = .ok (.goto 12, 3) := dk_167 0 12 (dk_at dksX9_ahead_2 5 rfl rfl)
theorem dX9_ahead_55 : decode cX9_ahead 55 = .ok (.aload_n 0, 1) := dk_42 (dk_at dksX9_ahead_2 8 rfl rfl)
theorem dX9_ahead_56 : decode cX9_ahead 56 = .ok (.getfield 19, 3) := dk_180 0 19 (dk_at dksX9_ahead_2 9 rfl rfl)
theorem dX9_ahead_59 : decode cX9_ahead 59 = .ok (.bipush 14, 2) := dk_16 14 (dk_at dksX9_ahead_2 12 rfl rfl)
theorem dX9_ahead_61 : decode cX9_ahead 61 = .ok (.iload_n 1, 1) := dk_27 (dk_at dksX9_ahead_2 14 rfl rfl)
theorem dX9_ahead_62 : decode cX9_ahead 62 = .ok (.iadd, 1) := dk_96 (dk_at dksX9_ahead_2 15 rfl rfl)
theorem dX9_ahead_63 : decode cX9_ahead 63 = .ok (.iaload, 1) := dk_46 (dk_at dksX9_ahead_2 16 rfl rfl)
theorem dX9_ahead_64 : decode cX9_ahead 64 = .ok (.istore 4, 2) := dk_54 4 (dk_at dksX9_ahead_2 17 rfl rfl)
theorem dX9_ahead_66 : decode cX9_ahead 66 = .ok (.aload_n 0, 1) := dk_42 (dk_at dksX9_ahead_2 19 rfl rfl)
theorem dX9_ahead_67 : decode cX9_ahead 67 = .ok (.invokevirtual 211, 3) := dk_182 0 211 (dk_at dksX9_ahead_2 20 rfl rfl)
theorem dX9_ahead_70 : decode cX9_ahead 70 = .ok (.iload 4, 2) := dk_21 4 (dk_at dksX9_ahead_3 0 rfl rfl)
theorem dX9_ahead_72 : decode cX9_ahead 72 = .ok (.ireturn, 1) := dk_172 (dk_at dksX9_ahead_3 2 rfl rfl)
abbrev cX9_isWhat : ByteArray := prog_16_method_51_code
def yX9_isWhat : MethodName := ⟨RX9, "isWhat", "(I)Z"⟩
def dkwX9_isWhat_0 : List UInt8 := [26, 133, 9, 10, 184, 0, 63, 172]
abbrev dktX9_isWhat_0 : List UInt8 := dkwX9_isWhat_0 ++ []
theorem dksX9_isWhat_0 : cX9_isWhat.data.toList.drop 0 = dktX9_isWhat_0 := by decide +kernel
theorem dX9_isWhat_0 : decode cX9_isWhat 0 = .ok (.iload_n 0, 1) := dk_26 (dk_at dksX9_isWhat_0 0 rfl rfl)
theorem dX9_isWhat_1 : decode cX9_isWhat 1 = .ok (.i2l, 1) := dk_133 (dk_at dksX9_isWhat_0 1 rfl rfl)
theorem dX9_isWhat_2 : decode cX9_isWhat 2 = .ok (.lconst 0, 1) := dk_9 (dk_at dksX9_isWhat_0 2 rfl rfl)
theorem dX9_isWhat_3 : decode cX9_isWhat 3 = .ok (.lconst 1, 1) := dk_10 (dk_at dksX9_isWhat_0 3 rfl rfl)
theorem dX9_isWhat_4 : decode cX9_isWhat 4 = .ok (.invokestatic 63, 3) := dk_184 0 63 (dk_at dksX9_isWhat_0 4 rfl rfl)
theorem dX9_isWhat_7 : decode cX9_isWhat 7 = .ok (.ireturn, 1) := dk_172 (dk_at dksX9_isWhat_0 7 rfl rfl)
abbrev cX9_putAside : ByteArray := prog_16_method_48_code
def yX9_putAside : MethodName := ⟨RX9, "putAside", "()V"⟩
def dkwX9_putAside_1 : List UInt8 := [167, 255, 235, 177]
abbrev dktX9_putAside_1 : List UInt8 := dkwX9_putAside_1 ++ []
def dkwX9_putAside_0 : List UInt8 := [3, 60, 27, 16, 41, 162, 0, 21, 42, 180, 0, 37, 27, 42, 180, 0, 19, 27, 46, 79, 132, 1, 1]
abbrev dktX9_putAside_0 : List UInt8 := dkwX9_putAside_0 ++ dktX9_putAside_1
theorem dksX9_putAside_0 : cX9_putAside.data.toList.drop 0 = dktX9_putAside_0 := by decide +kernel
theorem dksX9_putAside_1 : cX9_putAside.data.toList.drop 23 = dktX9_putAside_1 := dk_seg dksX9_putAside_0 23 rfl rfl
theorem dX9_putAside_0 : decode cX9_putAside 0 = .ok (.iconst 0, 1) := dk_3 (dk_at dksX9_putAside_0 0 rfl rfl)
theorem dX9_putAside_1 : decode cX9_putAside 1 = .ok (.istore_n 1, 1) := dk_60 (dk_at dksX9_putAside_0 1 rfl rfl)
theorem dX9_putAside_2 : decode cX9_putAside 2 = .ok (.iload_n 1, 1) := dk_27 (dk_at dksX9_putAside_0 2 rfl rfl)
theorem dX9_putAside_3 : decode cX9_putAside 3 = .ok (.bipush 41, 2) := dk_16 41 (dk_at dksX9_putAside_0 3 rfl rfl)
theorem dX9_putAside_5 : decode cX9_putAside 5 = .ok (.if_icmp .ge 21, 3) := dk_162 0 21 (dk_at dksX9_putAside_0 5 rfl rfl)
theorem dX9_putAside_8 : decode cX9_putAside 8 = .ok (.aload_n 0, 1) := dk_42 (dk_at dksX9_putAside_0 8 rfl rfl)
theorem dX9_putAside_9 : decode cX9_putAside 9 = .ok (.getfield 37, 3) := dk_180 0 37 (dk_at dksX9_putAside_0 9 rfl rfl)
theorem dX9_putAside_12 : decode cX9_putAside 12 = .ok (.iload_n 1, 1) := dk_27 (dk_at dksX9_putAside_0 12 rfl rfl)
theorem dX9_putAside_13 : decode cX9_putAside 13 = .ok (.aload_n 0, 1) := dk_42 (dk_at dksX9_putAside_0 13 rfl rfl)
theorem dX9_putAside_14 : decode cX9_putAside 14 = .ok (.getfield 19, 3) := dk_180 0 19 (dk_at dksX9_putAside_0 14 rfl rfl)
theorem dX9_putAside_17 : decode cX9_putAside 17 = .ok (.iload_n 1, 1) := dk_27 (dk_at dksX9_putAside_0 17 rfl rfl)
theorem dX9_putAside_18 : decode cX9_putAside 18 = .ok (.iaload, 1) := dk_46 (dk_at dksX9_putAside_0 18 rfl rfl)
theorem dX9_putAside_19 : decode cX9_putAside 19 = .ok (.iastore, 1) := dk_79 (dk_at dksX9_putAside_0 19 rfl rfl)
theorem dX9_putAside_20 : decode cX9_putAside 20 = .ok (.iinc 1 1, 3) := dk_132 1 1 (dk_at dksX9_putAside_0 20 rfl rfl)
theorem dX9_putAside_23 : decode cX9_putAside 23 = .ok (.goto (-21), 3) := dk_167 255 235 (dk_at dksX9_putAside_1 0 rfl rfl)
theorem dX9_putAside_26 : decode cX9_putAside 26 = .ok (.return_, 1) := dk_177 (dk_at dksX9_putAside_1 3 rfl rfl)
abbrev cX9_goOn : ByteArray := prog_16_method_50_code
def yX9_goOn : MethodName := ⟨RX9, "goOn", "(I)V"⟩
def dkwX9_goOn_0 : List UInt8 := [3, 61, 28, 27, 162, 0, 13, 42, 182, 0, 187, 132, 2, 1, 167, 255, 244, 177]
abbrev dktX9_goOn_0 : List UInt8 := dkwX9_goOn_0 ++ []
theorem dksX9_goOn_0 : cX9_goOn.data.toList.drop 0 = dktX9_goOn_0 := by decide +kernel
theorem dX9_goOn_0 : decode cX9_goOn 0 = .ok (.iconst 0, 1) := dk_3 (dk_at dksX9_goOn_0 0 rfl rfl)
theorem dX9_goOn_1 : decode cX9_goOn 1 = .ok (.istore_n 2, 1) := dk_61 (dk_at dksX9_goOn_0 1 rfl rfl)
theorem dX9_goOn_2 : decode cX9_goOn 2 = .ok (.iload_n 2, 1) := dk_28 (dk_at dksX9_goOn_0 2 rfl rfl)
theorem dX9_goOn_3 : decode cX9_goOn 3 = .ok (.iload_n 1, 1) := dk_27 (dk_at dksX9_goOn_0 3 rfl rfl)
theorem dX9_goOn_4 : decode cX9_goOn 4 = .ok (.if_icmp .ge 13, 3) := dk_162 0 13 (dk_at dksX9_goOn_0 4 rfl rfl)
theorem dX9_goOn_7 : decode cX9_goOn 7 = .ok (.aload_n 0, 1) := dk_42 (dk_at dksX9_goOn_0 7 rfl rfl)
theorem dX9_goOn_8 : decode cX9_goOn 8 = .ok (.invokevirtual 187, 3) := dk_182 0 187 (dk_at dksX9_goOn_0 8 rfl rfl)
theorem dX9_goOn_11 : decode cX9_goOn 11 = .ok (.iinc 2 1, 3) := dk_132 2 1 (dk_at dksX9_goOn_0 11 rfl rfl)
theorem dX9_goOn_14 : decode cX9_goOn 14 = .ok (.goto (-12), 3) := dk_167 255 244 (dk_at dksX9_goOn_0 14 rfl rfl)
theorem dX9_goOn_17 : decode cX9_goOn 17 = .ok (.return_, 1) := dk_177 (dk_at dksX9_goOn_0 17 rfl rfl)
abbrev cX9_takeBack : ByteArray := prog_16_method_49_code
def yX9_takeBack : MethodName := ⟨RX9, "takeBack", "()V"⟩
def dkwX9_takeBack_1 : List UInt8 := [167, 255, 235, 177]
abbrev dktX9_takeBack_1 : List UInt8 := dkwX9_takeBack_1 ++ []
def dkwX9_takeBack_0 : List UInt8 := [3, 60, 27, 16, 41, 162, 0, 21, 42, 180, 0, 19, 27, 42, 180, 0, 37, 27, 46, 79, 132, 1, 1]
abbrev dktX9_takeBack_0 : List UInt8 := dkwX9_takeBack_0 ++ dktX9_takeBack_1
theorem dksX9_takeBack_0 : cX9_takeBack.data.toList.drop 0 = dktX9_takeBack_0 := by decide +kernel
theorem dksX9_takeBack_1 : cX9_takeBack.data.toList.drop 23 = dktX9_takeBack_1 := dk_seg dksX9_takeBack_0 23 rfl rfl
theorem dX9_takeBack_0 : decode cX9_takeBack 0 = .ok (.iconst 0, 1) := dk_3 (dk_at dksX9_takeBack_0 0 rfl rfl)
theorem dX9_takeBack_1 : decode cX9_takeBack 1 = .ok (.istore_n 1, 1) := dk_60 (dk_at dksX9_takeBack_0 1 rfl rfl)
theorem dX9_takeBack_2 : decode cX9_takeBack 2 = .ok (.iload_n 1, 1) := dk_27 (dk_at dksX9_takeBack_0 2 rfl rfl)
theorem dX9_takeBack_3 : decode cX9_takeBack 3 = .ok (.bipush 41, 2) := dk_16 41 (dk_at dksX9_takeBack_0 3 rfl rfl)
theorem dX9_takeBack_5 : decode cX9_takeBack 5 = .ok (.if_icmp .ge 21, 3) := dk_162 0 21 (dk_at dksX9_takeBack_0 5 rfl rfl)
theorem dX9_takeBack_8 : decode cX9_takeBack 8 = .ok (.aload_n 0, 1) := dk_42 (dk_at dksX9_takeBack_0 8 rfl rfl)
theorem dX9_takeBack_9 : decode cX9_takeBack 9 = .ok (.getfield 19, 3) := dk_180 0 19 (dk_at dksX9_takeBack_0 9 rfl rfl)
theorem dX9_takeBack_12 : decode cX9_takeBack 12 = .ok (.iload_n 1, 1) := dk_27 (dk_at dksX9_takeBack_0 12 rfl rfl)
theorem dX9_takeBack_13 : decode cX9_takeBack 13 = .ok (.aload_n 0, 1) := dk_42 (dk_at dksX9_takeBack_0 13 rfl rfl)
theorem dX9_takeBack_14 : decode cX9_takeBack 14 = .ok (.getfield 37, 3) := dk_180 0 37 (dk_at dksX9_takeBack_0 14 rfl rfl)
theorem dX9_takeBack_17 : decode cX9_takeBack 17 = .ok (.iload_n 1, 1) := dk_27 (dk_at dksX9_takeBack_0 17 rfl rfl)
theorem dX9_takeBack_18 : decode cX9_takeBack 18 = .ok (.iaload, 1) := dk_46 (dk_at dksX9_takeBack_0 18 rfl rfl)
theorem dX9_takeBack_19 : decode cX9_takeBack 19 = .ok (.iastore, 1) := dk_79 (dk_at dksX9_takeBack_0 19 rfl rfl)
theorem dX9_takeBack_20 : decode cX9_takeBack 20 = .ok (.iinc 1 1, 3) := dk_132 1 1 (dk_at dksX9_takeBack_0 20 rfl rfl)
theorem dX9_takeBack_23 : decode cX9_takeBack 23 = .ok (.goto (-21), 3) := dk_167 255 235 (dk_at dksX9_takeBack_1 0 rfl rfl)
theorem dX9_takeBack_26 : decode cX9_takeBack 26 = .ok (.return_, 1) := dk_177 (dk_at dksX9_takeBack_1 3 rfl rfl)
abbrev cX9_later : ByteArray := prog_16_method_54_code
def yX9_later : MethodName := ⟨RX9, "later", "(III)I"⟩
def dkwX9_later_3 : List UInt8 := [180, 0, 19, 16, 31, 27, 96, 46, 54, 4, 42, 182, 0, 211, 21, 4, 172]
abbrev dktX9_later_3 : List UInt8 := dkwX9_later_3 ++ []
def dkwX9_later_2 : List UInt8 := [16, 36, 27, 96, 46, 167, 0, 25, 42, 27, 182, 0, 171, 153, 0, 8, 18, 158, 167, 0, 12, 42]
abbrev dktX9_later_2 : List UInt8 := dkwX9_later_2 ++ dktX9_later_3
def dkwX9_later_1 : List UInt8 := [154, 0, 6, 18, 73, 172, 42, 182, 0, 219, 42, 28, 182, 0, 208, 29, 4, 160, 0, 15, 42, 180, 0, 19]
abbrev dktX9_later_1 : List UInt8 := dkwX9_later_1 ++ dktX9_later_2
def dkwX9_later_0 : List UInt8 := [42, 27, 182, 0, 200, 153, 0, 22, 28, 133, 9, 20, 0, 214, 184, 0, 63, 153, 0, 10, 29, 184, 0, 216]
abbrev dktX9_later_0 : List UInt8 := dkwX9_later_0 ++ dktX9_later_1
theorem dksX9_later_0 : cX9_later.data.toList.drop 0 = dktX9_later_0 := by decide +kernel
theorem dksX9_later_1 : cX9_later.data.toList.drop 24 = dktX9_later_1 := dk_seg dksX9_later_0 24 rfl rfl
theorem dksX9_later_2 : cX9_later.data.toList.drop 48 = dktX9_later_2 := dk_seg dksX9_later_1 24 rfl rfl
theorem dksX9_later_3 : cX9_later.data.toList.drop 70 = dktX9_later_3 := dk_seg dksX9_later_2 22 rfl rfl
theorem dX9_later_0 : decode cX9_later 0 = .ok (.aload_n 0, 1) := dk_42 (dk_at dksX9_later_0 0 rfl rfl)
theorem dX9_later_1 : decode cX9_later 1 = .ok (.iload_n 1, 1) := dk_27 (dk_at dksX9_later_0 1 rfl rfl)
theorem dX9_later_2 : decode cX9_later 2 = .ok (.invokevirtual 200, 3) := dk_182 0 200 (dk_at dksX9_later_0 2 rfl rfl)
theorem dX9_later_5 : decode cX9_later 5 = .ok (.ifCond .eq 22, 3) := dk_153 0 22 (dk_at dksX9_later_0 5 rfl rfl)
theorem dX9_later_8 : decode cX9_later 8 = .ok (.iload_n 2, 1) := dk_28 (dk_at dksX9_later_0 8 rfl rfl)
theorem dX9_later_9 : decode cX9_later 9 = .ok (.i2l, 1) := dk_133 (dk_at dksX9_later_0 9 rfl rfl)
theorem dX9_later_10 : decode cX9_later 10 = .ok (.lconst 0, 1) := dk_9 (dk_at dksX9_later_0 10 rfl rfl)
theorem dX9_later_11 : decode cX9_later 11 = .ok (.ldc2_w 214, 3) := dk_20 0 214 (dk_at dksX9_later_0 11 rfl rfl)
theorem dX9_later_14 : decode cX9_later 14 = .ok (.invokestatic 63, 3) := dk_184 0 63 (dk_at dksX9_later_0 14 rfl rfl)
theorem dX9_later_17 : decode cX9_later 17 = .ok (.ifCond .eq 10, 3) := dk_153 0 10 (dk_at dksX9_later_0 17 rfl rfl)
theorem dX9_later_20 : decode cX9_later 20 = .ok (.iload_n 3, 1) := dk_29 (dk_at dksX9_later_0 20 rfl rfl)
theorem dX9_later_21 : decode cX9_later 21 = .ok (.invokestatic 216, 3) := dk_184 0 216 (dk_at dksX9_later_0 21 rfl rfl)
theorem dX9_later_24 : decode cX9_later 24 = .ok (.ifCond .ne 6, 3) := dk_154 0 6 (dk_at dksX9_later_1 0 rfl rfl)
theorem dX9_later_27 : decode cX9_later 27 = .ok (.ldc 73, 2) := dk_18 73 (dk_at dksX9_later_1 3 rfl rfl)
theorem dX9_later_29 : decode cX9_later 29 = .ok (.ireturn, 1) := dk_172 (dk_at dksX9_later_1 5 rfl rfl)
theorem dX9_later_30 : decode cX9_later 30 = .ok (.aload_n 0, 1) := dk_42 (dk_at dksX9_later_1 6 rfl rfl)
theorem dX9_later_31 : decode cX9_later 31 = .ok (.invokevirtual 219, 3) := dk_182 0 219 (dk_at dksX9_later_1 7 rfl rfl)
theorem dX9_later_34 : decode cX9_later 34 = .ok (.aload_n 0, 1) := dk_42 (dk_at dksX9_later_1 10 rfl rfl)
theorem dX9_later_35 : decode cX9_later 35 = .ok (.iload_n 2, 1) := dk_28 (dk_at dksX9_later_1 11 rfl rfl)
theorem dX9_later_36 : decode cX9_later 36 = .ok (.invokevirtual 208, 3) := dk_182 0 208 (dk_at dksX9_later_1 12 rfl rfl)
theorem dX9_later_39 : decode cX9_later 39 = .ok (.iload_n 3, 1) := dk_29 (dk_at dksX9_later_1 15 rfl rfl)
theorem dX9_later_40 : decode cX9_later 40 = .ok (.iconst 1, 1) := dk_4 (dk_at dksX9_later_1 16 rfl rfl)
theorem dX9_later_41 : decode cX9_later 41 = .ok (.if_icmp .ne 15, 3) := dk_160 0 15 (dk_at dksX9_later_1 17 rfl rfl)
theorem dX9_later_44 : decode cX9_later 44 = .ok (.aload_n 0, 1) := dk_42 (dk_at dksX9_later_1 20 rfl rfl)
theorem dX9_later_45 : decode cX9_later 45 = .ok (.getfield 19, 3) := dk_180 0 19 (dk_at dksX9_later_1 21 rfl rfl)
theorem dX9_later_48 : decode cX9_later 48 = .ok (.bipush 36, 2) := dk_16 36 (dk_at dksX9_later_2 0 rfl rfl)
theorem dX9_later_50 : decode cX9_later 50 = .ok (.iload_n 1, 1) := dk_27 (dk_at dksX9_later_2 2 rfl rfl)
theorem dX9_later_51 : decode cX9_later 51 = .ok (.iadd, 1) := dk_96 (dk_at dksX9_later_2 3 rfl rfl)
theorem dX9_later_52 : decode cX9_later 52 = .ok (.iaload, 1) := dk_46 (dk_at dksX9_later_2 4 rfl rfl)
theorem dX9_later_53 : decode cX9_later 53 = .ok (.goto 25, 3) := dk_167 0 25 (dk_at dksX9_later_2 5 rfl rfl)
theorem dX9_later_56 : decode cX9_later 56 = .ok (.aload_n 0, 1) := dk_42 (dk_at dksX9_later_2 8 rfl rfl)
theorem dX9_later_57 : decode cX9_later 57 = .ok (.iload_n 1, 1) := dk_27 (dk_at dksX9_later_2 9 rfl rfl)
theorem dX9_later_58 : decode cX9_later 58 = .ok (.invokevirtual 171, 3) := dk_182 0 171 (dk_at dksX9_later_2 10 rfl rfl)
theorem dX9_later_61 : decode cX9_later 61 = .ok (.ifCond .eq 8, 3) := dk_153 0 8 (dk_at dksX9_later_2 13 rfl rfl)
theorem dX9_later_64 : decode cX9_later 64 = .ok (.ldc 158, 2) := dk_18 158 (dk_at dksX9_later_2 16 rfl rfl)
theorem dX9_later_66 : decode cX9_later 66 = .ok (.goto 12, 3) := dk_167 0 12 (dk_at dksX9_later_2 18 rfl rfl)
theorem dX9_later_69 : decode cX9_later 69 = .ok (.aload_n 0, 1) := dk_42 (dk_at dksX9_later_2 21 rfl rfl)
theorem dX9_later_70 : decode cX9_later 70 = .ok (.getfield 19, 3) := dk_180 0 19 (dk_at dksX9_later_3 0 rfl rfl)
theorem dX9_later_73 : decode cX9_later 73 = .ok (.bipush 31, 2) := dk_16 31 (dk_at dksX9_later_3 3 rfl rfl)
theorem dX9_later_75 : decode cX9_later 75 = .ok (.iload_n 1, 1) := dk_27 (dk_at dksX9_later_3 5 rfl rfl)
theorem dX9_later_76 : decode cX9_later 76 = .ok (.iadd, 1) := dk_96 (dk_at dksX9_later_3 6 rfl rfl)
theorem dX9_later_77 : decode cX9_later 77 = .ok (.iaload, 1) := dk_46 (dk_at dksX9_later_3 7 rfl rfl)
theorem dX9_later_78 : decode cX9_later 78 = .ok (.istore 4, 2) := dk_54 4 (dk_at dksX9_later_3 8 rfl rfl)
theorem dX9_later_80 : decode cX9_later 80 = .ok (.aload_n 0, 1) := dk_42 (dk_at dksX9_later_3 10 rfl rfl)
theorem dX9_later_81 : decode cX9_later 81 = .ok (.invokevirtual 211, 3) := dk_182 0 211 (dk_at dksX9_later_3 11 rfl rfl)
theorem dX9_later_84 : decode cX9_later 84 = .ok (.iload 4, 2) := dk_21 4 (dk_at dksX9_later_3 14 rfl rfl)
theorem dX9_later_86 : decode cX9_later 86 = .ok (.ireturn, 1) := dk_172 (dk_at dksX9_later_3 16 rfl rfl)
abbrev cX9_when : ByteArray := prog_16_method_55_code
def yX9_when : MethodName := ⟨RX9, "when", "(I)I"⟩
def dkwX9_when_3 : List UInt8 := [153, 0, 7, 28, 167, 0, 5, 18, 158, 172]
abbrev dktX9_when_3 : List UInt8 := dkwX9_when_3 ++ []
def dkwX9_when_2 : List UInt8 := [180, 0, 19, 16, 8, 27, 96, 46, 154, 0, 7, 4, 167, 0, 4, 3, 62, 42, 182, 0, 211, 29]
abbrev dktX9_when_2 : List UInt8 := dkwX9_when_2 ++ dktX9_when_3
def dkwX9_when_1 : List UInt8 := [96, 46, 158, 0, 19, 28, 16, 60, 162, 0, 13, 42, 182, 0, 187, 132, 2, 1, 167, 255, 231, 42]
abbrev dktX9_when_1 : List UInt8 := dkwX9_when_1 ++ dktX9_when_2
def dkwX9_when_0 : List UInt8 := [42, 27, 182, 0, 194, 154, 0, 6, 18, 73, 172, 42, 182, 0, 219, 3, 61, 42, 180, 0, 19, 16, 8, 27]
abbrev dktX9_when_0 : List UInt8 := dkwX9_when_0 ++ dktX9_when_1
theorem dksX9_when_0 : cX9_when.data.toList.drop 0 = dktX9_when_0 := by decide +kernel
theorem dksX9_when_1 : cX9_when.data.toList.drop 24 = dktX9_when_1 := dk_seg dksX9_when_0 24 rfl rfl
theorem dksX9_when_2 : cX9_when.data.toList.drop 46 = dktX9_when_2 := dk_seg dksX9_when_1 22 rfl rfl
theorem dksX9_when_3 : cX9_when.data.toList.drop 68 = dktX9_when_3 := dk_seg dksX9_when_2 22 rfl rfl
theorem dX9_when_0 : decode cX9_when 0 = .ok (.aload_n 0, 1) := dk_42 (dk_at dksX9_when_0 0 rfl rfl)
theorem dX9_when_1 : decode cX9_when 1 = .ok (.iload_n 1, 1) := dk_27 (dk_at dksX9_when_0 1 rfl rfl)
theorem dX9_when_2 : decode cX9_when 2 = .ok (.invokevirtual 194, 3) := dk_182 0 194 (dk_at dksX9_when_0 2 rfl rfl)
theorem dX9_when_5 : decode cX9_when 5 = .ok (.ifCond .ne 6, 3) := dk_154 0 6 (dk_at dksX9_when_0 5 rfl rfl)
theorem dX9_when_8 : decode cX9_when 8 = .ok (.ldc 73, 2) := dk_18 73 (dk_at dksX9_when_0 8 rfl rfl)
theorem dX9_when_10 : decode cX9_when 10 = .ok (.ireturn, 1) := dk_172 (dk_at dksX9_when_0 10 rfl rfl)
theorem dX9_when_11 : decode cX9_when 11 = .ok (.aload_n 0, 1) := dk_42 (dk_at dksX9_when_0 11 rfl rfl)
theorem dX9_when_12 : decode cX9_when 12 = .ok (.invokevirtual 219, 3) := dk_182 0 219 (dk_at dksX9_when_0 12 rfl rfl)
theorem dX9_when_15 : decode cX9_when 15 = .ok (.iconst 0, 1) := dk_3 (dk_at dksX9_when_0 15 rfl rfl)
theorem dX9_when_16 : decode cX9_when 16 = .ok (.istore_n 2, 1) := dk_61 (dk_at dksX9_when_0 16 rfl rfl)
theorem dX9_when_17 : decode cX9_when 17 = .ok (.aload_n 0, 1) := dk_42 (dk_at dksX9_when_0 17 rfl rfl)
theorem dX9_when_18 : decode cX9_when 18 = .ok (.getfield 19, 3) := dk_180 0 19 (dk_at dksX9_when_0 18 rfl rfl)
theorem dX9_when_21 : decode cX9_when 21 = .ok (.bipush 8, 2) := dk_16 8 (dk_at dksX9_when_0 21 rfl rfl)
theorem dX9_when_23 : decode cX9_when 23 = .ok (.iload_n 1, 1) := dk_27 (dk_at dksX9_when_0 23 rfl rfl)
theorem dX9_when_24 : decode cX9_when 24 = .ok (.iadd, 1) := dk_96 (dk_at dksX9_when_1 0 rfl rfl)
theorem dX9_when_25 : decode cX9_when 25 = .ok (.iaload, 1) := dk_46 (dk_at dksX9_when_1 1 rfl rfl)
theorem dX9_when_26 : decode cX9_when 26 = .ok (.ifCond .le 19, 3) := dk_158 0 19 (dk_at dksX9_when_1 2 rfl rfl)
theorem dX9_when_29 : decode cX9_when 29 = .ok (.iload_n 2, 1) := dk_28 (dk_at dksX9_when_1 5 rfl rfl)
theorem dX9_when_30 : decode cX9_when 30 = .ok (.bipush 60, 2) := dk_16 60 (dk_at dksX9_when_1 6 rfl rfl)
theorem dX9_when_32 : decode cX9_when 32 = .ok (.if_icmp .ge 13, 3) := dk_162 0 13 (dk_at dksX9_when_1 8 rfl rfl)
theorem dX9_when_35 : decode cX9_when 35 = .ok (.aload_n 0, 1) := dk_42 (dk_at dksX9_when_1 11 rfl rfl)
theorem dX9_when_36 : decode cX9_when 36 = .ok (.invokevirtual 187, 3) := dk_182 0 187 (dk_at dksX9_when_1 12 rfl rfl)
theorem dX9_when_39 : decode cX9_when 39 = .ok (.iinc 2 1, 3) := dk_132 2 1 (dk_at dksX9_when_1 15 rfl rfl)
theorem dX9_when_42 : decode cX9_when 42 = .ok (.goto (-25), 3) := dk_167 255 231 (dk_at dksX9_when_1 18 rfl rfl)
theorem dX9_when_45 : decode cX9_when 45 = .ok (.aload_n 0, 1) := dk_42 (dk_at dksX9_when_1 21 rfl rfl)
theorem dX9_when_46 : decode cX9_when 46 = .ok (.getfield 19, 3) := dk_180 0 19 (dk_at dksX9_when_2 0 rfl rfl)
theorem dX9_when_49 : decode cX9_when 49 = .ok (.bipush 8, 2) := dk_16 8 (dk_at dksX9_when_2 3 rfl rfl)
theorem dX9_when_51 : decode cX9_when 51 = .ok (.iload_n 1, 1) := dk_27 (dk_at dksX9_when_2 5 rfl rfl)
theorem dX9_when_52 : decode cX9_when 52 = .ok (.iadd, 1) := dk_96 (dk_at dksX9_when_2 6 rfl rfl)
theorem dX9_when_53 : decode cX9_when 53 = .ok (.iaload, 1) := dk_46 (dk_at dksX9_when_2 7 rfl rfl)
theorem dX9_when_54 : decode cX9_when 54 = .ok (.ifCond .ne 7, 3) := dk_154 0 7 (dk_at dksX9_when_2 8 rfl rfl)
theorem dX9_when_57 : decode cX9_when 57 = .ok (.iconst 1, 1) := dk_4 (dk_at dksX9_when_2 11 rfl rfl)
theorem dX9_when_58 : decode cX9_when 58 = .ok (.goto 4, 3) := dk_167 0 4 (dk_at dksX9_when_2 12 rfl rfl)
theorem dX9_when_61 : decode cX9_when 61 = .ok (.iconst 0, 1) := dk_3 (dk_at dksX9_when_2 15 rfl rfl)
theorem dX9_when_62 : decode cX9_when 62 = .ok (.istore_n 3, 1) := dk_62 (dk_at dksX9_when_2 16 rfl rfl)
theorem dX9_when_63 : decode cX9_when 63 = .ok (.aload_n 0, 1) := dk_42 (dk_at dksX9_when_2 17 rfl rfl)
theorem dX9_when_64 : decode cX9_when 64 = .ok (.invokevirtual 211, 3) := dk_182 0 211 (dk_at dksX9_when_2 18 rfl rfl)
theorem dX9_when_67 : decode cX9_when 67 = .ok (.iload_n 3, 1) := dk_29 (dk_at dksX9_when_2 21 rfl rfl)
theorem dX9_when_68 : decode cX9_when 68 = .ok (.ifCond .eq 7, 3) := dk_153 0 7 (dk_at dksX9_when_3 0 rfl rfl)
theorem dX9_when_71 : decode cX9_when 71 = .ok (.iload_n 2, 1) := dk_28 (dk_at dksX9_when_3 3 rfl rfl)
theorem dX9_when_72 : decode cX9_when 72 = .ok (.goto 5, 3) := dk_167 0 5 (dk_at dksX9_when_3 4 rfl rfl)
theorem dX9_when_75 : decode cX9_when 75 = .ok (.ldc 158, 2) := dk_18 158 (dk_at dksX9_when_3 7 rfl rfl)
theorem dX9_when_77 : decode cX9_when 77 = .ok (.ireturn, 1) := dk_172 (dk_at dksX9_when_3 9 rfl rfl)
abbrev cX9_first : ByteArray := prog_16_method_58_code
def yX9_first : MethodName := ⟨RX9, "first", "(I)I"⟩
def dkwX9_first_3 : List UInt8 := [21, 4, 154, 0, 8, 18, 158, 167, 0, 16, 27, 154, 0, 11, 21, 4, 184, 0, 225, 167, 0, 4, 29, 172]
abbrev dktX9_first_3 : List UInt8 := dkwX9_first_3 ++ []
def dkwX9_first_2 : List UInt8 := [182, 0, 187, 132, 3, 1, 167, 255, 235, 42, 182, 0, 222, 28, 2, 130, 126, 54, 4, 42, 182, 0, 211]
abbrev dktX9_first_2 : List UInt8 := dkwX9_first_2 ++ dktX9_first_3
def dkwX9_first_1 : List UInt8 := [42, 182, 0, 222, 61, 3, 62, 42, 182, 0, 222, 28, 160, 0, 19, 29, 16, 60, 162, 0, 13, 42]
abbrev dktX9_first_1 : List UInt8 := dkwX9_first_1 ++ dktX9_first_2
def dkwX9_first_0 : List UInt8 := [42, 180, 0, 147, 154, 0, 6, 18, 181, 172, 27, 184, 0, 216, 154, 0, 6, 18, 73, 172, 42, 182, 0, 219]
abbrev dktX9_first_0 : List UInt8 := dkwX9_first_0 ++ dktX9_first_1
theorem dksX9_first_0 : cX9_first.data.toList.drop 0 = dktX9_first_0 := by decide +kernel
theorem dksX9_first_1 : cX9_first.data.toList.drop 24 = dktX9_first_1 := dk_seg dksX9_first_0 24 rfl rfl
theorem dksX9_first_2 : cX9_first.data.toList.drop 46 = dktX9_first_2 := dk_seg dksX9_first_1 22 rfl rfl
theorem dksX9_first_3 : cX9_first.data.toList.drop 69 = dktX9_first_3 := dk_seg dksX9_first_2 23 rfl rfl
theorem dX9_first_0 : decode cX9_first 0 = .ok (.aload_n 0, 1) := dk_42 (dk_at dksX9_first_0 0 rfl rfl)
theorem dX9_first_1 : decode cX9_first 1 = .ok (.getfield 147, 3) := dk_180 0 147 (dk_at dksX9_first_0 1 rfl rfl)
theorem dX9_first_4 : decode cX9_first 4 = .ok (.ifCond .ne 6, 3) := dk_154 0 6 (dk_at dksX9_first_0 4 rfl rfl)
theorem dX9_first_7 : decode cX9_first 7 = .ok (.ldc 181, 2) := dk_18 181 (dk_at dksX9_first_0 7 rfl rfl)
theorem dX9_first_9 : decode cX9_first 9 = .ok (.ireturn, 1) := dk_172 (dk_at dksX9_first_0 9 rfl rfl)
theorem dX9_first_10 : decode cX9_first 10 = .ok (.iload_n 1, 1) := dk_27 (dk_at dksX9_first_0 10 rfl rfl)
theorem dX9_first_11 : decode cX9_first 11 = .ok (.invokestatic 216, 3) := dk_184 0 216 (dk_at dksX9_first_0 11 rfl rfl)
theorem dX9_first_14 : decode cX9_first 14 = .ok (.ifCond .ne 6, 3) := dk_154 0 6 (dk_at dksX9_first_0 14 rfl rfl)
theorem dX9_first_17 : decode cX9_first 17 = .ok (.ldc 73, 2) := dk_18 73 (dk_at dksX9_first_0 17 rfl rfl)
theorem dX9_first_19 : decode cX9_first 19 = .ok (.ireturn, 1) := dk_172 (dk_at dksX9_first_0 19 rfl rfl)
theorem dX9_first_20 : decode cX9_first 20 = .ok (.aload_n 0, 1) := dk_42 (dk_at dksX9_first_0 20 rfl rfl)
theorem dX9_first_21 : decode cX9_first 21 = .ok (.invokevirtual 219, 3) := dk_182 0 219 (dk_at dksX9_first_0 21 rfl rfl)
theorem dX9_first_24 : decode cX9_first 24 = .ok (.aload_n 0, 1) := dk_42 (dk_at dksX9_first_1 0 rfl rfl)
theorem dX9_first_25 : decode cX9_first 25 = .ok (.invokevirtual 222, 3) := dk_182 0 222 (dk_at dksX9_first_1 1 rfl rfl)
theorem dX9_first_28 : decode cX9_first 28 = .ok (.istore_n 2, 1) := dk_61 (dk_at dksX9_first_1 4 rfl rfl)
theorem dX9_first_29 : decode cX9_first 29 = .ok (.iconst 0, 1) := dk_3 (dk_at dksX9_first_1 5 rfl rfl)
theorem dX9_first_30 : decode cX9_first 30 = .ok (.istore_n 3, 1) := dk_62 (dk_at dksX9_first_1 6 rfl rfl)
theorem dX9_first_31 : decode cX9_first 31 = .ok (.aload_n 0, 1) := dk_42 (dk_at dksX9_first_1 7 rfl rfl)
theorem dX9_first_32 : decode cX9_first 32 = .ok (.invokevirtual 222, 3) := dk_182 0 222 (dk_at dksX9_first_1 8 rfl rfl)
theorem dX9_first_35 : decode cX9_first 35 = .ok (.iload_n 2, 1) := dk_28 (dk_at dksX9_first_1 11 rfl rfl)
theorem dX9_first_36 : decode cX9_first 36 = .ok (.if_icmp .ne 19, 3) := dk_160 0 19 (dk_at dksX9_first_1 12 rfl rfl)
theorem dX9_first_39 : decode cX9_first 39 = .ok (.iload_n 3, 1) := dk_29 (dk_at dksX9_first_1 15 rfl rfl)
theorem dX9_first_40 : decode cX9_first 40 = .ok (.bipush 60, 2) := dk_16 60 (dk_at dksX9_first_1 16 rfl rfl)
theorem dX9_first_42 : decode cX9_first 42 = .ok (.if_icmp .ge 13, 3) := dk_162 0 13 (dk_at dksX9_first_1 18 rfl rfl)
theorem dX9_first_45 : decode cX9_first 45 = .ok (.aload_n 0, 1) := dk_42 (dk_at dksX9_first_1 21 rfl rfl)
theorem dX9_first_46 : decode cX9_first 46 = .ok (.invokevirtual 187, 3) := dk_182 0 187 (dk_at dksX9_first_2 0 rfl rfl)
theorem dX9_first_49 : decode cX9_first 49 = .ok (.iinc 3 1, 3) := dk_132 3 1 (dk_at dksX9_first_2 3 rfl rfl)
theorem dX9_first_52 : decode cX9_first 52 = .ok (.goto (-21), 3) := dk_167 255 235 (dk_at dksX9_first_2 6 rfl rfl)
theorem dX9_first_55 : decode cX9_first 55 = .ok (.aload_n 0, 1) := dk_42 (dk_at dksX9_first_2 9 rfl rfl)
theorem dX9_first_56 : decode cX9_first 56 = .ok (.invokevirtual 222, 3) := dk_182 0 222 (dk_at dksX9_first_2 10 rfl rfl)
theorem dX9_first_59 : decode cX9_first 59 = .ok (.iload_n 2, 1) := dk_28 (dk_at dksX9_first_2 13 rfl rfl)
theorem dX9_first_60 : decode cX9_first 60 = .ok (.iconst (-1), 1) := dk_2 (dk_at dksX9_first_2 14 rfl rfl)
theorem dX9_first_61 : decode cX9_first 61 = .ok (.ixor, 1) := dk_130 (dk_at dksX9_first_2 15 rfl rfl)
theorem dX9_first_62 : decode cX9_first 62 = .ok (.iand, 1) := dk_126 (dk_at dksX9_first_2 16 rfl rfl)
theorem dX9_first_63 : decode cX9_first 63 = .ok (.istore 4, 2) := dk_54 4 (dk_at dksX9_first_2 17 rfl rfl)
theorem dX9_first_65 : decode cX9_first 65 = .ok (.aload_n 0, 1) := dk_42 (dk_at dksX9_first_2 19 rfl rfl)
theorem dX9_first_66 : decode cX9_first 66 = .ok (.invokevirtual 211, 3) := dk_182 0 211 (dk_at dksX9_first_2 20 rfl rfl)
theorem dX9_first_69 : decode cX9_first 69 = .ok (.iload 4, 2) := dk_21 4 (dk_at dksX9_first_3 0 rfl rfl)
theorem dX9_first_71 : decode cX9_first 71 = .ok (.ifCond .ne 8, 3) := dk_154 0 8 (dk_at dksX9_first_3 2 rfl rfl)
theorem dX9_first_74 : decode cX9_first 74 = .ok (.ldc 158, 2) := dk_18 158 (dk_at dksX9_first_3 5 rfl rfl)
theorem dX9_first_76 : decode cX9_first 76 = .ok (.goto 16, 3) := dk_167 0 16 (dk_at dksX9_first_3 7 rfl rfl)
theorem dX9_first_79 : decode cX9_first 79 = .ok (.iload_n 1, 1) := dk_27 (dk_at dksX9_first_3 10 rfl rfl)
theorem dX9_first_80 : decode cX9_first 80 = .ok (.ifCond .ne 11, 3) := dk_154 0 11 (dk_at dksX9_first_3 11 rfl rfl)
theorem dX9_first_83 : decode cX9_first 83 = .ok (.iload 4, 2) := dk_21 4 (dk_at dksX9_first_3 14 rfl rfl)
theorem dX9_first_85 : decode cX9_first 85 = .ok (.invokestatic 225, 3) := dk_184 0 225 (dk_at dksX9_first_3 16 rfl rfl)
theorem dX9_first_88 : decode cX9_first 88 = .ok (.goto 4, 3) := dk_167 0 4 (dk_at dksX9_first_3 19 rfl rfl)
theorem dX9_first_91 : decode cX9_first 91 = .ok (.iload_n 3, 1) := dk_29 (dk_at dksX9_first_3 22 rfl rfl)
theorem dX9_first_92 : decode cX9_first 92 = .ok (.ireturn, 1) := dk_172 (dk_at dksX9_first_3 23 rfl rfl)
abbrev cX9_emptySet : ByteArray := prog_16_method_56_code
def yX9_emptySet : MethodName := ⟨RX9, "emptySet", "()I"⟩
def dkwX9_emptySet_1 : List UInt8 := [154, 0, 9, 4, 28, 120, 167, 0, 4, 3, 128, 60, 132, 2, 1, 167, 255, 221, 27, 172]
abbrev dktX9_emptySet_1 : List UInt8 := dkwX9_emptySet_1 ++ []
def dkwX9_emptySet_0 : List UInt8 := [3, 60, 3, 61, 28, 42, 180, 0, 19, 3, 46, 162, 0, 31, 27, 42, 180, 0, 19, 16, 8, 28, 96, 46]
abbrev dktX9_emptySet_0 : List UInt8 := dkwX9_emptySet_0 ++ dktX9_emptySet_1
theorem dksX9_emptySet_0 : cX9_emptySet.data.toList.drop 0 = dktX9_emptySet_0 := by decide +kernel
theorem dksX9_emptySet_1 : cX9_emptySet.data.toList.drop 24 = dktX9_emptySet_1 := dk_seg dksX9_emptySet_0 24 rfl rfl
theorem dX9_emptySet_0 : decode cX9_emptySet 0 = .ok (.iconst 0, 1) := dk_3 (dk_at dksX9_emptySet_0 0 rfl rfl)
theorem dX9_emptySet_1 : decode cX9_emptySet 1 = .ok (.istore_n 1, 1) := dk_60 (dk_at dksX9_emptySet_0 1 rfl rfl)
theorem dX9_emptySet_2 : decode cX9_emptySet 2 = .ok (.iconst 0, 1) := dk_3 (dk_at dksX9_emptySet_0 2 rfl rfl)
theorem dX9_emptySet_3 : decode cX9_emptySet 3 = .ok (.istore_n 2, 1) := dk_61 (dk_at dksX9_emptySet_0 3 rfl rfl)
theorem dX9_emptySet_4 : decode cX9_emptySet 4 = .ok (.iload_n 2, 1) := dk_28 (dk_at dksX9_emptySet_0 4 rfl rfl)
theorem dX9_emptySet_5 : decode cX9_emptySet 5 = .ok (.aload_n 0, 1) := dk_42 (dk_at dksX9_emptySet_0 5 rfl rfl)
theorem dX9_emptySet_6 : decode cX9_emptySet 6 = .ok (.getfield 19, 3) := dk_180 0 19 (dk_at dksX9_emptySet_0 6 rfl rfl)
theorem dX9_emptySet_9 : decode cX9_emptySet 9 = .ok (.iconst 0, 1) := dk_3 (dk_at dksX9_emptySet_0 9 rfl rfl)
theorem dX9_emptySet_10 : decode cX9_emptySet 10 = .ok (.iaload, 1) := dk_46 (dk_at dksX9_emptySet_0 10 rfl rfl)
theorem dX9_emptySet_11 : decode cX9_emptySet 11 = .ok (.if_icmp .ge 31, 3) := dk_162 0 31 (dk_at dksX9_emptySet_0 11 rfl rfl)
theorem dX9_emptySet_14 : decode cX9_emptySet 14 = .ok (.iload_n 1, 1) := dk_27 (dk_at dksX9_emptySet_0 14 rfl rfl)
theorem dX9_emptySet_15 : decode cX9_emptySet 15 = .ok (.aload_n 0, 1) := dk_42 (dk_at dksX9_emptySet_0 15 rfl rfl)
theorem dX9_emptySet_16 : decode cX9_emptySet 16 = .ok (.getfield 19, 3) := dk_180 0 19 (dk_at dksX9_emptySet_0 16 rfl rfl)
theorem dX9_emptySet_19 : decode cX9_emptySet 19 = .ok (.bipush 8, 2) := dk_16 8 (dk_at dksX9_emptySet_0 19 rfl rfl)
theorem dX9_emptySet_21 : decode cX9_emptySet 21 = .ok (.iload_n 2, 1) := dk_28 (dk_at dksX9_emptySet_0 21 rfl rfl)
theorem dX9_emptySet_22 : decode cX9_emptySet 22 = .ok (.iadd, 1) := dk_96 (dk_at dksX9_emptySet_0 22 rfl rfl)
theorem dX9_emptySet_23 : decode cX9_emptySet 23 = .ok (.iaload, 1) := dk_46 (dk_at dksX9_emptySet_0 23 rfl rfl)
theorem dX9_emptySet_24 : decode cX9_emptySet 24 = .ok (.ifCond .ne 9, 3) := dk_154 0 9 (dk_at dksX9_emptySet_1 0 rfl rfl)
theorem dX9_emptySet_27 : decode cX9_emptySet 27 = .ok (.iconst 1, 1) := dk_4 (dk_at dksX9_emptySet_1 3 rfl rfl)
theorem dX9_emptySet_28 : decode cX9_emptySet 28 = .ok (.iload_n 2, 1) := dk_28 (dk_at dksX9_emptySet_1 4 rfl rfl)
theorem dX9_emptySet_29 : decode cX9_emptySet 29 = .ok (.ishl, 1) := dk_120 (dk_at dksX9_emptySet_1 5 rfl rfl)
theorem dX9_emptySet_30 : decode cX9_emptySet 30 = .ok (.goto 4, 3) := dk_167 0 4 (dk_at dksX9_emptySet_1 6 rfl rfl)
theorem dX9_emptySet_33 : decode cX9_emptySet 33 = .ok (.iconst 0, 1) := dk_3 (dk_at dksX9_emptySet_1 9 rfl rfl)
theorem dX9_emptySet_34 : decode cX9_emptySet 34 = .ok (.ior, 1) := dk_128 (dk_at dksX9_emptySet_1 10 rfl rfl)
theorem dX9_emptySet_35 : decode cX9_emptySet 35 = .ok (.istore_n 1, 1) := dk_60 (dk_at dksX9_emptySet_1 11 rfl rfl)
theorem dX9_emptySet_36 : decode cX9_emptySet 36 = .ok (.iinc 2 1, 3) := dk_132 2 1 (dk_at dksX9_emptySet_1 12 rfl rfl)
theorem dX9_emptySet_39 : decode cX9_emptySet 39 = .ok (.goto (-35), 3) := dk_167 255 221 (dk_at dksX9_emptySet_1 15 rfl rfl)
theorem dX9_emptySet_42 : decode cX9_emptySet 42 = .ok (.iload_n 1, 1) := dk_27 (dk_at dksX9_emptySet_1 18 rfl rfl)
theorem dX9_emptySet_43 : decode cX9_emptySet 43 = .ok (.ireturn, 1) := dk_172 (dk_at dksX9_emptySet_1 19 rfl rfl)
abbrev cX9_least : ByteArray := prog_16_method_57_code
def yX9_least : MethodName := ⟨RX9, "least", "(I)I"⟩
def dkwX9_least_0 : List UInt8 := [3, 60, 26, 27, 184, 0, 154, 154, 0, 9, 132, 1, 1, 167, 255, 245, 27, 172]
abbrev dktX9_least_0 : List UInt8 := dkwX9_least_0 ++ []
theorem dksX9_least_0 : cX9_least.data.toList.drop 0 = dktX9_least_0 := by decide +kernel
theorem dX9_least_0 : decode cX9_least 0 = .ok (.iconst 0, 1) := dk_3 (dk_at dksX9_least_0 0 rfl rfl)
theorem dX9_least_1 : decode cX9_least 1 = .ok (.istore_n 1, 1) := dk_60 (dk_at dksX9_least_0 1 rfl rfl)
theorem dX9_least_2 : decode cX9_least 2 = .ok (.iload_n 0, 1) := dk_26 (dk_at dksX9_least_0 2 rfl rfl)
theorem dX9_least_3 : decode cX9_least 3 = .ok (.iload_n 1, 1) := dk_27 (dk_at dksX9_least_0 3 rfl rfl)
theorem dX9_least_4 : decode cX9_least 4 = .ok (.invokestatic 154, 3) := dk_184 0 154 (dk_at dksX9_least_0 4 rfl rfl)
theorem dX9_least_7 : decode cX9_least 7 = .ok (.ifCond .ne 9, 3) := dk_154 0 9 (dk_at dksX9_least_0 7 rfl rfl)
theorem dX9_least_10 : decode cX9_least 10 = .ok (.iinc 1 1, 3) := dk_132 1 1 (dk_at dksX9_least_0 10 rfl rfl)
theorem dX9_least_13 : decode cX9_least 13 = .ok (.goto (-11), 3) := dk_167 255 245 (dk_at dksX9_least_0 13 rfl rfl)
theorem dX9_least_16 : decode cX9_least 16 = .ok (.iload_n 1, 1) := dk_27 (dk_at dksX9_least_0 16 rfl rfl)
theorem dX9_least_17 : decode cX9_least 17 = .ok (.ireturn, 1) := dk_172 (dk_at dksX9_least_0 17 rfl rfl)
abbrev cX9_hole : ByteArray := prog_16_method_59_code
def yX9_hole : MethodName := ⟨RX9, "hole", "(II)I"⟩
def dkwX9_hole_2 : List UInt8 := [46, 172]
abbrev dktX9_hole_2 : List UInt8 := dkwX9_hole_2 ++ []
def dkwX9_hole_1 : List UInt8 := [182, 0, 219, 42, 180, 0, 31, 27, 3, 79, 42, 28, 182, 0, 208, 42, 182, 0, 211, 42, 180, 0, 31, 27]
abbrev dktX9_hole_1 : List UInt8 := dkwX9_hole_1 ++ dktX9_hole_2
def dkwX9_hole_0 : List UInt8 := [42, 27, 182, 0, 200, 153, 0, 15, 28, 133, 9, 20, 0, 214, 184, 0, 63, 154, 0, 6, 18, 73, 172, 42]
abbrev dktX9_hole_0 : List UInt8 := dkwX9_hole_0 ++ dktX9_hole_1
theorem dksX9_hole_0 : cX9_hole.data.toList.drop 0 = dktX9_hole_0 := by decide +kernel
theorem dksX9_hole_1 : cX9_hole.data.toList.drop 24 = dktX9_hole_1 := dk_seg dksX9_hole_0 24 rfl rfl
theorem dksX9_hole_2 : cX9_hole.data.toList.drop 48 = dktX9_hole_2 := dk_seg dksX9_hole_1 24 rfl rfl
theorem dX9_hole_0 : decode cX9_hole 0 = .ok (.aload_n 0, 1) := dk_42 (dk_at dksX9_hole_0 0 rfl rfl)
theorem dX9_hole_1 : decode cX9_hole 1 = .ok (.iload_n 1, 1) := dk_27 (dk_at dksX9_hole_0 1 rfl rfl)
theorem dX9_hole_2 : decode cX9_hole 2 = .ok (.invokevirtual 200, 3) := dk_182 0 200 (dk_at dksX9_hole_0 2 rfl rfl)
theorem dX9_hole_5 : decode cX9_hole 5 = .ok (.ifCond .eq 15, 3) := dk_153 0 15 (dk_at dksX9_hole_0 5 rfl rfl)
theorem dX9_hole_8 : decode cX9_hole 8 = .ok (.iload_n 2, 1) := dk_28 (dk_at dksX9_hole_0 8 rfl rfl)
theorem dX9_hole_9 : decode cX9_hole 9 = .ok (.i2l, 1) := dk_133 (dk_at dksX9_hole_0 9 rfl rfl)
theorem dX9_hole_10 : decode cX9_hole 10 = .ok (.lconst 0, 1) := dk_9 (dk_at dksX9_hole_0 10 rfl rfl)
theorem dX9_hole_11 : decode cX9_hole 11 = .ok (.ldc2_w 214, 3) := dk_20 0 214 (dk_at dksX9_hole_0 11 rfl rfl)
theorem dX9_hole_14 : decode cX9_hole 14 = .ok (.invokestatic 63, 3) := dk_184 0 63 (dk_at dksX9_hole_0 14 rfl rfl)
theorem dX9_hole_17 : decode cX9_hole 17 = .ok (.ifCond .ne 6, 3) := dk_154 0 6 (dk_at dksX9_hole_0 17 rfl rfl)
theorem dX9_hole_20 : decode cX9_hole 20 = .ok (.ldc 73, 2) := dk_18 73 (dk_at dksX9_hole_0 20 rfl rfl)
theorem dX9_hole_22 : decode cX9_hole 22 = .ok (.ireturn, 1) := dk_172 (dk_at dksX9_hole_0 22 rfl rfl)
theorem dX9_hole_23 : decode cX9_hole 23 = .ok (.aload_n 0, 1) := dk_42 (dk_at dksX9_hole_0 23 rfl rfl)
theorem dX9_hole_24 : decode cX9_hole 24 = .ok (.invokevirtual 219, 3) := dk_182 0 219 (dk_at dksX9_hole_1 0 rfl rfl)
theorem dX9_hole_27 : decode cX9_hole 27 = .ok (.aload_n 0, 1) := dk_42 (dk_at dksX9_hole_1 3 rfl rfl)
theorem dX9_hole_28 : decode cX9_hole 28 = .ok (.getfield 31, 3) := dk_180 0 31 (dk_at dksX9_hole_1 4 rfl rfl)
theorem dX9_hole_31 : decode cX9_hole 31 = .ok (.iload_n 1, 1) := dk_27 (dk_at dksX9_hole_1 7 rfl rfl)
theorem dX9_hole_32 : decode cX9_hole 32 = .ok (.iconst 0, 1) := dk_3 (dk_at dksX9_hole_1 8 rfl rfl)
theorem dX9_hole_33 : decode cX9_hole 33 = .ok (.iastore, 1) := dk_79 (dk_at dksX9_hole_1 9 rfl rfl)
theorem dX9_hole_34 : decode cX9_hole 34 = .ok (.aload_n 0, 1) := dk_42 (dk_at dksX9_hole_1 10 rfl rfl)
theorem dX9_hole_35 : decode cX9_hole 35 = .ok (.iload_n 2, 1) := dk_28 (dk_at dksX9_hole_1 11 rfl rfl)
theorem dX9_hole_36 : decode cX9_hole 36 = .ok (.invokevirtual 208, 3) := dk_182 0 208 (dk_at dksX9_hole_1 12 rfl rfl)
theorem dX9_hole_39 : decode cX9_hole 39 = .ok (.aload_n 0, 1) := dk_42 (dk_at dksX9_hole_1 15 rfl rfl)
theorem dX9_hole_40 : decode cX9_hole 40 = .ok (.invokevirtual 211, 3) := dk_182 0 211 (dk_at dksX9_hole_1 16 rfl rfl)
theorem dX9_hole_43 : decode cX9_hole 43 = .ok (.aload_n 0, 1) := dk_42 (dk_at dksX9_hole_1 19 rfl rfl)
theorem dX9_hole_44 : decode cX9_hole 44 = .ok (.getfield 31, 3) := dk_180 0 31 (dk_at dksX9_hole_1 20 rfl rfl)
theorem dX9_hole_47 : decode cX9_hole 47 = .ok (.iload_n 1, 1) := dk_27 (dk_at dksX9_hole_1 23 rfl rfl)
theorem dX9_hole_48 : decode cX9_hole 48 = .ok (.iaload, 1) := dk_46 (dk_at dksX9_hole_2 0 rfl rfl)
theorem dX9_hole_49 : decode cX9_hole 49 = .ok (.ireturn, 1) := dk_172 (dk_at dksX9_hole_2 1 rfl rfl)
abbrev cX9_order : ByteArray := prog_16_method_63_code
def yX9_order : MethodName := ⟨RX9, "order", "(III)I"⟩
def dkwX9_order_10 : List UInt8 := [46, 172]
abbrev dktX9_order_10 : List UInt8 := dkwX9_order_10 ++ []
def dkwX9_order_9 : List UInt8 := [3, 46, 182, 0, 239, 54, 5, 167, 255, 141, 29, 156, 0, 8, 21, 4, 167, 0, 9, 42, 180, 0, 43, 29]
abbrev dktX9_order_9 : List UInt8 := dkwX9_order_9 ++ dktX9_order_10
def dkwX9_order_8 : List UInt8 := [180, 0, 43, 21, 7, 42, 180, 0, 40, 21, 7, 46, 79, 132, 7, 1, 167, 255, 228, 42, 42, 180, 0, 19]
abbrev dktX9_order_8 : List UInt8 := dkwX9_order_8 ++ dktX9_order_9
def dkwX9_order_7 : List UInt8 := [164, 0, 41, 21, 6, 54, 4, 3, 54, 7, 21, 7, 42, 180, 0, 19, 3, 46, 162, 0, 23, 42]
abbrev dktX9_order_7 : List UInt8 := dkwX9_order_7 ++ dktX9_order_8
def dkwX9_order_6 : List UInt8 := [167, 255, 225, 42, 28, 182, 0, 208, 42, 27, 182, 0, 236, 54, 6, 42, 182, 0, 211, 21, 6, 21, 4]
abbrev dktX9_order_6 : List UInt8 := dkwX9_order_6 ++ dktX9_order_7
def dkwX9_order_5 : List UInt8 := [46, 162, 0, 26, 42, 180, 0, 19, 16, 20, 42, 180, 0, 40, 21, 6, 46, 96, 21, 6, 79, 132, 6, 1]
abbrev dktX9_order_5 : List UInt8 := dkwX9_order_5 ++ dktX9_order_6
def dkwX9_order_4 : List UInt8 := [167, 255, 233, 2, 54, 4, 4, 54, 5, 21, 5, 153, 0, 116, 3, 54, 6, 21, 6, 42, 180, 0, 19, 3]
abbrev dktX9_order_4 : List UInt8 := dkwX9_order_4 ++ dktX9_order_5
def dkwX9_order_3 : List UInt8 := [21, 4, 42, 180, 0, 19, 3, 46, 162, 0, 18, 42, 180, 0, 40, 21, 4, 21, 4, 79, 132, 4, 1]
abbrev dktX9_order_3 : List UInt8 := dkwX9_order_3 ++ dktX9_order_4
def dkwX9_order_2 : List UInt8 := [180, 0, 19, 3, 46, 4, 100, 133, 184, 0, 63, 154, 0, 6, 18, 73, 172, 42, 182, 0, 219, 3, 54, 4]
abbrev dktX9_order_2 : List UInt8 := dkwX9_order_2 ++ dktX9_order_3
def dkwX9_order_1 : List UInt8 := [184, 0, 63, 153, 0, 35, 28, 133, 10, 20, 0, 232, 184, 0, 63, 153, 0, 23, 29, 133, 20, 0, 234, 42]
abbrev dktX9_order_1 : List UInt8 := dkwX9_order_1 ++ dktX9_order_2
def dkwX9_order_0 : List UInt8 := [42, 180, 0, 147, 154, 0, 6, 18, 181, 172, 27, 133, 9, 4, 42, 180, 0, 19, 3, 46, 120, 4, 100, 133]
abbrev dktX9_order_0 : List UInt8 := dkwX9_order_0 ++ dktX9_order_1
theorem dksX9_order_0 : cX9_order.data.toList.drop 0 = dktX9_order_0 := by decide +kernel
theorem dksX9_order_1 : cX9_order.data.toList.drop 24 = dktX9_order_1 := dk_seg dksX9_order_0 24 rfl rfl
theorem dksX9_order_2 : cX9_order.data.toList.drop 48 = dktX9_order_2 := dk_seg dksX9_order_1 24 rfl rfl
theorem dksX9_order_3 : cX9_order.data.toList.drop 72 = dktX9_order_3 := dk_seg dksX9_order_2 24 rfl rfl
theorem dksX9_order_4 : cX9_order.data.toList.drop 95 = dktX9_order_4 := dk_seg dksX9_order_3 23 rfl rfl
theorem dksX9_order_5 : cX9_order.data.toList.drop 119 = dktX9_order_5 := dk_seg dksX9_order_4 24 rfl rfl
theorem dksX9_order_6 : cX9_order.data.toList.drop 143 = dktX9_order_6 := dk_seg dksX9_order_5 24 rfl rfl
theorem dksX9_order_7 : cX9_order.data.toList.drop 166 = dktX9_order_7 := dk_seg dksX9_order_6 23 rfl rfl
theorem dksX9_order_8 : cX9_order.data.toList.drop 188 = dktX9_order_8 := dk_seg dksX9_order_7 22 rfl rfl
theorem dksX9_order_9 : cX9_order.data.toList.drop 212 = dktX9_order_9 := dk_seg dksX9_order_8 24 rfl rfl
theorem dksX9_order_10 : cX9_order.data.toList.drop 236 = dktX9_order_10 := dk_seg dksX9_order_9 24 rfl rfl
theorem dX9_order_0 : decode cX9_order 0 = .ok (.aload_n 0, 1) := dk_42 (dk_at dksX9_order_0 0 rfl rfl)
theorem dX9_order_1 : decode cX9_order 1 = .ok (.getfield 147, 3) := dk_180 0 147 (dk_at dksX9_order_0 1 rfl rfl)
theorem dX9_order_4 : decode cX9_order 4 = .ok (.ifCond .ne 6, 3) := dk_154 0 6 (dk_at dksX9_order_0 4 rfl rfl)
theorem dX9_order_7 : decode cX9_order 7 = .ok (.ldc 181, 2) := dk_18 181 (dk_at dksX9_order_0 7 rfl rfl)
theorem dX9_order_9 : decode cX9_order 9 = .ok (.ireturn, 1) := dk_172 (dk_at dksX9_order_0 9 rfl rfl)
theorem dX9_order_10 : decode cX9_order 10 = .ok (.iload_n 1, 1) := dk_27 (dk_at dksX9_order_0 10 rfl rfl)
theorem dX9_order_11 : decode cX9_order 11 = .ok (.i2l, 1) := dk_133 (dk_at dksX9_order_0 11 rfl rfl)
theorem dX9_order_12 : decode cX9_order 12 = .ok (.lconst 0, 1) := dk_9 (dk_at dksX9_order_0 12 rfl rfl)
theorem dX9_order_13 : decode cX9_order 13 = .ok (.iconst 1, 1) := dk_4 (dk_at dksX9_order_0 13 rfl rfl)
theorem dX9_order_14 : decode cX9_order 14 = .ok (.aload_n 0, 1) := dk_42 (dk_at dksX9_order_0 14 rfl rfl)
theorem dX9_order_15 : decode cX9_order 15 = .ok (.getfield 19, 3) := dk_180 0 19 (dk_at dksX9_order_0 15 rfl rfl)
theorem dX9_order_18 : decode cX9_order 18 = .ok (.iconst 0, 1) := dk_3 (dk_at dksX9_order_0 18 rfl rfl)
theorem dX9_order_19 : decode cX9_order 19 = .ok (.iaload, 1) := dk_46 (dk_at dksX9_order_0 19 rfl rfl)
theorem dX9_order_20 : decode cX9_order 20 = .ok (.ishl, 1) := dk_120 (dk_at dksX9_order_0 20 rfl rfl)
theorem dX9_order_21 : decode cX9_order 21 = .ok (.iconst 1, 1) := dk_4 (dk_at dksX9_order_0 21 rfl rfl)
theorem dX9_order_22 : decode cX9_order 22 = .ok (.isub, 1) := dk_100 (dk_at dksX9_order_0 22 rfl rfl)
theorem dX9_order_23 : decode cX9_order 23 = .ok (.i2l, 1) := dk_133 (dk_at dksX9_order_0 23 rfl rfl)
theorem dX9_order_24 : decode cX9_order 24 = .ok (.invokestatic 63, 3) := dk_184 0 63 (dk_at dksX9_order_1 0 rfl rfl)
theorem dX9_order_27 : decode cX9_order 27 = .ok (.ifCond .eq 35, 3) := dk_153 0 35 (dk_at dksX9_order_1 3 rfl rfl)
theorem dX9_order_30 : decode cX9_order 30 = .ok (.iload_n 2, 1) := dk_28 (dk_at dksX9_order_1 6 rfl rfl)
theorem dX9_order_31 : decode cX9_order 31 = .ok (.i2l, 1) := dk_133 (dk_at dksX9_order_1 7 rfl rfl)
theorem dX9_order_32 : decode cX9_order 32 = .ok (.lconst 1, 1) := dk_10 (dk_at dksX9_order_1 8 rfl rfl)
theorem dX9_order_33 : decode cX9_order 33 = .ok (.ldc2_w 232, 3) := dk_20 0 232 (dk_at dksX9_order_1 9 rfl rfl)
theorem dX9_order_36 : decode cX9_order 36 = .ok (.invokestatic 63, 3) := dk_184 0 63 (dk_at dksX9_order_1 12 rfl rfl)
theorem dX9_order_39 : decode cX9_order 39 = .ok (.ifCond .eq 23, 3) := dk_153 0 23 (dk_at dksX9_order_1 15 rfl rfl)
theorem dX9_order_42 : decode cX9_order 42 = .ok (.iload_n 3, 1) := dk_29 (dk_at dksX9_order_1 18 rfl rfl)
theorem dX9_order_43 : decode cX9_order 43 = .ok (.i2l, 1) := dk_133 (dk_at dksX9_order_1 19 rfl rfl)
theorem dX9_order_44 : decode cX9_order 44 = .ok (.ldc2_w 234, 3) := dk_20 0 234 (dk_at dksX9_order_1 20 rfl rfl)
theorem dX9_order_47 : decode cX9_order 47 = .ok (.aload_n 0, 1) := dk_42 (dk_at dksX9_order_1 23 rfl rfl)
theorem dX9_order_48 : decode cX9_order 48 = .ok (.getfield 19, 3) := dk_180 0 19 (dk_at dksX9_order_2 0 rfl rfl)
theorem dX9_order_51 : decode cX9_order 51 = .ok (.iconst 0, 1) := dk_3 (dk_at dksX9_order_2 3 rfl rfl)
theorem dX9_order_52 : decode cX9_order 52 = .ok (.iaload, 1) := dk_46 (dk_at dksX9_order_2 4 rfl rfl)
theorem dX9_order_53 : decode cX9_order 53 = .ok (.iconst 1, 1) := dk_4 (dk_at dksX9_order_2 5 rfl rfl)
theorem dX9_order_54 : decode cX9_order 54 = .ok (.isub, 1) := dk_100 (dk_at dksX9_order_2 6 rfl rfl)
theorem dX9_order_55 : decode cX9_order 55 = .ok (.i2l, 1) := dk_133 (dk_at dksX9_order_2 7 rfl rfl)
theorem dX9_order_56 : decode cX9_order 56 = .ok (.invokestatic 63, 3) := dk_184 0 63 (dk_at dksX9_order_2 8 rfl rfl)
theorem dX9_order_59 : decode cX9_order 59 = .ok (.ifCond .ne 6, 3) := dk_154 0 6 (dk_at dksX9_order_2 11 rfl rfl)
theorem dX9_order_62 : decode cX9_order 62 = .ok (.ldc 73, 2) := dk_18 73 (dk_at dksX9_order_2 14 rfl rfl)
theorem dX9_order_64 : decode cX9_order 64 = .ok (.ireturn, 1) := dk_172 (dk_at dksX9_order_2 16 rfl rfl)
theorem dX9_order_65 : decode cX9_order 65 = .ok (.aload_n 0, 1) := dk_42 (dk_at dksX9_order_2 17 rfl rfl)
theorem dX9_order_66 : decode cX9_order 66 = .ok (.invokevirtual 219, 3) := dk_182 0 219 (dk_at dksX9_order_2 18 rfl rfl)
theorem dX9_order_69 : decode cX9_order 69 = .ok (.iconst 0, 1) := dk_3 (dk_at dksX9_order_2 21 rfl rfl)
theorem dX9_order_70 : decode cX9_order 70 = .ok (.istore 4, 2) := dk_54 4 (dk_at dksX9_order_2 22 rfl rfl)
theorem dX9_order_72 : decode cX9_order 72 = .ok (.iload 4, 2) := dk_21 4 (dk_at dksX9_order_3 0 rfl rfl)
theorem dX9_order_74 : decode cX9_order 74 = .ok (.aload_n 0, 1) := dk_42 (dk_at dksX9_order_3 2 rfl rfl)
theorem dX9_order_75 : decode cX9_order 75 = .ok (.getfield 19, 3) := dk_180 0 19 (dk_at dksX9_order_3 3 rfl rfl)
theorem dX9_order_78 : decode cX9_order 78 = .ok (.iconst 0, 1) := dk_3 (dk_at dksX9_order_3 6 rfl rfl)
theorem dX9_order_79 : decode cX9_order 79 = .ok (.iaload, 1) := dk_46 (dk_at dksX9_order_3 7 rfl rfl)
theorem dX9_order_80 : decode cX9_order 80 = .ok (.if_icmp .ge 18, 3) := dk_162 0 18 (dk_at dksX9_order_3 8 rfl rfl)
theorem dX9_order_83 : decode cX9_order 83 = .ok (.aload_n 0, 1) := dk_42 (dk_at dksX9_order_3 11 rfl rfl)
theorem dX9_order_84 : decode cX9_order 84 = .ok (.getfield 40, 3) := dk_180 0 40 (dk_at dksX9_order_3 12 rfl rfl)
theorem dX9_order_87 : decode cX9_order 87 = .ok (.iload 4, 2) := dk_21 4 (dk_at dksX9_order_3 15 rfl rfl)
theorem dX9_order_89 : decode cX9_order 89 = .ok (.iload 4, 2) := dk_21 4 (dk_at dksX9_order_3 17 rfl rfl)
theorem dX9_order_91 : decode cX9_order 91 = .ok (.iastore, 1) := dk_79 (dk_at dksX9_order_3 19 rfl rfl)
theorem dX9_order_92 : decode cX9_order 92 = .ok (.iinc 4 1, 3) := dk_132 4 1 (dk_at dksX9_order_3 20 rfl rfl)
theorem dX9_order_95 : decode cX9_order 95 = .ok (.goto (-23), 3) := dk_167 255 233 (dk_at dksX9_order_4 0 rfl rfl)
theorem dX9_order_98 : decode cX9_order 98 = .ok (.iconst (-1), 1) := dk_2 (dk_at dksX9_order_4 3 rfl rfl)
theorem dX9_order_99 : decode cX9_order 99 = .ok (.istore 4, 2) := dk_54 4 (dk_at dksX9_order_4 4 rfl rfl)
theorem dX9_order_101 : decode cX9_order 101 = .ok (.iconst 1, 1) := dk_4 (dk_at dksX9_order_4 6 rfl rfl)
theorem dX9_order_102 : decode cX9_order 102 = .ok (.istore 5, 2) := dk_54 5 (dk_at dksX9_order_4 7 rfl rfl)
theorem dX9_order_104 : decode cX9_order 104 = .ok (.iload 5, 2) := dk_21 5 (dk_at dksX9_order_4 9 rfl rfl)
theorem dX9_order_106 : decode cX9_order 106 = .ok (.ifCond .eq 116, 3) := dk_153 0 116 (dk_at dksX9_order_4 11 rfl rfl)
theorem dX9_order_109 : decode cX9_order 109 = .ok (.iconst 0, 1) := dk_3 (dk_at dksX9_order_4 14 rfl rfl)
theorem dX9_order_110 : decode cX9_order 110 = .ok (.istore 6, 2) := dk_54 6 (dk_at dksX9_order_4 15 rfl rfl)
theorem dX9_order_112 : decode cX9_order 112 = .ok (.iload 6, 2) := dk_21 6 (dk_at dksX9_order_4 17 rfl rfl)
theorem dX9_order_114 : decode cX9_order 114 = .ok (.aload_n 0, 1) := dk_42 (dk_at dksX9_order_4 19 rfl rfl)
theorem dX9_order_115 : decode cX9_order 115 = .ok (.getfield 19, 3) := dk_180 0 19 (dk_at dksX9_order_4 20 rfl rfl)
theorem dX9_order_118 : decode cX9_order 118 = .ok (.iconst 0, 1) := dk_3 (dk_at dksX9_order_4 23 rfl rfl)
theorem dX9_order_119 : decode cX9_order 119 = .ok (.iaload, 1) := dk_46 (dk_at dksX9_order_5 0 rfl rfl)
theorem dX9_order_120 : decode cX9_order 120 = .ok (.if_icmp .ge 26, 3) := dk_162 0 26 (dk_at dksX9_order_5 1 rfl rfl)
theorem dX9_order_123 : decode cX9_order 123 = .ok (.aload_n 0, 1) := dk_42 (dk_at dksX9_order_5 4 rfl rfl)
theorem dX9_order_124 : decode cX9_order 124 = .ok (.getfield 19, 3) := dk_180 0 19 (dk_at dksX9_order_5 5 rfl rfl)
theorem dX9_order_127 : decode cX9_order 127 = .ok (.bipush 20, 2) := dk_16 20 (dk_at dksX9_order_5 8 rfl rfl)
theorem dX9_order_129 : decode cX9_order 129 = .ok (.aload_n 0, 1) := dk_42 (dk_at dksX9_order_5 10 rfl rfl)
theorem dX9_order_130 : decode cX9_order 130 = .ok (.getfield 40, 3) := dk_180 0 40 (dk_at dksX9_order_5 11 rfl rfl)
theorem dX9_order_133 : decode cX9_order 133 = .ok (.iload 6, 2) := dk_21 6 (dk_at dksX9_order_5 14 rfl rfl)
theorem dX9_order_135 : decode cX9_order 135 = .ok (.iaload, 1) := dk_46 (dk_at dksX9_order_5 16 rfl rfl)
theorem dX9_order_136 : decode cX9_order 136 = .ok (.iadd, 1) := dk_96 (dk_at dksX9_order_5 17 rfl rfl)
theorem dX9_order_137 : decode cX9_order 137 = .ok (.iload 6, 2) := dk_21 6 (dk_at dksX9_order_5 18 rfl rfl)
theorem dX9_order_139 : decode cX9_order 139 = .ok (.iastore, 1) := dk_79 (dk_at dksX9_order_5 20 rfl rfl)
theorem dX9_order_140 : decode cX9_order 140 = .ok (.iinc 6 1, 3) := dk_132 6 1 (dk_at dksX9_order_5 21 rfl rfl)
theorem dX9_order_143 : decode cX9_order 143 = .ok (.goto (-31), 3) := dk_167 255 225 (dk_at dksX9_order_6 0 rfl rfl)
theorem dX9_order_146 : decode cX9_order 146 = .ok (.aload_n 0, 1) := dk_42 (dk_at dksX9_order_6 3 rfl rfl)
theorem dX9_order_147 : decode cX9_order 147 = .ok (.iload_n 2, 1) := dk_28 (dk_at dksX9_order_6 4 rfl rfl)
theorem dX9_order_148 : decode cX9_order 148 = .ok (.invokevirtual 208, 3) := dk_182 0 208 (dk_at dksX9_order_6 5 rfl rfl)
theorem dX9_order_151 : decode cX9_order 151 = .ok (.aload_n 0, 1) := dk_42 (dk_at dksX9_order_6 8 rfl rfl)
theorem dX9_order_152 : decode cX9_order 152 = .ok (.iload_n 1, 1) := dk_27 (dk_at dksX9_order_6 9 rfl rfl)
theorem dX9_order_153 : decode cX9_order 153 = .ok (.invokevirtual 236, 3) := dk_182 0 236 (dk_at dksX9_order_6 10 rfl rfl)
theorem dX9_order_156 : decode cX9_order 156 = .ok (.istore 6, 2) := dk_54 6 (dk_at dksX9_order_6 13 rfl rfl)
theorem dX9_order_158 : decode cX9_order 158 = .ok (.aload_n 0, 1) := dk_42 (dk_at dksX9_order_6 15 rfl rfl)
theorem dX9_order_159 : decode cX9_order 159 = .ok (.invokevirtual 211, 3) := dk_182 0 211 (dk_at dksX9_order_6 16 rfl rfl)
theorem dX9_order_162 : decode cX9_order 162 = .ok (.iload 6, 2) := dk_21 6 (dk_at dksX9_order_6 19 rfl rfl)
theorem dX9_order_164 : decode cX9_order 164 = .ok (.iload 4, 2) := dk_21 4 (dk_at dksX9_order_6 21 rfl rfl)
theorem dX9_order_166 : decode cX9_order 166 = .ok (.if_icmp .le 41, 3) := dk_164 0 41 (dk_at dksX9_order_7 0 rfl rfl)
theorem dX9_order_169 : decode cX9_order 169 = .ok (.iload 6, 2) := dk_21 6 (dk_at dksX9_order_7 3 rfl rfl)
theorem dX9_order_171 : decode cX9_order 171 = .ok (.istore 4, 2) := dk_54 4 (dk_at dksX9_order_7 5 rfl rfl)
theorem dX9_order_173 : decode cX9_order 173 = .ok (.iconst 0, 1) := dk_3 (dk_at dksX9_order_7 7 rfl rfl)
theorem dX9_order_174 : decode cX9_order 174 = .ok (.istore 7, 2) := dk_54 7 (dk_at dksX9_order_7 8 rfl rfl)
theorem dX9_order_176 : decode cX9_order 176 = .ok (.iload 7, 2) := dk_21 7 (dk_at dksX9_order_7 10 rfl rfl)
theorem dX9_order_178 : decode cX9_order 178 = .ok (.aload_n 0, 1) := dk_42 (dk_at dksX9_order_7 12 rfl rfl)
theorem dX9_order_179 : decode cX9_order 179 = .ok (.getfield 19, 3) := dk_180 0 19 (dk_at dksX9_order_7 13 rfl rfl)
theorem dX9_order_182 : decode cX9_order 182 = .ok (.iconst 0, 1) := dk_3 (dk_at dksX9_order_7 16 rfl rfl)
theorem dX9_order_183 : decode cX9_order 183 = .ok (.iaload, 1) := dk_46 (dk_at dksX9_order_7 17 rfl rfl)
theorem dX9_order_184 : decode cX9_order 184 = .ok (.if_icmp .ge 23, 3) := dk_162 0 23 (dk_at dksX9_order_7 18 rfl rfl)
theorem dX9_order_187 : decode cX9_order 187 = .ok (.aload_n 0, 1) := dk_42 (dk_at dksX9_order_7 21 rfl rfl)
theorem dX9_order_188 : decode cX9_order 188 = .ok (.getfield 43, 3) := dk_180 0 43 (dk_at dksX9_order_8 0 rfl rfl)
theorem dX9_order_191 : decode cX9_order 191 = .ok (.iload 7, 2) := dk_21 7 (dk_at dksX9_order_8 3 rfl rfl)
theorem dX9_order_193 : decode cX9_order 193 = .ok (.aload_n 0, 1) := dk_42 (dk_at dksX9_order_8 5 rfl rfl)
theorem dX9_order_194 : decode cX9_order 194 = .ok (.getfield 40, 3) := dk_180 0 40 (dk_at dksX9_order_8 6 rfl rfl)
theorem dX9_order_197 : decode cX9_order 197 = .ok (.iload 7, 2) := dk_21 7 (dk_at dksX9_order_8 9 rfl rfl)
theorem dX9_order_199 : decode cX9_order 199 = .ok (.iaload, 1) := dk_46 (dk_at dksX9_order_8 11 rfl rfl)
theorem dX9_order_200 : decode cX9_order 200 = .ok (.iastore, 1) := dk_79 (dk_at dksX9_order_8 12 rfl rfl)
theorem dX9_order_201 : decode cX9_order 201 = .ok (.iinc 7 1, 3) := dk_132 7 1 (dk_at dksX9_order_8 13 rfl rfl)
theorem dX9_order_204 : decode cX9_order 204 = .ok (.goto (-28), 3) := dk_167 255 228 (dk_at dksX9_order_8 16 rfl rfl)
theorem dX9_order_207 : decode cX9_order 207 = .ok (.aload_n 0, 1) := dk_42 (dk_at dksX9_order_8 19 rfl rfl)
theorem dX9_order_208 : decode cX9_order 208 = .ok (.aload_n 0, 1) := dk_42 (dk_at dksX9_order_8 20 rfl rfl)
theorem dX9_order_209 : decode cX9_order 209 = .ok (.getfield 19, 3) := dk_180 0 19 (dk_at dksX9_order_8 21 rfl rfl)
theorem dX9_order_212 : decode cX9_order 212 = .ok (.iconst 0, 1) := dk_3 (dk_at dksX9_order_9 0 rfl rfl)
theorem dX9_order_213 : decode cX9_order 213 = .ok (.iaload, 1) := dk_46 (dk_at dksX9_order_9 1 rfl rfl)
theorem dX9_order_214 : decode cX9_order 214 = .ok (.invokevirtual 239, 3) := dk_182 0 239 (dk_at dksX9_order_9 2 rfl rfl)
theorem dX9_order_217 : decode cX9_order 217 = .ok (.istore 5, 2) := dk_54 5 (dk_at dksX9_order_9 5 rfl rfl)
theorem dX9_order_219 : decode cX9_order 219 = .ok (.goto (-115), 3) := dk_167 255 141 (dk_at dksX9_order_9 7 rfl rfl)
theorem dX9_order_222 : decode cX9_order 222 = .ok (.iload_n 3, 1) := dk_29 (dk_at dksX9_order_9 10 rfl rfl)
theorem dX9_order_223 : decode cX9_order 223 = .ok (.ifCond .ge 8, 3) := dk_156 0 8 (dk_at dksX9_order_9 11 rfl rfl)
theorem dX9_order_226 : decode cX9_order 226 = .ok (.iload 4, 2) := dk_21 4 (dk_at dksX9_order_9 14 rfl rfl)
theorem dX9_order_228 : decode cX9_order 228 = .ok (.goto 9, 3) := dk_167 0 9 (dk_at dksX9_order_9 16 rfl rfl)
theorem dX9_order_231 : decode cX9_order 231 = .ok (.aload_n 0, 1) := dk_42 (dk_at dksX9_order_9 19 rfl rfl)
theorem dX9_order_232 : decode cX9_order 232 = .ok (.getfield 43, 3) := dk_180 0 43 (dk_at dksX9_order_9 20 rfl rfl)
theorem dX9_order_235 : decode cX9_order 235 = .ok (.iload_n 3, 1) := dk_29 (dk_at dksX9_order_9 23 rfl rfl)
theorem dX9_order_236 : decode cX9_order 236 = .ok (.iaload, 1) := dk_46 (dk_at dksX9_order_10 0 rfl rfl)
theorem dX9_order_237 : decode cX9_order 237 = .ok (.ireturn, 1) := dk_172 (dk_at dksX9_order_10 1 rfl rfl)
abbrev cX9_pagesOf : ByteArray := prog_16_method_62_code
def yX9_pagesOf : MethodName := ⟨RX9, "pagesOf", "(I)I"⟩
def dkwX9_pagesOf_1 : List UInt8 := [180, 0, 19, 16, 8, 29, 96, 46, 167, 0, 4, 3, 96, 61, 132, 3, 1, 167, 255, 219, 28, 172]
abbrev dktX9_pagesOf_1 : List UInt8 := dkwX9_pagesOf_1 ++ []
def dkwX9_pagesOf_0 : List UInt8 := [3, 61, 3, 62, 29, 42, 180, 0, 19, 3, 46, 162, 0, 33, 28, 27, 29, 184, 0, 154, 153, 0, 15, 42]
abbrev dktX9_pagesOf_0 : List UInt8 := dkwX9_pagesOf_0 ++ dktX9_pagesOf_1
theorem dksX9_pagesOf_0 : cX9_pagesOf.data.toList.drop 0 = dktX9_pagesOf_0 := by decide +kernel
theorem dksX9_pagesOf_1 : cX9_pagesOf.data.toList.drop 24 = dktX9_pagesOf_1 := dk_seg dksX9_pagesOf_0 24 rfl rfl
theorem dX9_pagesOf_0 : decode cX9_pagesOf 0 = .ok (.iconst 0, 1) := dk_3 (dk_at dksX9_pagesOf_0 0 rfl rfl)
theorem dX9_pagesOf_1 : decode cX9_pagesOf 1 = .ok (.istore_n 2, 1) := dk_61 (dk_at dksX9_pagesOf_0 1 rfl rfl)
theorem dX9_pagesOf_2 : decode cX9_pagesOf 2 = .ok (.iconst 0, 1) := dk_3 (dk_at dksX9_pagesOf_0 2 rfl rfl)
theorem dX9_pagesOf_3 : decode cX9_pagesOf 3 = .ok (.istore_n 3, 1) := dk_62 (dk_at dksX9_pagesOf_0 3 rfl rfl)
theorem dX9_pagesOf_4 : decode cX9_pagesOf 4 = .ok (.iload_n 3, 1) := dk_29 (dk_at dksX9_pagesOf_0 4 rfl rfl)
theorem dX9_pagesOf_5 : decode cX9_pagesOf 5 = .ok (.aload_n 0, 1) := dk_42 (dk_at dksX9_pagesOf_0 5 rfl rfl)
theorem dX9_pagesOf_6 : decode cX9_pagesOf 6 = .ok (.getfield 19, 3) := dk_180 0 19 (dk_at dksX9_pagesOf_0 6 rfl rfl)
theorem dX9_pagesOf_9 : decode cX9_pagesOf 9 = .ok (.iconst 0, 1) := dk_3 (dk_at dksX9_pagesOf_0 9 rfl rfl)
theorem dX9_pagesOf_10 : decode cX9_pagesOf 10 = .ok (.iaload, 1) := dk_46 (dk_at dksX9_pagesOf_0 10 rfl rfl)
theorem dX9_pagesOf_11 : decode cX9_pagesOf 11 = .ok (.if_icmp .ge 33, 3) := dk_162 0 33 (dk_at dksX9_pagesOf_0 11 rfl rfl)
theorem dX9_pagesOf_14 : decode cX9_pagesOf 14 = .ok (.iload_n 2, 1) := dk_28 (dk_at dksX9_pagesOf_0 14 rfl rfl)
theorem dX9_pagesOf_15 : decode cX9_pagesOf 15 = .ok (.iload_n 1, 1) := dk_27 (dk_at dksX9_pagesOf_0 15 rfl rfl)
theorem dX9_pagesOf_16 : decode cX9_pagesOf 16 = .ok (.iload_n 3, 1) := dk_29 (dk_at dksX9_pagesOf_0 16 rfl rfl)
theorem dX9_pagesOf_17 : decode cX9_pagesOf 17 = .ok (.invokestatic 154, 3) := dk_184 0 154 (dk_at dksX9_pagesOf_0 17 rfl rfl)
theorem dX9_pagesOf_20 : decode cX9_pagesOf 20 = .ok (.ifCond .eq 15, 3) := dk_153 0 15 (dk_at dksX9_pagesOf_0 20 rfl rfl)
theorem dX9_pagesOf_23 : decode cX9_pagesOf 23 = .ok (.aload_n 0, 1) := dk_42 (dk_at dksX9_pagesOf_0 23 rfl rfl)
theorem dX9_pagesOf_24 : decode cX9_pagesOf 24 = .ok (.getfield 19, 3) := dk_180 0 19 (dk_at dksX9_pagesOf_1 0 rfl rfl)
theorem dX9_pagesOf_27 : decode cX9_pagesOf 27 = .ok (.bipush 8, 2) := dk_16 8 (dk_at dksX9_pagesOf_1 3 rfl rfl)
theorem dX9_pagesOf_29 : decode cX9_pagesOf 29 = .ok (.iload_n 3, 1) := dk_29 (dk_at dksX9_pagesOf_1 5 rfl rfl)
theorem dX9_pagesOf_30 : decode cX9_pagesOf 30 = .ok (.iadd, 1) := dk_96 (dk_at dksX9_pagesOf_1 6 rfl rfl)
theorem dX9_pagesOf_31 : decode cX9_pagesOf 31 = .ok (.iaload, 1) := dk_46 (dk_at dksX9_pagesOf_1 7 rfl rfl)
theorem dX9_pagesOf_32 : decode cX9_pagesOf 32 = .ok (.goto 4, 3) := dk_167 0 4 (dk_at dksX9_pagesOf_1 8 rfl rfl)
theorem dX9_pagesOf_35 : decode cX9_pagesOf 35 = .ok (.iconst 0, 1) := dk_3 (dk_at dksX9_pagesOf_1 11 rfl rfl)
theorem dX9_pagesOf_36 : decode cX9_pagesOf 36 = .ok (.iadd, 1) := dk_96 (dk_at dksX9_pagesOf_1 12 rfl rfl)
theorem dX9_pagesOf_37 : decode cX9_pagesOf 37 = .ok (.istore_n 2, 1) := dk_61 (dk_at dksX9_pagesOf_1 13 rfl rfl)
theorem dX9_pagesOf_38 : decode cX9_pagesOf 38 = .ok (.iinc 3 1, 3) := dk_132 3 1 (dk_at dksX9_pagesOf_1 14 rfl rfl)
theorem dX9_pagesOf_41 : decode cX9_pagesOf 41 = .ok (.goto (-37), 3) := dk_167 255 219 (dk_at dksX9_pagesOf_1 17 rfl rfl)
theorem dX9_pagesOf_44 : decode cX9_pagesOf 44 = .ok (.iload_n 2, 1) := dk_28 (dk_at dksX9_pagesOf_1 20 rfl rfl)
theorem dX9_pagesOf_45 : decode cX9_pagesOf 45 = .ok (.ireturn, 1) := dk_172 (dk_at dksX9_pagesOf_1 21 rfl rfl)
abbrev cX9_isNext : ByteArray := prog_16_method_61_code
def yX9_isNext : MethodName := ⟨RX9, "isNext", "(I)Z"⟩
def dkwX9_isNext_4 : List UInt8 := [132, 4, 1, 132, 5, 255, 167, 255, 235, 4, 172]
abbrev dktX9_isNext_4 : List UInt8 := dkwX9_isNext_4 ++ []
def dkwX9_isNext_3 : List UInt8 := [96, 54, 4, 27, 4, 100, 54, 5, 21, 4, 21, 5, 162, 0, 20, 42, 21, 4, 21, 5, 182, 0, 228]
abbrev dktX9_isNext_3 : List UInt8 := dkwX9_isNext_3 ++ dktX9_isNext_4
def dkwX9_isNext_2 : List UInt8 := [46, 42, 180, 0, 40, 28, 46, 162, 0, 9, 132, 3, 255, 167, 255, 238, 42, 28, 29, 182, 0, 228, 28, 4]
abbrev dktX9_isNext_2 : List UInt8 := dkwX9_isNext_2 ++ dktX9_isNext_3
def dkwX9_isNext_1 : List UInt8 := [164, 0, 9, 132, 2, 255, 167, 255, 232, 28, 156, 0, 5, 3, 172, 27, 4, 100, 62, 42, 180, 0, 40, 29]
abbrev dktX9_isNext_1 : List UInt8 := dkwX9_isNext_1 ++ dktX9_isNext_2
def dkwX9_isNext_0 : List UInt8 := [27, 5, 100, 61, 28, 155, 0, 26, 42, 180, 0, 40, 28, 46, 42, 180, 0, 40, 28, 4, 96, 46]
abbrev dktX9_isNext_0 : List UInt8 := dkwX9_isNext_0 ++ dktX9_isNext_1
theorem dksX9_isNext_0 : cX9_isNext.data.toList.drop 0 = dktX9_isNext_0 := by decide +kernel
theorem dksX9_isNext_1 : cX9_isNext.data.toList.drop 22 = dktX9_isNext_1 := dk_seg dksX9_isNext_0 22 rfl rfl
theorem dksX9_isNext_2 : cX9_isNext.data.toList.drop 46 = dktX9_isNext_2 := dk_seg dksX9_isNext_1 24 rfl rfl
theorem dksX9_isNext_3 : cX9_isNext.data.toList.drop 70 = dktX9_isNext_3 := dk_seg dksX9_isNext_2 24 rfl rfl
theorem dksX9_isNext_4 : cX9_isNext.data.toList.drop 93 = dktX9_isNext_4 := dk_seg dksX9_isNext_3 23 rfl rfl
theorem dX9_isNext_0 : decode cX9_isNext 0 = .ok (.iload_n 1, 1) := dk_27 (dk_at dksX9_isNext_0 0 rfl rfl)
theorem dX9_isNext_1 : decode cX9_isNext 1 = .ok (.iconst 2, 1) := dk_5 (dk_at dksX9_isNext_0 1 rfl rfl)
theorem dX9_isNext_2 : decode cX9_isNext 2 = .ok (.isub, 1) := dk_100 (dk_at dksX9_isNext_0 2 rfl rfl)
theorem dX9_isNext_3 : decode cX9_isNext 3 = .ok (.istore_n 2, 1) := dk_61 (dk_at dksX9_isNext_0 3 rfl rfl)
theorem dX9_isNext_4 : decode cX9_isNext 4 = .ok (.iload_n 2, 1) := dk_28 (dk_at dksX9_isNext_0 4 rfl rfl)
theorem dX9_isNext_5 : decode cX9_isNext 5 = .ok (.ifCond .lt 26, 3) := dk_155 0 26 (dk_at dksX9_isNext_0 5 rfl rfl)
theorem dX9_isNext_8 : decode cX9_isNext 8 = .ok (.aload_n 0, 1) := dk_42 (dk_at dksX9_isNext_0 8 rfl rfl)
theorem dX9_isNext_9 : decode cX9_isNext 9 = .ok (.getfield 40, 3) := dk_180 0 40 (dk_at dksX9_isNext_0 9 rfl rfl)
theorem dX9_isNext_12 : decode cX9_isNext 12 = .ok (.iload_n 2, 1) := dk_28 (dk_at dksX9_isNext_0 12 rfl rfl)
theorem dX9_isNext_13 : decode cX9_isNext 13 = .ok (.iaload, 1) := dk_46 (dk_at dksX9_isNext_0 13 rfl rfl)
theorem dX9_isNext_14 : decode cX9_isNext 14 = .ok (.aload_n 0, 1) := dk_42 (dk_at dksX9_isNext_0 14 rfl rfl)
theorem dX9_isNext_15 : decode cX9_isNext 15 = .ok (.getfield 40, 3) := dk_180 0 40 (dk_at dksX9_isNext_0 15 rfl rfl)
theorem dX9_isNext_18 : decode cX9_isNext 18 = .ok (.iload_n 2, 1) := dk_28 (dk_at dksX9_isNext_0 18 rfl rfl)
theorem dX9_isNext_19 : decode cX9_isNext 19 = .ok (.iconst 1, 1) := dk_4 (dk_at dksX9_isNext_0 19 rfl rfl)
theorem dX9_isNext_20 : decode cX9_isNext 20 = .ok (.iadd, 1) := dk_96 (dk_at dksX9_isNext_0 20 rfl rfl)
theorem dX9_isNext_21 : decode cX9_isNext 21 = .ok (.iaload, 1) := dk_46 (dk_at dksX9_isNext_0 21 rfl rfl)
theorem dX9_isNext_22 : decode cX9_isNext 22 = .ok (.if_icmp .le 9, 3) := dk_164 0 9 (dk_at dksX9_isNext_1 0 rfl rfl)
theorem dX9_isNext_25 : decode cX9_isNext 25 = .ok (.iinc 2 (-1), 3) := dk_132 2 255 (dk_at dksX9_isNext_1 3 rfl rfl)
theorem dX9_isNext_28 : decode cX9_isNext 28 = .ok (.goto (-24), 3) := dk_167 255 232 (dk_at dksX9_isNext_1 6 rfl rfl)
theorem dX9_isNext_31 : decode cX9_isNext 31 = .ok (.iload_n 2, 1) := dk_28 (dk_at dksX9_isNext_1 9 rfl rfl)
theorem dX9_isNext_32 : decode cX9_isNext 32 = .ok (.ifCond .ge 5, 3) := dk_156 0 5 (dk_at dksX9_isNext_1 10 rfl rfl)
theorem dX9_isNext_35 : decode cX9_isNext 35 = .ok (.iconst 0, 1) := dk_3 (dk_at dksX9_isNext_1 13 rfl rfl)
theorem dX9_isNext_36 : decode cX9_isNext 36 = .ok (.ireturn, 1) := dk_172 (dk_at dksX9_isNext_1 14 rfl rfl)
theorem dX9_isNext_37 : decode cX9_isNext 37 = .ok (.iload_n 1, 1) := dk_27 (dk_at dksX9_isNext_1 15 rfl rfl)
theorem dX9_isNext_38 : decode cX9_isNext 38 = .ok (.iconst 1, 1) := dk_4 (dk_at dksX9_isNext_1 16 rfl rfl)
theorem dX9_isNext_39 : decode cX9_isNext 39 = .ok (.isub, 1) := dk_100 (dk_at dksX9_isNext_1 17 rfl rfl)
theorem dX9_isNext_40 : decode cX9_isNext 40 = .ok (.istore_n 3, 1) := dk_62 (dk_at dksX9_isNext_1 18 rfl rfl)
theorem dX9_isNext_41 : decode cX9_isNext 41 = .ok (.aload_n 0, 1) := dk_42 (dk_at dksX9_isNext_1 19 rfl rfl)
theorem dX9_isNext_42 : decode cX9_isNext 42 = .ok (.getfield 40, 3) := dk_180 0 40 (dk_at dksX9_isNext_1 20 rfl rfl)
theorem dX9_isNext_45 : decode cX9_isNext 45 = .ok (.iload_n 3, 1) := dk_29 (dk_at dksX9_isNext_1 23 rfl rfl)
theorem dX9_isNext_46 : decode cX9_isNext 46 = .ok (.iaload, 1) := dk_46 (dk_at dksX9_isNext_2 0 rfl rfl)
theorem dX9_isNext_47 : decode cX9_isNext 47 = .ok (.aload_n 0, 1) := dk_42 (dk_at dksX9_isNext_2 1 rfl rfl)
theorem dX9_isNext_48 : decode cX9_isNext 48 = .ok (.getfield 40, 3) := dk_180 0 40 (dk_at dksX9_isNext_2 2 rfl rfl)
theorem dX9_isNext_51 : decode cX9_isNext 51 = .ok (.iload_n 2, 1) := dk_28 (dk_at dksX9_isNext_2 5 rfl rfl)
theorem dX9_isNext_52 : decode cX9_isNext 52 = .ok (.iaload, 1) := dk_46 (dk_at dksX9_isNext_2 6 rfl rfl)
theorem dX9_isNext_53 : decode cX9_isNext 53 = .ok (.if_icmp .ge 9, 3) := dk_162 0 9 (dk_at dksX9_isNext_2 7 rfl rfl)
theorem dX9_isNext_56 : decode cX9_isNext 56 = .ok (.iinc 3 (-1), 3) := dk_132 3 255 (dk_at dksX9_isNext_2 10 rfl rfl)
theorem dX9_isNext_59 : decode cX9_isNext 59 = .ok (.goto (-18), 3) := dk_167 255 238 (dk_at dksX9_isNext_2 13 rfl rfl)
theorem dX9_isNext_62 : decode cX9_isNext 62 = .ok (.aload_n 0, 1) := dk_42 (dk_at dksX9_isNext_2 16 rfl rfl)
theorem dX9_isNext_63 : decode cX9_isNext 63 = .ok (.iload_n 2, 1) := dk_28 (dk_at dksX9_isNext_2 17 rfl rfl)
theorem dX9_isNext_64 : decode cX9_isNext 64 = .ok (.iload_n 3, 1) := dk_29 (dk_at dksX9_isNext_2 18 rfl rfl)
theorem dX9_isNext_65 : decode cX9_isNext 65 = .ok (.invokevirtual 228, 3) := dk_182 0 228 (dk_at dksX9_isNext_2 19 rfl rfl)
theorem dX9_isNext_68 : decode cX9_isNext 68 = .ok (.iload_n 2, 1) := dk_28 (dk_at dksX9_isNext_2 22 rfl rfl)
theorem dX9_isNext_69 : decode cX9_isNext 69 = .ok (.iconst 1, 1) := dk_4 (dk_at dksX9_isNext_2 23 rfl rfl)
theorem dX9_isNext_70 : decode cX9_isNext 70 = .ok (.iadd, 1) := dk_96 (dk_at dksX9_isNext_3 0 rfl rfl)
theorem dX9_isNext_71 : decode cX9_isNext 71 = .ok (.istore 4, 2) := dk_54 4 (dk_at dksX9_isNext_3 1 rfl rfl)
theorem dX9_isNext_73 : decode cX9_isNext 73 = .ok (.iload_n 1, 1) := dk_27 (dk_at dksX9_isNext_3 3 rfl rfl)
theorem dX9_isNext_74 : decode cX9_isNext 74 = .ok (.iconst 1, 1) := dk_4 (dk_at dksX9_isNext_3 4 rfl rfl)
theorem dX9_isNext_75 : decode cX9_isNext 75 = .ok (.isub, 1) := dk_100 (dk_at dksX9_isNext_3 5 rfl rfl)
theorem dX9_isNext_76 : decode cX9_isNext 76 = .ok (.istore 5, 2) := dk_54 5 (dk_at dksX9_isNext_3 6 rfl rfl)
theorem dX9_isNext_78 : decode cX9_isNext 78 = .ok (.iload 4, 2) := dk_21 4 (dk_at dksX9_isNext_3 8 rfl rfl)
theorem dX9_isNext_80 : decode cX9_isNext 80 = .ok (.iload 5, 2) := dk_21 5 (dk_at dksX9_isNext_3 10 rfl rfl)
theorem dX9_isNext_82 : decode cX9_isNext 82 = .ok (.if_icmp .ge 20, 3) := dk_162 0 20 (dk_at dksX9_isNext_3 12 rfl rfl)
theorem dX9_isNext_85 : decode cX9_isNext 85 = .ok (.aload_n 0, 1) := dk_42 (dk_at dksX9_isNext_3 15 rfl rfl)
theorem dX9_isNext_86 : decode cX9_isNext 86 = .ok (.iload 4, 2) := dk_21 4 (dk_at dksX9_isNext_3 16 rfl rfl)
theorem dX9_isNext_88 : decode cX9_isNext 88 = .ok (.iload 5, 2) := dk_21 5 (dk_at dksX9_isNext_3 18 rfl rfl)
theorem dX9_isNext_90 : decode cX9_isNext 90 = .ok (.invokevirtual 228, 3) := dk_182 0 228 (dk_at dksX9_isNext_3 20 rfl rfl)
theorem dX9_isNext_93 : decode cX9_isNext 93 = .ok (.iinc 4 1, 3) := dk_132 4 1 (dk_at dksX9_isNext_4 0 rfl rfl)
theorem dX9_isNext_96 : decode cX9_isNext 96 = .ok (.iinc 5 (-1), 3) := dk_132 5 255 (dk_at dksX9_isNext_4 3 rfl rfl)
theorem dX9_isNext_99 : decode cX9_isNext 99 = .ok (.goto (-21), 3) := dk_167 255 235 (dk_at dksX9_isNext_4 6 rfl rfl)
theorem dX9_isNext_102 : decode cX9_isNext 102 = .ok (.iconst 1, 1) := dk_4 (dk_at dksX9_isNext_4 9 rfl rfl)
theorem dX9_isNext_103 : decode cX9_isNext 103 = .ok (.ireturn, 1) := dk_172 (dk_at dksX9_isNext_4 10 rfl rfl)
abbrev cX9_exchange : ByteArray := prog_16_method_60_code
def yX9_exchange : MethodName := ⟨RX9, "exchange", "(II)V"⟩
def dkwX9_exchange_1 : List UInt8 := [29, 79, 177]
abbrev dktX9_exchange_1 : List UInt8 := dkwX9_exchange_1 ++ []
def dkwX9_exchange_0 : List UInt8 := [42, 180, 0, 40, 27, 46, 62, 42, 180, 0, 40, 27, 42, 180, 0, 40, 28, 46, 79, 42, 180, 0, 40, 28]
abbrev dktX9_exchange_0 : List UInt8 := dkwX9_exchange_0 ++ dktX9_exchange_1
theorem dksX9_exchange_0 : cX9_exchange.data.toList.drop 0 = dktX9_exchange_0 := by decide +kernel
theorem dksX9_exchange_1 : cX9_exchange.data.toList.drop 24 = dktX9_exchange_1 := dk_seg dksX9_exchange_0 24 rfl rfl
theorem dX9_exchange_0 : decode cX9_exchange 0 = .ok (.aload_n 0, 1) := dk_42 (dk_at dksX9_exchange_0 0 rfl rfl)
theorem dX9_exchange_1 : decode cX9_exchange 1 = .ok (.getfield 40, 3) := dk_180 0 40 (dk_at dksX9_exchange_0 1 rfl rfl)
theorem dX9_exchange_4 : decode cX9_exchange 4 = .ok (.iload_n 1, 1) := dk_27 (dk_at dksX9_exchange_0 4 rfl rfl)
theorem dX9_exchange_5 : decode cX9_exchange 5 = .ok (.iaload, 1) := dk_46 (dk_at dksX9_exchange_0 5 rfl rfl)
theorem dX9_exchange_6 : decode cX9_exchange 6 = .ok (.istore_n 3, 1) := dk_62 (dk_at dksX9_exchange_0 6 rfl rfl)
theorem dX9_exchange_7 : decode cX9_exchange 7 = .ok (.aload_n 0, 1) := dk_42 (dk_at dksX9_exchange_0 7 rfl rfl)
theorem dX9_exchange_8 : decode cX9_exchange 8 = .ok (.getfield 40, 3) := dk_180 0 40 (dk_at dksX9_exchange_0 8 rfl rfl)
theorem dX9_exchange_11 : decode cX9_exchange 11 = .ok (.iload_n 1, 1) := dk_27 (dk_at dksX9_exchange_0 11 rfl rfl)
theorem dX9_exchange_12 : decode cX9_exchange 12 = .ok (.aload_n 0, 1) := dk_42 (dk_at dksX9_exchange_0 12 rfl rfl)
theorem dX9_exchange_13 : decode cX9_exchange 13 = .ok (.getfield 40, 3) := dk_180 0 40 (dk_at dksX9_exchange_0 13 rfl rfl)
theorem dX9_exchange_16 : decode cX9_exchange 16 = .ok (.iload_n 2, 1) := dk_28 (dk_at dksX9_exchange_0 16 rfl rfl)
theorem dX9_exchange_17 : decode cX9_exchange 17 = .ok (.iaload, 1) := dk_46 (dk_at dksX9_exchange_0 17 rfl rfl)
theorem dX9_exchange_18 : decode cX9_exchange 18 = .ok (.iastore, 1) := dk_79 (dk_at dksX9_exchange_0 18 rfl rfl)
theorem dX9_exchange_19 : decode cX9_exchange 19 = .ok (.aload_n 0, 1) := dk_42 (dk_at dksX9_exchange_0 19 rfl rfl)
theorem dX9_exchange_20 : decode cX9_exchange 20 = .ok (.getfield 40, 3) := dk_180 0 40 (dk_at dksX9_exchange_0 20 rfl rfl)
theorem dX9_exchange_23 : decode cX9_exchange 23 = .ok (.iload_n 2, 1) := dk_28 (dk_at dksX9_exchange_0 23 rfl rfl)
theorem dX9_exchange_24 : decode cX9_exchange 24 = .ok (.iload_n 3, 1) := dk_29 (dk_at dksX9_exchange_1 0 rfl rfl)
theorem dX9_exchange_25 : decode cX9_exchange 25 = .ok (.iastore, 1) := dk_79 (dk_at dksX9_exchange_1 1 rfl rfl)
theorem dX9_exchange_26 : decode cX9_exchange 26 = .ok (.return_, 1) := dk_177 (dk_at dksX9_exchange_1 2 rfl rfl)
abbrev cX9_lamp : ByteArray := prog_16_method_64_code
def yX9_lamp : MethodName := ⟨RX9, "lamp", "(III)I"⟩
def dkwX9_lamp_5 : List UInt8 := [54, 5, 132, 6, 1, 167, 255, 175, 29, 154, 0, 8, 21, 5, 167, 0, 5, 21, 4, 172]
abbrev dktX9_lamp_5 : List UInt8 := dkwX9_lamp_5 ++ []
def dkwX9_lamp_4 : List UInt8 := [21, 5, 160, 0, 24, 21, 6, 184, 0, 197, 21, 4, 184, 0, 197, 162, 0, 11, 21, 6, 54, 4, 21, 7]
abbrev dktX9_lamp_4 : List UInt8 := dkwX9_lamp_4 ++ dktX9_lamp_5
def dkwX9_lamp_3 : List UInt8 := [180, 0, 19, 8, 21, 6, 79, 42, 27, 28, 182, 0, 242, 54, 7, 21, 7, 21, 5, 163, 0, 23, 21, 7]
abbrev dktX9_lamp_3 : List UInt8 := dkwX9_lamp_3 ++ dktX9_lamp_4
def dkwX9_lamp_2 : List UInt8 := [180, 0, 19, 3, 46, 120, 162, 0, 74, 21, 6, 184, 0, 197, 42, 180, 0, 19, 6, 46, 163, 0, 54, 42]
abbrev dktX9_lamp_2 : List UInt8 := dkwX9_lamp_2 ++ dktX9_lamp_3
def dkwX9_lamp_1 : List UInt8 := [154, 0, 6, 18, 73, 172, 42, 182, 0, 219, 3, 54, 4, 2, 54, 5, 3, 54, 6, 21, 6, 4, 42]
abbrev dktX9_lamp_1 : List UInt8 := dkwX9_lamp_1 ++ dktX9_lamp_2
def dkwX9_lamp_0 : List UInt8 := [42, 27, 182, 0, 194, 153, 0, 22, 28, 133, 10, 20, 0, 214, 184, 0, 63, 153, 0, 10, 29, 184, 0, 216]
abbrev dktX9_lamp_0 : List UInt8 := dkwX9_lamp_0 ++ dktX9_lamp_1
theorem dksX9_lamp_0 : cX9_lamp.data.toList.drop 0 = dktX9_lamp_0 := by decide +kernel
theorem dksX9_lamp_1 : cX9_lamp.data.toList.drop 24 = dktX9_lamp_1 := dk_seg dksX9_lamp_0 24 rfl rfl
theorem dksX9_lamp_2 : cX9_lamp.data.toList.drop 47 = dktX9_lamp_2 := dk_seg dksX9_lamp_1 23 rfl rfl
theorem dksX9_lamp_3 : cX9_lamp.data.toList.drop 71 = dktX9_lamp_3 := dk_seg dksX9_lamp_2 24 rfl rfl
theorem dksX9_lamp_4 : cX9_lamp.data.toList.drop 95 = dktX9_lamp_4 := dk_seg dksX9_lamp_3 24 rfl rfl
theorem dksX9_lamp_5 : cX9_lamp.data.toList.drop 119 = dktX9_lamp_5 := dk_seg dksX9_lamp_4 24 rfl rfl
theorem dX9_lamp_0 : decode cX9_lamp 0 = .ok (.aload_n 0, 1) := dk_42 (dk_at dksX9_lamp_0 0 rfl rfl)
theorem dX9_lamp_1 : decode cX9_lamp 1 = .ok (.iload_n 1, 1) := dk_27 (dk_at dksX9_lamp_0 1 rfl rfl)
theorem dX9_lamp_2 : decode cX9_lamp 2 = .ok (.invokevirtual 194, 3) := dk_182 0 194 (dk_at dksX9_lamp_0 2 rfl rfl)
theorem dX9_lamp_5 : decode cX9_lamp 5 = .ok (.ifCond .eq 22, 3) := dk_153 0 22 (dk_at dksX9_lamp_0 5 rfl rfl)
theorem dX9_lamp_8 : decode cX9_lamp 8 = .ok (.iload_n 2, 1) := dk_28 (dk_at dksX9_lamp_0 8 rfl rfl)
theorem dX9_lamp_9 : decode cX9_lamp 9 = .ok (.i2l, 1) := dk_133 (dk_at dksX9_lamp_0 9 rfl rfl)
theorem dX9_lamp_10 : decode cX9_lamp 10 = .ok (.lconst 1, 1) := dk_10 (dk_at dksX9_lamp_0 10 rfl rfl)
theorem dX9_lamp_11 : decode cX9_lamp 11 = .ok (.ldc2_w 214, 3) := dk_20 0 214 (dk_at dksX9_lamp_0 11 rfl rfl)
theorem dX9_lamp_14 : decode cX9_lamp 14 = .ok (.invokestatic 63, 3) := dk_184 0 63 (dk_at dksX9_lamp_0 14 rfl rfl)
theorem dX9_lamp_17 : decode cX9_lamp 17 = .ok (.ifCond .eq 10, 3) := dk_153 0 10 (dk_at dksX9_lamp_0 17 rfl rfl)
theorem dX9_lamp_20 : decode cX9_lamp 20 = .ok (.iload_n 3, 1) := dk_29 (dk_at dksX9_lamp_0 20 rfl rfl)
theorem dX9_lamp_21 : decode cX9_lamp 21 = .ok (.invokestatic 216, 3) := dk_184 0 216 (dk_at dksX9_lamp_0 21 rfl rfl)
theorem dX9_lamp_24 : decode cX9_lamp 24 = .ok (.ifCond .ne 6, 3) := dk_154 0 6 (dk_at dksX9_lamp_1 0 rfl rfl)
theorem dX9_lamp_27 : decode cX9_lamp 27 = .ok (.ldc 73, 2) := dk_18 73 (dk_at dksX9_lamp_1 3 rfl rfl)
theorem dX9_lamp_29 : decode cX9_lamp 29 = .ok (.ireturn, 1) := dk_172 (dk_at dksX9_lamp_1 5 rfl rfl)
theorem dX9_lamp_30 : decode cX9_lamp 30 = .ok (.aload_n 0, 1) := dk_42 (dk_at dksX9_lamp_1 6 rfl rfl)
theorem dX9_lamp_31 : decode cX9_lamp 31 = .ok (.invokevirtual 219, 3) := dk_182 0 219 (dk_at dksX9_lamp_1 7 rfl rfl)
theorem dX9_lamp_34 : decode cX9_lamp 34 = .ok (.iconst 0, 1) := dk_3 (dk_at dksX9_lamp_1 10 rfl rfl)
theorem dX9_lamp_35 : decode cX9_lamp 35 = .ok (.istore 4, 2) := dk_54 4 (dk_at dksX9_lamp_1 11 rfl rfl)
theorem dX9_lamp_37 : decode cX9_lamp 37 = .ok (.iconst (-1), 1) := dk_2 (dk_at dksX9_lamp_1 13 rfl rfl)
theorem dX9_lamp_38 : decode cX9_lamp 38 = .ok (.istore 5, 2) := dk_54 5 (dk_at dksX9_lamp_1 14 rfl rfl)
theorem dX9_lamp_40 : decode cX9_lamp 40 = .ok (.iconst 0, 1) := dk_3 (dk_at dksX9_lamp_1 16 rfl rfl)
theorem dX9_lamp_41 : decode cX9_lamp 41 = .ok (.istore 6, 2) := dk_54 6 (dk_at dksX9_lamp_1 17 rfl rfl)
theorem dX9_lamp_43 : decode cX9_lamp 43 = .ok (.iload 6, 2) := dk_21 6 (dk_at dksX9_lamp_1 19 rfl rfl)
theorem dX9_lamp_45 : decode cX9_lamp 45 = .ok (.iconst 1, 1) := dk_4 (dk_at dksX9_lamp_1 21 rfl rfl)
theorem dX9_lamp_46 : decode cX9_lamp 46 = .ok (.aload_n 0, 1) := dk_42 (dk_at dksX9_lamp_1 22 rfl rfl)
theorem dX9_lamp_47 : decode cX9_lamp 47 = .ok (.getfield 19, 3) := dk_180 0 19 (dk_at dksX9_lamp_2 0 rfl rfl)
theorem dX9_lamp_50 : decode cX9_lamp 50 = .ok (.iconst 0, 1) := dk_3 (dk_at dksX9_lamp_2 3 rfl rfl)
theorem dX9_lamp_51 : decode cX9_lamp 51 = .ok (.iaload, 1) := dk_46 (dk_at dksX9_lamp_2 4 rfl rfl)
theorem dX9_lamp_52 : decode cX9_lamp 52 = .ok (.ishl, 1) := dk_120 (dk_at dksX9_lamp_2 5 rfl rfl)
theorem dX9_lamp_53 : decode cX9_lamp 53 = .ok (.if_icmp .ge 74, 3) := dk_162 0 74 (dk_at dksX9_lamp_2 6 rfl rfl)
theorem dX9_lamp_56 : decode cX9_lamp 56 = .ok (.iload 6, 2) := dk_21 6 (dk_at dksX9_lamp_2 9 rfl rfl)
theorem dX9_lamp_58 : decode cX9_lamp 58 = .ok (.invokestatic 197, 3) := dk_184 0 197 (dk_at dksX9_lamp_2 11 rfl rfl)
theorem dX9_lamp_61 : decode cX9_lamp 61 = .ok (.aload_n 0, 1) := dk_42 (dk_at dksX9_lamp_2 14 rfl rfl)
theorem dX9_lamp_62 : decode cX9_lamp 62 = .ok (.getfield 19, 3) := dk_180 0 19 (dk_at dksX9_lamp_2 15 rfl rfl)
theorem dX9_lamp_65 : decode cX9_lamp 65 = .ok (.iconst 3, 1) := dk_6 (dk_at dksX9_lamp_2 18 rfl rfl)
theorem dX9_lamp_66 : decode cX9_lamp 66 = .ok (.iaload, 1) := dk_46 (dk_at dksX9_lamp_2 19 rfl rfl)
theorem dX9_lamp_67 : decode cX9_lamp 67 = .ok (.if_icmp .gt 54, 3) := dk_163 0 54 (dk_at dksX9_lamp_2 20 rfl rfl)
theorem dX9_lamp_70 : decode cX9_lamp 70 = .ok (.aload_n 0, 1) := dk_42 (dk_at dksX9_lamp_2 23 rfl rfl)
theorem dX9_lamp_71 : decode cX9_lamp 71 = .ok (.getfield 19, 3) := dk_180 0 19 (dk_at dksX9_lamp_3 0 rfl rfl)
theorem dX9_lamp_74 : decode cX9_lamp 74 = .ok (.iconst 5, 1) := dk_8 (dk_at dksX9_lamp_3 3 rfl rfl)
theorem dX9_lamp_75 : decode cX9_lamp 75 = .ok (.iload 6, 2) := dk_21 6 (dk_at dksX9_lamp_3 4 rfl rfl)
theorem dX9_lamp_77 : decode cX9_lamp 77 = .ok (.iastore, 1) := dk_79 (dk_at dksX9_lamp_3 6 rfl rfl)
theorem dX9_lamp_78 : decode cX9_lamp 78 = .ok (.aload_n 0, 1) := dk_42 (dk_at dksX9_lamp_3 7 rfl rfl)
theorem dX9_lamp_79 : decode cX9_lamp 79 = .ok (.iload_n 1, 1) := dk_27 (dk_at dksX9_lamp_3 8 rfl rfl)
theorem dX9_lamp_80 : decode cX9_lamp 80 = .ok (.iload_n 2, 1) := dk_28 (dk_at dksX9_lamp_3 9 rfl rfl)
theorem dX9_lamp_81 : decode cX9_lamp 81 = .ok (.invokevirtual 242, 3) := dk_182 0 242 (dk_at dksX9_lamp_3 10 rfl rfl)
theorem dX9_lamp_84 : decode cX9_lamp 84 = .ok (.istore 7, 2) := dk_54 7 (dk_at dksX9_lamp_3 13 rfl rfl)
theorem dX9_lamp_86 : decode cX9_lamp 86 = .ok (.iload 7, 2) := dk_21 7 (dk_at dksX9_lamp_3 15 rfl rfl)
theorem dX9_lamp_88 : decode cX9_lamp 88 = .ok (.iload 5, 2) := dk_21 5 (dk_at dksX9_lamp_3 17 rfl rfl)
theorem dX9_lamp_90 : decode cX9_lamp 90 = .ok (.if_icmp .gt 23, 3) := dk_163 0 23 (dk_at dksX9_lamp_3 19 rfl rfl)
theorem dX9_lamp_93 : decode cX9_lamp 93 = .ok (.iload 7, 2) := dk_21 7 (dk_at dksX9_lamp_3 22 rfl rfl)
theorem dX9_lamp_95 : decode cX9_lamp 95 = .ok (.iload 5, 2) := dk_21 5 (dk_at dksX9_lamp_4 0 rfl rfl)
theorem dX9_lamp_97 : decode cX9_lamp 97 = .ok (.if_icmp .ne 24, 3) := dk_160 0 24 (dk_at dksX9_lamp_4 2 rfl rfl)
theorem dX9_lamp_100 : decode cX9_lamp 100 = .ok (.iload 6, 2) := dk_21 6 (dk_at dksX9_lamp_4 5 rfl rfl)
theorem dX9_lamp_102 : decode cX9_lamp 102 = .ok (.invokestatic 197, 3) := dk_184 0 197 (dk_at dksX9_lamp_4 7 rfl rfl)
theorem dX9_lamp_105 : decode cX9_lamp 105 = .ok (.iload 4, 2) := dk_21 4 (dk_at dksX9_lamp_4 10 rfl rfl)
theorem dX9_lamp_107 : decode cX9_lamp 107 = .ok (.invokestatic 197, 3) := dk_184 0 197 (dk_at dksX9_lamp_4 12 rfl rfl)
theorem dX9_lamp_110 : decode cX9_lamp 110 = .ok (.if_icmp .ge 11, 3) := dk_162 0 11 (dk_at dksX9_lamp_4 15 rfl rfl)
theorem dX9_lamp_113 : decode cX9_lamp 113 = .ok (.iload 6, 2) := dk_21 6 (dk_at dksX9_lamp_4 18 rfl rfl)
theorem dX9_lamp_115 : decode cX9_lamp 115 = .ok (.istore 4, 2) := dk_54 4 (dk_at dksX9_lamp_4 20 rfl rfl)
theorem dX9_lamp_117 : decode cX9_lamp 117 = .ok (.iload 7, 2) := dk_21 7 (dk_at dksX9_lamp_4 22 rfl rfl)
theorem dX9_lamp_119 : decode cX9_lamp 119 = .ok (.istore 5, 2) := dk_54 5 (dk_at dksX9_lamp_5 0 rfl rfl)
theorem dX9_lamp_121 : decode cX9_lamp 121 = .ok (.iinc 6 1, 3) := dk_132 6 1 (dk_at dksX9_lamp_5 2 rfl rfl)
theorem dX9_lamp_124 : decode cX9_lamp 124 = .ok (.goto (-81), 3) := dk_167 255 175 (dk_at dksX9_lamp_5 5 rfl rfl)
theorem dX9_lamp_127 : decode cX9_lamp 127 = .ok (.iload_n 3, 1) := dk_29 (dk_at dksX9_lamp_5 8 rfl rfl)
theorem dX9_lamp_128 : decode cX9_lamp 128 = .ok (.ifCond .ne 8, 3) := dk_154 0 8 (dk_at dksX9_lamp_5 9 rfl rfl)
theorem dX9_lamp_131 : decode cX9_lamp 131 = .ok (.iload 5, 2) := dk_21 5 (dk_at dksX9_lamp_5 12 rfl rfl)
theorem dX9_lamp_133 : decode cX9_lamp 133 = .ok (.goto 5, 3) := dk_167 0 5 (dk_at dksX9_lamp_5 14 rfl rfl)
theorem dX9_lamp_136 : decode cX9_lamp 136 = .ok (.iload 4, 2) := dk_21 4 (dk_at dksX9_lamp_5 17 rfl rfl)
theorem dX9_lamp_138 : decode cX9_lamp 138 = .ok (.ireturn, 1) := dk_172 (dk_at dksX9_lamp_5 19 rfl rfl)
abbrev cX9_pagesBehind : ByteArray := prog_16_method_52_code
def yX9_pagesBehind : MethodName := ⟨RX9, "pagesBehind", "(II)I"⟩
def dkwX9_pagesBehind_0 : List UInt8 := [42, 28, 182, 0, 208, 42, 180, 0, 19, 16, 8, 27, 96, 46, 62, 42, 182, 0, 211, 29, 172]
abbrev dktX9_pagesBehind_0 : List UInt8 := dkwX9_pagesBehind_0 ++ []
theorem dksX9_pagesBehind_0 : cX9_pagesBehind.data.toList.drop 0 = dktX9_pagesBehind_0 := by decide +kernel
theorem dX9_pagesBehind_0 : decode cX9_pagesBehind 0 = .ok (.aload_n 0, 1) := dk_42 (dk_at dksX9_pagesBehind_0 0 rfl rfl)
theorem dX9_pagesBehind_1 : decode cX9_pagesBehind 1 = .ok (.iload_n 2, 1) := dk_28 (dk_at dksX9_pagesBehind_0 1 rfl rfl)
theorem dX9_pagesBehind_2 : decode cX9_pagesBehind 2 = .ok (.invokevirtual 208, 3) := dk_182 0 208 (dk_at dksX9_pagesBehind_0 2 rfl rfl)
theorem dX9_pagesBehind_5 : decode cX9_pagesBehind 5 = .ok (.aload_n 0, 1) := dk_42 (dk_at dksX9_pagesBehind_0 5 rfl rfl)
theorem dX9_pagesBehind_6 : decode cX9_pagesBehind 6 = .ok (.getfield 19, 3) := dk_180 0 19 (dk_at dksX9_pagesBehind_0 6 rfl rfl)
theorem dX9_pagesBehind_9 : decode cX9_pagesBehind 9 = .ok (.bipush 8, 2) := dk_16 8 (dk_at dksX9_pagesBehind_0 9 rfl rfl)
theorem dX9_pagesBehind_11 : decode cX9_pagesBehind 11 = .ok (.iload_n 1, 1) := dk_27 (dk_at dksX9_pagesBehind_0 11 rfl rfl)
theorem dX9_pagesBehind_12 : decode cX9_pagesBehind 12 = .ok (.iadd, 1) := dk_96 (dk_at dksX9_pagesBehind_0 12 rfl rfl)
theorem dX9_pagesBehind_13 : decode cX9_pagesBehind 13 = .ok (.iaload, 1) := dk_46 (dk_at dksX9_pagesBehind_0 13 rfl rfl)
theorem dX9_pagesBehind_14 : decode cX9_pagesBehind 14 = .ok (.istore_n 3, 1) := dk_62 (dk_at dksX9_pagesBehind_0 14 rfl rfl)
theorem dX9_pagesBehind_15 : decode cX9_pagesBehind 15 = .ok (.aload_n 0, 1) := dk_42 (dk_at dksX9_pagesBehind_0 15 rfl rfl)
theorem dX9_pagesBehind_16 : decode cX9_pagesBehind 16 = .ok (.invokevirtual 211, 3) := dk_182 0 211 (dk_at dksX9_pagesBehind_0 16 rfl rfl)
theorem dX9_pagesBehind_19 : decode cX9_pagesBehind 19 = .ok (.iload_n 3, 1) := dk_29 (dk_at dksX9_pagesBehind_0 19 rfl rfl)
theorem dX9_pagesBehind_20 : decode cX9_pagesBehind 20 = .ok (.ireturn, 1) := dk_172 (dk_at dksX9_pagesBehind_0 20 rfl rfl)
abbrev cX9_caught : ByteArray := prog_16_method_65_code
def yX9_caught : MethodName := ⟨RX9, "caught", "(III)I"⟩
def dkwX9_caught_6 : List UInt8 := [172]
abbrev dktX9_caught_6 : List UInt8 := dkwX9_caught_6 ++ []
def dkwX9_caught_5 : List UInt8 := [21, 4, 54, 4, 132, 5, 1, 167, 255, 170, 29, 154, 0, 11, 21, 4, 184, 0, 197, 167, 0, 5, 21, 4]
abbrev dktX9_caught_5 : List UInt8 := dkwX9_caught_5 ++ dktX9_caught_6
def dkwX9_caught_4 : List UInt8 := [79, 42, 27, 28, 182, 0, 242, 42, 180, 0, 37, 16, 8, 27, 96, 46, 160, 0, 8, 21, 5, 167, 0, 5]
abbrev dktX9_caught_4 : List UInt8 := dkwX9_caught_4 ++ dktX9_caught_5
def dkwX9_caught_3 : List UInt8 := [21, 5, 184, 0, 197, 21, 4, 184, 0, 197, 162, 0, 42, 42, 180, 0, 19, 16, 7, 92, 46, 21, 5, 128]
abbrev dktX9_caught_3 : List UInt8 := dkwX9_caught_3 ++ dktX9_caught_4
def dkwX9_caught_2 : List UInt8 := [4, 46, 120, 162, 0, 79, 21, 5, 42, 180, 0, 19, 16, 7, 46, 126, 154, 0, 60, 21, 4, 155, 0, 16]
abbrev dktX9_caught_2 : List UInt8 := dkwX9_caught_2 ++ dktX9_caught_3
def dkwX9_caught_1 : List UInt8 := [154, 0, 6, 18, 73, 172, 42, 182, 0, 219, 18, 158, 54, 4, 3, 54, 5, 21, 5, 4, 42, 180, 0, 19]
abbrev dktX9_caught_1 : List UInt8 := dkwX9_caught_1 ++ dktX9_caught_2
def dkwX9_caught_0 : List UInt8 := [42, 27, 182, 0, 194, 153, 0, 22, 28, 133, 10, 20, 0, 214, 184, 0, 63, 153, 0, 10, 29, 184, 0, 216]
abbrev dktX9_caught_0 : List UInt8 := dkwX9_caught_0 ++ dktX9_caught_1
theorem dksX9_caught_0 : cX9_caught.data.toList.drop 0 = dktX9_caught_0 := by decide +kernel
theorem dksX9_caught_1 : cX9_caught.data.toList.drop 24 = dktX9_caught_1 := dk_seg dksX9_caught_0 24 rfl rfl
theorem dksX9_caught_2 : cX9_caught.data.toList.drop 48 = dktX9_caught_2 := dk_seg dksX9_caught_1 24 rfl rfl
theorem dksX9_caught_3 : cX9_caught.data.toList.drop 72 = dktX9_caught_3 := dk_seg dksX9_caught_2 24 rfl rfl
theorem dksX9_caught_4 : cX9_caught.data.toList.drop 96 = dktX9_caught_4 := dk_seg dksX9_caught_3 24 rfl rfl
theorem dksX9_caught_5 : cX9_caught.data.toList.drop 120 = dktX9_caught_5 := dk_seg dksX9_caught_4 24 rfl rfl
theorem dksX9_caught_6 : cX9_caught.data.toList.drop 144 = dktX9_caught_6 := dk_seg dksX9_caught_5 24 rfl rfl
theorem dX9_caught_0 : decode cX9_caught 0 = .ok (.aload_n 0, 1) := dk_42 (dk_at dksX9_caught_0 0 rfl rfl)
theorem dX9_caught_1 : decode cX9_caught 1 = .ok (.iload_n 1, 1) := dk_27 (dk_at dksX9_caught_0 1 rfl rfl)
theorem dX9_caught_2 : decode cX9_caught 2 = .ok (.invokevirtual 194, 3) := dk_182 0 194 (dk_at dksX9_caught_0 2 rfl rfl)
theorem dX9_caught_5 : decode cX9_caught 5 = .ok (.ifCond .eq 22, 3) := dk_153 0 22 (dk_at dksX9_caught_0 5 rfl rfl)
theorem dX9_caught_8 : decode cX9_caught 8 = .ok (.iload_n 2, 1) := dk_28 (dk_at dksX9_caught_0 8 rfl rfl)
theorem dX9_caught_9 : decode cX9_caught 9 = .ok (.i2l, 1) := dk_133 (dk_at dksX9_caught_0 9 rfl rfl)
theorem dX9_caught_10 : decode cX9_caught 10 = .ok (.lconst 1, 1) := dk_10 (dk_at dksX9_caught_0 10 rfl rfl)
theorem dX9_caught_11 : decode cX9_caught 11 = .ok (.ldc2_w 214, 3) := dk_20 0 214 (dk_at dksX9_caught_0 11 rfl rfl)
theorem dX9_caught_14 : decode cX9_caught 14 = .ok (.invokestatic 63, 3) := dk_184 0 63 (dk_at dksX9_caught_0 14 rfl rfl)
theorem dX9_caught_17 : decode cX9_caught 17 = .ok (.ifCond .eq 10, 3) := dk_153 0 10 (dk_at dksX9_caught_0 17 rfl rfl)
theorem dX9_caught_20 : decode cX9_caught 20 = .ok (.iload_n 3, 1) := dk_29 (dk_at dksX9_caught_0 20 rfl rfl)
theorem dX9_caught_21 : decode cX9_caught 21 = .ok (.invokestatic 216, 3) := dk_184 0 216 (dk_at dksX9_caught_0 21 rfl rfl)
theorem dX9_caught_24 : decode cX9_caught 24 = .ok (.ifCond .ne 6, 3) := dk_154 0 6 (dk_at dksX9_caught_1 0 rfl rfl)
theorem dX9_caught_27 : decode cX9_caught 27 = .ok (.ldc 73, 2) := dk_18 73 (dk_at dksX9_caught_1 3 rfl rfl)
theorem dX9_caught_29 : decode cX9_caught 29 = .ok (.ireturn, 1) := dk_172 (dk_at dksX9_caught_1 5 rfl rfl)
theorem dX9_caught_30 : decode cX9_caught 30 = .ok (.aload_n 0, 1) := dk_42 (dk_at dksX9_caught_1 6 rfl rfl)
theorem dX9_caught_31 : decode cX9_caught 31 = .ok (.invokevirtual 219, 3) := dk_182 0 219 (dk_at dksX9_caught_1 7 rfl rfl)
theorem dX9_caught_34 : decode cX9_caught 34 = .ok (.ldc 158, 2) := dk_18 158 (dk_at dksX9_caught_1 10 rfl rfl)
theorem dX9_caught_36 : decode cX9_caught 36 = .ok (.istore 4, 2) := dk_54 4 (dk_at dksX9_caught_1 12 rfl rfl)
theorem dX9_caught_38 : decode cX9_caught 38 = .ok (.iconst 0, 1) := dk_3 (dk_at dksX9_caught_1 14 rfl rfl)
theorem dX9_caught_39 : decode cX9_caught 39 = .ok (.istore 5, 2) := dk_54 5 (dk_at dksX9_caught_1 15 rfl rfl)
theorem dX9_caught_41 : decode cX9_caught 41 = .ok (.iload 5, 2) := dk_21 5 (dk_at dksX9_caught_1 17 rfl rfl)
theorem dX9_caught_43 : decode cX9_caught 43 = .ok (.iconst 1, 1) := dk_4 (dk_at dksX9_caught_1 19 rfl rfl)
theorem dX9_caught_44 : decode cX9_caught 44 = .ok (.aload_n 0, 1) := dk_42 (dk_at dksX9_caught_1 20 rfl rfl)
theorem dX9_caught_45 : decode cX9_caught 45 = .ok (.getfield 19, 3) := dk_180 0 19 (dk_at dksX9_caught_1 21 rfl rfl)
theorem dX9_caught_48 : decode cX9_caught 48 = .ok (.iconst 1, 1) := dk_4 (dk_at dksX9_caught_2 0 rfl rfl)
theorem dX9_caught_49 : decode cX9_caught 49 = .ok (.iaload, 1) := dk_46 (dk_at dksX9_caught_2 1 rfl rfl)
theorem dX9_caught_50 : decode cX9_caught 50 = .ok (.ishl, 1) := dk_120 (dk_at dksX9_caught_2 2 rfl rfl)
theorem dX9_caught_51 : decode cX9_caught 51 = .ok (.if_icmp .ge 79, 3) := dk_162 0 79 (dk_at dksX9_caught_2 3 rfl rfl)
theorem dX9_caught_54 : decode cX9_caught 54 = .ok (.iload 5, 2) := dk_21 5 (dk_at dksX9_caught_2 6 rfl rfl)
theorem dX9_caught_56 : decode cX9_caught 56 = .ok (.aload_n 0, 1) := dk_42 (dk_at dksX9_caught_2 8 rfl rfl)
theorem dX9_caught_57 : decode cX9_caught 57 = .ok (.getfield 19, 3) := dk_180 0 19 (dk_at dksX9_caught_2 9 rfl rfl)
theorem dX9_caught_60 : decode cX9_caught 60 = .ok (.bipush 7, 2) := dk_16 7 (dk_at dksX9_caught_2 12 rfl rfl)
theorem dX9_caught_62 : decode cX9_caught 62 = .ok (.iaload, 1) := dk_46 (dk_at dksX9_caught_2 14 rfl rfl)
theorem dX9_caught_63 : decode cX9_caught 63 = .ok (.iand, 1) := dk_126 (dk_at dksX9_caught_2 15 rfl rfl)
theorem dX9_caught_64 : decode cX9_caught 64 = .ok (.ifCond .ne 60, 3) := dk_154 0 60 (dk_at dksX9_caught_2 16 rfl rfl)
theorem dX9_caught_67 : decode cX9_caught 67 = .ok (.iload 4, 2) := dk_21 4 (dk_at dksX9_caught_2 19 rfl rfl)
theorem dX9_caught_69 : decode cX9_caught 69 = .ok (.ifCond .lt 16, 3) := dk_155 0 16 (dk_at dksX9_caught_2 21 rfl rfl)
theorem dX9_caught_72 : decode cX9_caught 72 = .ok (.iload 5, 2) := dk_21 5 (dk_at dksX9_caught_3 0 rfl rfl)
theorem dX9_caught_74 : decode cX9_caught 74 = .ok (.invokestatic 197, 3) := dk_184 0 197 (dk_at dksX9_caught_3 2 rfl rfl)
theorem dX9_caught_77 : decode cX9_caught 77 = .ok (.iload 4, 2) := dk_21 4 (dk_at dksX9_caught_3 5 rfl rfl)
theorem dX9_caught_79 : decode cX9_caught 79 = .ok (.invokestatic 197, 3) := dk_184 0 197 (dk_at dksX9_caught_3 7 rfl rfl)
theorem dX9_caught_82 : decode cX9_caught 82 = .ok (.if_icmp .ge 42, 3) := dk_162 0 42 (dk_at dksX9_caught_3 10 rfl rfl)
theorem dX9_caught_85 : decode cX9_caught 85 = .ok (.aload_n 0, 1) := dk_42 (dk_at dksX9_caught_3 13 rfl rfl)
theorem dX9_caught_86 : decode cX9_caught 86 = .ok (.getfield 19, 3) := dk_180 0 19 (dk_at dksX9_caught_3 14 rfl rfl)
theorem dX9_caught_89 : decode cX9_caught 89 = .ok (.bipush 7, 2) := dk_16 7 (dk_at dksX9_caught_3 17 rfl rfl)
theorem dX9_caught_91 : decode cX9_caught 91 = .ok (.dup2, 1) := dk_92 (dk_at dksX9_caught_3 19 rfl rfl)
theorem dX9_caught_92 : decode cX9_caught 92 = .ok (.iaload, 1) := dk_46 (dk_at dksX9_caught_3 20 rfl rfl)
theorem dX9_caught_93 : decode cX9_caught 93 = .ok (.iload 5, 2) := dk_21 5 (dk_at dksX9_caught_3 21 rfl rfl)
theorem dX9_caught_95 : decode cX9_caught 95 = .ok (.ior, 1) := dk_128 (dk_at dksX9_caught_3 23 rfl rfl)
theorem dX9_caught_96 : decode cX9_caught 96 = .ok (.iastore, 1) := dk_79 (dk_at dksX9_caught_4 0 rfl rfl)
theorem dX9_caught_97 : decode cX9_caught 97 = .ok (.aload_n 0, 1) := dk_42 (dk_at dksX9_caught_4 1 rfl rfl)
theorem dX9_caught_98 : decode cX9_caught 98 = .ok (.iload_n 1, 1) := dk_27 (dk_at dksX9_caught_4 2 rfl rfl)
theorem dX9_caught_99 : decode cX9_caught 99 = .ok (.iload_n 2, 1) := dk_28 (dk_at dksX9_caught_4 3 rfl rfl)
theorem dX9_caught_100 : decode cX9_caught 100 = .ok (.invokevirtual 242, 3) := dk_182 0 242 (dk_at dksX9_caught_4 4 rfl rfl)
theorem dX9_caught_103 : decode cX9_caught 103 = .ok (.aload_n 0, 1) := dk_42 (dk_at dksX9_caught_4 7 rfl rfl)
theorem dX9_caught_104 : decode cX9_caught 104 = .ok (.getfield 37, 3) := dk_180 0 37 (dk_at dksX9_caught_4 8 rfl rfl)
theorem dX9_caught_107 : decode cX9_caught 107 = .ok (.bipush 8, 2) := dk_16 8 (dk_at dksX9_caught_4 11 rfl rfl)
theorem dX9_caught_109 : decode cX9_caught 109 = .ok (.iload_n 1, 1) := dk_27 (dk_at dksX9_caught_4 13 rfl rfl)
theorem dX9_caught_110 : decode cX9_caught 110 = .ok (.iadd, 1) := dk_96 (dk_at dksX9_caught_4 14 rfl rfl)
theorem dX9_caught_111 : decode cX9_caught 111 = .ok (.iaload, 1) := dk_46 (dk_at dksX9_caught_4 15 rfl rfl)
theorem dX9_caught_112 : decode cX9_caught 112 = .ok (.if_icmp .ne 8, 3) := dk_160 0 8 (dk_at dksX9_caught_4 16 rfl rfl)
theorem dX9_caught_115 : decode cX9_caught 115 = .ok (.iload 5, 2) := dk_21 5 (dk_at dksX9_caught_4 19 rfl rfl)
theorem dX9_caught_117 : decode cX9_caught 117 = .ok (.goto 5, 3) := dk_167 0 5 (dk_at dksX9_caught_4 21 rfl rfl)
theorem dX9_caught_120 : decode cX9_caught 120 = .ok (.iload 4, 2) := dk_21 4 (dk_at dksX9_caught_5 0 rfl rfl)
theorem dX9_caught_122 : decode cX9_caught 122 = .ok (.istore 4, 2) := dk_54 4 (dk_at dksX9_caught_5 2 rfl rfl)
theorem dX9_caught_124 : decode cX9_caught 124 = .ok (.iinc 5 1, 3) := dk_132 5 1 (dk_at dksX9_caught_5 4 rfl rfl)
theorem dX9_caught_127 : decode cX9_caught 127 = .ok (.goto (-86), 3) := dk_167 255 170 (dk_at dksX9_caught_5 7 rfl rfl)
theorem dX9_caught_130 : decode cX9_caught 130 = .ok (.iload_n 3, 1) := dk_29 (dk_at dksX9_caught_5 10 rfl rfl)
theorem dX9_caught_131 : decode cX9_caught 131 = .ok (.ifCond .ne 11, 3) := dk_154 0 11 (dk_at dksX9_caught_5 11 rfl rfl)
theorem dX9_caught_134 : decode cX9_caught 134 = .ok (.iload 4, 2) := dk_21 4 (dk_at dksX9_caught_5 14 rfl rfl)
theorem dX9_caught_136 : decode cX9_caught 136 = .ok (.invokestatic 197, 3) := dk_184 0 197 (dk_at dksX9_caught_5 16 rfl rfl)
theorem dX9_caught_139 : decode cX9_caught 139 = .ok (.goto 5, 3) := dk_167 0 5 (dk_at dksX9_caught_5 19 rfl rfl)
theorem dX9_caught_142 : decode cX9_caught 142 = .ok (.iload 4, 2) := dk_21 4 (dk_at dksX9_caught_5 22 rfl rfl)
theorem dX9_caught_144 : decode cX9_caught 144 = .ok (.ireturn, 1) := dk_172 (dk_at dksX9_caught_6 0 rfl rfl)
abbrev cX9_grams : ByteArray := prog_16_method_67_code
def yX9_grams : MethodName := ⟨RX9, "grams", "(II)I"⟩
def dkwX9_grams_6 : List UInt8 := [29, 108, 42, 27, 182, 0, 247, 158, 0, 14, 21, 5, 21, 4, 162, 0, 7, 4, 167, 0, 4, 3, 96, 172]
abbrev dktX9_grams_6 : List UInt8 := dkwX9_grams_6 ++ []
def dkwX9_grams_5 : List UInt8 := [158, 0, 7, 4, 167, 0, 4, 3, 96, 54, 5, 132, 6, 1, 167, 255, 228, 28, 42, 27, 182, 0, 247, 104]
abbrev dktX9_grams_5 : List UInt8 := dkwX9_grams_5 ++ dktX9_grams_6
def dkwX9_grams_4 : List UInt8 := [167, 255, 227, 3, 54, 5, 3, 54, 6, 21, 6, 27, 162, 0, 28, 21, 5, 42, 21, 6, 182, 0, 247]
abbrev dktX9_grams_4 : List UInt8 := dkwX9_grams_4 ++ dktX9_grams_5
def dkwX9_grams_3 : List UInt8 := [4, 46, 162, 0, 24, 21, 4, 28, 42, 21, 5, 182, 0, 247, 104, 29, 108, 100, 54, 4, 132, 5, 1]
abbrev dktX9_grams_3 : List UInt8 := dkwX9_grams_3 ++ dktX9_grams_4
def dkwX9_grams_2 : List UInt8 := [132, 4, 1, 167, 255, 233, 29, 154, 0, 5, 3, 172, 28, 54, 4, 3, 54, 5, 21, 5, 42, 180, 0, 19]
abbrev dktX9_grams_2 : List UInt8 := dkwX9_grams_2 ++ dktX9_grams_3
def dkwX9_grams_1 : List UInt8 := [62, 3, 54, 4, 21, 4, 42, 180, 0, 19, 4, 46, 162, 0, 18, 29, 42, 21, 4, 182, 0, 247, 96, 62]
abbrev dktX9_grams_1 : List UInt8 := dkwX9_grams_1 ++ dktX9_grams_2
def dkwX9_grams_0 : List UInt8 := [42, 27, 182, 0, 200, 153, 0, 15, 28, 133, 9, 20, 0, 245, 184, 0, 63, 154, 0, 6, 18, 73, 172, 3]
abbrev dktX9_grams_0 : List UInt8 := dkwX9_grams_0 ++ dktX9_grams_1
theorem dksX9_grams_0 : cX9_grams.data.toList.drop 0 = dktX9_grams_0 := by decide +kernel
theorem dksX9_grams_1 : cX9_grams.data.toList.drop 24 = dktX9_grams_1 := dk_seg dksX9_grams_0 24 rfl rfl
theorem dksX9_grams_2 : cX9_grams.data.toList.drop 48 = dktX9_grams_2 := dk_seg dksX9_grams_1 24 rfl rfl
theorem dksX9_grams_3 : cX9_grams.data.toList.drop 72 = dktX9_grams_3 := dk_seg dksX9_grams_2 24 rfl rfl
theorem dksX9_grams_4 : cX9_grams.data.toList.drop 95 = dktX9_grams_4 := dk_seg dksX9_grams_3 23 rfl rfl
theorem dksX9_grams_5 : cX9_grams.data.toList.drop 118 = dktX9_grams_5 := dk_seg dksX9_grams_4 23 rfl rfl
theorem dksX9_grams_6 : cX9_grams.data.toList.drop 142 = dktX9_grams_6 := dk_seg dksX9_grams_5 24 rfl rfl
theorem dX9_grams_0 : decode cX9_grams 0 = .ok (.aload_n 0, 1) := dk_42 (dk_at dksX9_grams_0 0 rfl rfl)
theorem dX9_grams_1 : decode cX9_grams 1 = .ok (.iload_n 1, 1) := dk_27 (dk_at dksX9_grams_0 1 rfl rfl)
theorem dX9_grams_2 : decode cX9_grams 2 = .ok (.invokevirtual 200, 3) := dk_182 0 200 (dk_at dksX9_grams_0 2 rfl rfl)
theorem dX9_grams_5 : decode cX9_grams 5 = .ok (.ifCond .eq 15, 3) := dk_153 0 15 (dk_at dksX9_grams_0 5 rfl rfl)
theorem dX9_grams_8 : decode cX9_grams 8 = .ok (.iload_n 2, 1) := dk_28 (dk_at dksX9_grams_0 8 rfl rfl)
theorem dX9_grams_9 : decode cX9_grams 9 = .ok (.i2l, 1) := dk_133 (dk_at dksX9_grams_0 9 rfl rfl)
theorem dX9_grams_10 : decode cX9_grams 10 = .ok (.lconst 0, 1) := dk_9 (dk_at dksX9_grams_0 10 rfl rfl)
theorem dX9_grams_11 : decode cX9_grams 11 = .ok (.ldc2_w 245, 3) := dk_20 0 245 (dk_at dksX9_grams_0 11 rfl rfl)
theorem dX9_grams_14 : decode cX9_grams 14 = .ok (.invokestatic 63, 3) := dk_184 0 63 (dk_at dksX9_grams_0 14 rfl rfl)
theorem dX9_grams_17 : decode cX9_grams 17 = .ok (.ifCond .ne 6, 3) := dk_154 0 6 (dk_at dksX9_grams_0 17 rfl rfl)
theorem dX9_grams_20 : decode cX9_grams 20 = .ok (.ldc 73, 2) := dk_18 73 (dk_at dksX9_grams_0 20 rfl rfl)
theorem dX9_grams_22 : decode cX9_grams 22 = .ok (.ireturn, 1) := dk_172 (dk_at dksX9_grams_0 22 rfl rfl)
theorem dX9_grams_23 : decode cX9_grams 23 = .ok (.iconst 0, 1) := dk_3 (dk_at dksX9_grams_0 23 rfl rfl)
theorem dX9_grams_24 : decode cX9_grams 24 = .ok (.istore_n 3, 1) := dk_62 (dk_at dksX9_grams_1 0 rfl rfl)
theorem dX9_grams_25 : decode cX9_grams 25 = .ok (.iconst 0, 1) := dk_3 (dk_at dksX9_grams_1 1 rfl rfl)
theorem dX9_grams_26 : decode cX9_grams 26 = .ok (.istore 4, 2) := dk_54 4 (dk_at dksX9_grams_1 2 rfl rfl)
theorem dX9_grams_28 : decode cX9_grams 28 = .ok (.iload 4, 2) := dk_21 4 (dk_at dksX9_grams_1 4 rfl rfl)
theorem dX9_grams_30 : decode cX9_grams 30 = .ok (.aload_n 0, 1) := dk_42 (dk_at dksX9_grams_1 6 rfl rfl)
theorem dX9_grams_31 : decode cX9_grams 31 = .ok (.getfield 19, 3) := dk_180 0 19 (dk_at dksX9_grams_1 7 rfl rfl)
theorem dX9_grams_34 : decode cX9_grams 34 = .ok (.iconst 1, 1) := dk_4 (dk_at dksX9_grams_1 10 rfl rfl)
theorem dX9_grams_35 : decode cX9_grams 35 = .ok (.iaload, 1) := dk_46 (dk_at dksX9_grams_1 11 rfl rfl)
theorem dX9_grams_36 : decode cX9_grams 36 = .ok (.if_icmp .ge 18, 3) := dk_162 0 18 (dk_at dksX9_grams_1 12 rfl rfl)
theorem dX9_grams_39 : decode cX9_grams 39 = .ok (.iload_n 3, 1) := dk_29 (dk_at dksX9_grams_1 15 rfl rfl)
theorem dX9_grams_40 : decode cX9_grams 40 = .ok (.aload_n 0, 1) := dk_42 (dk_at dksX9_grams_1 16 rfl rfl)
theorem dX9_grams_41 : decode cX9_grams 41 = .ok (.iload 4, 2) := dk_21 4 (dk_at dksX9_grams_1 17 rfl rfl)
theorem dX9_grams_43 : decode cX9_grams 43 = .ok (.invokevirtual 247, 3) := dk_182 0 247 (dk_at dksX9_grams_1 19 rfl rfl)
theorem dX9_grams_46 : decode cX9_grams 46 = .ok (.iadd, 1) := dk_96 (dk_at dksX9_grams_1 22 rfl rfl)
theorem dX9_grams_47 : decode cX9_grams 47 = .ok (.istore_n 3, 1) := dk_62 (dk_at dksX9_grams_1 23 rfl rfl)
theorem dX9_grams_48 : decode cX9_grams 48 = .ok (.iinc 4 1, 3) := dk_132 4 1 (dk_at dksX9_grams_2 0 rfl rfl)
theorem dX9_grams_51 : decode cX9_grams 51 = .ok (.goto (-23), 3) := dk_167 255 233 (dk_at dksX9_grams_2 3 rfl rfl)
theorem dX9_grams_54 : decode cX9_grams 54 = .ok (.iload_n 3, 1) := dk_29 (dk_at dksX9_grams_2 6 rfl rfl)
theorem dX9_grams_55 : decode cX9_grams 55 = .ok (.ifCond .ne 5, 3) := dk_154 0 5 (dk_at dksX9_grams_2 7 rfl rfl)
theorem dX9_grams_58 : decode cX9_grams 58 = .ok (.iconst 0, 1) := dk_3 (dk_at dksX9_grams_2 10 rfl rfl)
theorem dX9_grams_59 : decode cX9_grams 59 = .ok (.ireturn, 1) := dk_172 (dk_at dksX9_grams_2 11 rfl rfl)
theorem dX9_grams_60 : decode cX9_grams 60 = .ok (.iload_n 2, 1) := dk_28 (dk_at dksX9_grams_2 12 rfl rfl)
theorem dX9_grams_61 : decode cX9_grams 61 = .ok (.istore 4, 2) := dk_54 4 (dk_at dksX9_grams_2 13 rfl rfl)
theorem dX9_grams_63 : decode cX9_grams 63 = .ok (.iconst 0, 1) := dk_3 (dk_at dksX9_grams_2 15 rfl rfl)
theorem dX9_grams_64 : decode cX9_grams 64 = .ok (.istore 5, 2) := dk_54 5 (dk_at dksX9_grams_2 16 rfl rfl)
theorem dX9_grams_66 : decode cX9_grams 66 = .ok (.iload 5, 2) := dk_21 5 (dk_at dksX9_grams_2 18 rfl rfl)
theorem dX9_grams_68 : decode cX9_grams 68 = .ok (.aload_n 0, 1) := dk_42 (dk_at dksX9_grams_2 20 rfl rfl)
theorem dX9_grams_69 : decode cX9_grams 69 = .ok (.getfield 19, 3) := dk_180 0 19 (dk_at dksX9_grams_2 21 rfl rfl)
theorem dX9_grams_72 : decode cX9_grams 72 = .ok (.iconst 1, 1) := dk_4 (dk_at dksX9_grams_3 0 rfl rfl)
theorem dX9_grams_73 : decode cX9_grams 73 = .ok (.iaload, 1) := dk_46 (dk_at dksX9_grams_3 1 rfl rfl)
theorem dX9_grams_74 : decode cX9_grams 74 = .ok (.if_icmp .ge 24, 3) := dk_162 0 24 (dk_at dksX9_grams_3 2 rfl rfl)
theorem dX9_grams_77 : decode cX9_grams 77 = .ok (.iload 4, 2) := dk_21 4 (dk_at dksX9_grams_3 5 rfl rfl)
theorem dX9_grams_79 : decode cX9_grams 79 = .ok (.iload_n 2, 1) := dk_28 (dk_at dksX9_grams_3 7 rfl rfl)
theorem dX9_grams_80 : decode cX9_grams 80 = .ok (.aload_n 0, 1) := dk_42 (dk_at dksX9_grams_3 8 rfl rfl)
theorem dX9_grams_81 : decode cX9_grams 81 = .ok (.iload 5, 2) := dk_21 5 (dk_at dksX9_grams_3 9 rfl rfl)
theorem dX9_grams_83 : decode cX9_grams 83 = .ok (.invokevirtual 247, 3) := dk_182 0 247 (dk_at dksX9_grams_3 11 rfl rfl)
theorem dX9_grams_86 : decode cX9_grams 86 = .ok (.imul, 1) := dk_104 (dk_at dksX9_grams_3 14 rfl rfl)
theorem dX9_grams_87 : decode cX9_grams 87 = .ok (.iload_n 3, 1) := dk_29 (dk_at dksX9_grams_3 15 rfl rfl)
theorem dX9_grams_88 : decode cX9_grams 88 = .ok (.idiv, 1) := dk_108 (dk_at dksX9_grams_3 16 rfl rfl)
theorem dX9_grams_89 : decode cX9_grams 89 = .ok (.isub, 1) := dk_100 (dk_at dksX9_grams_3 17 rfl rfl)
theorem dX9_grams_90 : decode cX9_grams 90 = .ok (.istore 4, 2) := dk_54 4 (dk_at dksX9_grams_3 18 rfl rfl)
theorem dX9_grams_92 : decode cX9_grams 92 = .ok (.iinc 5 1, 3) := dk_132 5 1 (dk_at dksX9_grams_3 20 rfl rfl)
theorem dX9_grams_95 : decode cX9_grams 95 = .ok (.goto (-29), 3) := dk_167 255 227 (dk_at dksX9_grams_4 0 rfl rfl)
theorem dX9_grams_98 : decode cX9_grams 98 = .ok (.iconst 0, 1) := dk_3 (dk_at dksX9_grams_4 3 rfl rfl)
theorem dX9_grams_99 : decode cX9_grams 99 = .ok (.istore 5, 2) := dk_54 5 (dk_at dksX9_grams_4 4 rfl rfl)
theorem dX9_grams_101 : decode cX9_grams 101 = .ok (.iconst 0, 1) := dk_3 (dk_at dksX9_grams_4 6 rfl rfl)
theorem dX9_grams_102 : decode cX9_grams 102 = .ok (.istore 6, 2) := dk_54 6 (dk_at dksX9_grams_4 7 rfl rfl)
theorem dX9_grams_104 : decode cX9_grams 104 = .ok (.iload 6, 2) := dk_21 6 (dk_at dksX9_grams_4 9 rfl rfl)
theorem dX9_grams_106 : decode cX9_grams 106 = .ok (.iload_n 1, 1) := dk_27 (dk_at dksX9_grams_4 11 rfl rfl)
theorem dX9_grams_107 : decode cX9_grams 107 = .ok (.if_icmp .ge 28, 3) := dk_162 0 28 (dk_at dksX9_grams_4 12 rfl rfl)
theorem dX9_grams_110 : decode cX9_grams 110 = .ok (.iload 5, 2) := dk_21 5 (dk_at dksX9_grams_4 15 rfl rfl)
theorem dX9_grams_112 : decode cX9_grams 112 = .ok (.aload_n 0, 1) := dk_42 (dk_at dksX9_grams_4 17 rfl rfl)
theorem dX9_grams_113 : decode cX9_grams 113 = .ok (.iload 6, 2) := dk_21 6 (dk_at dksX9_grams_4 18 rfl rfl)
theorem dX9_grams_115 : decode cX9_grams 115 = .ok (.invokevirtual 247, 3) := dk_182 0 247 (dk_at dksX9_grams_4 20 rfl rfl)
theorem dX9_grams_118 : decode cX9_grams 118 = .ok (.ifCond .le 7, 3) := dk_158 0 7 (dk_at dksX9_grams_5 0 rfl rfl)
theorem dX9_grams_121 : decode cX9_grams 121 = .ok (.iconst 1, 1) := dk_4 (dk_at dksX9_grams_5 3 rfl rfl)
theorem dX9_grams_122 : decode cX9_grams 122 = .ok (.goto 4, 3) := dk_167 0 4 (dk_at dksX9_grams_5 4 rfl rfl)
theorem dX9_grams_125 : decode cX9_grams 125 = .ok (.iconst 0, 1) := dk_3 (dk_at dksX9_grams_5 7 rfl rfl)
theorem dX9_grams_126 : decode cX9_grams 126 = .ok (.iadd, 1) := dk_96 (dk_at dksX9_grams_5 8 rfl rfl)
theorem dX9_grams_127 : decode cX9_grams 127 = .ok (.istore 5, 2) := dk_54 5 (dk_at dksX9_grams_5 9 rfl rfl)
theorem dX9_grams_129 : decode cX9_grams 129 = .ok (.iinc 6 1, 3) := dk_132 6 1 (dk_at dksX9_grams_5 11 rfl rfl)
theorem dX9_grams_132 : decode cX9_grams 132 = .ok (.goto (-28), 3) := dk_167 255 228 (dk_at dksX9_grams_5 14 rfl rfl)
theorem dX9_grams_135 : decode cX9_grams 135 = .ok (.iload_n 2, 1) := dk_28 (dk_at dksX9_grams_5 17 rfl rfl)
theorem dX9_grams_136 : decode cX9_grams 136 = .ok (.aload_n 0, 1) := dk_42 (dk_at dksX9_grams_5 18 rfl rfl)
theorem dX9_grams_137 : decode cX9_grams 137 = .ok (.iload_n 1, 1) := dk_27 (dk_at dksX9_grams_5 19 rfl rfl)
theorem dX9_grams_138 : decode cX9_grams 138 = .ok (.invokevirtual 247, 3) := dk_182 0 247 (dk_at dksX9_grams_5 20 rfl rfl)
theorem dX9_grams_141 : decode cX9_grams 141 = .ok (.imul, 1) := dk_104 (dk_at dksX9_grams_5 23 rfl rfl)
theorem dX9_grams_142 : decode cX9_grams 142 = .ok (.iload_n 3, 1) := dk_29 (dk_at dksX9_grams_6 0 rfl rfl)
theorem dX9_grams_143 : decode cX9_grams 143 = .ok (.idiv, 1) := dk_108 (dk_at dksX9_grams_6 1 rfl rfl)
theorem dX9_grams_144 : decode cX9_grams 144 = .ok (.aload_n 0, 1) := dk_42 (dk_at dksX9_grams_6 2 rfl rfl)
theorem dX9_grams_145 : decode cX9_grams 145 = .ok (.iload_n 1, 1) := dk_27 (dk_at dksX9_grams_6 3 rfl rfl)
theorem dX9_grams_146 : decode cX9_grams 146 = .ok (.invokevirtual 247, 3) := dk_182 0 247 (dk_at dksX9_grams_6 4 rfl rfl)
theorem dX9_grams_149 : decode cX9_grams 149 = .ok (.ifCond .le 14, 3) := dk_158 0 14 (dk_at dksX9_grams_6 7 rfl rfl)
theorem dX9_grams_152 : decode cX9_grams 152 = .ok (.iload 5, 2) := dk_21 5 (dk_at dksX9_grams_6 10 rfl rfl)
theorem dX9_grams_154 : decode cX9_grams 154 = .ok (.iload 4, 2) := dk_21 4 (dk_at dksX9_grams_6 12 rfl rfl)
theorem dX9_grams_156 : decode cX9_grams 156 = .ok (.if_icmp .ge 7, 3) := dk_162 0 7 (dk_at dksX9_grams_6 14 rfl rfl)
theorem dX9_grams_159 : decode cX9_grams 159 = .ok (.iconst 1, 1) := dk_4 (dk_at dksX9_grams_6 17 rfl rfl)
theorem dX9_grams_160 : decode cX9_grams 160 = .ok (.goto 4, 3) := dk_167 0 4 (dk_at dksX9_grams_6 18 rfl rfl)
theorem dX9_grams_163 : decode cX9_grams 163 = .ok (.iconst 0, 1) := dk_3 (dk_at dksX9_grams_6 21 rfl rfl)
theorem dX9_grams_164 : decode cX9_grams 164 = .ok (.iadd, 1) := dk_96 (dk_at dksX9_grams_6 22 rfl rfl)
theorem dX9_grams_165 : decode cX9_grams 165 = .ok (.ireturn, 1) := dk_172 (dk_at dksX9_grams_6 23 rfl rfl)
abbrev cX9_dustOf : ByteArray := prog_16_method_66_code
def yX9_dustOf : MethodName := ⟨RX9, "dustOf", "(I)I"⟩
def dkwX9_dustOf_0 : List UInt8 := [42, 27, 182, 0, 171, 153, 0, 7, 3, 167, 0, 12, 42, 180, 0, 19, 16, 36, 27, 96, 46, 172]
abbrev dktX9_dustOf_0 : List UInt8 := dkwX9_dustOf_0 ++ []
theorem dksX9_dustOf_0 : cX9_dustOf.data.toList.drop 0 = dktX9_dustOf_0 := by decide +kernel
theorem dX9_dustOf_0 : decode cX9_dustOf 0 = .ok (.aload_n 0, 1) := dk_42 (dk_at dksX9_dustOf_0 0 rfl rfl)
theorem dX9_dustOf_1 : decode cX9_dustOf 1 = .ok (.iload_n 1, 1) := dk_27 (dk_at dksX9_dustOf_0 1 rfl rfl)
theorem dX9_dustOf_2 : decode cX9_dustOf 2 = .ok (.invokevirtual 171, 3) := dk_182 0 171 (dk_at dksX9_dustOf_0 2 rfl rfl)
theorem dX9_dustOf_5 : decode cX9_dustOf 5 = .ok (.ifCond .eq 7, 3) := dk_153 0 7 (dk_at dksX9_dustOf_0 5 rfl rfl)
theorem dX9_dustOf_8 : decode cX9_dustOf 8 = .ok (.iconst 0, 1) := dk_3 (dk_at dksX9_dustOf_0 8 rfl rfl)
theorem dX9_dustOf_9 : decode cX9_dustOf 9 = .ok (.goto 12, 3) := dk_167 0 12 (dk_at dksX9_dustOf_0 9 rfl rfl)
theorem dX9_dustOf_12 : decode cX9_dustOf 12 = .ok (.aload_n 0, 1) := dk_42 (dk_at dksX9_dustOf_0 12 rfl rfl)
theorem dX9_dustOf_13 : decode cX9_dustOf 13 = .ok (.getfield 19, 3) := dk_180 0 19 (dk_at dksX9_dustOf_0 13 rfl rfl)
theorem dX9_dustOf_16 : decode cX9_dustOf 16 = .ok (.bipush 36, 2) := dk_16 36 (dk_at dksX9_dustOf_0 16 rfl rfl)
theorem dX9_dustOf_18 : decode cX9_dustOf 18 = .ok (.iload_n 1, 1) := dk_27 (dk_at dksX9_dustOf_0 18 rfl rfl)
theorem dX9_dustOf_19 : decode cX9_dustOf 19 = .ok (.iadd, 1) := dk_96 (dk_at dksX9_dustOf_0 19 rfl rfl)
theorem dX9_dustOf_20 : decode cX9_dustOf 20 = .ok (.iaload, 1) := dk_46 (dk_at dksX9_dustOf_0 20 rfl rfl)
theorem dX9_dustOf_21 : decode cX9_dustOf 21 = .ok (.ireturn, 1) := dk_172 (dk_at dksX9_dustOf_0 21 rfl rfl)
abbrev cX9_who : ByteArray := prog_16_method_71_code
def yX9_who : MethodName := ⟨RX9, "who", "(IIIIII)I"⟩
def dkwX9_who_5 : List UInt8 := [180, 0, 19, 3, 46, 4, 100, 29, 16, 40, 21, 4, 104, 21, 5, 96, 21, 6, 182, 1, 2, 172]
abbrev dktX9_who_5 : List UInt8 := dkwX9_who_5 ++ []
def dkwX9_who_4 : List UInt8 := [29, 16, 40, 21, 4, 104, 21, 5, 96, 21, 6, 182, 1, 2, 167, 0, 31, 42, 16, 31, 27, 96, 3, 42]
abbrev dktX9_who_4 : List UInt8 := dkwX9_who_4 ++ dktX9_who_5
def dkwX9_who_3 : List UInt8 := [182, 0, 254, 54, 7, 21, 7, 156, 0, 6, 21, 7, 172, 28, 154, 0, 27, 42, 16, 26, 27, 96, 4, 8]
abbrev dktX9_who_3 : List UInt8 := dkwX9_who_3 ++ dktX9_who_4
def dkwX9_who_2 : List UInt8 := [18, 73, 172, 42, 27, 182, 0, 171, 153, 0, 8, 18, 181, 167, 0, 13, 42, 21, 4, 21, 5, 21, 6]
abbrev dktX9_who_2 : List UInt8 := dkwX9_who_2 ++ dktX9_who_3
def dkwX9_who_1 : List UInt8 := [153, 0, 24, 21, 4, 184, 0, 67, 153, 0, 16, 21, 6, 133, 10, 20, 0, 232, 184, 0, 63, 154, 0, 6]
abbrev dktX9_who_1 : List UInt8 := dkwX9_who_1 ++ dktX9_who_2
def dkwX9_who_0 : List UInt8 := [42, 27, 182, 0, 200, 153, 0, 42, 28, 133, 9, 10, 184, 0, 63, 153, 0, 32, 42, 29, 182, 0, 194]
abbrev dktX9_who_0 : List UInt8 := dkwX9_who_0 ++ dktX9_who_1
theorem dksX9_who_0 : cX9_who.data.toList.drop 0 = dktX9_who_0 := by decide +kernel
theorem dksX9_who_1 : cX9_who.data.toList.drop 23 = dktX9_who_1 := dk_seg dksX9_who_0 23 rfl rfl
theorem dksX9_who_2 : cX9_who.data.toList.drop 47 = dktX9_who_2 := dk_seg dksX9_who_1 24 rfl rfl
theorem dksX9_who_3 : cX9_who.data.toList.drop 70 = dktX9_who_3 := dk_seg dksX9_who_2 23 rfl rfl
theorem dksX9_who_4 : cX9_who.data.toList.drop 94 = dktX9_who_4 := dk_seg dksX9_who_3 24 rfl rfl
theorem dksX9_who_5 : cX9_who.data.toList.drop 118 = dktX9_who_5 := dk_seg dksX9_who_4 24 rfl rfl
theorem dX9_who_0 : decode cX9_who 0 = .ok (.aload_n 0, 1) := dk_42 (dk_at dksX9_who_0 0 rfl rfl)
theorem dX9_who_1 : decode cX9_who 1 = .ok (.iload_n 1, 1) := dk_27 (dk_at dksX9_who_0 1 rfl rfl)
theorem dX9_who_2 : decode cX9_who 2 = .ok (.invokevirtual 200, 3) := dk_182 0 200 (dk_at dksX9_who_0 2 rfl rfl)
theorem dX9_who_5 : decode cX9_who 5 = .ok (.ifCond .eq 42, 3) := dk_153 0 42 (dk_at dksX9_who_0 5 rfl rfl)
theorem dX9_who_8 : decode cX9_who 8 = .ok (.iload_n 2, 1) := dk_28 (dk_at dksX9_who_0 8 rfl rfl)
theorem dX9_who_9 : decode cX9_who 9 = .ok (.i2l, 1) := dk_133 (dk_at dksX9_who_0 9 rfl rfl)
theorem dX9_who_10 : decode cX9_who 10 = .ok (.lconst 0, 1) := dk_9 (dk_at dksX9_who_0 10 rfl rfl)
theorem dX9_who_11 : decode cX9_who 11 = .ok (.lconst 1, 1) := dk_10 (dk_at dksX9_who_0 11 rfl rfl)
theorem dX9_who_12 : decode cX9_who 12 = .ok (.invokestatic 63, 3) := dk_184 0 63 (dk_at dksX9_who_0 12 rfl rfl)
theorem dX9_who_15 : decode cX9_who 15 = .ok (.ifCond .eq 32, 3) := dk_153 0 32 (dk_at dksX9_who_0 15 rfl rfl)
theorem dX9_who_18 : decode cX9_who 18 = .ok (.aload_n 0, 1) := dk_42 (dk_at dksX9_who_0 18 rfl rfl)
theorem dX9_who_19 : decode cX9_who 19 = .ok (.iload_n 3, 1) := dk_29 (dk_at dksX9_who_0 19 rfl rfl)
theorem dX9_who_20 : decode cX9_who 20 = .ok (.invokevirtual 194, 3) := dk_182 0 194 (dk_at dksX9_who_0 20 rfl rfl)
theorem dX9_who_23 : decode cX9_who 23 = .ok (.ifCond .eq 24, 3) := dk_153 0 24 (dk_at dksX9_who_1 0 rfl rfl)
theorem dX9_who_26 : decode cX9_who 26 = .ok (.iload 4, 2) := dk_21 4 (dk_at dksX9_who_1 3 rfl rfl)
theorem dX9_who_28 : decode cX9_who 28 = .ok (.invokestatic 67, 3) := dk_184 0 67 (dk_at dksX9_who_1 5 rfl rfl)
theorem dX9_who_31 : decode cX9_who 31 = .ok (.ifCond .eq 16, 3) := dk_153 0 16 (dk_at dksX9_who_1 8 rfl rfl)
theorem dX9_who_34 : decode cX9_who 34 = .ok (.iload 6, 2) := dk_21 6 (dk_at dksX9_who_1 11 rfl rfl)
theorem dX9_who_36 : decode cX9_who 36 = .ok (.i2l, 1) := dk_133 (dk_at dksX9_who_1 13 rfl rfl)
theorem dX9_who_37 : decode cX9_who 37 = .ok (.lconst 1, 1) := dk_10 (dk_at dksX9_who_1 14 rfl rfl)
theorem dX9_who_38 : decode cX9_who 38 = .ok (.ldc2_w 232, 3) := dk_20 0 232 (dk_at dksX9_who_1 15 rfl rfl)
theorem dX9_who_41 : decode cX9_who 41 = .ok (.invokestatic 63, 3) := dk_184 0 63 (dk_at dksX9_who_1 18 rfl rfl)
theorem dX9_who_44 : decode cX9_who 44 = .ok (.ifCond .ne 6, 3) := dk_154 0 6 (dk_at dksX9_who_1 21 rfl rfl)
theorem dX9_who_47 : decode cX9_who 47 = .ok (.ldc 73, 2) := dk_18 73 (dk_at dksX9_who_2 0 rfl rfl)
theorem dX9_who_49 : decode cX9_who 49 = .ok (.ireturn, 1) := dk_172 (dk_at dksX9_who_2 2 rfl rfl)
theorem dX9_who_50 : decode cX9_who 50 = .ok (.aload_n 0, 1) := dk_42 (dk_at dksX9_who_2 3 rfl rfl)
theorem dX9_who_51 : decode cX9_who 51 = .ok (.iload_n 1, 1) := dk_27 (dk_at dksX9_who_2 4 rfl rfl)
theorem dX9_who_52 : decode cX9_who 52 = .ok (.invokevirtual 171, 3) := dk_182 0 171 (dk_at dksX9_who_2 5 rfl rfl)
theorem dX9_who_55 : decode cX9_who 55 = .ok (.ifCond .eq 8, 3) := dk_153 0 8 (dk_at dksX9_who_2 8 rfl rfl)
theorem dX9_who_58 : decode cX9_who 58 = .ok (.ldc 181, 2) := dk_18 181 (dk_at dksX9_who_2 11 rfl rfl)
theorem dX9_who_60 : decode cX9_who 60 = .ok (.goto 13, 3) := dk_167 0 13 (dk_at dksX9_who_2 13 rfl rfl)
theorem dX9_who_63 : decode cX9_who 63 = .ok (.aload_n 0, 1) := dk_42 (dk_at dksX9_who_2 16 rfl rfl)
theorem dX9_who_64 : decode cX9_who 64 = .ok (.iload 4, 2) := dk_21 4 (dk_at dksX9_who_2 17 rfl rfl)
theorem dX9_who_66 : decode cX9_who 66 = .ok (.iload 5, 2) := dk_21 5 (dk_at dksX9_who_2 19 rfl rfl)
theorem dX9_who_68 : decode cX9_who 68 = .ok (.iload 6, 2) := dk_21 6 (dk_at dksX9_who_2 21 rfl rfl)
theorem dX9_who_70 : decode cX9_who 70 = .ok (.invokevirtual 254, 3) := dk_182 0 254 (dk_at dksX9_who_3 0 rfl rfl)
theorem dX9_who_73 : decode cX9_who 73 = .ok (.istore 7, 2) := dk_54 7 (dk_at dksX9_who_3 3 rfl rfl)
theorem dX9_who_75 : decode cX9_who 75 = .ok (.iload 7, 2) := dk_21 7 (dk_at dksX9_who_3 5 rfl rfl)
theorem dX9_who_77 : decode cX9_who 77 = .ok (.ifCond .ge 6, 3) := dk_156 0 6 (dk_at dksX9_who_3 7 rfl rfl)
theorem dX9_who_80 : decode cX9_who 80 = .ok (.iload 7, 2) := dk_21 7 (dk_at dksX9_who_3 10 rfl rfl)
theorem dX9_who_82 : decode cX9_who 82 = .ok (.ireturn, 1) := dk_172 (dk_at dksX9_who_3 12 rfl rfl)
theorem dX9_who_83 : decode cX9_who 83 = .ok (.iload_n 2, 1) := dk_28 (dk_at dksX9_who_3 13 rfl rfl)
theorem dX9_who_84 : decode cX9_who 84 = .ok (.ifCond .ne 27, 3) := dk_154 0 27 (dk_at dksX9_who_3 14 rfl rfl)
theorem dX9_who_87 : decode cX9_who 87 = .ok (.aload_n 0, 1) := dk_42 (dk_at dksX9_who_3 17 rfl rfl)
theorem dX9_who_88 : decode cX9_who 88 = .ok (.bipush 26, 2) := dk_16 26 (dk_at dksX9_who_3 18 rfl rfl)
theorem dX9_who_90 : decode cX9_who 90 = .ok (.iload_n 1, 1) := dk_27 (dk_at dksX9_who_3 20 rfl rfl)
theorem dX9_who_91 : decode cX9_who 91 = .ok (.iadd, 1) := dk_96 (dk_at dksX9_who_3 21 rfl rfl)
theorem dX9_who_92 : decode cX9_who 92 = .ok (.iconst 1, 1) := dk_4 (dk_at dksX9_who_3 22 rfl rfl)
theorem dX9_who_93 : decode cX9_who 93 = .ok (.iconst 5, 1) := dk_8 (dk_at dksX9_who_3 23 rfl rfl)
theorem dX9_who_94 : decode cX9_who 94 = .ok (.iload_n 3, 1) := dk_29 (dk_at dksX9_who_4 0 rfl rfl)
theorem dX9_who_95 : decode cX9_who 95 = .ok (.bipush 40, 2) := dk_16 40 (dk_at dksX9_who_4 1 rfl rfl)
theorem dX9_who_97 : decode cX9_who 97 = .ok (.iload 4, 2) := dk_21 4 (dk_at dksX9_who_4 3 rfl rfl)
theorem dX9_who_99 : decode cX9_who 99 = .ok (.imul, 1) := dk_104 (dk_at dksX9_who_4 5 rfl rfl)
theorem dX9_who_100 : decode cX9_who 100 = .ok (.iload 5, 2) := dk_21 5 (dk_at dksX9_who_4 6 rfl rfl)
theorem dX9_who_102 : decode cX9_who 102 = .ok (.iadd, 1) := dk_96 (dk_at dksX9_who_4 8 rfl rfl)
theorem dX9_who_103 : decode cX9_who 103 = .ok (.iload 6, 2) := dk_21 6 (dk_at dksX9_who_4 9 rfl rfl)
theorem dX9_who_105 : decode cX9_who 105 = .ok (.invokevirtual 258, 3) := dk_182 1 2 (dk_at dksX9_who_4 11 rfl rfl)
theorem dX9_who_108 : decode cX9_who 108 = .ok (.goto 31, 3) := dk_167 0 31 (dk_at dksX9_who_4 14 rfl rfl)
theorem dX9_who_111 : decode cX9_who 111 = .ok (.aload_n 0, 1) := dk_42 (dk_at dksX9_who_4 17 rfl rfl)
theorem dX9_who_112 : decode cX9_who 112 = .ok (.bipush 31, 2) := dk_16 31 (dk_at dksX9_who_4 18 rfl rfl)
theorem dX9_who_114 : decode cX9_who 114 = .ok (.iload_n 1, 1) := dk_27 (dk_at dksX9_who_4 20 rfl rfl)
theorem dX9_who_115 : decode cX9_who 115 = .ok (.iadd, 1) := dk_96 (dk_at dksX9_who_4 21 rfl rfl)
theorem dX9_who_116 : decode cX9_who 116 = .ok (.iconst 0, 1) := dk_3 (dk_at dksX9_who_4 22 rfl rfl)
theorem dX9_who_117 : decode cX9_who 117 = .ok (.aload_n 0, 1) := dk_42 (dk_at dksX9_who_4 23 rfl rfl)
theorem dX9_who_118 : decode cX9_who 118 = .ok (.getfield 19, 3) := dk_180 0 19 (dk_at dksX9_who_5 0 rfl rfl)
theorem dX9_who_121 : decode cX9_who 121 = .ok (.iconst 0, 1) := dk_3 (dk_at dksX9_who_5 3 rfl rfl)
theorem dX9_who_122 : decode cX9_who 122 = .ok (.iaload, 1) := dk_46 (dk_at dksX9_who_5 4 rfl rfl)
theorem dX9_who_123 : decode cX9_who 123 = .ok (.iconst 1, 1) := dk_4 (dk_at dksX9_who_5 5 rfl rfl)
theorem dX9_who_124 : decode cX9_who 124 = .ok (.isub, 1) := dk_100 (dk_at dksX9_who_5 6 rfl rfl)
theorem dX9_who_125 : decode cX9_who 125 = .ok (.iload_n 3, 1) := dk_29 (dk_at dksX9_who_5 7 rfl rfl)
theorem dX9_who_126 : decode cX9_who 126 = .ok (.bipush 40, 2) := dk_16 40 (dk_at dksX9_who_5 8 rfl rfl)
theorem dX9_who_128 : decode cX9_who 128 = .ok (.iload 4, 2) := dk_21 4 (dk_at dksX9_who_5 10 rfl rfl)
theorem dX9_who_130 : decode cX9_who 130 = .ok (.imul, 1) := dk_104 (dk_at dksX9_who_5 12 rfl rfl)
theorem dX9_who_131 : decode cX9_who 131 = .ok (.iload 5, 2) := dk_21 5 (dk_at dksX9_who_5 13 rfl rfl)
theorem dX9_who_133 : decode cX9_who 133 = .ok (.iadd, 1) := dk_96 (dk_at dksX9_who_5 15 rfl rfl)
theorem dX9_who_134 : decode cX9_who 134 = .ok (.iload 6, 2) := dk_21 6 (dk_at dksX9_who_5 16 rfl rfl)
theorem dX9_who_136 : decode cX9_who 136 = .ok (.invokevirtual 258, 3) := dk_182 1 2 (dk_at dksX9_who_5 18 rfl rfl)
theorem dX9_who_139 : decode cX9_who 139 = .ok (.ireturn, 1) := dk_172 (dk_at dksX9_who_5 21 rfl rfl)
abbrev cX9_lacks : ByteArray := prog_16_method_68_code
def yX9_lacks : MethodName := ⟨RX9, "lacks", "(III)I"⟩
def dkwX9_lacks_1 : List UInt8 := [29, 100, 133, 184, 0, 63, 153, 0, 7, 3, 167, 0, 8, 42, 5, 182, 0, 74, 172]
abbrev dktX9_lacks_1 : List UInt8 := dkwX9_lacks_1 ++ []
def dkwX9_lacks_0 : List UInt8 := [42, 180, 0, 13, 27, 46, 156, 0, 9, 42, 4, 182, 0, 74, 172, 28, 133, 9, 42, 180, 0, 13, 27, 46]
abbrev dktX9_lacks_0 : List UInt8 := dkwX9_lacks_0 ++ dktX9_lacks_1
theorem dksX9_lacks_0 : cX9_lacks.data.toList.drop 0 = dktX9_lacks_0 := by decide +kernel
theorem dksX9_lacks_1 : cX9_lacks.data.toList.drop 24 = dktX9_lacks_1 := dk_seg dksX9_lacks_0 24 rfl rfl
theorem dX9_lacks_0 : decode cX9_lacks 0 = .ok (.aload_n 0, 1) := dk_42 (dk_at dksX9_lacks_0 0 rfl rfl)
theorem dX9_lacks_1 : decode cX9_lacks 1 = .ok (.getfield 13, 3) := dk_180 0 13 (dk_at dksX9_lacks_0 1 rfl rfl)
theorem dX9_lacks_4 : decode cX9_lacks 4 = .ok (.iload_n 1, 1) := dk_27 (dk_at dksX9_lacks_0 4 rfl rfl)
theorem dX9_lacks_5 : decode cX9_lacks 5 = .ok (.iaload, 1) := dk_46 (dk_at dksX9_lacks_0 5 rfl rfl)
theorem dX9_lacks_6 : decode cX9_lacks 6 = .ok (.ifCond .ge 9, 3) := dk_156 0 9 (dk_at dksX9_lacks_0 6 rfl rfl)
theorem dX9_lacks_9 : decode cX9_lacks 9 = .ok (.aload_n 0, 1) := dk_42 (dk_at dksX9_lacks_0 9 rfl rfl)
theorem dX9_lacks_10 : decode cX9_lacks 10 = .ok (.iconst 1, 1) := dk_4 (dk_at dksX9_lacks_0 10 rfl rfl)
theorem dX9_lacks_11 : decode cX9_lacks 11 = .ok (.invokevirtual 74, 3) := dk_182 0 74 (dk_at dksX9_lacks_0 11 rfl rfl)
theorem dX9_lacks_14 : decode cX9_lacks 14 = .ok (.ireturn, 1) := dk_172 (dk_at dksX9_lacks_0 14 rfl rfl)
theorem dX9_lacks_15 : decode cX9_lacks 15 = .ok (.iload_n 2, 1) := dk_28 (dk_at dksX9_lacks_0 15 rfl rfl)
theorem dX9_lacks_16 : decode cX9_lacks 16 = .ok (.i2l, 1) := dk_133 (dk_at dksX9_lacks_0 16 rfl rfl)
theorem dX9_lacks_17 : decode cX9_lacks 17 = .ok (.lconst 0, 1) := dk_9 (dk_at dksX9_lacks_0 17 rfl rfl)
theorem dX9_lacks_18 : decode cX9_lacks 18 = .ok (.aload_n 0, 1) := dk_42 (dk_at dksX9_lacks_0 18 rfl rfl)
theorem dX9_lacks_19 : decode cX9_lacks 19 = .ok (.getfield 13, 3) := dk_180 0 13 (dk_at dksX9_lacks_0 19 rfl rfl)
theorem dX9_lacks_22 : decode cX9_lacks 22 = .ok (.iload_n 1, 1) := dk_27 (dk_at dksX9_lacks_0 22 rfl rfl)
theorem dX9_lacks_23 : decode cX9_lacks 23 = .ok (.iaload, 1) := dk_46 (dk_at dksX9_lacks_0 23 rfl rfl)
theorem dX9_lacks_24 : decode cX9_lacks 24 = .ok (.iload_n 3, 1) := dk_29 (dk_at dksX9_lacks_1 0 rfl rfl)
theorem dX9_lacks_25 : decode cX9_lacks 25 = .ok (.isub, 1) := dk_100 (dk_at dksX9_lacks_1 1 rfl rfl)
theorem dX9_lacks_26 : decode cX9_lacks 26 = .ok (.i2l, 1) := dk_133 (dk_at dksX9_lacks_1 2 rfl rfl)
theorem dX9_lacks_27 : decode cX9_lacks 27 = .ok (.invokestatic 63, 3) := dk_184 0 63 (dk_at dksX9_lacks_1 3 rfl rfl)
theorem dX9_lacks_30 : decode cX9_lacks 30 = .ok (.ifCond .eq 7, 3) := dk_153 0 7 (dk_at dksX9_lacks_1 6 rfl rfl)
theorem dX9_lacks_33 : decode cX9_lacks 33 = .ok (.iconst 0, 1) := dk_3 (dk_at dksX9_lacks_1 9 rfl rfl)
theorem dX9_lacks_34 : decode cX9_lacks 34 = .ok (.goto 8, 3) := dk_167 0 8 (dk_at dksX9_lacks_1 10 rfl rfl)
theorem dX9_lacks_37 : decode cX9_lacks 37 = .ok (.aload_n 0, 1) := dk_42 (dk_at dksX9_lacks_1 13 rfl rfl)
theorem dX9_lacks_38 : decode cX9_lacks 38 = .ok (.iconst 2, 1) := dk_5 (dk_at dksX9_lacks_1 14 rfl rfl)
theorem dX9_lacks_39 : decode cX9_lacks 39 = .ok (.invokevirtual 74, 3) := dk_182 0 74 (dk_at dksX9_lacks_1 15 rfl rfl)
theorem dX9_lacks_42 : decode cX9_lacks 42 = .ok (.ireturn, 1) := dk_172 (dk_at dksX9_lacks_1 18 rfl rfl)
abbrev cX9_fits : ByteArray := prog_16_method_70_code
def yX9_fits : MethodName := ⟨RX9, "fits", "(IIIIII)I"⟩
def dkwX9_fits_2 : List UInt8 := [54, 7, 132, 8, 1, 167, 255, 213, 42, 21, 7, 182, 0, 78, 172]
abbrev dktX9_fits_2 : List UInt8 := dkwX9_fits_2 ++ []
def dkwX9_fits_1 : List UInt8 := [21, 7, 42, 21, 4, 21, 5, 21, 6, 182, 0, 250, 153, 0, 10, 4, 21, 8, 120, 167, 0, 4, 3, 128]
abbrev dktX9_fits_1 : List UInt8 := dkwX9_fits_1 ++ dktX9_fits_2
def dkwX9_fits_0 : List UInt8 := [42, 182, 0, 219, 3, 54, 7, 28, 54, 8, 21, 8, 29, 163, 0, 43, 42, 180, 0, 19, 27, 21, 8, 79]
abbrev dktX9_fits_0 : List UInt8 := dkwX9_fits_0 ++ dktX9_fits_1
theorem dksX9_fits_0 : cX9_fits.data.toList.drop 0 = dktX9_fits_0 := by decide +kernel
theorem dksX9_fits_1 : cX9_fits.data.toList.drop 24 = dktX9_fits_1 := dk_seg dksX9_fits_0 24 rfl rfl
theorem dksX9_fits_2 : cX9_fits.data.toList.drop 48 = dktX9_fits_2 := dk_seg dksX9_fits_1 24 rfl rfl
theorem dX9_fits_0 : decode cX9_fits 0 = .ok (.aload_n 0, 1) := dk_42 (dk_at dksX9_fits_0 0 rfl rfl)
theorem dX9_fits_1 : decode cX9_fits 1 = .ok (.invokevirtual 219, 3) := dk_182 0 219 (dk_at dksX9_fits_0 1 rfl rfl)
theorem dX9_fits_4 : decode cX9_fits 4 = .ok (.iconst 0, 1) := dk_3 (dk_at dksX9_fits_0 4 rfl rfl)
theorem dX9_fits_5 : decode cX9_fits 5 = .ok (.istore 7, 2) := dk_54 7 (dk_at dksX9_fits_0 5 rfl rfl)
theorem dX9_fits_7 : decode cX9_fits 7 = .ok (.iload_n 2, 1) := dk_28 (dk_at dksX9_fits_0 7 rfl rfl)
theorem dX9_fits_8 : decode cX9_fits 8 = .ok (.istore 8, 2) := dk_54 8 (dk_at dksX9_fits_0 8 rfl rfl)
theorem dX9_fits_10 : decode cX9_fits 10 = .ok (.iload 8, 2) := dk_21 8 (dk_at dksX9_fits_0 10 rfl rfl)
theorem dX9_fits_12 : decode cX9_fits 12 = .ok (.iload_n 3, 1) := dk_29 (dk_at dksX9_fits_0 12 rfl rfl)
theorem dX9_fits_13 : decode cX9_fits 13 = .ok (.if_icmp .gt 43, 3) := dk_163 0 43 (dk_at dksX9_fits_0 13 rfl rfl)
theorem dX9_fits_16 : decode cX9_fits 16 = .ok (.aload_n 0, 1) := dk_42 (dk_at dksX9_fits_0 16 rfl rfl)
theorem dX9_fits_17 : decode cX9_fits 17 = .ok (.getfield 19, 3) := dk_180 0 19 (dk_at dksX9_fits_0 17 rfl rfl)
theorem dX9_fits_20 : decode cX9_fits 20 = .ok (.iload_n 1, 1) := dk_27 (dk_at dksX9_fits_0 20 rfl rfl)
theorem dX9_fits_21 : decode cX9_fits 21 = .ok (.iload 8, 2) := dk_21 8 (dk_at dksX9_fits_0 21 rfl rfl)
theorem dX9_fits_23 : decode cX9_fits 23 = .ok (.iastore, 1) := dk_79 (dk_at dksX9_fits_0 23 rfl rfl)
theorem dX9_fits_24 : decode cX9_fits 24 = .ok (.iload 7, 2) := dk_21 7 (dk_at dksX9_fits_1 0 rfl rfl)
theorem dX9_fits_26 : decode cX9_fits 26 = .ok (.aload_n 0, 1) := dk_42 (dk_at dksX9_fits_1 2 rfl rfl)
theorem dX9_fits_27 : decode cX9_fits 27 = .ok (.iload 4, 2) := dk_21 4 (dk_at dksX9_fits_1 3 rfl rfl)
theorem dX9_fits_29 : decode cX9_fits 29 = .ok (.iload 5, 2) := dk_21 5 (dk_at dksX9_fits_1 5 rfl rfl)
theorem dX9_fits_31 : decode cX9_fits 31 = .ok (.iload 6, 2) := dk_21 6 (dk_at dksX9_fits_1 7 rfl rfl)
theorem dX9_fits_33 : decode cX9_fits 33 = .ok (.invokevirtual 250, 3) := dk_182 0 250 (dk_at dksX9_fits_1 9 rfl rfl)
theorem dX9_fits_36 : decode cX9_fits 36 = .ok (.ifCond .eq 10, 3) := dk_153 0 10 (dk_at dksX9_fits_1 12 rfl rfl)
theorem dX9_fits_39 : decode cX9_fits 39 = .ok (.iconst 1, 1) := dk_4 (dk_at dksX9_fits_1 15 rfl rfl)
theorem dX9_fits_40 : decode cX9_fits 40 = .ok (.iload 8, 2) := dk_21 8 (dk_at dksX9_fits_1 16 rfl rfl)
theorem dX9_fits_42 : decode cX9_fits 42 = .ok (.ishl, 1) := dk_120 (dk_at dksX9_fits_1 18 rfl rfl)
theorem dX9_fits_43 : decode cX9_fits 43 = .ok (.goto 4, 3) := dk_167 0 4 (dk_at dksX9_fits_1 19 rfl rfl)
theorem dX9_fits_46 : decode cX9_fits 46 = .ok (.iconst 0, 1) := dk_3 (dk_at dksX9_fits_1 22 rfl rfl)
theorem dX9_fits_47 : decode cX9_fits 47 = .ok (.ior, 1) := dk_128 (dk_at dksX9_fits_1 23 rfl rfl)
theorem dX9_fits_48 : decode cX9_fits 48 = .ok (.istore 7, 2) := dk_54 7 (dk_at dksX9_fits_2 0 rfl rfl)
theorem dX9_fits_50 : decode cX9_fits 50 = .ok (.iinc 8 1, 3) := dk_132 8 1 (dk_at dksX9_fits_2 2 rfl rfl)
theorem dX9_fits_53 : decode cX9_fits 53 = .ok (.goto (-43), 3) := dk_167 255 213 (dk_at dksX9_fits_2 5 rfl rfl)
theorem dX9_fits_56 : decode cX9_fits 56 = .ok (.aload_n 0, 1) := dk_42 (dk_at dksX9_fits_2 8 rfl rfl)
theorem dX9_fits_57 : decode cX9_fits 57 = .ok (.iload 7, 2) := dk_21 7 (dk_at dksX9_fits_2 9 rfl rfl)
theorem dX9_fits_59 : decode cX9_fits 59 = .ok (.invokevirtual 78, 3) := dk_182 0 78 (dk_at dksX9_fits_2 11 rfl rfl)
theorem dX9_fits_62 : decode cX9_fits 62 = .ok (.ireturn, 1) := dk_172 (dk_at dksX9_fits_2 14 rfl rfl)
abbrev cX9_isSo : ByteArray := prog_16_method_69_code
def yX9_isSo : MethodName := ⟨RX9, "isSo", "(III)Z"⟩
def dkwX9_isSo_2 : List UInt8 := [3, 54, 4, 132, 5, 1, 167, 255, 210, 42, 182, 0, 211, 21, 4, 172]
abbrev dktX9_isSo_2 : List UInt8 := dkwX9_isSo_2 ++ []
def dkwX9_isSo_1 : List UInt8 := [180, 0, 16, 28, 21, 5, 96, 46, 42, 180, 0, 19, 16, 8, 27, 96, 46, 160, 0, 7, 4, 167, 0, 4]
abbrev dktX9_isSo_1 : List UInt8 := dkwX9_isSo_1 ++ dktX9_isSo_2
def dkwX9_isSo_0 : List UInt8 := [4, 54, 4, 3, 54, 5, 21, 5, 29, 162, 0, 46, 42, 182, 0, 187, 21, 4, 153, 0, 28, 42]
abbrev dktX9_isSo_0 : List UInt8 := dkwX9_isSo_0 ++ dktX9_isSo_1
theorem dksX9_isSo_0 : cX9_isSo.data.toList.drop 0 = dktX9_isSo_0 := by decide +kernel
theorem dksX9_isSo_1 : cX9_isSo.data.toList.drop 22 = dktX9_isSo_1 := dk_seg dksX9_isSo_0 22 rfl rfl
theorem dksX9_isSo_2 : cX9_isSo.data.toList.drop 46 = dktX9_isSo_2 := dk_seg dksX9_isSo_1 24 rfl rfl
theorem dX9_isSo_0 : decode cX9_isSo 0 = .ok (.iconst 1, 1) := dk_4 (dk_at dksX9_isSo_0 0 rfl rfl)
theorem dX9_isSo_1 : decode cX9_isSo 1 = .ok (.istore 4, 2) := dk_54 4 (dk_at dksX9_isSo_0 1 rfl rfl)
theorem dX9_isSo_3 : decode cX9_isSo 3 = .ok (.iconst 0, 1) := dk_3 (dk_at dksX9_isSo_0 3 rfl rfl)
theorem dX9_isSo_4 : decode cX9_isSo 4 = .ok (.istore 5, 2) := dk_54 5 (dk_at dksX9_isSo_0 4 rfl rfl)
theorem dX9_isSo_6 : decode cX9_isSo 6 = .ok (.iload 5, 2) := dk_21 5 (dk_at dksX9_isSo_0 6 rfl rfl)
theorem dX9_isSo_8 : decode cX9_isSo 8 = .ok (.iload_n 3, 1) := dk_29 (dk_at dksX9_isSo_0 8 rfl rfl)
theorem dX9_isSo_9 : decode cX9_isSo 9 = .ok (.if_icmp .ge 46, 3) := dk_162 0 46 (dk_at dksX9_isSo_0 9 rfl rfl)
theorem dX9_isSo_12 : decode cX9_isSo 12 = .ok (.aload_n 0, 1) := dk_42 (dk_at dksX9_isSo_0 12 rfl rfl)
theorem dX9_isSo_13 : decode cX9_isSo 13 = .ok (.invokevirtual 187, 3) := dk_182 0 187 (dk_at dksX9_isSo_0 13 rfl rfl)
theorem dX9_isSo_16 : decode cX9_isSo 16 = .ok (.iload 4, 2) := dk_21 4 (dk_at dksX9_isSo_0 16 rfl rfl)
theorem dX9_isSo_18 : decode cX9_isSo 18 = .ok (.ifCond .eq 28, 3) := dk_153 0 28 (dk_at dksX9_isSo_0 18 rfl rfl)
theorem dX9_isSo_21 : decode cX9_isSo 21 = .ok (.aload_n 0, 1) := dk_42 (dk_at dksX9_isSo_0 21 rfl rfl)
theorem dX9_isSo_22 : decode cX9_isSo 22 = .ok (.getfield 16, 3) := dk_180 0 16 (dk_at dksX9_isSo_1 0 rfl rfl)
theorem dX9_isSo_25 : decode cX9_isSo 25 = .ok (.iload_n 2, 1) := dk_28 (dk_at dksX9_isSo_1 3 rfl rfl)
theorem dX9_isSo_26 : decode cX9_isSo 26 = .ok (.iload 5, 2) := dk_21 5 (dk_at dksX9_isSo_1 4 rfl rfl)
theorem dX9_isSo_28 : decode cX9_isSo 28 = .ok (.iadd, 1) := dk_96 (dk_at dksX9_isSo_1 6 rfl rfl)
theorem dX9_isSo_29 : decode cX9_isSo 29 = .ok (.iaload, 1) := dk_46 (dk_at dksX9_isSo_1 7 rfl rfl)
theorem dX9_isSo_30 : decode cX9_isSo 30 = .ok (.aload_n 0, 1) := dk_42 (dk_at dksX9_isSo_1 8 rfl rfl)
theorem dX9_isSo_31 : decode cX9_isSo 31 = .ok (.getfield 19, 3) := dk_180 0 19 (dk_at dksX9_isSo_1 9 rfl rfl)
theorem dX9_isSo_34 : decode cX9_isSo 34 = .ok (.bipush 8, 2) := dk_16 8 (dk_at dksX9_isSo_1 12 rfl rfl)
theorem dX9_isSo_36 : decode cX9_isSo 36 = .ok (.iload_n 1, 1) := dk_27 (dk_at dksX9_isSo_1 14 rfl rfl)
theorem dX9_isSo_37 : decode cX9_isSo 37 = .ok (.iadd, 1) := dk_96 (dk_at dksX9_isSo_1 15 rfl rfl)
theorem dX9_isSo_38 : decode cX9_isSo 38 = .ok (.iaload, 1) := dk_46 (dk_at dksX9_isSo_1 16 rfl rfl)
theorem dX9_isSo_39 : decode cX9_isSo 39 = .ok (.if_icmp .ne 7, 3) := dk_160 0 7 (dk_at dksX9_isSo_1 17 rfl rfl)
theorem dX9_isSo_42 : decode cX9_isSo 42 = .ok (.iconst 1, 1) := dk_4 (dk_at dksX9_isSo_1 20 rfl rfl)
theorem dX9_isSo_43 : decode cX9_isSo 43 = .ok (.goto 4, 3) := dk_167 0 4 (dk_at dksX9_isSo_1 21 rfl rfl)
theorem dX9_isSo_46 : decode cX9_isSo 46 = .ok (.iconst 0, 1) := dk_3 (dk_at dksX9_isSo_2 0 rfl rfl)
theorem dX9_isSo_47 : decode cX9_isSo 47 = .ok (.istore 4, 2) := dk_54 4 (dk_at dksX9_isSo_2 1 rfl rfl)
theorem dX9_isSo_49 : decode cX9_isSo 49 = .ok (.iinc 5 1, 3) := dk_132 5 1 (dk_at dksX9_isSo_2 3 rfl rfl)
theorem dX9_isSo_52 : decode cX9_isSo 52 = .ok (.goto (-46), 3) := dk_167 255 210 (dk_at dksX9_isSo_2 6 rfl rfl)
theorem dX9_isSo_55 : decode cX9_isSo 55 = .ok (.aload_n 0, 1) := dk_42 (dk_at dksX9_isSo_2 9 rfl rfl)
theorem dX9_isSo_56 : decode cX9_isSo 56 = .ok (.invokevirtual 211, 3) := dk_182 0 211 (dk_at dksX9_isSo_2 10 rfl rfl)
theorem dX9_isSo_59 : decode cX9_isSo 59 = .ok (.iload 4, 2) := dk_21 4 (dk_at dksX9_isSo_2 13 rfl rfl)
theorem dX9_isSo_61 : decode cX9_isSo 61 = .ok (.ireturn, 1) := dk_172 (dk_at dksX9_isSo_2 15 rfl rfl)
abbrev cX9_paste : ByteArray := prog_16_method_72_code
def yX9_paste : MethodName := ⟨RX9, "paste", "(IIIII)I"⟩
def dkwX9_paste_3 : List UInt8 := [16, 40, 29, 104, 21, 4, 96, 21, 5, 182, 1, 2, 172]
abbrev dktX9_paste_3 : List UInt8 := dkwX9_paste_3 ++ []
def dkwX9_paste_2 : List UInt8 := [182, 0, 254, 54, 6, 21, 6, 156, 0, 8, 21, 6, 167, 0, 24, 42, 16, 14, 27, 96, 3, 16, 9, 28]
abbrev dktX9_paste_2 : List UInt8 := dkwX9_paste_2 ++ dktX9_paste_3
def dkwX9_paste_1 : List UInt8 := [21, 5, 133, 10, 20, 0, 232, 184, 0, 63, 154, 0, 8, 18, 73, 167, 0, 12, 42, 29, 21, 4, 21, 5]
abbrev dktX9_paste_1 : List UInt8 := dkwX9_paste_1 ++ dktX9_paste_2
def dkwX9_paste_0 : List UInt8 := [42, 27, 182, 0, 194, 153, 0, 31, 42, 28, 182, 0, 194, 153, 0, 23, 29, 184, 0, 67, 153, 0, 16]
abbrev dktX9_paste_0 : List UInt8 := dkwX9_paste_0 ++ dktX9_paste_1
theorem dksX9_paste_0 : cX9_paste.data.toList.drop 0 = dktX9_paste_0 := by decide +kernel
theorem dksX9_paste_1 : cX9_paste.data.toList.drop 23 = dktX9_paste_1 := dk_seg dksX9_paste_0 23 rfl rfl
theorem dksX9_paste_2 : cX9_paste.data.toList.drop 47 = dktX9_paste_2 := dk_seg dksX9_paste_1 24 rfl rfl
theorem dksX9_paste_3 : cX9_paste.data.toList.drop 71 = dktX9_paste_3 := dk_seg dksX9_paste_2 24 rfl rfl
theorem dX9_paste_0 : decode cX9_paste 0 = .ok (.aload_n 0, 1) := dk_42 (dk_at dksX9_paste_0 0 rfl rfl)
theorem dX9_paste_1 : decode cX9_paste 1 = .ok (.iload_n 1, 1) := dk_27 (dk_at dksX9_paste_0 1 rfl rfl)
theorem dX9_paste_2 : decode cX9_paste 2 = .ok (.invokevirtual 194, 3) := dk_182 0 194 (dk_at dksX9_paste_0 2 rfl rfl)
theorem dX9_paste_5 : decode cX9_paste 5 = .ok (.ifCond .eq 31, 3) := dk_153 0 31 (dk_at dksX9_paste_0 5 rfl rfl)
theorem dX9_paste_8 : decode cX9_paste 8 = .ok (.aload_n 0, 1) := dk_42 (dk_at dksX9_paste_0 8 rfl rfl)
theorem dX9_paste_9 : decode cX9_paste 9 = .ok (.iload_n 2, 1) := dk_28 (dk_at dksX9_paste_0 9 rfl rfl)
theorem dX9_paste_10 : decode cX9_paste 10 = .ok (.invokevirtual 194, 3) := dk_182 0 194 (dk_at dksX9_paste_0 10 rfl rfl)
theorem dX9_paste_13 : decode cX9_paste 13 = .ok (.ifCond .eq 23, 3) := dk_153 0 23 (dk_at dksX9_paste_0 13 rfl rfl)
theorem dX9_paste_16 : decode cX9_paste 16 = .ok (.iload_n 3, 1) := dk_29 (dk_at dksX9_paste_0 16 rfl rfl)
theorem dX9_paste_17 : decode cX9_paste 17 = .ok (.invokestatic 67, 3) := dk_184 0 67 (dk_at dksX9_paste_0 17 rfl rfl)
theorem dX9_paste_20 : decode cX9_paste 20 = .ok (.ifCond .eq 16, 3) := dk_153 0 16 (dk_at dksX9_paste_0 20 rfl rfl)
theorem dX9_paste_23 : decode cX9_paste 23 = .ok (.iload 5, 2) := dk_21 5 (dk_at dksX9_paste_1 0 rfl rfl)
theorem dX9_paste_25 : decode cX9_paste 25 = .ok (.i2l, 1) := dk_133 (dk_at dksX9_paste_1 2 rfl rfl)
theorem dX9_paste_26 : decode cX9_paste 26 = .ok (.lconst 1, 1) := dk_10 (dk_at dksX9_paste_1 3 rfl rfl)
theorem dX9_paste_27 : decode cX9_paste 27 = .ok (.ldc2_w 232, 3) := dk_20 0 232 (dk_at dksX9_paste_1 4 rfl rfl)
theorem dX9_paste_30 : decode cX9_paste 30 = .ok (.invokestatic 63, 3) := dk_184 0 63 (dk_at dksX9_paste_1 7 rfl rfl)
theorem dX9_paste_33 : decode cX9_paste 33 = .ok (.ifCond .ne 8, 3) := dk_154 0 8 (dk_at dksX9_paste_1 10 rfl rfl)
theorem dX9_paste_36 : decode cX9_paste 36 = .ok (.ldc 73, 2) := dk_18 73 (dk_at dksX9_paste_1 13 rfl rfl)
theorem dX9_paste_38 : decode cX9_paste 38 = .ok (.goto 12, 3) := dk_167 0 12 (dk_at dksX9_paste_1 15 rfl rfl)
theorem dX9_paste_41 : decode cX9_paste 41 = .ok (.aload_n 0, 1) := dk_42 (dk_at dksX9_paste_1 18 rfl rfl)
theorem dX9_paste_42 : decode cX9_paste 42 = .ok (.iload_n 3, 1) := dk_29 (dk_at dksX9_paste_1 19 rfl rfl)
theorem dX9_paste_43 : decode cX9_paste 43 = .ok (.iload 4, 2) := dk_21 4 (dk_at dksX9_paste_1 20 rfl rfl)
theorem dX9_paste_45 : decode cX9_paste 45 = .ok (.iload 5, 2) := dk_21 5 (dk_at dksX9_paste_1 22 rfl rfl)
theorem dX9_paste_47 : decode cX9_paste 47 = .ok (.invokevirtual 254, 3) := dk_182 0 254 (dk_at dksX9_paste_2 0 rfl rfl)
theorem dX9_paste_50 : decode cX9_paste 50 = .ok (.istore 6, 2) := dk_54 6 (dk_at dksX9_paste_2 3 rfl rfl)
theorem dX9_paste_52 : decode cX9_paste 52 = .ok (.iload 6, 2) := dk_21 6 (dk_at dksX9_paste_2 5 rfl rfl)
theorem dX9_paste_54 : decode cX9_paste 54 = .ok (.ifCond .ge 8, 3) := dk_156 0 8 (dk_at dksX9_paste_2 7 rfl rfl)
theorem dX9_paste_57 : decode cX9_paste 57 = .ok (.iload 6, 2) := dk_21 6 (dk_at dksX9_paste_2 10 rfl rfl)
theorem dX9_paste_59 : decode cX9_paste 59 = .ok (.goto 24, 3) := dk_167 0 24 (dk_at dksX9_paste_2 12 rfl rfl)
theorem dX9_paste_62 : decode cX9_paste 62 = .ok (.aload_n 0, 1) := dk_42 (dk_at dksX9_paste_2 15 rfl rfl)
theorem dX9_paste_63 : decode cX9_paste 63 = .ok (.bipush 14, 2) := dk_16 14 (dk_at dksX9_paste_2 16 rfl rfl)
theorem dX9_paste_65 : decode cX9_paste 65 = .ok (.iload_n 1, 1) := dk_27 (dk_at dksX9_paste_2 18 rfl rfl)
theorem dX9_paste_66 : decode cX9_paste 66 = .ok (.iadd, 1) := dk_96 (dk_at dksX9_paste_2 19 rfl rfl)
theorem dX9_paste_67 : decode cX9_paste 67 = .ok (.iconst 0, 1) := dk_3 (dk_at dksX9_paste_2 20 rfl rfl)
theorem dX9_paste_68 : decode cX9_paste 68 = .ok (.bipush 9, 2) := dk_16 9 (dk_at dksX9_paste_2 21 rfl rfl)
theorem dX9_paste_70 : decode cX9_paste 70 = .ok (.iload_n 2, 1) := dk_28 (dk_at dksX9_paste_2 23 rfl rfl)
theorem dX9_paste_71 : decode cX9_paste 71 = .ok (.bipush 40, 2) := dk_16 40 (dk_at dksX9_paste_3 0 rfl rfl)
theorem dX9_paste_73 : decode cX9_paste 73 = .ok (.iload_n 3, 1) := dk_29 (dk_at dksX9_paste_3 2 rfl rfl)
theorem dX9_paste_74 : decode cX9_paste 74 = .ok (.imul, 1) := dk_104 (dk_at dksX9_paste_3 3 rfl rfl)
theorem dX9_paste_75 : decode cX9_paste 75 = .ok (.iload 4, 2) := dk_21 4 (dk_at dksX9_paste_3 4 rfl rfl)
theorem dX9_paste_77 : decode cX9_paste 77 = .ok (.iadd, 1) := dk_96 (dk_at dksX9_paste_3 6 rfl rfl)
theorem dX9_paste_78 : decode cX9_paste 78 = .ok (.iload 5, 2) := dk_21 5 (dk_at dksX9_paste_3 7 rfl rfl)
theorem dX9_paste_80 : decode cX9_paste 80 = .ok (.invokevirtual 258, 3) := dk_182 1 2 (dk_at dksX9_paste_3 9 rfl rfl)
theorem dX9_paste_83 : decode cX9_paste 83 = .ok (.ireturn, 1) := dk_172 (dk_at dksX9_paste_3 12 rfl rfl)
abbrev cX9_hungers : ByteArray := prog_16_method_73_code
def yX9_hungers : MethodName := ⟨RX9, "hungers", "(IIII)I"⟩
def dkwX9_hungers_3 : List UInt8 := [182, 1, 2, 172]
abbrev dktX9_hungers_3 : List UInt8 := dkwX9_hungers_3 ++ []
def dkwX9_hungers_2 : List UInt8 := [156, 0, 8, 21, 5, 167, 0, 20, 42, 5, 4, 16, 9, 27, 16, 40, 28, 104, 29, 96, 21, 4]
abbrev dktX9_hungers_2 : List UInt8 := dkwX9_hungers_2 ++ dktX9_hungers_3
def dkwX9_hungers_1 : List UInt8 := [184, 0, 63, 154, 0, 8, 18, 73, 167, 0, 11, 42, 28, 29, 21, 4, 182, 0, 254, 54, 5, 21, 5]
abbrev dktX9_hungers_1 : List UInt8 := dkwX9_hungers_1 ++ dktX9_hungers_2
def dkwX9_hungers_0 : List UInt8 := [42, 27, 182, 0, 194, 153, 0, 23, 28, 184, 0, 67, 153, 0, 16, 21, 4, 133, 10, 20, 0, 232]
abbrev dktX9_hungers_0 : List UInt8 := dkwX9_hungers_0 ++ dktX9_hungers_1
theorem dksX9_hungers_0 : cX9_hungers.data.toList.drop 0 = dktX9_hungers_0 := by decide +kernel
theorem dksX9_hungers_1 : cX9_hungers.data.toList.drop 22 = dktX9_hungers_1 := dk_seg dksX9_hungers_0 22 rfl rfl
theorem dksX9_hungers_2 : cX9_hungers.data.toList.drop 45 = dktX9_hungers_2 := dk_seg dksX9_hungers_1 23 rfl rfl
theorem dksX9_hungers_3 : cX9_hungers.data.toList.drop 67 = dktX9_hungers_3 := dk_seg dksX9_hungers_2 22 rfl rfl
theorem dX9_hungers_0 : decode cX9_hungers 0 = .ok (.aload_n 0, 1) := dk_42 (dk_at dksX9_hungers_0 0 rfl rfl)
theorem dX9_hungers_1 : decode cX9_hungers 1 = .ok (.iload_n 1, 1) := dk_27 (dk_at dksX9_hungers_0 1 rfl rfl)
theorem dX9_hungers_2 : decode cX9_hungers 2 = .ok (.invokevirtual 194, 3) := dk_182 0 194 (dk_at dksX9_hungers_0 2 rfl rfl)
theorem dX9_hungers_5 : decode cX9_hungers 5 = .ok (.ifCond .eq 23, 3) := dk_153 0 23 (dk_at dksX9_hungers_0 5 rfl rfl)
theorem dX9_hungers_8 : decode cX9_hungers 8 = .ok (.iload_n 2, 1) := dk_28 (dk_at dksX9_hungers_0 8 rfl rfl)
theorem dX9_hungers_9 : decode cX9_hungers 9 = .ok (.invokestatic 67, 3) := dk_184 0 67 (dk_at dksX9_hungers_0 9 rfl rfl)
theorem dX9_hungers_12 : decode cX9_hungers 12 = .ok (.ifCond .eq 16, 3) := dk_153 0 16 (dk_at dksX9_hungers_0 12 rfl rfl)
theorem dX9_hungers_15 : decode cX9_hungers 15 = .ok (.iload 4, 2) := dk_21 4 (dk_at dksX9_hungers_0 15 rfl rfl)
theorem dX9_hungers_17 : decode cX9_hungers 17 = .ok (.i2l, 1) := dk_133 (dk_at dksX9_hungers_0 17 rfl rfl)
theorem dX9_hungers_18 : decode cX9_hungers 18 = .ok (.lconst 1, 1) := dk_10 (dk_at dksX9_hungers_0 18 rfl rfl)
theorem dX9_hungers_19 : decode cX9_hungers 19 = .ok (.ldc2_w 232, 3) := dk_20 0 232 (dk_at dksX9_hungers_0 19 rfl rfl)
theorem dX9_hungers_22 : decode cX9_hungers 22 = .ok (.invokestatic 63, 3) := dk_184 0 63 (dk_at dksX9_hungers_1 0 rfl rfl)
theorem dX9_hungers_25 : decode cX9_hungers 25 = .ok (.ifCond .ne 8, 3) := dk_154 0 8 (dk_at dksX9_hungers_1 3 rfl rfl)
theorem dX9_hungers_28 : decode cX9_hungers 28 = .ok (.ldc 73, 2) := dk_18 73 (dk_at dksX9_hungers_1 6 rfl rfl)
theorem dX9_hungers_30 : decode cX9_hungers 30 = .ok (.goto 11, 3) := dk_167 0 11 (dk_at dksX9_hungers_1 8 rfl rfl)
theorem dX9_hungers_33 : decode cX9_hungers 33 = .ok (.aload_n 0, 1) := dk_42 (dk_at dksX9_hungers_1 11 rfl rfl)
theorem dX9_hungers_34 : decode cX9_hungers 34 = .ok (.iload_n 2, 1) := dk_28 (dk_at dksX9_hungers_1 12 rfl rfl)
theorem dX9_hungers_35 : decode cX9_hungers 35 = .ok (.iload_n 3, 1) := dk_29 (dk_at dksX9_hungers_1 13 rfl rfl)
theorem dX9_hungers_36 : decode cX9_hungers 36 = .ok (.iload 4, 2) := dk_21 4 (dk_at dksX9_hungers_1 14 rfl rfl)
theorem dX9_hungers_38 : decode cX9_hungers 38 = .ok (.invokevirtual 254, 3) := dk_182 0 254 (dk_at dksX9_hungers_1 16 rfl rfl)
theorem dX9_hungers_41 : decode cX9_hungers 41 = .ok (.istore 5, 2) := dk_54 5 (dk_at dksX9_hungers_1 19 rfl rfl)
theorem dX9_hungers_43 : decode cX9_hungers 43 = .ok (.iload 5, 2) := dk_21 5 (dk_at dksX9_hungers_1 21 rfl rfl)
theorem dX9_hungers_45 : decode cX9_hungers 45 = .ok (.ifCond .ge 8, 3) := dk_156 0 8 (dk_at dksX9_hungers_2 0 rfl rfl)
theorem dX9_hungers_48 : decode cX9_hungers 48 = .ok (.iload 5, 2) := dk_21 5 (dk_at dksX9_hungers_2 3 rfl rfl)
theorem dX9_hungers_50 : decode cX9_hungers 50 = .ok (.goto 20, 3) := dk_167 0 20 (dk_at dksX9_hungers_2 5 rfl rfl)
theorem dX9_hungers_53 : decode cX9_hungers 53 = .ok (.aload_n 0, 1) := dk_42 (dk_at dksX9_hungers_2 8 rfl rfl)
theorem dX9_hungers_54 : decode cX9_hungers 54 = .ok (.iconst 2, 1) := dk_5 (dk_at dksX9_hungers_2 9 rfl rfl)
theorem dX9_hungers_55 : decode cX9_hungers 55 = .ok (.iconst 1, 1) := dk_4 (dk_at dksX9_hungers_2 10 rfl rfl)
theorem dX9_hungers_56 : decode cX9_hungers 56 = .ok (.bipush 9, 2) := dk_16 9 (dk_at dksX9_hungers_2 11 rfl rfl)
theorem dX9_hungers_58 : decode cX9_hungers 58 = .ok (.iload_n 1, 1) := dk_27 (dk_at dksX9_hungers_2 13 rfl rfl)
theorem dX9_hungers_59 : decode cX9_hungers 59 = .ok (.bipush 40, 2) := dk_16 40 (dk_at dksX9_hungers_2 14 rfl rfl)
theorem dX9_hungers_61 : decode cX9_hungers 61 = .ok (.iload_n 2, 1) := dk_28 (dk_at dksX9_hungers_2 16 rfl rfl)
theorem dX9_hungers_62 : decode cX9_hungers 62 = .ok (.imul, 1) := dk_104 (dk_at dksX9_hungers_2 17 rfl rfl)
theorem dX9_hungers_63 : decode cX9_hungers 63 = .ok (.iload_n 3, 1) := dk_29 (dk_at dksX9_hungers_2 18 rfl rfl)
theorem dX9_hungers_64 : decode cX9_hungers 64 = .ok (.iadd, 1) := dk_96 (dk_at dksX9_hungers_2 19 rfl rfl)
theorem dX9_hungers_65 : decode cX9_hungers 65 = .ok (.iload 4, 2) := dk_21 4 (dk_at dksX9_hungers_2 20 rfl rfl)
theorem dX9_hungers_67 : decode cX9_hungers 67 = .ok (.invokevirtual 258, 3) := dk_182 1 2 (dk_at dksX9_hungers_3 0 rfl rfl)
theorem dX9_hungers_70 : decode cX9_hungers 70 = .ok (.ireturn, 1) := dk_172 (dk_at dksX9_hungers_3 3 rfl rfl)
abbrev cX9_dark : ByteArray := prog_16_method_74_code
def yX9_dark : MethodName := ⟨RX9, "dark", "(IIII)J"⟩
def dkwX9_dark_11 : List UInt8 := [109, 173]
abbrev dktX9_dark_11 : List UInt8 := dkwX9_dark_11 ++ []
def dkwX9_dark_10 : List UInt8 := [22, 14, 55, 12, 167, 255, 234, 21, 4, 154, 0, 11, 22, 6, 22, 10, 109, 167, 0, 8, 22, 8, 22, 10]
abbrev dktX9_dark_10 : List UInt8 := dkwX9_dark_10 ++ dktX9_dark_11
def dkwX9_dark_9 : List UInt8 := [55, 10, 22, 8, 55, 12, 22, 12, 9, 148, 153, 0, 21, 22, 10, 22, 12, 113, 55, 14, 22, 12, 55, 10]
abbrev dktX9_dark_9 : List UInt8 := dkwX9_dark_9 ++ dktX9_dark_10
def dkwX9_dark_8 : List UInt8 := [182, 0, 242, 158, 0, 8, 22, 11, 167, 0, 4, 9, 97, 55, 6, 132, 10, 1, 167, 255, 141, 22, 6]
abbrev dktX9_dark_8 : List UInt8 := dkwX9_dark_8 ++ dktX9_dark_9
def dkwX9_dark_7 : List UInt8 := [132, 13, 1, 167, 255, 203, 42, 180, 0, 19, 8, 21, 5, 21, 10, 2, 130, 126, 79, 22, 6, 42, 27, 28]
abbrev dktX9_dark_7 : List UInt8 := dkwX9_dark_7 ++ dktX9_dark_8
def dkwX9_dark_6 : List UInt8 := [21, 10, 21, 13, 184, 0, 154, 153, 0, 8, 29, 133, 167, 0, 8, 16, 10, 29, 100, 133, 105, 55, 11]
abbrev dktX9_dark_6 : List UInt8 := dkwX9_dark_6 ++ dktX9_dark_7
def dkwX9_dark_5 : List UInt8 := [180, 0, 19, 3, 46, 162, 0, 48, 22, 11, 21, 5, 21, 13, 184, 0, 154, 154, 0, 7, 10, 167, 0, 23]
abbrev dktX9_dark_5 : List UInt8 := dkwX9_dark_5 ++ dktX9_dark_6
def dkwX9_dark_4 : List UInt8 := [21, 5, 163, 0, 114, 21, 10, 21, 5, 2, 130, 126, 154, 0, 98, 10, 55, 11, 3, 54, 13, 21, 13, 42]
abbrev dktX9_dark_4 : List UInt8 := dkwX9_dark_4 ++ dktX9_dark_5
def dkwX9_dark_3 : List UInt8 := [21, 10, 158, 0, 17, 22, 8, 20, 1, 6, 105, 55, 8, 132, 10, 255, 167, 255, 240, 3, 54, 10, 21, 10]
abbrev dktX9_dark_3 : List UInt8 := dkwX9_dark_3 ++ dktX9_dark_4
def dkwX9_dark_2 : List UInt8 := [182, 0, 219, 42, 180, 0, 19, 8, 46, 54, 5, 9, 55, 6, 10, 55, 8, 21, 5, 184, 0, 197, 54, 10]
abbrev dktX9_dark_2 : List UInt8 := dkwX9_dark_2 ++ dktX9_dark_3
def dkwX9_dark_1 : List UInt8 := [20, 1, 6, 184, 0, 63, 153, 0, 11, 21, 4, 184, 0, 216, 154, 0, 7, 20, 1, 8, 173, 42]
abbrev dktX9_dark_1 : List UInt8 := dkwX9_dark_1 ++ dktX9_dark_2
def dkwX9_dark_0 : List UInt8 := [42, 27, 182, 0, 194, 153, 0, 35, 28, 133, 9, 20, 0, 214, 184, 0, 63, 153, 0, 23, 29, 133, 9]
abbrev dktX9_dark_0 : List UInt8 := dkwX9_dark_0 ++ dktX9_dark_1
theorem dksX9_dark_0 : cX9_dark.data.toList.drop 0 = dktX9_dark_0 := by decide +kernel
theorem dksX9_dark_1 : cX9_dark.data.toList.drop 23 = dktX9_dark_1 := dk_seg dksX9_dark_0 23 rfl rfl
theorem dksX9_dark_2 : cX9_dark.data.toList.drop 45 = dktX9_dark_2 := dk_seg dksX9_dark_1 22 rfl rfl
theorem dksX9_dark_3 : cX9_dark.data.toList.drop 69 = dktX9_dark_3 := dk_seg dksX9_dark_2 24 rfl rfl
theorem dksX9_dark_4 : cX9_dark.data.toList.drop 93 = dktX9_dark_4 := dk_seg dksX9_dark_3 24 rfl rfl
theorem dksX9_dark_5 : cX9_dark.data.toList.drop 117 = dktX9_dark_5 := dk_seg dksX9_dark_4 24 rfl rfl
theorem dksX9_dark_6 : cX9_dark.data.toList.drop 141 = dktX9_dark_6 := dk_seg dksX9_dark_5 24 rfl rfl
theorem dksX9_dark_7 : cX9_dark.data.toList.drop 164 = dktX9_dark_7 := dk_seg dksX9_dark_6 23 rfl rfl
theorem dksX9_dark_8 : cX9_dark.data.toList.drop 188 = dktX9_dark_8 := dk_seg dksX9_dark_7 24 rfl rfl
theorem dksX9_dark_9 : cX9_dark.data.toList.drop 211 = dktX9_dark_9 := dk_seg dksX9_dark_8 23 rfl rfl
theorem dksX9_dark_10 : cX9_dark.data.toList.drop 235 = dktX9_dark_10 := dk_seg dksX9_dark_9 24 rfl rfl
theorem dksX9_dark_11 : cX9_dark.data.toList.drop 259 = dktX9_dark_11 := dk_seg dksX9_dark_10 24 rfl rfl
theorem dX9_dark_0 : decode cX9_dark 0 = .ok (.aload_n 0, 1) := dk_42 (dk_at dksX9_dark_0 0 rfl rfl)
theorem dX9_dark_1 : decode cX9_dark 1 = .ok (.iload_n 1, 1) := dk_27 (dk_at dksX9_dark_0 1 rfl rfl)
theorem dX9_dark_2 : decode cX9_dark 2 = .ok (.invokevirtual 194, 3) := dk_182 0 194 (dk_at dksX9_dark_0 2 rfl rfl)
theorem dX9_dark_5 : decode cX9_dark 5 = .ok (.ifCond .eq 35, 3) := dk_153 0 35 (dk_at dksX9_dark_0 5 rfl rfl)
theorem dX9_dark_8 : decode cX9_dark 8 = .ok (.iload_n 2, 1) := dk_28 (dk_at dksX9_dark_0 8 rfl rfl)
theorem dX9_dark_9 : decode cX9_dark 9 = .ok (.i2l, 1) := dk_133 (dk_at dksX9_dark_0 9 rfl rfl)
theorem dX9_dark_10 : decode cX9_dark 10 = .ok (.lconst 0, 1) := dk_9 (dk_at dksX9_dark_0 10 rfl rfl)
theorem dX9_dark_11 : decode cX9_dark 11 = .ok (.ldc2_w 214, 3) := dk_20 0 214 (dk_at dksX9_dark_0 11 rfl rfl)
theorem dX9_dark_14 : decode cX9_dark 14 = .ok (.invokestatic 63, 3) := dk_184 0 63 (dk_at dksX9_dark_0 14 rfl rfl)
theorem dX9_dark_17 : decode cX9_dark 17 = .ok (.ifCond .eq 23, 3) := dk_153 0 23 (dk_at dksX9_dark_0 17 rfl rfl)
theorem dX9_dark_20 : decode cX9_dark 20 = .ok (.iload_n 3, 1) := dk_29 (dk_at dksX9_dark_0 20 rfl rfl)
theorem dX9_dark_21 : decode cX9_dark 21 = .ok (.i2l, 1) := dk_133 (dk_at dksX9_dark_0 21 rfl rfl)
theorem dX9_dark_22 : decode cX9_dark 22 = .ok (.lconst 0, 1) := dk_9 (dk_at dksX9_dark_0 22 rfl rfl)
theorem dX9_dark_23 : decode cX9_dark 23 = .ok (.ldc2_w 262, 3) := dk_20 1 6 (dk_at dksX9_dark_1 0 rfl rfl)
theorem dX9_dark_26 : decode cX9_dark 26 = .ok (.invokestatic 63, 3) := dk_184 0 63 (dk_at dksX9_dark_1 3 rfl rfl)
theorem dX9_dark_29 : decode cX9_dark 29 = .ok (.ifCond .eq 11, 3) := dk_153 0 11 (dk_at dksX9_dark_1 6 rfl rfl)
theorem dX9_dark_32 : decode cX9_dark 32 = .ok (.iload 4, 2) := dk_21 4 (dk_at dksX9_dark_1 9 rfl rfl)
theorem dX9_dark_34 : decode cX9_dark 34 = .ok (.invokestatic 216, 3) := dk_184 0 216 (dk_at dksX9_dark_1 11 rfl rfl)
theorem dX9_dark_37 : decode cX9_dark 37 = .ok (.ifCond .ne 7, 3) := dk_154 0 7 (dk_at dksX9_dark_1 14 rfl rfl)
theorem dX9_dark_40 : decode cX9_dark 40 = .ok (.ldc2_w 264, 3) := dk_20 1 8 (dk_at dksX9_dark_1 17 rfl rfl)
theorem dX9_dark_43 : decode cX9_dark 43 = .ok (.lreturn, 1) := dk_173 (dk_at dksX9_dark_1 20 rfl rfl)
theorem dX9_dark_44 : decode cX9_dark 44 = .ok (.aload_n 0, 1) := dk_42 (dk_at dksX9_dark_1 21 rfl rfl)
theorem dX9_dark_45 : decode cX9_dark 45 = .ok (.invokevirtual 219, 3) := dk_182 0 219 (dk_at dksX9_dark_2 0 rfl rfl)
theorem dX9_dark_48 : decode cX9_dark 48 = .ok (.aload_n 0, 1) := dk_42 (dk_at dksX9_dark_2 3 rfl rfl)
theorem dX9_dark_49 : decode cX9_dark 49 = .ok (.getfield 19, 3) := dk_180 0 19 (dk_at dksX9_dark_2 4 rfl rfl)
theorem dX9_dark_52 : decode cX9_dark 52 = .ok (.iconst 5, 1) := dk_8 (dk_at dksX9_dark_2 7 rfl rfl)
theorem dX9_dark_53 : decode cX9_dark 53 = .ok (.iaload, 1) := dk_46 (dk_at dksX9_dark_2 8 rfl rfl)
theorem dX9_dark_54 : decode cX9_dark 54 = .ok (.istore 5, 2) := dk_54 5 (dk_at dksX9_dark_2 9 rfl rfl)
theorem dX9_dark_56 : decode cX9_dark 56 = .ok (.lconst 0, 1) := dk_9 (dk_at dksX9_dark_2 11 rfl rfl)
theorem dX9_dark_57 : decode cX9_dark 57 = .ok (.lstore 6, 2) := dk_55 6 (dk_at dksX9_dark_2 12 rfl rfl)
theorem dX9_dark_59 : decode cX9_dark 59 = .ok (.lconst 1, 1) := dk_10 (dk_at dksX9_dark_2 14 rfl rfl)
theorem dX9_dark_60 : decode cX9_dark 60 = .ok (.lstore 8, 2) := dk_55 8 (dk_at dksX9_dark_2 15 rfl rfl)
theorem dX9_dark_62 : decode cX9_dark 62 = .ok (.iload 5, 2) := dk_21 5 (dk_at dksX9_dark_2 17 rfl rfl)
theorem dX9_dark_64 : decode cX9_dark 64 = .ok (.invokestatic 197, 3) := dk_184 0 197 (dk_at dksX9_dark_2 19 rfl rfl)
theorem dX9_dark_67 : decode cX9_dark 67 = .ok (.istore 10, 2) := dk_54 10 (dk_at dksX9_dark_2 22 rfl rfl)
theorem dX9_dark_69 : decode cX9_dark 69 = .ok (.iload 10, 2) := dk_21 10 (dk_at dksX9_dark_3 0 rfl rfl)
theorem dX9_dark_71 : decode cX9_dark 71 = .ok (.ifCond .le 17, 3) := dk_158 0 17 (dk_at dksX9_dark_3 2 rfl rfl)
theorem dX9_dark_74 : decode cX9_dark 74 = .ok (.lload 8, 2) := dk_22 8 (dk_at dksX9_dark_3 5 rfl rfl)
theorem dX9_dark_76 : decode cX9_dark 76 = .ok (.ldc2_w 262, 3) := dk_20 1 6 (dk_at dksX9_dark_3 7 rfl rfl)
theorem dX9_dark_79 : decode cX9_dark 79 = .ok (.lmul, 1) := dk_105 (dk_at dksX9_dark_3 10 rfl rfl)
theorem dX9_dark_80 : decode cX9_dark 80 = .ok (.lstore 8, 2) := dk_55 8 (dk_at dksX9_dark_3 11 rfl rfl)
theorem dX9_dark_82 : decode cX9_dark 82 = .ok (.iinc 10 (-1), 3) := dk_132 10 255 (dk_at dksX9_dark_3 13 rfl rfl)
theorem dX9_dark_85 : decode cX9_dark 85 = .ok (.goto (-16), 3) := dk_167 255 240 (dk_at dksX9_dark_3 16 rfl rfl)
theorem dX9_dark_88 : decode cX9_dark 88 = .ok (.iconst 0, 1) := dk_3 (dk_at dksX9_dark_3 19 rfl rfl)
theorem dX9_dark_89 : decode cX9_dark 89 = .ok (.istore 10, 2) := dk_54 10 (dk_at dksX9_dark_3 20 rfl rfl)
theorem dX9_dark_91 : decode cX9_dark 91 = .ok (.iload 10, 2) := dk_21 10 (dk_at dksX9_dark_3 22 rfl rfl)
theorem dX9_dark_93 : decode cX9_dark 93 = .ok (.iload 5, 2) := dk_21 5 (dk_at dksX9_dark_4 0 rfl rfl)
theorem dX9_dark_95 : decode cX9_dark 95 = .ok (.if_icmp .gt 114, 3) := dk_163 0 114 (dk_at dksX9_dark_4 2 rfl rfl)
theorem dX9_dark_98 : decode cX9_dark 98 = .ok (.iload 10, 2) := dk_21 10 (dk_at dksX9_dark_4 5 rfl rfl)
theorem dX9_dark_100 : decode cX9_dark 100 = .ok (.iload 5, 2) := dk_21 5 (dk_at dksX9_dark_4 7 rfl rfl)
theorem dX9_dark_102 : decode cX9_dark 102 = .ok (.iconst (-1), 1) := dk_2 (dk_at dksX9_dark_4 9 rfl rfl)
theorem dX9_dark_103 : decode cX9_dark 103 = .ok (.ixor, 1) := dk_130 (dk_at dksX9_dark_4 10 rfl rfl)
theorem dX9_dark_104 : decode cX9_dark 104 = .ok (.iand, 1) := dk_126 (dk_at dksX9_dark_4 11 rfl rfl)
theorem dX9_dark_105 : decode cX9_dark 105 = .ok (.ifCond .ne 98, 3) := dk_154 0 98 (dk_at dksX9_dark_4 12 rfl rfl)
theorem dX9_dark_108 : decode cX9_dark 108 = .ok (.lconst 1, 1) := dk_10 (dk_at dksX9_dark_4 15 rfl rfl)
theorem dX9_dark_109 : decode cX9_dark 109 = .ok (.lstore 11, 2) := dk_55 11 (dk_at dksX9_dark_4 16 rfl rfl)
theorem dX9_dark_111 : decode cX9_dark 111 = .ok (.iconst 0, 1) := dk_3 (dk_at dksX9_dark_4 18 rfl rfl)
theorem dX9_dark_112 : decode cX9_dark 112 = .ok (.istore 13, 2) := dk_54 13 (dk_at dksX9_dark_4 19 rfl rfl)
theorem dX9_dark_114 : decode cX9_dark 114 = .ok (.iload 13, 2) := dk_21 13 (dk_at dksX9_dark_4 21 rfl rfl)
theorem dX9_dark_116 : decode cX9_dark 116 = .ok (.aload_n 0, 1) := dk_42 (dk_at dksX9_dark_4 23 rfl rfl)
theorem dX9_dark_117 : decode cX9_dark 117 = .ok (.getfield 19, 3) := dk_180 0 19 (dk_at dksX9_dark_5 0 rfl rfl)
theorem dX9_dark_120 : decode cX9_dark 120 = .ok (.iconst 0, 1) := dk_3 (dk_at dksX9_dark_5 3 rfl rfl)
theorem dX9_dark_121 : decode cX9_dark 121 = .ok (.iaload, 1) := dk_46 (dk_at dksX9_dark_5 4 rfl rfl)
theorem dX9_dark_122 : decode cX9_dark 122 = .ok (.if_icmp .ge 48, 3) := dk_162 0 48 (dk_at dksX9_dark_5 5 rfl rfl)
theorem dX9_dark_125 : decode cX9_dark 125 = .ok (.lload 11, 2) := dk_22 11 (dk_at dksX9_dark_5 8 rfl rfl)
theorem dX9_dark_127 : decode cX9_dark 127 = .ok (.iload 5, 2) := dk_21 5 (dk_at dksX9_dark_5 10 rfl rfl)
theorem dX9_dark_129 : decode cX9_dark 129 = .ok (.iload 13, 2) := dk_21 13 (dk_at dksX9_dark_5 12 rfl rfl)
theorem dX9_dark_131 : decode cX9_dark 131 = .ok (.invokestatic 154, 3) := dk_184 0 154 (dk_at dksX9_dark_5 14 rfl rfl)
theorem dX9_dark_134 : decode cX9_dark 134 = .ok (.ifCond .ne 7, 3) := dk_154 0 7 (dk_at dksX9_dark_5 17 rfl rfl)
theorem dX9_dark_137 : decode cX9_dark 137 = .ok (.lconst 1, 1) := dk_10 (dk_at dksX9_dark_5 20 rfl rfl)
theorem dX9_dark_138 : decode cX9_dark 138 = .ok (.goto 23, 3) := dk_167 0 23 (dk_at dksX9_dark_5 21 rfl rfl)
theorem dX9_dark_141 : decode cX9_dark 141 = .ok (.iload 10, 2) := dk_21 10 (dk_at dksX9_dark_6 0 rfl rfl)
theorem dX9_dark_143 : decode cX9_dark 143 = .ok (.iload 13, 2) := dk_21 13 (dk_at dksX9_dark_6 2 rfl rfl)
theorem dX9_dark_145 : decode cX9_dark 145 = .ok (.invokestatic 154, 3) := dk_184 0 154 (dk_at dksX9_dark_6 4 rfl rfl)
theorem dX9_dark_148 : decode cX9_dark 148 = .ok (.ifCond .eq 8, 3) := dk_153 0 8 (dk_at dksX9_dark_6 7 rfl rfl)
theorem dX9_dark_151 : decode cX9_dark 151 = .ok (.iload_n 3, 1) := dk_29 (dk_at dksX9_dark_6 10 rfl rfl)
theorem dX9_dark_152 : decode cX9_dark 152 = .ok (.i2l, 1) := dk_133 (dk_at dksX9_dark_6 11 rfl rfl)
theorem dX9_dark_153 : decode cX9_dark 153 = .ok (.goto 8, 3) := dk_167 0 8 (dk_at dksX9_dark_6 12 rfl rfl)
theorem dX9_dark_156 : decode cX9_dark 156 = .ok (.bipush 10, 2) := dk_16 10 (dk_at dksX9_dark_6 15 rfl rfl)
theorem dX9_dark_158 : decode cX9_dark 158 = .ok (.iload_n 3, 1) := dk_29 (dk_at dksX9_dark_6 17 rfl rfl)
theorem dX9_dark_159 : decode cX9_dark 159 = .ok (.isub, 1) := dk_100 (dk_at dksX9_dark_6 18 rfl rfl)
theorem dX9_dark_160 : decode cX9_dark 160 = .ok (.i2l, 1) := dk_133 (dk_at dksX9_dark_6 19 rfl rfl)
theorem dX9_dark_161 : decode cX9_dark 161 = .ok (.lmul, 1) := dk_105 (dk_at dksX9_dark_6 20 rfl rfl)
theorem dX9_dark_162 : decode cX9_dark 162 = .ok (.lstore 11, 2) := dk_55 11 (dk_at dksX9_dark_6 21 rfl rfl)
theorem dX9_dark_164 : decode cX9_dark 164 = .ok (.iinc 13 1, 3) := dk_132 13 1 (dk_at dksX9_dark_7 0 rfl rfl)
theorem dX9_dark_167 : decode cX9_dark 167 = .ok (.goto (-53), 3) := dk_167 255 203 (dk_at dksX9_dark_7 3 rfl rfl)
theorem dX9_dark_170 : decode cX9_dark 170 = .ok (.aload_n 0, 1) := dk_42 (dk_at dksX9_dark_7 6 rfl rfl)
theorem dX9_dark_171 : decode cX9_dark 171 = .ok (.getfield 19, 3) := dk_180 0 19 (dk_at dksX9_dark_7 7 rfl rfl)
theorem dX9_dark_174 : decode cX9_dark 174 = .ok (.iconst 5, 1) := dk_8 (dk_at dksX9_dark_7 10 rfl rfl)
theorem dX9_dark_175 : decode cX9_dark 175 = .ok (.iload 5, 2) := dk_21 5 (dk_at dksX9_dark_7 11 rfl rfl)
theorem dX9_dark_177 : decode cX9_dark 177 = .ok (.iload 10, 2) := dk_21 10 (dk_at dksX9_dark_7 13 rfl rfl)
theorem dX9_dark_179 : decode cX9_dark 179 = .ok (.iconst (-1), 1) := dk_2 (dk_at dksX9_dark_7 15 rfl rfl)
theorem dX9_dark_180 : decode cX9_dark 180 = .ok (.ixor, 1) := dk_130 (dk_at dksX9_dark_7 16 rfl rfl)
theorem dX9_dark_181 : decode cX9_dark 181 = .ok (.iand, 1) := dk_126 (dk_at dksX9_dark_7 17 rfl rfl)
theorem dX9_dark_182 : decode cX9_dark 182 = .ok (.iastore, 1) := dk_79 (dk_at dksX9_dark_7 18 rfl rfl)
theorem dX9_dark_183 : decode cX9_dark 183 = .ok (.lload 6, 2) := dk_22 6 (dk_at dksX9_dark_7 19 rfl rfl)
theorem dX9_dark_185 : decode cX9_dark 185 = .ok (.aload_n 0, 1) := dk_42 (dk_at dksX9_dark_7 21 rfl rfl)
theorem dX9_dark_186 : decode cX9_dark 186 = .ok (.iload_n 1, 1) := dk_27 (dk_at dksX9_dark_7 22 rfl rfl)
theorem dX9_dark_187 : decode cX9_dark 187 = .ok (.iload_n 2, 1) := dk_28 (dk_at dksX9_dark_7 23 rfl rfl)
theorem dX9_dark_188 : decode cX9_dark 188 = .ok (.invokevirtual 242, 3) := dk_182 0 242 (dk_at dksX9_dark_8 0 rfl rfl)
theorem dX9_dark_191 : decode cX9_dark 191 = .ok (.ifCond .le 8, 3) := dk_158 0 8 (dk_at dksX9_dark_8 3 rfl rfl)
theorem dX9_dark_194 : decode cX9_dark 194 = .ok (.lload 11, 2) := dk_22 11 (dk_at dksX9_dark_8 6 rfl rfl)
theorem dX9_dark_196 : decode cX9_dark 196 = .ok (.goto 4, 3) := dk_167 0 4 (dk_at dksX9_dark_8 8 rfl rfl)
theorem dX9_dark_199 : decode cX9_dark 199 = .ok (.lconst 0, 1) := dk_9 (dk_at dksX9_dark_8 11 rfl rfl)
theorem dX9_dark_200 : decode cX9_dark 200 = .ok (.ladd, 1) := dk_97 (dk_at dksX9_dark_8 12 rfl rfl)
theorem dX9_dark_201 : decode cX9_dark 201 = .ok (.lstore 6, 2) := dk_55 6 (dk_at dksX9_dark_8 13 rfl rfl)
theorem dX9_dark_203 : decode cX9_dark 203 = .ok (.iinc 10 1, 3) := dk_132 10 1 (dk_at dksX9_dark_8 15 rfl rfl)
theorem dX9_dark_206 : decode cX9_dark 206 = .ok (.goto (-115), 3) := dk_167 255 141 (dk_at dksX9_dark_8 18 rfl rfl)
theorem dX9_dark_209 : decode cX9_dark 209 = .ok (.lload 6, 2) := dk_22 6 (dk_at dksX9_dark_8 21 rfl rfl)
theorem dX9_dark_211 : decode cX9_dark 211 = .ok (.lstore 10, 2) := dk_55 10 (dk_at dksX9_dark_9 0 rfl rfl)
theorem dX9_dark_213 : decode cX9_dark 213 = .ok (.lload 8, 2) := dk_22 8 (dk_at dksX9_dark_9 2 rfl rfl)
theorem dX9_dark_215 : decode cX9_dark 215 = .ok (.lstore 12, 2) := dk_55 12 (dk_at dksX9_dark_9 4 rfl rfl)
theorem dX9_dark_217 : decode cX9_dark 217 = .ok (.lload 12, 2) := dk_22 12 (dk_at dksX9_dark_9 6 rfl rfl)
theorem dX9_dark_219 : decode cX9_dark 219 = .ok (.lconst 0, 1) := dk_9 (dk_at dksX9_dark_9 8 rfl rfl)
theorem dX9_dark_220 : decode cX9_dark 220 = .ok (.lcmp, 1) := dk_148 (dk_at dksX9_dark_9 9 rfl rfl)
theorem dX9_dark_221 : decode cX9_dark 221 = .ok (.ifCond .eq 21, 3) := dk_153 0 21 (dk_at dksX9_dark_9 10 rfl rfl)
theorem dX9_dark_224 : decode cX9_dark 224 = .ok (.lload 10, 2) := dk_22 10 (dk_at dksX9_dark_9 13 rfl rfl)
theorem dX9_dark_226 : decode cX9_dark 226 = .ok (.lload 12, 2) := dk_22 12 (dk_at dksX9_dark_9 15 rfl rfl)
theorem dX9_dark_228 : decode cX9_dark 228 = .ok (.lrem, 1) := dk_113 (dk_at dksX9_dark_9 17 rfl rfl)
theorem dX9_dark_229 : decode cX9_dark 229 = .ok (.lstore 14, 2) := dk_55 14 (dk_at dksX9_dark_9 18 rfl rfl)
theorem dX9_dark_231 : decode cX9_dark 231 = .ok (.lload 12, 2) := dk_22 12 (dk_at dksX9_dark_9 20 rfl rfl)
theorem dX9_dark_233 : decode cX9_dark 233 = .ok (.lstore 10, 2) := dk_55 10 (dk_at dksX9_dark_9 22 rfl rfl)
theorem dX9_dark_235 : decode cX9_dark 235 = .ok (.lload 14, 2) := dk_22 14 (dk_at dksX9_dark_10 0 rfl rfl)
theorem dX9_dark_237 : decode cX9_dark 237 = .ok (.lstore 12, 2) := dk_55 12 (dk_at dksX9_dark_10 2 rfl rfl)
theorem dX9_dark_239 : decode cX9_dark 239 = .ok (.goto (-22), 3) := dk_167 255 234 (dk_at dksX9_dark_10 4 rfl rfl)
theorem dX9_dark_242 : decode cX9_dark 242 = .ok (.iload 4, 2) := dk_21 4 (dk_at dksX9_dark_10 7 rfl rfl)
theorem dX9_dark_244 : decode cX9_dark 244 = .ok (.ifCond .ne 11, 3) := dk_154 0 11 (dk_at dksX9_dark_10 9 rfl rfl)
theorem dX9_dark_247 : decode cX9_dark 247 = .ok (.lload 6, 2) := dk_22 6 (dk_at dksX9_dark_10 12 rfl rfl)
theorem dX9_dark_249 : decode cX9_dark 249 = .ok (.lload 10, 2) := dk_22 10 (dk_at dksX9_dark_10 14 rfl rfl)
theorem dX9_dark_251 : decode cX9_dark 251 = .ok (.ldiv, 1) := dk_109 (dk_at dksX9_dark_10 16 rfl rfl)
theorem dX9_dark_252 : decode cX9_dark 252 = .ok (.goto 8, 3) := dk_167 0 8 (dk_at dksX9_dark_10 17 rfl rfl)
theorem dX9_dark_255 : decode cX9_dark 255 = .ok (.lload 8, 2) := dk_22 8 (dk_at dksX9_dark_10 20 rfl rfl)
theorem dX9_dark_257 : decode cX9_dark 257 = .ok (.lload 10, 2) := dk_22 10 (dk_at dksX9_dark_10 22 rfl rfl)
theorem dX9_dark_259 : decode cX9_dark 259 = .ok (.ldiv, 1) := dk_109 (dk_at dksX9_dark_11 0 rfl rfl)
theorem dX9_dark_260 : decode cX9_dark 260 = .ok (.lreturn, 1) := dk_173 (dk_at dksX9_dark_11 1 rfl rfl)
abbrev cX9_drawn : ByteArray := prog_16_method_75_code
def yX9_drawn : MethodName := ⟨RX9, "drawn", "(III)I"⟩
def dkwX9_drawn_9 : List UInt8 := [184, 0, 197, 54, 6, 42, 182, 0, 211, 21, 6, 172]
abbrev dktX9_drawn_9 : List UInt8 := dkwX9_drawn_9 ++ []
def dkwX9_drawn_8 : List UInt8 := [182, 0, 187, 132, 6, 1, 167, 255, 120, 29, 154, 0, 10, 42, 182, 0, 190, 167, 0, 10, 42, 182, 0, 222]
abbrev dktX9_drawn_8 : List UInt8 := dkwX9_drawn_8 ++ dktX9_drawn_9
def dkwX9_drawn_7 : List UInt8 := [180, 0, 19, 6, 46, 162, 0, 16, 42, 180, 0, 19, 8, 92, 46, 4, 21, 7, 120, 128, 79, 42]
abbrev dktX9_drawn_7 : List UInt8 := dkwX9_drawn_7 ++ dktX9_drawn_8
def dkwX9_drawn_6 : List UInt8 := [167, 0, 45, 22, 4, 20, 0, 206, 113, 9, 148, 154, 0, 34, 42, 180, 0, 19, 8, 46, 184, 0, 197, 42]
abbrev dktX9_drawn_6 : List UInt8 := dkwX9_drawn_6 ++ dktX9_drawn_7
def dkwX9_drawn_5 : List UInt8 := [180, 0, 19, 8, 46, 4, 21, 7, 120, 2, 130, 126, 167, 0, 9, 42, 180, 0, 19, 8, 46, 79]
abbrev dktX9_drawn_5 : List UInt8 := dkwX9_drawn_5 ++ dktX9_drawn_6
def dkwX9_drawn_4 : List UInt8 := [184, 0, 154, 153, 0, 45, 42, 180, 0, 19, 8, 22, 4, 20, 1, 16, 113, 9, 148, 154, 0, 19, 42]
abbrev dktX9_drawn_4 : List UInt8 := dkwX9_drawn_4 ++ dktX9_drawn_5
def dkwX9_drawn_3 : List UInt8 := [55, 4, 22, 4, 42, 180, 0, 19, 3, 46, 133, 113, 136, 54, 7, 42, 180, 0, 19, 8, 46, 21, 7]
abbrev dktX9_drawn_3 : List UInt8 := dkwX9_drawn_3 ++ dktX9_drawn_4
def dkwX9_drawn_2 : List UInt8 := [28, 133, 55, 4, 3, 54, 6, 21, 6, 27, 162, 0, 136, 22, 4, 20, 1, 12, 105, 20, 1, 14, 113]
abbrev dktX9_drawn_2 : List UInt8 := dkwX9_drawn_2 ++ dktX9_drawn_3
def dkwX9_drawn_1 : List UInt8 := [10, 20, 1, 10, 184, 0, 63, 153, 0, 10, 29, 184, 0, 216, 154, 0, 6, 18, 73, 172, 42, 182, 0, 219]
abbrev dktX9_drawn_1 : List UInt8 := dkwX9_drawn_1 ++ dktX9_drawn_2
def dkwX9_drawn_0 : List UInt8 := [42, 180, 0, 147, 154, 0, 6, 18, 181, 172, 27, 133, 9, 20, 0, 214, 184, 0, 63, 153, 0, 22, 28, 133]
abbrev dktX9_drawn_0 : List UInt8 := dkwX9_drawn_0 ++ dktX9_drawn_1
theorem dksX9_drawn_0 : cX9_drawn.data.toList.drop 0 = dktX9_drawn_0 := by decide +kernel
theorem dksX9_drawn_1 : cX9_drawn.data.toList.drop 24 = dktX9_drawn_1 := dk_seg dksX9_drawn_0 24 rfl rfl
theorem dksX9_drawn_2 : cX9_drawn.data.toList.drop 48 = dktX9_drawn_2 := dk_seg dksX9_drawn_1 24 rfl rfl
theorem dksX9_drawn_3 : cX9_drawn.data.toList.drop 71 = dktX9_drawn_3 := dk_seg dksX9_drawn_2 23 rfl rfl
theorem dksX9_drawn_4 : cX9_drawn.data.toList.drop 94 = dktX9_drawn_4 := dk_seg dksX9_drawn_3 23 rfl rfl
theorem dksX9_drawn_5 : cX9_drawn.data.toList.drop 117 = dktX9_drawn_5 := dk_seg dksX9_drawn_4 23 rfl rfl
theorem dksX9_drawn_6 : cX9_drawn.data.toList.drop 139 = dktX9_drawn_6 := dk_seg dksX9_drawn_5 22 rfl rfl
theorem dksX9_drawn_7 : cX9_drawn.data.toList.drop 163 = dktX9_drawn_7 := dk_seg dksX9_drawn_6 24 rfl rfl
theorem dksX9_drawn_8 : cX9_drawn.data.toList.drop 185 = dktX9_drawn_8 := dk_seg dksX9_drawn_7 22 rfl rfl
theorem dksX9_drawn_9 : cX9_drawn.data.toList.drop 209 = dktX9_drawn_9 := dk_seg dksX9_drawn_8 24 rfl rfl
theorem dX9_drawn_0 : decode cX9_drawn 0 = .ok (.aload_n 0, 1) := dk_42 (dk_at dksX9_drawn_0 0 rfl rfl)
theorem dX9_drawn_1 : decode cX9_drawn 1 = .ok (.getfield 147, 3) := dk_180 0 147 (dk_at dksX9_drawn_0 1 rfl rfl)
theorem dX9_drawn_4 : decode cX9_drawn 4 = .ok (.ifCond .ne 6, 3) := dk_154 0 6 (dk_at dksX9_drawn_0 4 rfl rfl)
theorem dX9_drawn_7 : decode cX9_drawn 7 = .ok (.ldc 181, 2) := dk_18 181 (dk_at dksX9_drawn_0 7 rfl rfl)
theorem dX9_drawn_9 : decode cX9_drawn 9 = .ok (.ireturn, 1) := dk_172 (dk_at dksX9_drawn_0 9 rfl rfl)
theorem dX9_drawn_10 : decode cX9_drawn 10 = .ok (.iload_n 1, 1) := dk_27 (dk_at dksX9_drawn_0 10 rfl rfl)
theorem dX9_drawn_11 : decode cX9_drawn 11 = .ok (.i2l, 1) := dk_133 (dk_at dksX9_drawn_0 11 rfl rfl)
theorem dX9_drawn_12 : decode cX9_drawn 12 = .ok (.lconst 0, 1) := dk_9 (dk_at dksX9_drawn_0 12 rfl rfl)
theorem dX9_drawn_13 : decode cX9_drawn 13 = .ok (.ldc2_w 214, 3) := dk_20 0 214 (dk_at dksX9_drawn_0 13 rfl rfl)
theorem dX9_drawn_16 : decode cX9_drawn 16 = .ok (.invokestatic 63, 3) := dk_184 0 63 (dk_at dksX9_drawn_0 16 rfl rfl)
theorem dX9_drawn_19 : decode cX9_drawn 19 = .ok (.ifCond .eq 22, 3) := dk_153 0 22 (dk_at dksX9_drawn_0 19 rfl rfl)
theorem dX9_drawn_22 : decode cX9_drawn 22 = .ok (.iload_n 2, 1) := dk_28 (dk_at dksX9_drawn_0 22 rfl rfl)
theorem dX9_drawn_23 : decode cX9_drawn 23 = .ok (.i2l, 1) := dk_133 (dk_at dksX9_drawn_0 23 rfl rfl)
theorem dX9_drawn_24 : decode cX9_drawn 24 = .ok (.lconst 1, 1) := dk_10 (dk_at dksX9_drawn_1 0 rfl rfl)
theorem dX9_drawn_25 : decode cX9_drawn 25 = .ok (.ldc2_w 266, 3) := dk_20 1 10 (dk_at dksX9_drawn_1 1 rfl rfl)
theorem dX9_drawn_28 : decode cX9_drawn 28 = .ok (.invokestatic 63, 3) := dk_184 0 63 (dk_at dksX9_drawn_1 4 rfl rfl)
theorem dX9_drawn_31 : decode cX9_drawn 31 = .ok (.ifCond .eq 10, 3) := dk_153 0 10 (dk_at dksX9_drawn_1 7 rfl rfl)
theorem dX9_drawn_34 : decode cX9_drawn 34 = .ok (.iload_n 3, 1) := dk_29 (dk_at dksX9_drawn_1 10 rfl rfl)
theorem dX9_drawn_35 : decode cX9_drawn 35 = .ok (.invokestatic 216, 3) := dk_184 0 216 (dk_at dksX9_drawn_1 11 rfl rfl)
theorem dX9_drawn_38 : decode cX9_drawn 38 = .ok (.ifCond .ne 6, 3) := dk_154 0 6 (dk_at dksX9_drawn_1 14 rfl rfl)
theorem dX9_drawn_41 : decode cX9_drawn 41 = .ok (.ldc 73, 2) := dk_18 73 (dk_at dksX9_drawn_1 17 rfl rfl)
theorem dX9_drawn_43 : decode cX9_drawn 43 = .ok (.ireturn, 1) := dk_172 (dk_at dksX9_drawn_1 19 rfl rfl)
theorem dX9_drawn_44 : decode cX9_drawn 44 = .ok (.aload_n 0, 1) := dk_42 (dk_at dksX9_drawn_1 20 rfl rfl)
theorem dX9_drawn_45 : decode cX9_drawn 45 = .ok (.invokevirtual 219, 3) := dk_182 0 219 (dk_at dksX9_drawn_1 21 rfl rfl)
theorem dX9_drawn_48 : decode cX9_drawn 48 = .ok (.iload_n 2, 1) := dk_28 (dk_at dksX9_drawn_2 0 rfl rfl)
theorem dX9_drawn_49 : decode cX9_drawn 49 = .ok (.i2l, 1) := dk_133 (dk_at dksX9_drawn_2 1 rfl rfl)
theorem dX9_drawn_50 : decode cX9_drawn 50 = .ok (.lstore 4, 2) := dk_55 4 (dk_at dksX9_drawn_2 2 rfl rfl)
theorem dX9_drawn_52 : decode cX9_drawn 52 = .ok (.iconst 0, 1) := dk_3 (dk_at dksX9_drawn_2 4 rfl rfl)
theorem dX9_drawn_53 : decode cX9_drawn 53 = .ok (.istore 6, 2) := dk_54 6 (dk_at dksX9_drawn_2 5 rfl rfl)
theorem dX9_drawn_55 : decode cX9_drawn 55 = .ok (.iload 6, 2) := dk_21 6 (dk_at dksX9_drawn_2 7 rfl rfl)
theorem dX9_drawn_57 : decode cX9_drawn 57 = .ok (.iload_n 1, 1) := dk_27 (dk_at dksX9_drawn_2 9 rfl rfl)
theorem dX9_drawn_58 : decode cX9_drawn 58 = .ok (.if_icmp .ge 136, 3) := dk_162 0 136 (dk_at dksX9_drawn_2 10 rfl rfl)
theorem dX9_drawn_61 : decode cX9_drawn 61 = .ok (.lload 4, 2) := dk_22 4 (dk_at dksX9_drawn_2 13 rfl rfl)
theorem dX9_drawn_63 : decode cX9_drawn 63 = .ok (.ldc2_w 268, 3) := dk_20 1 12 (dk_at dksX9_drawn_2 15 rfl rfl)
theorem dX9_drawn_66 : decode cX9_drawn 66 = .ok (.lmul, 1) := dk_105 (dk_at dksX9_drawn_2 18 rfl rfl)
theorem dX9_drawn_67 : decode cX9_drawn 67 = .ok (.ldc2_w 270, 3) := dk_20 1 14 (dk_at dksX9_drawn_2 19 rfl rfl)
theorem dX9_drawn_70 : decode cX9_drawn 70 = .ok (.lrem, 1) := dk_113 (dk_at dksX9_drawn_2 22 rfl rfl)
theorem dX9_drawn_71 : decode cX9_drawn 71 = .ok (.lstore 4, 2) := dk_55 4 (dk_at dksX9_drawn_3 0 rfl rfl)
theorem dX9_drawn_73 : decode cX9_drawn 73 = .ok (.lload 4, 2) := dk_22 4 (dk_at dksX9_drawn_3 2 rfl rfl)
theorem dX9_drawn_75 : decode cX9_drawn 75 = .ok (.aload_n 0, 1) := dk_42 (dk_at dksX9_drawn_3 4 rfl rfl)
theorem dX9_drawn_76 : decode cX9_drawn 76 = .ok (.getfield 19, 3) := dk_180 0 19 (dk_at dksX9_drawn_3 5 rfl rfl)
theorem dX9_drawn_79 : decode cX9_drawn 79 = .ok (.iconst 0, 1) := dk_3 (dk_at dksX9_drawn_3 8 rfl rfl)
theorem dX9_drawn_80 : decode cX9_drawn 80 = .ok (.iaload, 1) := dk_46 (dk_at dksX9_drawn_3 9 rfl rfl)
theorem dX9_drawn_81 : decode cX9_drawn 81 = .ok (.i2l, 1) := dk_133 (dk_at dksX9_drawn_3 10 rfl rfl)
theorem dX9_drawn_82 : decode cX9_drawn 82 = .ok (.lrem, 1) := dk_113 (dk_at dksX9_drawn_3 11 rfl rfl)
theorem dX9_drawn_83 : decode cX9_drawn 83 = .ok (.l2i, 1) := dk_136 (dk_at dksX9_drawn_3 12 rfl rfl)
theorem dX9_drawn_84 : decode cX9_drawn 84 = .ok (.istore 7, 2) := dk_54 7 (dk_at dksX9_drawn_3 13 rfl rfl)
theorem dX9_drawn_86 : decode cX9_drawn 86 = .ok (.aload_n 0, 1) := dk_42 (dk_at dksX9_drawn_3 15 rfl rfl)
theorem dX9_drawn_87 : decode cX9_drawn 87 = .ok (.getfield 19, 3) := dk_180 0 19 (dk_at dksX9_drawn_3 16 rfl rfl)
theorem dX9_drawn_90 : decode cX9_drawn 90 = .ok (.iconst 5, 1) := dk_8 (dk_at dksX9_drawn_3 19 rfl rfl)
theorem dX9_drawn_91 : decode cX9_drawn 91 = .ok (.iaload, 1) := dk_46 (dk_at dksX9_drawn_3 20 rfl rfl)
theorem dX9_drawn_92 : decode cX9_drawn 92 = .ok (.iload 7, 2) := dk_21 7 (dk_at dksX9_drawn_3 21 rfl rfl)
theorem dX9_drawn_94 : decode cX9_drawn 94 = .ok (.invokestatic 154, 3) := dk_184 0 154 (dk_at dksX9_drawn_4 0 rfl rfl)
theorem dX9_drawn_97 : decode cX9_drawn 97 = .ok (.ifCond .eq 45, 3) := dk_153 0 45 (dk_at dksX9_drawn_4 3 rfl rfl)
theorem dX9_drawn_100 : decode cX9_drawn 100 = .ok (.aload_n 0, 1) := dk_42 (dk_at dksX9_drawn_4 6 rfl rfl)
theorem dX9_drawn_101 : decode cX9_drawn 101 = .ok (.getfield 19, 3) := dk_180 0 19 (dk_at dksX9_drawn_4 7 rfl rfl)
theorem dX9_drawn_104 : decode cX9_drawn 104 = .ok (.iconst 5, 1) := dk_8 (dk_at dksX9_drawn_4 10 rfl rfl)
theorem dX9_drawn_105 : decode cX9_drawn 105 = .ok (.lload 4, 2) := dk_22 4 (dk_at dksX9_drawn_4 11 rfl rfl)
theorem dX9_drawn_107 : decode cX9_drawn 107 = .ok (.ldc2_w 272, 3) := dk_20 1 16 (dk_at dksX9_drawn_4 13 rfl rfl)
theorem dX9_drawn_110 : decode cX9_drawn 110 = .ok (.lrem, 1) := dk_113 (dk_at dksX9_drawn_4 16 rfl rfl)
theorem dX9_drawn_111 : decode cX9_drawn 111 = .ok (.lconst 0, 1) := dk_9 (dk_at dksX9_drawn_4 17 rfl rfl)
theorem dX9_drawn_112 : decode cX9_drawn 112 = .ok (.lcmp, 1) := dk_148 (dk_at dksX9_drawn_4 18 rfl rfl)
theorem dX9_drawn_113 : decode cX9_drawn 113 = .ok (.ifCond .ne 19, 3) := dk_154 0 19 (dk_at dksX9_drawn_4 19 rfl rfl)
theorem dX9_drawn_116 : decode cX9_drawn 116 = .ok (.aload_n 0, 1) := dk_42 (dk_at dksX9_drawn_4 22 rfl rfl)
theorem dX9_drawn_117 : decode cX9_drawn 117 = .ok (.getfield 19, 3) := dk_180 0 19 (dk_at dksX9_drawn_5 0 rfl rfl)
theorem dX9_drawn_120 : decode cX9_drawn 120 = .ok (.iconst 5, 1) := dk_8 (dk_at dksX9_drawn_5 3 rfl rfl)
theorem dX9_drawn_121 : decode cX9_drawn 121 = .ok (.iaload, 1) := dk_46 (dk_at dksX9_drawn_5 4 rfl rfl)
theorem dX9_drawn_122 : decode cX9_drawn 122 = .ok (.iconst 1, 1) := dk_4 (dk_at dksX9_drawn_5 5 rfl rfl)
theorem dX9_drawn_123 : decode cX9_drawn 123 = .ok (.iload 7, 2) := dk_21 7 (dk_at dksX9_drawn_5 6 rfl rfl)
theorem dX9_drawn_125 : decode cX9_drawn 125 = .ok (.ishl, 1) := dk_120 (dk_at dksX9_drawn_5 8 rfl rfl)
theorem dX9_drawn_126 : decode cX9_drawn 126 = .ok (.iconst (-1), 1) := dk_2 (dk_at dksX9_drawn_5 9 rfl rfl)
theorem dX9_drawn_127 : decode cX9_drawn 127 = .ok (.ixor, 1) := dk_130 (dk_at dksX9_drawn_5 10 rfl rfl)
theorem dX9_drawn_128 : decode cX9_drawn 128 = .ok (.iand, 1) := dk_126 (dk_at dksX9_drawn_5 11 rfl rfl)
theorem dX9_drawn_129 : decode cX9_drawn 129 = .ok (.goto 9, 3) := dk_167 0 9 (dk_at dksX9_drawn_5 12 rfl rfl)
theorem dX9_drawn_132 : decode cX9_drawn 132 = .ok (.aload_n 0, 1) := dk_42 (dk_at dksX9_drawn_5 15 rfl rfl)
theorem dX9_drawn_133 : decode cX9_drawn 133 = .ok (.getfield 19, 3) := dk_180 0 19 (dk_at dksX9_drawn_5 16 rfl rfl)
theorem dX9_drawn_136 : decode cX9_drawn 136 = .ok (.iconst 5, 1) := dk_8 (dk_at dksX9_drawn_5 19 rfl rfl)
theorem dX9_drawn_137 : decode cX9_drawn 137 = .ok (.iaload, 1) := dk_46 (dk_at dksX9_drawn_5 20 rfl rfl)
theorem dX9_drawn_138 : decode cX9_drawn 138 = .ok (.iastore, 1) := dk_79 (dk_at dksX9_drawn_5 21 rfl rfl)
theorem dX9_drawn_139 : decode cX9_drawn 139 = .ok (.goto 45, 3) := dk_167 0 45 (dk_at dksX9_drawn_6 0 rfl rfl)
theorem dX9_drawn_142 : decode cX9_drawn 142 = .ok (.lload 4, 2) := dk_22 4 (dk_at dksX9_drawn_6 3 rfl rfl)
theorem dX9_drawn_144 : decode cX9_drawn 144 = .ok (.ldc2_w 206, 3) := dk_20 0 206 (dk_at dksX9_drawn_6 5 rfl rfl)
theorem dX9_drawn_147 : decode cX9_drawn 147 = .ok (.lrem, 1) := dk_113 (dk_at dksX9_drawn_6 8 rfl rfl)
theorem dX9_drawn_148 : decode cX9_drawn 148 = .ok (.lconst 0, 1) := dk_9 (dk_at dksX9_drawn_6 9 rfl rfl)
theorem dX9_drawn_149 : decode cX9_drawn 149 = .ok (.lcmp, 1) := dk_148 (dk_at dksX9_drawn_6 10 rfl rfl)
theorem dX9_drawn_150 : decode cX9_drawn 150 = .ok (.ifCond .ne 34, 3) := dk_154 0 34 (dk_at dksX9_drawn_6 11 rfl rfl)
theorem dX9_drawn_153 : decode cX9_drawn 153 = .ok (.aload_n 0, 1) := dk_42 (dk_at dksX9_drawn_6 14 rfl rfl)
theorem dX9_drawn_154 : decode cX9_drawn 154 = .ok (.getfield 19, 3) := dk_180 0 19 (dk_at dksX9_drawn_6 15 rfl rfl)
theorem dX9_drawn_157 : decode cX9_drawn 157 = .ok (.iconst 5, 1) := dk_8 (dk_at dksX9_drawn_6 18 rfl rfl)
theorem dX9_drawn_158 : decode cX9_drawn 158 = .ok (.iaload, 1) := dk_46 (dk_at dksX9_drawn_6 19 rfl rfl)
theorem dX9_drawn_159 : decode cX9_drawn 159 = .ok (.invokestatic 197, 3) := dk_184 0 197 (dk_at dksX9_drawn_6 20 rfl rfl)
theorem dX9_drawn_162 : decode cX9_drawn 162 = .ok (.aload_n 0, 1) := dk_42 (dk_at dksX9_drawn_6 23 rfl rfl)
theorem dX9_drawn_163 : decode cX9_drawn 163 = .ok (.getfield 19, 3) := dk_180 0 19 (dk_at dksX9_drawn_7 0 rfl rfl)
theorem dX9_drawn_166 : decode cX9_drawn 166 = .ok (.iconst 3, 1) := dk_6 (dk_at dksX9_drawn_7 3 rfl rfl)
theorem dX9_drawn_167 : decode cX9_drawn 167 = .ok (.iaload, 1) := dk_46 (dk_at dksX9_drawn_7 4 rfl rfl)
theorem dX9_drawn_168 : decode cX9_drawn 168 = .ok (.if_icmp .ge 16, 3) := dk_162 0 16 (dk_at dksX9_drawn_7 5 rfl rfl)
theorem dX9_drawn_171 : decode cX9_drawn 171 = .ok (.aload_n 0, 1) := dk_42 (dk_at dksX9_drawn_7 8 rfl rfl)
theorem dX9_drawn_172 : decode cX9_drawn 172 = .ok (.getfield 19, 3) := dk_180 0 19 (dk_at dksX9_drawn_7 9 rfl rfl)
theorem dX9_drawn_175 : decode cX9_drawn 175 = .ok (.iconst 5, 1) := dk_8 (dk_at dksX9_drawn_7 12 rfl rfl)
theorem dX9_drawn_176 : decode cX9_drawn 176 = .ok (.dup2, 1) := dk_92 (dk_at dksX9_drawn_7 13 rfl rfl)
theorem dX9_drawn_177 : decode cX9_drawn 177 = .ok (.iaload, 1) := dk_46 (dk_at dksX9_drawn_7 14 rfl rfl)
theorem dX9_drawn_178 : decode cX9_drawn 178 = .ok (.iconst 1, 1) := dk_4 (dk_at dksX9_drawn_7 15 rfl rfl)
theorem dX9_drawn_179 : decode cX9_drawn 179 = .ok (.iload 7, 2) := dk_21 7 (dk_at dksX9_drawn_7 16 rfl rfl)
theorem dX9_drawn_181 : decode cX9_drawn 181 = .ok (.ishl, 1) := dk_120 (dk_at dksX9_drawn_7 18 rfl rfl)
theorem dX9_drawn_182 : decode cX9_drawn 182 = .ok (.ior, 1) := dk_128 (dk_at dksX9_drawn_7 19 rfl rfl)
theorem dX9_drawn_183 : decode cX9_drawn 183 = .ok (.iastore, 1) := dk_79 (dk_at dksX9_drawn_7 20 rfl rfl)
theorem dX9_drawn_184 : decode cX9_drawn 184 = .ok (.aload_n 0, 1) := dk_42 (dk_at dksX9_drawn_7 21 rfl rfl)
theorem dX9_drawn_185 : decode cX9_drawn 185 = .ok (.invokevirtual 187, 3) := dk_182 0 187 (dk_at dksX9_drawn_8 0 rfl rfl)
theorem dX9_drawn_188 : decode cX9_drawn 188 = .ok (.iinc 6 1, 3) := dk_132 6 1 (dk_at dksX9_drawn_8 3 rfl rfl)
theorem dX9_drawn_191 : decode cX9_drawn 191 = .ok (.goto (-136), 3) := dk_167 255 120 (dk_at dksX9_drawn_8 6 rfl rfl)
theorem dX9_drawn_194 : decode cX9_drawn 194 = .ok (.iload_n 3, 1) := dk_29 (dk_at dksX9_drawn_8 9 rfl rfl)
theorem dX9_drawn_195 : decode cX9_drawn 195 = .ok (.ifCond .ne 10, 3) := dk_154 0 10 (dk_at dksX9_drawn_8 10 rfl rfl)
theorem dX9_drawn_198 : decode cX9_drawn 198 = .ok (.aload_n 0, 1) := dk_42 (dk_at dksX9_drawn_8 13 rfl rfl)
theorem dX9_drawn_199 : decode cX9_drawn 199 = .ok (.invokevirtual 190, 3) := dk_182 0 190 (dk_at dksX9_drawn_8 14 rfl rfl)
theorem dX9_drawn_202 : decode cX9_drawn 202 = .ok (.goto 10, 3) := dk_167 0 10 (dk_at dksX9_drawn_8 17 rfl rfl)
theorem dX9_drawn_205 : decode cX9_drawn 205 = .ok (.aload_n 0, 1) := dk_42 (dk_at dksX9_drawn_8 20 rfl rfl)
theorem dX9_drawn_206 : decode cX9_drawn 206 = .ok (.invokevirtual 222, 3) := dk_182 0 222 (dk_at dksX9_drawn_8 21 rfl rfl)
theorem dX9_drawn_209 : decode cX9_drawn 209 = .ok (.invokestatic 197, 3) := dk_184 0 197 (dk_at dksX9_drawn_9 0 rfl rfl)
theorem dX9_drawn_212 : decode cX9_drawn 212 = .ok (.istore 6, 2) := dk_54 6 (dk_at dksX9_drawn_9 3 rfl rfl)
theorem dX9_drawn_214 : decode cX9_drawn 214 = .ok (.aload_n 0, 1) := dk_42 (dk_at dksX9_drawn_9 5 rfl rfl)
theorem dX9_drawn_215 : decode cX9_drawn 215 = .ok (.invokevirtual 211, 3) := dk_182 0 211 (dk_at dksX9_drawn_9 6 rfl rfl)
theorem dX9_drawn_218 : decode cX9_drawn 218 = .ok (.iload 6, 2) := dk_21 6 (dk_at dksX9_drawn_9 9 rfl rfl)
theorem dX9_drawn_220 : decode cX9_drawn 220 = .ok (.ireturn, 1) := dk_172 (dk_at dksX9_drawn_9 11 rfl rfl)
abbrev cX9_image : ByteArray := prog_16_method_76_code
def yX9_image : MethodName := ⟨RX9, "image", "(I)I"⟩
def dkwX9_image_2 : List UInt8 := [132, 2, 1, 167, 255, 230, 42, 180, 0, 46, 27, 4, 84, 4, 172]
abbrev dktX9_image_2 : List UInt8 := dkwX9_image_2 ++ []
def dkwX9_image_1 : List UInt8 := [61, 28, 16, 41, 162, 0, 26, 42, 180, 0, 50, 16, 41, 27, 104, 28, 96, 42, 180, 0, 19, 28, 46, 79]
abbrev dktX9_image_1 : List UInt8 := dkwX9_image_1 ++ dktX9_image_2
def dkwX9_image_0 : List UInt8 := [27, 133, 9, 10, 184, 0, 63, 154, 0, 6, 18, 73, 172, 42, 180, 0, 147, 154, 0, 6, 18, 181, 172, 3]
abbrev dktX9_image_0 : List UInt8 := dkwX9_image_0 ++ dktX9_image_1
theorem dksX9_image_0 : cX9_image.data.toList.drop 0 = dktX9_image_0 := by decide +kernel
theorem dksX9_image_1 : cX9_image.data.toList.drop 24 = dktX9_image_1 := dk_seg dksX9_image_0 24 rfl rfl
theorem dksX9_image_2 : cX9_image.data.toList.drop 48 = dktX9_image_2 := dk_seg dksX9_image_1 24 rfl rfl
theorem dX9_image_0 : decode cX9_image 0 = .ok (.iload_n 1, 1) := dk_27 (dk_at dksX9_image_0 0 rfl rfl)
theorem dX9_image_1 : decode cX9_image 1 = .ok (.i2l, 1) := dk_133 (dk_at dksX9_image_0 1 rfl rfl)
theorem dX9_image_2 : decode cX9_image 2 = .ok (.lconst 0, 1) := dk_9 (dk_at dksX9_image_0 2 rfl rfl)
theorem dX9_image_3 : decode cX9_image 3 = .ok (.lconst 1, 1) := dk_10 (dk_at dksX9_image_0 3 rfl rfl)
theorem dX9_image_4 : decode cX9_image 4 = .ok (.invokestatic 63, 3) := dk_184 0 63 (dk_at dksX9_image_0 4 rfl rfl)
theorem dX9_image_7 : decode cX9_image 7 = .ok (.ifCond .ne 6, 3) := dk_154 0 6 (dk_at dksX9_image_0 7 rfl rfl)
theorem dX9_image_10 : decode cX9_image 10 = .ok (.ldc 73, 2) := dk_18 73 (dk_at dksX9_image_0 10 rfl rfl)
theorem dX9_image_12 : decode cX9_image 12 = .ok (.ireturn, 1) := dk_172 (dk_at dksX9_image_0 12 rfl rfl)
theorem dX9_image_13 : decode cX9_image 13 = .ok (.aload_n 0, 1) := dk_42 (dk_at dksX9_image_0 13 rfl rfl)
theorem dX9_image_14 : decode cX9_image 14 = .ok (.getfield 147, 3) := dk_180 0 147 (dk_at dksX9_image_0 14 rfl rfl)
theorem dX9_image_17 : decode cX9_image 17 = .ok (.ifCond .ne 6, 3) := dk_154 0 6 (dk_at dksX9_image_0 17 rfl rfl)
theorem dX9_image_20 : decode cX9_image 20 = .ok (.ldc 181, 2) := dk_18 181 (dk_at dksX9_image_0 20 rfl rfl)
theorem dX9_image_22 : decode cX9_image 22 = .ok (.ireturn, 1) := dk_172 (dk_at dksX9_image_0 22 rfl rfl)
theorem dX9_image_23 : decode cX9_image 23 = .ok (.iconst 0, 1) := dk_3 (dk_at dksX9_image_0 23 rfl rfl)
theorem dX9_image_24 : decode cX9_image 24 = .ok (.istore_n 2, 1) := dk_61 (dk_at dksX9_image_1 0 rfl rfl)
theorem dX9_image_25 : decode cX9_image 25 = .ok (.iload_n 2, 1) := dk_28 (dk_at dksX9_image_1 1 rfl rfl)
theorem dX9_image_26 : decode cX9_image 26 = .ok (.bipush 41, 2) := dk_16 41 (dk_at dksX9_image_1 2 rfl rfl)
theorem dX9_image_28 : decode cX9_image 28 = .ok (.if_icmp .ge 26, 3) := dk_162 0 26 (dk_at dksX9_image_1 4 rfl rfl)
theorem dX9_image_31 : decode cX9_image 31 = .ok (.aload_n 0, 1) := dk_42 (dk_at dksX9_image_1 7 rfl rfl)
theorem dX9_image_32 : decode cX9_image 32 = .ok (.getfield 50, 3) := dk_180 0 50 (dk_at dksX9_image_1 8 rfl rfl)
theorem dX9_image_35 : decode cX9_image 35 = .ok (.bipush 41, 2) := dk_16 41 (dk_at dksX9_image_1 11 rfl rfl)
theorem dX9_image_37 : decode cX9_image 37 = .ok (.iload_n 1, 1) := dk_27 (dk_at dksX9_image_1 13 rfl rfl)
theorem dX9_image_38 : decode cX9_image 38 = .ok (.imul, 1) := dk_104 (dk_at dksX9_image_1 14 rfl rfl)
theorem dX9_image_39 : decode cX9_image 39 = .ok (.iload_n 2, 1) := dk_28 (dk_at dksX9_image_1 15 rfl rfl)
theorem dX9_image_40 : decode cX9_image 40 = .ok (.iadd, 1) := dk_96 (dk_at dksX9_image_1 16 rfl rfl)
theorem dX9_image_41 : decode cX9_image 41 = .ok (.aload_n 0, 1) := dk_42 (dk_at dksX9_image_1 17 rfl rfl)
theorem dX9_image_42 : decode cX9_image 42 = .ok (.getfield 19, 3) := dk_180 0 19 (dk_at dksX9_image_1 18 rfl rfl)
theorem dX9_image_45 : decode cX9_image 45 = .ok (.iload_n 2, 1) := dk_28 (dk_at dksX9_image_1 21 rfl rfl)
theorem dX9_image_46 : decode cX9_image 46 = .ok (.iaload, 1) := dk_46 (dk_at dksX9_image_1 22 rfl rfl)
theorem dX9_image_47 : decode cX9_image 47 = .ok (.iastore, 1) := dk_79 (dk_at dksX9_image_1 23 rfl rfl)
theorem dX9_image_48 : decode cX9_image 48 = .ok (.iinc 2 1, 3) := dk_132 2 1 (dk_at dksX9_image_2 0 rfl rfl)
theorem dX9_image_51 : decode cX9_image 51 = .ok (.goto (-26), 3) := dk_167 255 230 (dk_at dksX9_image_2 3 rfl rfl)
theorem dX9_image_54 : decode cX9_image 54 = .ok (.aload_n 0, 1) := dk_42 (dk_at dksX9_image_2 6 rfl rfl)
theorem dX9_image_55 : decode cX9_image 55 = .ok (.getfield 46, 3) := dk_180 0 46 (dk_at dksX9_image_2 7 rfl rfl)
theorem dX9_image_58 : decode cX9_image 58 = .ok (.iload_n 1, 1) := dk_27 (dk_at dksX9_image_2 10 rfl rfl)
theorem dX9_image_59 : decode cX9_image 59 = .ok (.iconst 1, 1) := dk_4 (dk_at dksX9_image_2 11 rfl rfl)
theorem dX9_image_60 : decode cX9_image 60 = .ok (.bastore, 1) := dk_84 (dk_at dksX9_image_2 12 rfl rfl)
theorem dX9_image_61 : decode cX9_image 61 = .ok (.iconst 1, 1) := dk_4 (dk_at dksX9_image_2 13 rfl rfl)
theorem dX9_image_62 : decode cX9_image 62 = .ok (.ireturn, 1) := dk_172 (dk_at dksX9_image_2 14 rfl rfl)
abbrev cX9_restore : ByteArray := prog_16_method_77_code
def yX9_restore : MethodName := ⟨RX9, "restore", "(I)I"⟩
def dkwX9_restore_2 : List UInt8 := [46, 79, 132, 2, 1, 167, 255, 230, 42, 3, 181, 0, 151, 4, 172]
abbrev dktX9_restore_2 : List UInt8 := dkwX9_restore_2 ++ []
def dkwX9_restore_1 : List UInt8 := [172, 3, 61, 28, 16, 41, 162, 0, 26, 42, 180, 0, 19, 28, 42, 180, 0, 50, 16, 41, 27, 104, 28, 96]
abbrev dktX9_restore_1 : List UInt8 := dkwX9_restore_1 ++ dktX9_restore_2
def dkwX9_restore_0 : List UInt8 := [27, 133, 9, 10, 184, 0, 63, 154, 0, 6, 18, 73, 172, 42, 180, 0, 46, 27, 51, 154, 0, 6, 18, 181]
abbrev dktX9_restore_0 : List UInt8 := dkwX9_restore_0 ++ dktX9_restore_1
theorem dksX9_restore_0 : cX9_restore.data.toList.drop 0 = dktX9_restore_0 := by decide +kernel
theorem dksX9_restore_1 : cX9_restore.data.toList.drop 24 = dktX9_restore_1 := dk_seg dksX9_restore_0 24 rfl rfl
theorem dksX9_restore_2 : cX9_restore.data.toList.drop 48 = dktX9_restore_2 := dk_seg dksX9_restore_1 24 rfl rfl
theorem dX9_restore_0 : decode cX9_restore 0 = .ok (.iload_n 1, 1) := dk_27 (dk_at dksX9_restore_0 0 rfl rfl)
theorem dX9_restore_1 : decode cX9_restore 1 = .ok (.i2l, 1) := dk_133 (dk_at dksX9_restore_0 1 rfl rfl)
theorem dX9_restore_2 : decode cX9_restore 2 = .ok (.lconst 0, 1) := dk_9 (dk_at dksX9_restore_0 2 rfl rfl)
theorem dX9_restore_3 : decode cX9_restore 3 = .ok (.lconst 1, 1) := dk_10 (dk_at dksX9_restore_0 3 rfl rfl)
theorem dX9_restore_4 : decode cX9_restore 4 = .ok (.invokestatic 63, 3) := dk_184 0 63 (dk_at dksX9_restore_0 4 rfl rfl)
theorem dX9_restore_7 : decode cX9_restore 7 = .ok (.ifCond .ne 6, 3) := dk_154 0 6 (dk_at dksX9_restore_0 7 rfl rfl)
theorem dX9_restore_10 : decode cX9_restore 10 = .ok (.ldc 73, 2) := dk_18 73 (dk_at dksX9_restore_0 10 rfl rfl)
theorem dX9_restore_12 : decode cX9_restore 12 = .ok (.ireturn, 1) := dk_172 (dk_at dksX9_restore_0 12 rfl rfl)
theorem dX9_restore_13 : decode cX9_restore 13 = .ok (.aload_n 0, 1) := dk_42 (dk_at dksX9_restore_0 13 rfl rfl)
theorem dX9_restore_14 : decode cX9_restore 14 = .ok (.getfield 46, 3) := dk_180 0 46 (dk_at dksX9_restore_0 14 rfl rfl)
theorem dX9_restore_17 : decode cX9_restore 17 = .ok (.iload_n 1, 1) := dk_27 (dk_at dksX9_restore_0 17 rfl rfl)
theorem dX9_restore_18 : decode cX9_restore 18 = .ok (.baload, 1) := dk_51 (dk_at dksX9_restore_0 18 rfl rfl)
theorem dX9_restore_19 : decode cX9_restore 19 = .ok (.ifCond .ne 6, 3) := dk_154 0 6 (dk_at dksX9_restore_0 19 rfl rfl)
theorem dX9_restore_22 : decode cX9_restore 22 = .ok (.ldc 181, 2) := dk_18 181 (dk_at dksX9_restore_0 22 rfl rfl)
theorem dX9_restore_24 : decode cX9_restore 24 = .ok (.ireturn, 1) := dk_172 (dk_at dksX9_restore_1 0 rfl rfl)
theorem dX9_restore_25 : decode cX9_restore 25 = .ok (.iconst 0, 1) := dk_3 (dk_at dksX9_restore_1 1 rfl rfl)
theorem dX9_restore_26 : decode cX9_restore 26 = .ok (.istore_n 2, 1) := dk_61 (dk_at dksX9_restore_1 2 rfl rfl)
theorem dX9_restore_27 : decode cX9_restore 27 = .ok (.iload_n 2, 1) := dk_28 (dk_at dksX9_restore_1 3 rfl rfl)
theorem dX9_restore_28 : decode cX9_restore 28 = .ok (.bipush 41, 2) := dk_16 41 (dk_at dksX9_restore_1 4 rfl rfl)
theorem dX9_restore_30 : decode cX9_restore 30 = .ok (.if_icmp .ge 26, 3) := dk_162 0 26 (dk_at dksX9_restore_1 6 rfl rfl)
theorem dX9_restore_33 : decode cX9_restore 33 = .ok (.aload_n 0, 1) := dk_42 (dk_at dksX9_restore_1 9 rfl rfl)
theorem dX9_restore_34 : decode cX9_restore 34 = .ok (.getfield 19, 3) := dk_180 0 19 (dk_at dksX9_restore_1 10 rfl rfl)
theorem dX9_restore_37 : decode cX9_restore 37 = .ok (.iload_n 2, 1) := dk_28 (dk_at dksX9_restore_1 13 rfl rfl)
theorem dX9_restore_38 : decode cX9_restore 38 = .ok (.aload_n 0, 1) := dk_42 (dk_at dksX9_restore_1 14 rfl rfl)
theorem dX9_restore_39 : decode cX9_restore 39 = .ok (.getfield 50, 3) := dk_180 0 50 (dk_at dksX9_restore_1 15 rfl rfl)
theorem dX9_restore_42 : decode cX9_restore 42 = .ok (.bipush 41, 2) := dk_16 41 (dk_at dksX9_restore_1 18 rfl rfl)
theorem dX9_restore_44 : decode cX9_restore 44 = .ok (.iload_n 1, 1) := dk_27 (dk_at dksX9_restore_1 20 rfl rfl)
theorem dX9_restore_45 : decode cX9_restore 45 = .ok (.imul, 1) := dk_104 (dk_at dksX9_restore_1 21 rfl rfl)
theorem dX9_restore_46 : decode cX9_restore 46 = .ok (.iload_n 2, 1) := dk_28 (dk_at dksX9_restore_1 22 rfl rfl)
theorem dX9_restore_47 : decode cX9_restore 47 = .ok (.iadd, 1) := dk_96 (dk_at dksX9_restore_1 23 rfl rfl)
theorem dX9_restore_48 : decode cX9_restore 48 = .ok (.iaload, 1) := dk_46 (dk_at dksX9_restore_2 0 rfl rfl)
theorem dX9_restore_49 : decode cX9_restore 49 = .ok (.iastore, 1) := dk_79 (dk_at dksX9_restore_2 1 rfl rfl)
theorem dX9_restore_50 : decode cX9_restore 50 = .ok (.iinc 2 1, 3) := dk_132 2 1 (dk_at dksX9_restore_2 2 rfl rfl)
theorem dX9_restore_53 : decode cX9_restore 53 = .ok (.goto (-26), 3) := dk_167 255 230 (dk_at dksX9_restore_2 5 rfl rfl)
theorem dX9_restore_56 : decode cX9_restore 56 = .ok (.aload_n 0, 1) := dk_42 (dk_at dksX9_restore_2 8 rfl rfl)
theorem dX9_restore_57 : decode cX9_restore 57 = .ok (.iconst 0, 1) := dk_3 (dk_at dksX9_restore_2 9 rfl rfl)
theorem dX9_restore_58 : decode cX9_restore 58 = .ok (.putfield 151, 3) := dk_181 0 151 (dk_at dksX9_restore_2 10 rfl rfl)
theorem dX9_restore_61 : decode cX9_restore 61 = .ok (.iconst 1, 1) := dk_4 (dk_at dksX9_restore_2 13 rfl rfl)
theorem dX9_restore_62 : decode cX9_restore 62 = .ok (.ireturn, 1) := dk_172 (dk_at dksX9_restore_2 14 rfl rfl)
abbrev cX9_kind : ByteArray := prog_16_method_78_code
def yX9_kind : MethodName := ⟨RX9, "kind", "(I)I"⟩
def dkwX9_kind_0 : List UInt8 := [42, 27, 182, 0, 200, 153, 0, 15, 42, 180, 0, 19, 16, 26, 27, 96, 46, 167, 0, 5, 18, 73, 172]
abbrev dktX9_kind_0 : List UInt8 := dkwX9_kind_0 ++ []
theorem dksX9_kind_0 : cX9_kind.data.toList.drop 0 = dktX9_kind_0 := by decide +kernel
theorem dX9_kind_0 : decode cX9_kind 0 = .ok (.aload_n 0, 1) := dk_42 (dk_at dksX9_kind_0 0 rfl rfl)
theorem dX9_kind_1 : decode cX9_kind 1 = .ok (.iload_n 1, 1) := dk_27 (dk_at dksX9_kind_0 1 rfl rfl)
theorem dX9_kind_2 : decode cX9_kind 2 = .ok (.invokevirtual 200, 3) := dk_182 0 200 (dk_at dksX9_kind_0 2 rfl rfl)
theorem dX9_kind_5 : decode cX9_kind 5 = .ok (.ifCond .eq 15, 3) := dk_153 0 15 (dk_at dksX9_kind_0 5 rfl rfl)
theorem dX9_kind_8 : decode cX9_kind 8 = .ok (.aload_n 0, 1) := dk_42 (dk_at dksX9_kind_0 8 rfl rfl)
theorem dX9_kind_9 : decode cX9_kind 9 = .ok (.getfield 19, 3) := dk_180 0 19 (dk_at dksX9_kind_0 9 rfl rfl)
theorem dX9_kind_12 : decode cX9_kind 12 = .ok (.bipush 26, 2) := dk_16 26 (dk_at dksX9_kind_0 12 rfl rfl)
theorem dX9_kind_14 : decode cX9_kind 14 = .ok (.iload_n 1, 1) := dk_27 (dk_at dksX9_kind_0 14 rfl rfl)
theorem dX9_kind_15 : decode cX9_kind 15 = .ok (.iadd, 1) := dk_96 (dk_at dksX9_kind_0 15 rfl rfl)
theorem dX9_kind_16 : decode cX9_kind 16 = .ok (.iaload, 1) := dk_46 (dk_at dksX9_kind_0 16 rfl rfl)
theorem dX9_kind_17 : decode cX9_kind 17 = .ok (.goto 5, 3) := dk_167 0 5 (dk_at dksX9_kind_0 17 rfl rfl)
theorem dX9_kind_20 : decode cX9_kind 20 = .ok (.ldc 73, 2) := dk_18 73 (dk_at dksX9_kind_0 20 rfl rfl)
theorem dX9_kind_22 : decode cX9_kind 22 = .ok (.ireturn, 1) := dk_172 (dk_at dksX9_kind_0 22 rfl rfl)
abbrev cX9_as : ByteArray := prog_16_method_80_code
def yX9_as : MethodName := ⟨RX9, "as", "(II)I"⟩
def dkwX9_as_2 : List UInt8 := [6, 182, 0, 74, 172]
abbrev dktX9_as_2 : List UInt8 := dkwX9_as_2 ++ []
def dkwX9_as_1 : List UInt8 := [180, 0, 19, 16, 26, 27, 96, 46, 28, 184, 1, 18, 153, 0, 11, 42, 27, 182, 0, 78, 167, 0, 8, 42]
abbrev dktX9_as_1 : List UInt8 := dkwX9_as_1 ++ dktX9_as_2
def dkwX9_as_0 : List UInt8 := [42, 27, 182, 0, 200, 153, 0, 15, 28, 133, 9, 20, 1, 16, 184, 0, 63, 154, 0, 6, 18, 73, 172, 42]
abbrev dktX9_as_0 : List UInt8 := dkwX9_as_0 ++ dktX9_as_1
theorem dksX9_as_0 : cX9_as.data.toList.drop 0 = dktX9_as_0 := by decide +kernel
theorem dksX9_as_1 : cX9_as.data.toList.drop 24 = dktX9_as_1 := dk_seg dksX9_as_0 24 rfl rfl
theorem dksX9_as_2 : cX9_as.data.toList.drop 48 = dktX9_as_2 := dk_seg dksX9_as_1 24 rfl rfl
theorem dX9_as_0 : decode cX9_as 0 = .ok (.aload_n 0, 1) := dk_42 (dk_at dksX9_as_0 0 rfl rfl)
theorem dX9_as_1 : decode cX9_as 1 = .ok (.iload_n 1, 1) := dk_27 (dk_at dksX9_as_0 1 rfl rfl)
theorem dX9_as_2 : decode cX9_as 2 = .ok (.invokevirtual 200, 3) := dk_182 0 200 (dk_at dksX9_as_0 2 rfl rfl)
theorem dX9_as_5 : decode cX9_as 5 = .ok (.ifCond .eq 15, 3) := dk_153 0 15 (dk_at dksX9_as_0 5 rfl rfl)
theorem dX9_as_8 : decode cX9_as 8 = .ok (.iload_n 2, 1) := dk_28 (dk_at dksX9_as_0 8 rfl rfl)
theorem dX9_as_9 : decode cX9_as 9 = .ok (.i2l, 1) := dk_133 (dk_at dksX9_as_0 9 rfl rfl)
theorem dX9_as_10 : decode cX9_as 10 = .ok (.lconst 0, 1) := dk_9 (dk_at dksX9_as_0 10 rfl rfl)
theorem dX9_as_11 : decode cX9_as 11 = .ok (.ldc2_w 272, 3) := dk_20 1 16 (dk_at dksX9_as_0 11 rfl rfl)
theorem dX9_as_14 : decode cX9_as 14 = .ok (.invokestatic 63, 3) := dk_184 0 63 (dk_at dksX9_as_0 14 rfl rfl)
theorem dX9_as_17 : decode cX9_as 17 = .ok (.ifCond .ne 6, 3) := dk_154 0 6 (dk_at dksX9_as_0 17 rfl rfl)
theorem dX9_as_20 : decode cX9_as 20 = .ok (.ldc 73, 2) := dk_18 73 (dk_at dksX9_as_0 20 rfl rfl)
theorem dX9_as_22 : decode cX9_as 22 = .ok (.ireturn, 1) := dk_172 (dk_at dksX9_as_0 22 rfl rfl)
theorem dX9_as_23 : decode cX9_as 23 = .ok (.aload_n 0, 1) := dk_42 (dk_at dksX9_as_0 23 rfl rfl)
theorem dX9_as_24 : decode cX9_as 24 = .ok (.getfield 19, 3) := dk_180 0 19 (dk_at dksX9_as_1 0 rfl rfl)
theorem dX9_as_27 : decode cX9_as 27 = .ok (.bipush 26, 2) := dk_16 26 (dk_at dksX9_as_1 3 rfl rfl)
theorem dX9_as_29 : decode cX9_as 29 = .ok (.iload_n 1, 1) := dk_27 (dk_at dksX9_as_1 5 rfl rfl)
theorem dX9_as_30 : decode cX9_as 30 = .ok (.iadd, 1) := dk_96 (dk_at dksX9_as_1 6 rfl rfl)
theorem dX9_as_31 : decode cX9_as 31 = .ok (.iaload, 1) := dk_46 (dk_at dksX9_as_1 7 rfl rfl)
theorem dX9_as_32 : decode cX9_as 32 = .ok (.iload_n 2, 1) := dk_28 (dk_at dksX9_as_1 8 rfl rfl)
theorem dX9_as_33 : decode cX9_as 33 = .ok (.invokestatic 274, 3) := dk_184 1 18 (dk_at dksX9_as_1 9 rfl rfl)
theorem dX9_as_36 : decode cX9_as 36 = .ok (.ifCond .eq 11, 3) := dk_153 0 11 (dk_at dksX9_as_1 12 rfl rfl)
theorem dX9_as_39 : decode cX9_as 39 = .ok (.aload_n 0, 1) := dk_42 (dk_at dksX9_as_1 15 rfl rfl)
theorem dX9_as_40 : decode cX9_as 40 = .ok (.iload_n 1, 1) := dk_27 (dk_at dksX9_as_1 16 rfl rfl)
theorem dX9_as_41 : decode cX9_as 41 = .ok (.invokevirtual 78, 3) := dk_182 0 78 (dk_at dksX9_as_1 17 rfl rfl)
theorem dX9_as_44 : decode cX9_as 44 = .ok (.goto 8, 3) := dk_167 0 8 (dk_at dksX9_as_1 20 rfl rfl)
theorem dX9_as_47 : decode cX9_as 47 = .ok (.aload_n 0, 1) := dk_42 (dk_at dksX9_as_1 23 rfl rfl)
theorem dX9_as_48 : decode cX9_as 48 = .ok (.iconst 3, 1) := dk_6 (dk_at dksX9_as_2 0 rfl rfl)
theorem dX9_as_49 : decode cX9_as 49 = .ok (.invokevirtual 74, 3) := dk_182 0 74 (dk_at dksX9_as_2 1 rfl rfl)
theorem dX9_as_52 : decode cX9_as 52 = .ok (.ireturn, 1) := dk_172 (dk_at dksX9_as_2 4 rfl rfl)
abbrev cX9_isKind : ByteArray := prog_16_method_79_code
def yX9_isKind : MethodName := ⟨RX9, "isKind", "(II)Z"⟩
def dkwX9_isKind_1 : List UInt8 := [26, 8, 160, 0, 7, 4, 167, 0, 4, 3, 172]
abbrev dktX9_isKind_1 : List UInt8 := dkwX9_isKind_1 ++ []
def dkwX9_isKind_0 : List UInt8 := [27, 153, 0, 28, 26, 27, 159, 0, 23, 27, 4, 160, 0, 8, 26, 7, 161, 0, 13, 27, 7, 160, 0, 12]
abbrev dktX9_isKind_0 : List UInt8 := dkwX9_isKind_0 ++ dktX9_isKind_1
theorem dksX9_isKind_0 : cX9_isKind.data.toList.drop 0 = dktX9_isKind_0 := by decide +kernel
theorem dksX9_isKind_1 : cX9_isKind.data.toList.drop 24 = dktX9_isKind_1 := dk_seg dksX9_isKind_0 24 rfl rfl
theorem dX9_isKind_0 : decode cX9_isKind 0 = .ok (.iload_n 1, 1) := dk_27 (dk_at dksX9_isKind_0 0 rfl rfl)
theorem dX9_isKind_1 : decode cX9_isKind 1 = .ok (.ifCond .eq 28, 3) := dk_153 0 28 (dk_at dksX9_isKind_0 1 rfl rfl)
theorem dX9_isKind_4 : decode cX9_isKind 4 = .ok (.iload_n 0, 1) := dk_26 (dk_at dksX9_isKind_0 4 rfl rfl)
theorem dX9_isKind_5 : decode cX9_isKind 5 = .ok (.iload_n 1, 1) := dk_27 (dk_at dksX9_isKind_0 5 rfl rfl)
theorem dX9_isKind_6 : decode cX9_isKind 6 = .ok (.if_icmp .eq 23, 3) := dk_159 0 23 (dk_at dksX9_isKind_0 6 rfl rfl)
theorem dX9_isKind_9 : decode cX9_isKind 9 = .ok (.iload_n 1, 1) := dk_27 (dk_at dksX9_isKind_0 9 rfl rfl)
theorem dX9_isKind_10 : decode cX9_isKind 10 = .ok (.iconst 1, 1) := dk_4 (dk_at dksX9_isKind_0 10 rfl rfl)
theorem dX9_isKind_11 : decode cX9_isKind 11 = .ok (.if_icmp .ne 8, 3) := dk_160 0 8 (dk_at dksX9_isKind_0 11 rfl rfl)
theorem dX9_isKind_14 : decode cX9_isKind 14 = .ok (.iload_n 0, 1) := dk_26 (dk_at dksX9_isKind_0 14 rfl rfl)
theorem dX9_isKind_15 : decode cX9_isKind 15 = .ok (.iconst 4, 1) := dk_7 (dk_at dksX9_isKind_0 15 rfl rfl)
theorem dX9_isKind_16 : decode cX9_isKind 16 = .ok (.if_icmp .lt 13, 3) := dk_161 0 13 (dk_at dksX9_isKind_0 16 rfl rfl)
theorem dX9_isKind_19 : decode cX9_isKind 19 = .ok (.iload_n 1, 1) := dk_27 (dk_at dksX9_isKind_0 19 rfl rfl)
theorem dX9_isKind_20 : decode cX9_isKind 20 = .ok (.iconst 4, 1) := dk_7 (dk_at dksX9_isKind_0 20 rfl rfl)
theorem dX9_isKind_21 : decode cX9_isKind 21 = .ok (.if_icmp .ne 12, 3) := dk_160 0 12 (dk_at dksX9_isKind_0 21 rfl rfl)
theorem dX9_isKind_24 : decode cX9_isKind 24 = .ok (.iload_n 0, 1) := dk_26 (dk_at dksX9_isKind_1 0 rfl rfl)
theorem dX9_isKind_25 : decode cX9_isKind 25 = .ok (.iconst 5, 1) := dk_8 (dk_at dksX9_isKind_1 1 rfl rfl)
theorem dX9_isKind_26 : decode cX9_isKind 26 = .ok (.if_icmp .ne 7, 3) := dk_160 0 7 (dk_at dksX9_isKind_1 2 rfl rfl)
theorem dX9_isKind_29 : decode cX9_isKind 29 = .ok (.iconst 1, 1) := dk_4 (dk_at dksX9_isKind_1 5 rfl rfl)
theorem dX9_isKind_30 : decode cX9_isKind 30 = .ok (.goto 4, 3) := dk_167 0 4 (dk_at dksX9_isKind_1 6 rfl rfl)
theorem dX9_isKind_33 : decode cX9_isKind 33 = .ok (.iconst 0, 1) := dk_3 (dk_at dksX9_isKind_1 9 rfl rfl)
theorem dX9_isKind_34 : decode cX9_isKind 34 = .ok (.ireturn, 1) := dk_172 (dk_at dksX9_isKind_1 10 rfl rfl)
abbrev cX9_ask : ByteArray := prog_16_method_89_code
def yX9_ask : MethodName := ⟨RX9, "ask", "(II)I"⟩
def dkwX9_ask_1 : List UInt8 := [181, 1, 21, 28, 154, 0, 11, 42, 27, 182, 1, 45, 167, 0, 8, 42, 27, 182, 1, 39, 172]
abbrev dktX9_ask_1 : List UInt8 := dkwX9_ask_1 ++ []
def dkwX9_ask_0 : List UInt8 := [42, 27, 182, 0, 200, 153, 0, 13, 28, 133, 9, 10, 184, 0, 63, 154, 0, 6, 18, 73, 172, 42, 3]
abbrev dktX9_ask_0 : List UInt8 := dkwX9_ask_0 ++ dktX9_ask_1
theorem dksX9_ask_0 : cX9_ask.data.toList.drop 0 = dktX9_ask_0 := by decide +kernel
theorem dksX9_ask_1 : cX9_ask.data.toList.drop 23 = dktX9_ask_1 := dk_seg dksX9_ask_0 23 rfl rfl
theorem dX9_ask_0 : decode cX9_ask 0 = .ok (.aload_n 0, 1) := dk_42 (dk_at dksX9_ask_0 0 rfl rfl)
theorem dX9_ask_1 : decode cX9_ask 1 = .ok (.iload_n 1, 1) := dk_27 (dk_at dksX9_ask_0 1 rfl rfl)
theorem dX9_ask_2 : decode cX9_ask 2 = .ok (.invokevirtual 200, 3) := dk_182 0 200 (dk_at dksX9_ask_0 2 rfl rfl)
theorem dX9_ask_5 : decode cX9_ask 5 = .ok (.ifCond .eq 13, 3) := dk_153 0 13 (dk_at dksX9_ask_0 5 rfl rfl)
theorem dX9_ask_8 : decode cX9_ask 8 = .ok (.iload_n 2, 1) := dk_28 (dk_at dksX9_ask_0 8 rfl rfl)
theorem dX9_ask_9 : decode cX9_ask 9 = .ok (.i2l, 1) := dk_133 (dk_at dksX9_ask_0 9 rfl rfl)
theorem dX9_ask_10 : decode cX9_ask 10 = .ok (.lconst 0, 1) := dk_9 (dk_at dksX9_ask_0 10 rfl rfl)
theorem dX9_ask_11 : decode cX9_ask 11 = .ok (.lconst 1, 1) := dk_10 (dk_at dksX9_ask_0 11 rfl rfl)
theorem dX9_ask_12 : decode cX9_ask 12 = .ok (.invokestatic 63, 3) := dk_184 0 63 (dk_at dksX9_ask_0 12 rfl rfl)
theorem dX9_ask_15 : decode cX9_ask 15 = .ok (.ifCond .ne 6, 3) := dk_154 0 6 (dk_at dksX9_ask_0 15 rfl rfl)
theorem dX9_ask_18 : decode cX9_ask 18 = .ok (.ldc 73, 2) := dk_18 73 (dk_at dksX9_ask_0 18 rfl rfl)
theorem dX9_ask_20 : decode cX9_ask 20 = .ok (.ireturn, 1) := dk_172 (dk_at dksX9_ask_0 20 rfl rfl)
theorem dX9_ask_21 : decode cX9_ask 21 = .ok (.aload_n 0, 1) := dk_42 (dk_at dksX9_ask_0 21 rfl rfl)
theorem dX9_ask_22 : decode cX9_ask 22 = .ok (.iconst 0, 1) := dk_3 (dk_at dksX9_ask_0 22 rfl rfl)
theorem dX9_ask_23 : decode cX9_ask 23 = .ok (.putfield 277, 3) := dk_181 1 21 (dk_at dksX9_ask_1 0 rfl rfl)
theorem dX9_ask_26 : decode cX9_ask 26 = .ok (.iload_n 2, 1) := dk_28 (dk_at dksX9_ask_1 3 rfl rfl)
theorem dX9_ask_27 : decode cX9_ask 27 = .ok (.ifCond .ne 11, 3) := dk_154 0 11 (dk_at dksX9_ask_1 4 rfl rfl)
theorem dX9_ask_30 : decode cX9_ask 30 = .ok (.aload_n 0, 1) := dk_42 (dk_at dksX9_ask_1 7 rfl rfl)
theorem dX9_ask_31 : decode cX9_ask 31 = .ok (.iload_n 1, 1) := dk_27 (dk_at dksX9_ask_1 8 rfl rfl)
theorem dX9_ask_32 : decode cX9_ask 32 = .ok (.invokevirtual 301, 3) := dk_182 1 45 (dk_at dksX9_ask_1 9 rfl rfl)
theorem dX9_ask_35 : decode cX9_ask 35 = .ok (.goto 8, 3) := dk_167 0 8 (dk_at dksX9_ask_1 12 rfl rfl)
theorem dX9_ask_38 : decode cX9_ask 38 = .ok (.aload_n 0, 1) := dk_42 (dk_at dksX9_ask_1 15 rfl rfl)
theorem dX9_ask_39 : decode cX9_ask 39 = .ok (.iload_n 1, 1) := dk_27 (dk_at dksX9_ask_1 16 rfl rfl)
theorem dX9_ask_40 : decode cX9_ask 40 = .ok (.invokevirtual 295, 3) := dk_182 1 39 (dk_at dksX9_ask_1 17 rfl rfl)
theorem dX9_ask_43 : decode cX9_ask 43 = .ok (.ireturn, 1) := dk_172 (dk_at dksX9_ask_1 20 rfl rfl)
abbrev cX9_sizeOf : ByteArray := prog_16_method_88_code
def yX9_sizeOf : MethodName := ⟨RX9, "sizeOf", "(I)I"⟩
def dkwX9_sizeOf_1 : List UInt8 := [182, 1, 42, 116, 172, 28, 7, 161, 0, 11, 42, 27, 182, 1, 36, 167, 0, 8, 42, 27, 182, 1, 42, 172]
abbrev dktX9_sizeOf_1 : List UInt8 := dkwX9_sizeOf_1 ++ []
def dkwX9_sizeOf_0 : List UInt8 := [42, 180, 0, 19, 16, 26, 27, 96, 46, 61, 28, 5, 160, 0, 16, 42, 16, 12, 182, 1, 24, 42, 27]
abbrev dktX9_sizeOf_0 : List UInt8 := dkwX9_sizeOf_0 ++ dktX9_sizeOf_1
theorem dksX9_sizeOf_0 : cX9_sizeOf.data.toList.drop 0 = dktX9_sizeOf_0 := by decide +kernel
theorem dksX9_sizeOf_1 : cX9_sizeOf.data.toList.drop 23 = dktX9_sizeOf_1 := dk_seg dksX9_sizeOf_0 23 rfl rfl
theorem dX9_sizeOf_0 : decode cX9_sizeOf 0 = .ok (.aload_n 0, 1) := dk_42 (dk_at dksX9_sizeOf_0 0 rfl rfl)
theorem dX9_sizeOf_1 : decode cX9_sizeOf 1 = .ok (.getfield 19, 3) := dk_180 0 19 (dk_at dksX9_sizeOf_0 1 rfl rfl)
theorem dX9_sizeOf_4 : decode cX9_sizeOf 4 = .ok (.bipush 26, 2) := dk_16 26 (dk_at dksX9_sizeOf_0 4 rfl rfl)
theorem dX9_sizeOf_6 : decode cX9_sizeOf 6 = .ok (.iload_n 1, 1) := dk_27 (dk_at dksX9_sizeOf_0 6 rfl rfl)
theorem dX9_sizeOf_7 : decode cX9_sizeOf 7 = .ok (.iadd, 1) := dk_96 (dk_at dksX9_sizeOf_0 7 rfl rfl)
theorem dX9_sizeOf_8 : decode cX9_sizeOf 8 = .ok (.iaload, 1) := dk_46 (dk_at dksX9_sizeOf_0 8 rfl rfl)
theorem dX9_sizeOf_9 : decode cX9_sizeOf 9 = .ok (.istore_n 2, 1) := dk_61 (dk_at dksX9_sizeOf_0 9 rfl rfl)
theorem dX9_sizeOf_10 : decode cX9_sizeOf 10 = .ok (.iload_n 2, 1) := dk_28 (dk_at dksX9_sizeOf_0 10 rfl rfl)
theorem dX9_sizeOf_11 : decode cX9_sizeOf 11 = .ok (.iconst 2, 1) := dk_5 (dk_at dksX9_sizeOf_0 11 rfl rfl)
theorem dX9_sizeOf_12 : decode cX9_sizeOf 12 = .ok (.if_icmp .ne 16, 3) := dk_160 0 16 (dk_at dksX9_sizeOf_0 12 rfl rfl)
theorem dX9_sizeOf_15 : decode cX9_sizeOf 15 = .ok (.aload_n 0, 1) := dk_42 (dk_at dksX9_sizeOf_0 15 rfl rfl)
theorem dX9_sizeOf_16 : decode cX9_sizeOf 16 = .ok (.bipush 12, 2) := dk_16 12 (dk_at dksX9_sizeOf_0 16 rfl rfl)
theorem dX9_sizeOf_18 : decode cX9_sizeOf 18 = .ok (.invokevirtual 280, 3) := dk_182 1 24 (dk_at dksX9_sizeOf_0 18 rfl rfl)
theorem dX9_sizeOf_21 : decode cX9_sizeOf 21 = .ok (.aload_n 0, 1) := dk_42 (dk_at dksX9_sizeOf_0 21 rfl rfl)
theorem dX9_sizeOf_22 : decode cX9_sizeOf 22 = .ok (.iload_n 1, 1) := dk_27 (dk_at dksX9_sizeOf_0 22 rfl rfl)
theorem dX9_sizeOf_23 : decode cX9_sizeOf 23 = .ok (.invokevirtual 298, 3) := dk_182 1 42 (dk_at dksX9_sizeOf_1 0 rfl rfl)
theorem dX9_sizeOf_26 : decode cX9_sizeOf 26 = .ok (.ineg, 1) := dk_116 (dk_at dksX9_sizeOf_1 3 rfl rfl)
theorem dX9_sizeOf_27 : decode cX9_sizeOf 27 = .ok (.ireturn, 1) := dk_172 (dk_at dksX9_sizeOf_1 4 rfl rfl)
theorem dX9_sizeOf_28 : decode cX9_sizeOf 28 = .ok (.iload_n 2, 1) := dk_28 (dk_at dksX9_sizeOf_1 5 rfl rfl)
theorem dX9_sizeOf_29 : decode cX9_sizeOf 29 = .ok (.iconst 4, 1) := dk_7 (dk_at dksX9_sizeOf_1 6 rfl rfl)
theorem dX9_sizeOf_30 : decode cX9_sizeOf 30 = .ok (.if_icmp .lt 11, 3) := dk_161 0 11 (dk_at dksX9_sizeOf_1 7 rfl rfl)
theorem dX9_sizeOf_33 : decode cX9_sizeOf 33 = .ok (.aload_n 0, 1) := dk_42 (dk_at dksX9_sizeOf_1 10 rfl rfl)
theorem dX9_sizeOf_34 : decode cX9_sizeOf 34 = .ok (.iload_n 1, 1) := dk_27 (dk_at dksX9_sizeOf_1 11 rfl rfl)
theorem dX9_sizeOf_35 : decode cX9_sizeOf 35 = .ok (.invokevirtual 292, 3) := dk_182 1 36 (dk_at dksX9_sizeOf_1 12 rfl rfl)
theorem dX9_sizeOf_38 : decode cX9_sizeOf 38 = .ok (.goto 8, 3) := dk_167 0 8 (dk_at dksX9_sizeOf_1 15 rfl rfl)
theorem dX9_sizeOf_41 : decode cX9_sizeOf 41 = .ok (.aload_n 0, 1) := dk_42 (dk_at dksX9_sizeOf_1 18 rfl rfl)
theorem dX9_sizeOf_42 : decode cX9_sizeOf 42 = .ok (.iload_n 1, 1) := dk_27 (dk_at dksX9_sizeOf_1 19 rfl rfl)
theorem dX9_sizeOf_43 : decode cX9_sizeOf 43 = .ok (.invokevirtual 298, 3) := dk_182 1 42 (dk_at dksX9_sizeOf_1 20 rfl rfl)
theorem dX9_sizeOf_46 : decode cX9_sizeOf 46 = .ok (.ireturn, 1) := dk_172 (dk_at dksX9_sizeOf_1 23 rfl rfl)
abbrev cX9_begin : ByteArray := prog_16_method_81_code
def yX9_begin : MethodName := ⟨RX9, "begin", "(I)V"⟩
def dkwX9_begin_1 : List UInt8 := [4, 96, 181, 1, 21, 177]
abbrev dktX9_begin_1 : List UInt8 := dkwX9_begin_1 ++ []
def dkwX9_begin_0 : List UInt8 := [42, 180, 1, 21, 16, 16, 162, 0, 23, 42, 180, 0, 53, 42, 180, 1, 21, 27, 79, 42, 89, 180, 1, 21]
abbrev dktX9_begin_0 : List UInt8 := dkwX9_begin_0 ++ dktX9_begin_1
theorem dksX9_begin_0 : cX9_begin.data.toList.drop 0 = dktX9_begin_0 := by decide +kernel
theorem dksX9_begin_1 : cX9_begin.data.toList.drop 24 = dktX9_begin_1 := dk_seg dksX9_begin_0 24 rfl rfl
theorem dX9_begin_0 : decode cX9_begin 0 = .ok (.aload_n 0, 1) := dk_42 (dk_at dksX9_begin_0 0 rfl rfl)
theorem dX9_begin_1 : decode cX9_begin 1 = .ok (.getfield 277, 3) := dk_180 1 21 (dk_at dksX9_begin_0 1 rfl rfl)
theorem dX9_begin_4 : decode cX9_begin 4 = .ok (.bipush 16, 2) := dk_16 16 (dk_at dksX9_begin_0 4 rfl rfl)
theorem dX9_begin_6 : decode cX9_begin 6 = .ok (.if_icmp .ge 23, 3) := dk_162 0 23 (dk_at dksX9_begin_0 6 rfl rfl)
theorem dX9_begin_9 : decode cX9_begin 9 = .ok (.aload_n 0, 1) := dk_42 (dk_at dksX9_begin_0 9 rfl rfl)
theorem dX9_begin_10 : decode cX9_begin 10 = .ok (.getfield 53, 3) := dk_180 0 53 (dk_at dksX9_begin_0 10 rfl rfl)
theorem dX9_begin_13 : decode cX9_begin 13 = .ok (.aload_n 0, 1) := dk_42 (dk_at dksX9_begin_0 13 rfl rfl)
theorem dX9_begin_14 : decode cX9_begin 14 = .ok (.getfield 277, 3) := dk_180 1 21 (dk_at dksX9_begin_0 14 rfl rfl)
theorem dX9_begin_17 : decode cX9_begin 17 = .ok (.iload_n 1, 1) := dk_27 (dk_at dksX9_begin_0 17 rfl rfl)
theorem dX9_begin_18 : decode cX9_begin 18 = .ok (.iastore, 1) := dk_79 (dk_at dksX9_begin_0 18 rfl rfl)
theorem dX9_begin_19 : decode cX9_begin 19 = .ok (.aload_n 0, 1) := dk_42 (dk_at dksX9_begin_0 19 rfl rfl)
theorem dX9_begin_20 : decode cX9_begin 20 = .ok (.dup, 1) := dk_89 (dk_at dksX9_begin_0 20 rfl rfl)
theorem dX9_begin_21 : decode cX9_begin 21 = .ok (.getfield 277, 3) := dk_180 1 21 (dk_at dksX9_begin_0 21 rfl rfl)
theorem dX9_begin_24 : decode cX9_begin 24 = .ok (.iconst 1, 1) := dk_4 (dk_at dksX9_begin_1 0 rfl rfl)
theorem dX9_begin_25 : decode cX9_begin 25 = .ok (.iadd, 1) := dk_96 (dk_at dksX9_begin_1 1 rfl rfl)
theorem dX9_begin_26 : decode cX9_begin 26 = .ok (.putfield 277, 3) := dk_181 1 21 (dk_at dksX9_begin_1 2 rfl rfl)
theorem dX9_begin_29 : decode cX9_begin 29 = .ok (.return_, 1) := dk_177 (dk_at dksX9_begin_1 5 rfl rfl)
abbrev cX9_readerSize : ByteArray := prog_16_method_87_code
def yX9_readerSize : MethodName := ⟨RX9, "readerSize", "(I)I"⟩
def dkwX9_readerSize_0 : List UInt8 := [42, 16, 11, 182, 1, 24, 42, 27, 16, 10, 182, 1, 27, 61, 28, 42, 27, 182, 1, 39, 96, 172]
abbrev dktX9_readerSize_0 : List UInt8 := dkwX9_readerSize_0 ++ []
theorem dksX9_readerSize_0 : cX9_readerSize.data.toList.drop 0 = dktX9_readerSize_0 := by decide +kernel
theorem dX9_readerSize_0 : decode cX9_readerSize 0 = .ok (.aload_n 0, 1) := dk_42 (dk_at dksX9_readerSize_0 0 rfl rfl)
theorem dX9_readerSize_1 : decode cX9_readerSize 1 = .ok (.bipush 11, 2) := dk_16 11 (dk_at dksX9_readerSize_0 1 rfl rfl)
theorem dX9_readerSize_3 : decode cX9_readerSize 3 = .ok (.invokevirtual 280, 3) := dk_182 1 24 (dk_at dksX9_readerSize_0 3 rfl rfl)
theorem dX9_readerSize_6 : decode cX9_readerSize 6 = .ok (.aload_n 0, 1) := dk_42 (dk_at dksX9_readerSize_0 6 rfl rfl)
theorem dX9_readerSize_7 : decode cX9_readerSize 7 = .ok (.iload_n 1, 1) := dk_27 (dk_at dksX9_readerSize_0 7 rfl rfl)
theorem dX9_readerSize_8 : decode cX9_readerSize 8 = .ok (.bipush 10, 2) := dk_16 10 (dk_at dksX9_readerSize_0 8 rfl rfl)
theorem dX9_readerSize_10 : decode cX9_readerSize 10 = .ok (.invokevirtual 283, 3) := dk_182 1 27 (dk_at dksX9_readerSize_0 10 rfl rfl)
theorem dX9_readerSize_13 : decode cX9_readerSize 13 = .ok (.istore_n 2, 1) := dk_61 (dk_at dksX9_readerSize_0 13 rfl rfl)
theorem dX9_readerSize_14 : decode cX9_readerSize 14 = .ok (.iload_n 2, 1) := dk_28 (dk_at dksX9_readerSize_0 14 rfl rfl)
theorem dX9_readerSize_15 : decode cX9_readerSize 15 = .ok (.aload_n 0, 1) := dk_42 (dk_at dksX9_readerSize_0 15 rfl rfl)
theorem dX9_readerSize_16 : decode cX9_readerSize 16 = .ok (.iload_n 1, 1) := dk_27 (dk_at dksX9_readerSize_0 16 rfl rfl)
theorem dX9_readerSize_17 : decode cX9_readerSize 17 = .ok (.invokevirtual 295, 3) := dk_182 1 39 (dk_at dksX9_readerSize_0 17 rfl rfl)
theorem dX9_readerSize_20 : decode cX9_readerSize 20 = .ok (.iadd, 1) := dk_96 (dk_at dksX9_readerSize_0 20 rfl rfl)
theorem dX9_readerSize_21 : decode cX9_readerSize 21 = .ok (.ireturn, 1) := dk_172 (dk_at dksX9_readerSize_0 21 rfl rfl)
abbrev cX9_lent : ByteArray := prog_16_method_82_code
def yX9_lent : MethodName := ⟨RX9, "lent", "(II)I"⟩
def dkwX9_lent_1 : List UInt8 := [172]
abbrev dktX9_lent_1 : List UInt8 := dkwX9_lent_1 ++ []
def dkwX9_lent_0 : List UInt8 := [42, 28, 182, 1, 24, 28, 16, 10, 160, 0, 15, 42, 180, 0, 19, 16, 36, 27, 96, 46, 167, 0, 4, 27]
abbrev dktX9_lent_0 : List UInt8 := dkwX9_lent_0 ++ dktX9_lent_1
theorem dksX9_lent_0 : cX9_lent.data.toList.drop 0 = dktX9_lent_0 := by decide +kernel
theorem dksX9_lent_1 : cX9_lent.data.toList.drop 24 = dktX9_lent_1 := dk_seg dksX9_lent_0 24 rfl rfl
theorem dX9_lent_0 : decode cX9_lent 0 = .ok (.aload_n 0, 1) := dk_42 (dk_at dksX9_lent_0 0 rfl rfl)
theorem dX9_lent_1 : decode cX9_lent 1 = .ok (.iload_n 2, 1) := dk_28 (dk_at dksX9_lent_0 1 rfl rfl)
theorem dX9_lent_2 : decode cX9_lent 2 = .ok (.invokevirtual 280, 3) := dk_182 1 24 (dk_at dksX9_lent_0 2 rfl rfl)
theorem dX9_lent_5 : decode cX9_lent 5 = .ok (.iload_n 2, 1) := dk_28 (dk_at dksX9_lent_0 5 rfl rfl)
theorem dX9_lent_6 : decode cX9_lent 6 = .ok (.bipush 10, 2) := dk_16 10 (dk_at dksX9_lent_0 6 rfl rfl)
theorem dX9_lent_8 : decode cX9_lent 8 = .ok (.if_icmp .ne 15, 3) := dk_160 0 15 (dk_at dksX9_lent_0 8 rfl rfl)
theorem dX9_lent_11 : decode cX9_lent 11 = .ok (.aload_n 0, 1) := dk_42 (dk_at dksX9_lent_0 11 rfl rfl)
theorem dX9_lent_12 : decode cX9_lent 12 = .ok (.getfield 19, 3) := dk_180 0 19 (dk_at dksX9_lent_0 12 rfl rfl)
theorem dX9_lent_15 : decode cX9_lent 15 = .ok (.bipush 36, 2) := dk_16 36 (dk_at dksX9_lent_0 15 rfl rfl)
theorem dX9_lent_17 : decode cX9_lent 17 = .ok (.iload_n 1, 1) := dk_27 (dk_at dksX9_lent_0 17 rfl rfl)
theorem dX9_lent_18 : decode cX9_lent 18 = .ok (.iadd, 1) := dk_96 (dk_at dksX9_lent_0 18 rfl rfl)
theorem dX9_lent_19 : decode cX9_lent 19 = .ok (.iaload, 1) := dk_46 (dk_at dksX9_lent_0 19 rfl rfl)
theorem dX9_lent_20 : decode cX9_lent 20 = .ok (.goto 4, 3) := dk_167 0 4 (dk_at dksX9_lent_0 20 rfl rfl)
theorem dX9_lent_23 : decode cX9_lent 23 = .ok (.iload_n 1, 1) := dk_27 (dk_at dksX9_lent_0 23 rfl rfl)
theorem dX9_lent_24 : decode cX9_lent 24 = .ok (.ireturn, 1) := dk_172 (dk_at dksX9_lent_1 0 rfl rfl)
abbrev cX9_markOf : ByteArray := prog_16_method_86_code
def yX9_markOf : MethodName := ⟨RX9, "markOf", "(I)I"⟩
def dkwX9_markOf_3 : List UInt8 := [182, 1, 27, 62, 29, 42, 27, 182, 1, 36, 100, 172]
abbrev dktX9_markOf_3 : List UInt8 := dkwX9_markOf_3 ++ []
def dkwX9_markOf_2 : List UInt8 := [100, 172, 28, 4, 160, 0, 9, 42, 27, 182, 1, 33, 172, 42, 16, 23, 182, 1, 24, 42, 27, 16, 20]
abbrev dktX9_markOf_2 : List UInt8 := dkwX9_markOf_2 ++ dktX9_markOf_3
def dkwX9_markOf_1 : List UInt8 := [182, 1, 33, 104, 172, 28, 6, 160, 0, 19, 42, 16, 22, 182, 1, 24, 42, 27, 182, 1, 33, 17, 3, 232]
abbrev dktX9_markOf_1 : List UInt8 := dkwX9_markOf_1 ++ dktX9_markOf_2
def dkwX9_markOf_0 : List UInt8 := [42, 180, 0, 19, 16, 26, 27, 96, 46, 61, 28, 5, 160, 0, 17, 42, 16, 24, 182, 1, 24, 5, 42, 27]
abbrev dktX9_markOf_0 : List UInt8 := dkwX9_markOf_0 ++ dktX9_markOf_1
theorem dksX9_markOf_0 : cX9_markOf.data.toList.drop 0 = dktX9_markOf_0 := by decide +kernel
theorem dksX9_markOf_1 : cX9_markOf.data.toList.drop 24 = dktX9_markOf_1 := dk_seg dksX9_markOf_0 24 rfl rfl
theorem dksX9_markOf_2 : cX9_markOf.data.toList.drop 48 = dktX9_markOf_2 := dk_seg dksX9_markOf_1 24 rfl rfl
theorem dksX9_markOf_3 : cX9_markOf.data.toList.drop 71 = dktX9_markOf_3 := dk_seg dksX9_markOf_2 23 rfl rfl
theorem dX9_markOf_0 : decode cX9_markOf 0 = .ok (.aload_n 0, 1) := dk_42 (dk_at dksX9_markOf_0 0 rfl rfl)
theorem dX9_markOf_1 : decode cX9_markOf 1 = .ok (.getfield 19, 3) := dk_180 0 19 (dk_at dksX9_markOf_0 1 rfl rfl)
theorem dX9_markOf_4 : decode cX9_markOf 4 = .ok (.bipush 26, 2) := dk_16 26 (dk_at dksX9_markOf_0 4 rfl rfl)
theorem dX9_markOf_6 : decode cX9_markOf 6 = .ok (.iload_n 1, 1) := dk_27 (dk_at dksX9_markOf_0 6 rfl rfl)
theorem dX9_markOf_7 : decode cX9_markOf 7 = .ok (.iadd, 1) := dk_96 (dk_at dksX9_markOf_0 7 rfl rfl)
theorem dX9_markOf_8 : decode cX9_markOf 8 = .ok (.iaload, 1) := dk_46 (dk_at dksX9_markOf_0 8 rfl rfl)
theorem dX9_markOf_9 : decode cX9_markOf 9 = .ok (.istore_n 2, 1) := dk_61 (dk_at dksX9_markOf_0 9 rfl rfl)
theorem dX9_markOf_10 : decode cX9_markOf 10 = .ok (.iload_n 2, 1) := dk_28 (dk_at dksX9_markOf_0 10 rfl rfl)
theorem dX9_markOf_11 : decode cX9_markOf 11 = .ok (.iconst 2, 1) := dk_5 (dk_at dksX9_markOf_0 11 rfl rfl)
theorem dX9_markOf_12 : decode cX9_markOf 12 = .ok (.if_icmp .ne 17, 3) := dk_160 0 17 (dk_at dksX9_markOf_0 12 rfl rfl)
theorem dX9_markOf_15 : decode cX9_markOf 15 = .ok (.aload_n 0, 1) := dk_42 (dk_at dksX9_markOf_0 15 rfl rfl)
theorem dX9_markOf_16 : decode cX9_markOf 16 = .ok (.bipush 24, 2) := dk_16 24 (dk_at dksX9_markOf_0 16 rfl rfl)
theorem dX9_markOf_18 : decode cX9_markOf 18 = .ok (.invokevirtual 280, 3) := dk_182 1 24 (dk_at dksX9_markOf_0 18 rfl rfl)
theorem dX9_markOf_21 : decode cX9_markOf 21 = .ok (.iconst 2, 1) := dk_5 (dk_at dksX9_markOf_0 21 rfl rfl)
theorem dX9_markOf_22 : decode cX9_markOf 22 = .ok (.aload_n 0, 1) := dk_42 (dk_at dksX9_markOf_0 22 rfl rfl)
theorem dX9_markOf_23 : decode cX9_markOf 23 = .ok (.iload_n 1, 1) := dk_27 (dk_at dksX9_markOf_0 23 rfl rfl)
theorem dX9_markOf_24 : decode cX9_markOf 24 = .ok (.invokevirtual 289, 3) := dk_182 1 33 (dk_at dksX9_markOf_1 0 rfl rfl)
theorem dX9_markOf_27 : decode cX9_markOf 27 = .ok (.imul, 1) := dk_104 (dk_at dksX9_markOf_1 3 rfl rfl)
theorem dX9_markOf_28 : decode cX9_markOf 28 = .ok (.ireturn, 1) := dk_172 (dk_at dksX9_markOf_1 4 rfl rfl)
theorem dX9_markOf_29 : decode cX9_markOf 29 = .ok (.iload_n 2, 1) := dk_28 (dk_at dksX9_markOf_1 5 rfl rfl)
theorem dX9_markOf_30 : decode cX9_markOf 30 = .ok (.iconst 3, 1) := dk_6 (dk_at dksX9_markOf_1 6 rfl rfl)
theorem dX9_markOf_31 : decode cX9_markOf 31 = .ok (.if_icmp .ne 19, 3) := dk_160 0 19 (dk_at dksX9_markOf_1 7 rfl rfl)
theorem dX9_markOf_34 : decode cX9_markOf 34 = .ok (.aload_n 0, 1) := dk_42 (dk_at dksX9_markOf_1 10 rfl rfl)
theorem dX9_markOf_35 : decode cX9_markOf 35 = .ok (.bipush 22, 2) := dk_16 22 (dk_at dksX9_markOf_1 11 rfl rfl)
theorem dX9_markOf_37 : decode cX9_markOf 37 = .ok (.invokevirtual 280, 3) := dk_182 1 24 (dk_at dksX9_markOf_1 13 rfl rfl)
theorem dX9_markOf_40 : decode cX9_markOf 40 = .ok (.aload_n 0, 1) := dk_42 (dk_at dksX9_markOf_1 16 rfl rfl)
theorem dX9_markOf_41 : decode cX9_markOf 41 = .ok (.iload_n 1, 1) := dk_27 (dk_at dksX9_markOf_1 17 rfl rfl)
theorem dX9_markOf_42 : decode cX9_markOf 42 = .ok (.invokevirtual 289, 3) := dk_182 1 33 (dk_at dksX9_markOf_1 18 rfl rfl)
theorem dX9_markOf_45 : decode cX9_markOf 45 = .ok (.sipush 1000, 3) := dk_17 3 232 (dk_at dksX9_markOf_1 21 rfl rfl)
theorem dX9_markOf_48 : decode cX9_markOf 48 = .ok (.isub, 1) := dk_100 (dk_at dksX9_markOf_2 0 rfl rfl)
theorem dX9_markOf_49 : decode cX9_markOf 49 = .ok (.ireturn, 1) := dk_172 (dk_at dksX9_markOf_2 1 rfl rfl)
theorem dX9_markOf_50 : decode cX9_markOf 50 = .ok (.iload_n 2, 1) := dk_28 (dk_at dksX9_markOf_2 2 rfl rfl)
theorem dX9_markOf_51 : decode cX9_markOf 51 = .ok (.iconst 1, 1) := dk_4 (dk_at dksX9_markOf_2 3 rfl rfl)
theorem dX9_markOf_52 : decode cX9_markOf 52 = .ok (.if_icmp .ne 9, 3) := dk_160 0 9 (dk_at dksX9_markOf_2 4 rfl rfl)
theorem dX9_markOf_55 : decode cX9_markOf 55 = .ok (.aload_n 0, 1) := dk_42 (dk_at dksX9_markOf_2 7 rfl rfl)
theorem dX9_markOf_56 : decode cX9_markOf 56 = .ok (.iload_n 1, 1) := dk_27 (dk_at dksX9_markOf_2 8 rfl rfl)
theorem dX9_markOf_57 : decode cX9_markOf 57 = .ok (.invokevirtual 289, 3) := dk_182 1 33 (dk_at dksX9_markOf_2 9 rfl rfl)
theorem dX9_markOf_60 : decode cX9_markOf 60 = .ok (.ireturn, 1) := dk_172 (dk_at dksX9_markOf_2 12 rfl rfl)
theorem dX9_markOf_61 : decode cX9_markOf 61 = .ok (.aload_n 0, 1) := dk_42 (dk_at dksX9_markOf_2 13 rfl rfl)
theorem dX9_markOf_62 : decode cX9_markOf 62 = .ok (.bipush 23, 2) := dk_16 23 (dk_at dksX9_markOf_2 14 rfl rfl)
theorem dX9_markOf_64 : decode cX9_markOf 64 = .ok (.invokevirtual 280, 3) := dk_182 1 24 (dk_at dksX9_markOf_2 16 rfl rfl)
theorem dX9_markOf_67 : decode cX9_markOf 67 = .ok (.aload_n 0, 1) := dk_42 (dk_at dksX9_markOf_2 19 rfl rfl)
theorem dX9_markOf_68 : decode cX9_markOf 68 = .ok (.iload_n 1, 1) := dk_27 (dk_at dksX9_markOf_2 20 rfl rfl)
theorem dX9_markOf_69 : decode cX9_markOf 69 = .ok (.bipush 20, 2) := dk_16 20 (dk_at dksX9_markOf_2 21 rfl rfl)
theorem dX9_markOf_71 : decode cX9_markOf 71 = .ok (.invokevirtual 283, 3) := dk_182 1 27 (dk_at dksX9_markOf_3 0 rfl rfl)
theorem dX9_markOf_74 : decode cX9_markOf 74 = .ok (.istore_n 3, 1) := dk_62 (dk_at dksX9_markOf_3 3 rfl rfl)
theorem dX9_markOf_75 : decode cX9_markOf 75 = .ok (.iload_n 3, 1) := dk_29 (dk_at dksX9_markOf_3 4 rfl rfl)
theorem dX9_markOf_76 : decode cX9_markOf 76 = .ok (.aload_n 0, 1) := dk_42 (dk_at dksX9_markOf_3 5 rfl rfl)
theorem dX9_markOf_77 : decode cX9_markOf 77 = .ok (.iload_n 1, 1) := dk_27 (dk_at dksX9_markOf_3 6 rfl rfl)
theorem dX9_markOf_78 : decode cX9_markOf 78 = .ok (.invokevirtual 292, 3) := dk_182 1 36 (dk_at dksX9_markOf_3 7 rfl rfl)
theorem dX9_markOf_81 : decode cX9_markOf 81 = .ok (.isub, 1) := dk_100 (dk_at dksX9_markOf_3 10 rfl rfl)
theorem dX9_markOf_82 : decode cX9_markOf 82 = .ok (.ireturn, 1) := dk_172 (dk_at dksX9_markOf_3 11 rfl rfl)
abbrev cX9_readerMark : ByteArray := prog_16_method_83_code
def yX9_readerMark : MethodName := ⟨RX9, "readerMark", "(I)I"⟩
def dkwX9_readerMark_0 : List UInt8 := [42, 16, 21, 182, 1, 24, 42, 27, 16, 20, 182, 1, 27, 42, 180, 0, 19, 16, 31, 27, 96, 46, 96, 172]
abbrev dktX9_readerMark_0 : List UInt8 := dkwX9_readerMark_0 ++ []
theorem dksX9_readerMark_0 : cX9_readerMark.data.toList.drop 0 = dktX9_readerMark_0 := by decide +kernel
theorem dX9_readerMark_0 : decode cX9_readerMark 0 = .ok (.aload_n 0, 1) := dk_42 (dk_at dksX9_readerMark_0 0 rfl rfl)
theorem dX9_readerMark_1 : decode cX9_readerMark 1 = .ok (.bipush 21, 2) := dk_16 21 (dk_at dksX9_readerMark_0 1 rfl rfl)
theorem dX9_readerMark_3 : decode cX9_readerMark 3 = .ok (.invokevirtual 280, 3) := dk_182 1 24 (dk_at dksX9_readerMark_0 3 rfl rfl)
theorem dX9_readerMark_6 : decode cX9_readerMark 6 = .ok (.aload_n 0, 1) := dk_42 (dk_at dksX9_readerMark_0 6 rfl rfl)
theorem dX9_readerMark_7 : decode cX9_readerMark 7 = .ok (.iload_n 1, 1) := dk_27 (dk_at dksX9_readerMark_0 7 rfl rfl)
theorem dX9_readerMark_8 : decode cX9_readerMark 8 = .ok (.bipush 20, 2) := dk_16 20 (dk_at dksX9_readerMark_0 8 rfl rfl)
theorem dX9_readerMark_10 : decode cX9_readerMark 10 = .ok (.invokevirtual 283, 3) := dk_182 1 27 (dk_at dksX9_readerMark_0 10 rfl rfl)
theorem dX9_readerMark_13 : decode cX9_readerMark 13 = .ok (.aload_n 0, 1) := dk_42 (dk_at dksX9_readerMark_0 13 rfl rfl)
theorem dX9_readerMark_14 : decode cX9_readerMark 14 = .ok (.getfield 19, 3) := dk_180 0 19 (dk_at dksX9_readerMark_0 14 rfl rfl)
theorem dX9_readerMark_17 : decode cX9_readerMark 17 = .ok (.bipush 31, 2) := dk_16 31 (dk_at dksX9_readerMark_0 17 rfl rfl)
theorem dX9_readerMark_19 : decode cX9_readerMark 19 = .ok (.iload_n 1, 1) := dk_27 (dk_at dksX9_readerMark_0 19 rfl rfl)
theorem dX9_readerMark_20 : decode cX9_readerMark 20 = .ok (.iadd, 1) := dk_96 (dk_at dksX9_readerMark_0 20 rfl rfl)
theorem dX9_readerMark_21 : decode cX9_readerMark 21 = .ok (.iaload, 1) := dk_46 (dk_at dksX9_readerMark_0 21 rfl rfl)
theorem dX9_readerMark_22 : decode cX9_readerMark 22 = .ok (.iadd, 1) := dk_96 (dk_at dksX9_readerMark_0 22 rfl rfl)
theorem dX9_readerMark_23 : decode cX9_readerMark 23 = .ok (.ireturn, 1) := dk_172 (dk_at dksX9_readerMark_0 23 rfl rfl)
abbrev cX9_sizeOfWanderer : ByteArray := prog_16_method_85_code
def yX9_sizeOfWanderer : MethodName := ⟨RX9, "sizeOfWanderer", "(I)I"⟩
def dkwX9_sizeOfWanderer_1 : List UInt8 := [182, 1, 30, 104, 172, 42, 27, 182, 1, 30, 172]
abbrev dktX9_sizeOfWanderer_1 : List UInt8 := dkwX9_sizeOfWanderer_1 ++ []
def dkwX9_sizeOfWanderer_0 : List UInt8 := [42, 180, 0, 19, 16, 26, 27, 96, 46, 8, 160, 0, 17, 42, 16, 14, 182, 1, 24, 5, 42, 27]
abbrev dktX9_sizeOfWanderer_0 : List UInt8 := dkwX9_sizeOfWanderer_0 ++ dktX9_sizeOfWanderer_1
theorem dksX9_sizeOfWanderer_0 : cX9_sizeOfWanderer.data.toList.drop 0 = dktX9_sizeOfWanderer_0 := by decide +kernel
theorem dksX9_sizeOfWanderer_1 : cX9_sizeOfWanderer.data.toList.drop 22 = dktX9_sizeOfWanderer_1 := dk_seg dksX9_sizeOfWanderer_0 22 rfl rfl
theorem dX9_sizeOfWanderer_0 : decode cX9_sizeOfWanderer 0 = .ok (.aload_n 0, 1) := dk_42 (dk_at dksX9_sizeOfWanderer_0 0 rfl rfl)
theorem dX9_sizeOfWanderer_1 : decode cX9_sizeOfWanderer 1 = .ok (.getfield 19, 3) := dk_180 0 19 (dk_at dksX9_sizeOfWanderer_0 1 rfl rfl)
theorem dX9_sizeOfWanderer_4 : decode cX9_sizeOfWanderer 4 = .ok (.bipush 26, 2) := dk_16 26 (dk_at dksX9_sizeOfWanderer_0 4 rfl rfl)
theorem dX9_sizeOfWanderer_6 : decode cX9_sizeOfWanderer 6 = .ok (.iload_n 1, 1) := dk_27 (dk_at dksX9_sizeOfWanderer_0 6 rfl rfl)
theorem dX9_sizeOfWanderer_7 : decode cX9_sizeOfWanderer 7 = .ok (.iadd, 1) := dk_96 (dk_at dksX9_sizeOfWanderer_0 7 rfl rfl)
theorem dX9_sizeOfWanderer_8 : decode cX9_sizeOfWanderer 8 = .ok (.iaload, 1) := dk_46 (dk_at dksX9_sizeOfWanderer_0 8 rfl rfl)
theorem dX9_sizeOfWanderer_9 : decode cX9_sizeOfWanderer 9 = .ok (.iconst 5, 1) := dk_8 (dk_at dksX9_sizeOfWanderer_0 9 rfl rfl)
theorem dX9_sizeOfWanderer_10 : decode cX9_sizeOfWanderer 10 = .ok (.if_icmp .ne 17, 3) := dk_160 0 17 (dk_at dksX9_sizeOfWanderer_0 10 rfl rfl)
theorem dX9_sizeOfWanderer_13 : decode cX9_sizeOfWanderer 13 = .ok (.aload_n 0, 1) := dk_42 (dk_at dksX9_sizeOfWanderer_0 13 rfl rfl)
theorem dX9_sizeOfWanderer_14 : decode cX9_sizeOfWanderer 14 = .ok (.bipush 14, 2) := dk_16 14 (dk_at dksX9_sizeOfWanderer_0 14 rfl rfl)
theorem dX9_sizeOfWanderer_16 : decode cX9_sizeOfWanderer 16 = .ok (.invokevirtual 280, 3) := dk_182 1 24 (dk_at dksX9_sizeOfWanderer_0 16 rfl rfl)
theorem dX9_sizeOfWanderer_19 : decode cX9_sizeOfWanderer 19 = .ok (.iconst 2, 1) := dk_5 (dk_at dksX9_sizeOfWanderer_0 19 rfl rfl)
theorem dX9_sizeOfWanderer_20 : decode cX9_sizeOfWanderer 20 = .ok (.aload_n 0, 1) := dk_42 (dk_at dksX9_sizeOfWanderer_0 20 rfl rfl)
theorem dX9_sizeOfWanderer_21 : decode cX9_sizeOfWanderer 21 = .ok (.iload_n 1, 1) := dk_27 (dk_at dksX9_sizeOfWanderer_0 21 rfl rfl)
theorem dX9_sizeOfWanderer_22 : decode cX9_sizeOfWanderer 22 = .ok (.invokevirtual 286, 3) := dk_182 1 30 (dk_at dksX9_sizeOfWanderer_1 0 rfl rfl)
theorem dX9_sizeOfWanderer_25 : decode cX9_sizeOfWanderer 25 = .ok (.imul, 1) := dk_104 (dk_at dksX9_sizeOfWanderer_1 3 rfl rfl)
theorem dX9_sizeOfWanderer_26 : decode cX9_sizeOfWanderer 26 = .ok (.ireturn, 1) := dk_172 (dk_at dksX9_sizeOfWanderer_1 4 rfl rfl)
theorem dX9_sizeOfWanderer_27 : decode cX9_sizeOfWanderer 27 = .ok (.aload_n 0, 1) := dk_42 (dk_at dksX9_sizeOfWanderer_1 5 rfl rfl)
theorem dX9_sizeOfWanderer_28 : decode cX9_sizeOfWanderer 28 = .ok (.iload_n 1, 1) := dk_27 (dk_at dksX9_sizeOfWanderer_1 6 rfl rfl)
theorem dX9_sizeOfWanderer_29 : decode cX9_sizeOfWanderer 29 = .ok (.invokevirtual 286, 3) := dk_182 1 30 (dk_at dksX9_sizeOfWanderer_1 7 rfl rfl)
theorem dX9_sizeOfWanderer_32 : decode cX9_sizeOfWanderer 32 = .ok (.ireturn, 1) := dk_172 (dk_at dksX9_sizeOfWanderer_1 10 rfl rfl)
abbrev cX9_wandererSize : ByteArray := prog_16_method_84_code
def yX9_wandererSize : MethodName := ⟨RX9, "wandererSize", "(I)I"⟩
def dkwX9_wandererSize_0 : List UInt8 := [42, 16, 13, 182, 1, 24, 42, 27, 16, 10, 182, 1, 27, 16, 100, 100, 172]
abbrev dktX9_wandererSize_0 : List UInt8 := dkwX9_wandererSize_0 ++ []
theorem dksX9_wandererSize_0 : cX9_wandererSize.data.toList.drop 0 = dktX9_wandererSize_0 := by decide +kernel
theorem dX9_wandererSize_0 : decode cX9_wandererSize 0 = .ok (.aload_n 0, 1) := dk_42 (dk_at dksX9_wandererSize_0 0 rfl rfl)
theorem dX9_wandererSize_1 : decode cX9_wandererSize 1 = .ok (.bipush 13, 2) := dk_16 13 (dk_at dksX9_wandererSize_0 1 rfl rfl)
theorem dX9_wandererSize_3 : decode cX9_wandererSize 3 = .ok (.invokevirtual 280, 3) := dk_182 1 24 (dk_at dksX9_wandererSize_0 3 rfl rfl)
theorem dX9_wandererSize_6 : decode cX9_wandererSize 6 = .ok (.aload_n 0, 1) := dk_42 (dk_at dksX9_wandererSize_0 6 rfl rfl)
theorem dX9_wandererSize_7 : decode cX9_wandererSize 7 = .ok (.iload_n 1, 1) := dk_27 (dk_at dksX9_wandererSize_0 7 rfl rfl)
theorem dX9_wandererSize_8 : decode cX9_wandererSize 8 = .ok (.bipush 10, 2) := dk_16 10 (dk_at dksX9_wandererSize_0 8 rfl rfl)
theorem dX9_wandererSize_10 : decode cX9_wandererSize 10 = .ok (.invokevirtual 283, 3) := dk_182 1 27 (dk_at dksX9_wandererSize_0 10 rfl rfl)
theorem dX9_wandererSize_13 : decode cX9_wandererSize 13 = .ok (.bipush 100, 2) := dk_16 100 (dk_at dksX9_wandererSize_0 13 rfl rfl)
theorem dX9_wandererSize_15 : decode cX9_wandererSize 15 = .ok (.isub, 1) := dk_100 (dk_at dksX9_wandererSize_0 15 rfl rfl)
theorem dX9_wandererSize_16 : decode cX9_wandererSize 16 = .ok (.ireturn, 1) := dk_172 (dk_at dksX9_wandererSize_0 16 rfl rfl)
abbrev cX9_trace : ByteArray := prog_16_method_90_code
def yX9_trace : MethodName := ⟨RX9, "trace", "(I)I"⟩
def dkwX9_trace_1 : List UInt8 := [167, 0, 5, 18, 158, 172]
abbrev dktX9_trace_1 : List UInt8 := dkwX9_trace_1 ++ []
def dkwX9_trace_0 : List UInt8 := [27, 133, 9, 42, 180, 1, 21, 4, 100, 133, 184, 0, 63, 153, 0, 12, 42, 180, 0, 53, 27, 46]
abbrev dktX9_trace_0 : List UInt8 := dkwX9_trace_0 ++ dktX9_trace_1
theorem dksX9_trace_0 : cX9_trace.data.toList.drop 0 = dktX9_trace_0 := by decide +kernel
theorem dksX9_trace_1 : cX9_trace.data.toList.drop 22 = dktX9_trace_1 := dk_seg dksX9_trace_0 22 rfl rfl
theorem dX9_trace_0 : decode cX9_trace 0 = .ok (.iload_n 1, 1) := dk_27 (dk_at dksX9_trace_0 0 rfl rfl)
theorem dX9_trace_1 : decode cX9_trace 1 = .ok (.i2l, 1) := dk_133 (dk_at dksX9_trace_0 1 rfl rfl)
theorem dX9_trace_2 : decode cX9_trace 2 = .ok (.lconst 0, 1) := dk_9 (dk_at dksX9_trace_0 2 rfl rfl)
theorem dX9_trace_3 : decode cX9_trace 3 = .ok (.aload_n 0, 1) := dk_42 (dk_at dksX9_trace_0 3 rfl rfl)
theorem dX9_trace_4 : decode cX9_trace 4 = .ok (.getfield 277, 3) := dk_180 1 21 (dk_at dksX9_trace_0 4 rfl rfl)
theorem dX9_trace_7 : decode cX9_trace 7 = .ok (.iconst 1, 1) := dk_4 (dk_at dksX9_trace_0 7 rfl rfl)
theorem dX9_trace_8 : decode cX9_trace 8 = .ok (.isub, 1) := dk_100 (dk_at dksX9_trace_0 8 rfl rfl)
theorem dX9_trace_9 : decode cX9_trace 9 = .ok (.i2l, 1) := dk_133 (dk_at dksX9_trace_0 9 rfl rfl)
theorem dX9_trace_10 : decode cX9_trace 10 = .ok (.invokestatic 63, 3) := dk_184 0 63 (dk_at dksX9_trace_0 10 rfl rfl)
theorem dX9_trace_13 : decode cX9_trace 13 = .ok (.ifCond .eq 12, 3) := dk_153 0 12 (dk_at dksX9_trace_0 13 rfl rfl)
theorem dX9_trace_16 : decode cX9_trace 16 = .ok (.aload_n 0, 1) := dk_42 (dk_at dksX9_trace_0 16 rfl rfl)
theorem dX9_trace_17 : decode cX9_trace 17 = .ok (.getfield 53, 3) := dk_180 0 53 (dk_at dksX9_trace_0 17 rfl rfl)
theorem dX9_trace_20 : decode cX9_trace 20 = .ok (.iload_n 1, 1) := dk_27 (dk_at dksX9_trace_0 20 rfl rfl)
theorem dX9_trace_21 : decode cX9_trace 21 = .ok (.iaload, 1) := dk_46 (dk_at dksX9_trace_0 21 rfl rfl)
theorem dX9_trace_22 : decode cX9_trace 22 = .ok (.goto 5, 3) := dk_167 0 5 (dk_at dksX9_trace_1 0 rfl rfl)
theorem dX9_trace_25 : decode cX9_trace 25 = .ok (.ldc 158, 2) := dk_18 158 (dk_at dksX9_trace_1 3 rfl rfl)
theorem dX9_trace_27 : decode cX9_trace 27 = .ok (.ireturn, 1) := dk_172 (dk_at dksX9_trace_1 5 rfl rfl)
abbrev cX9_count : ByteArray := prog_16_method_91_code
def yX9_count : MethodName := ⟨RX9, "count", "(I)I"⟩
def dkwX9_count_5 : List UInt8 := [182, 0, 190, 172, 29, 172, 42, 180, 0, 151, 172, 42, 180, 0, 87, 172, 18, 73, 172]
abbrev dktX9_count_5 : List UInt8 := dkwX9_count_5 ++ []
def dkwX9_count_4 : List UInt8 := [28, 172, 42, 180, 0, 19, 3, 46, 172, 42, 180, 0, 19, 4, 46, 172, 42, 180, 0, 19, 7, 46, 172, 42]
abbrev dktX9_count_4 : List UInt8 := dkwX9_count_4 ++ dktX9_count_5
def dkwX9_count_3 : List UInt8 := [170, 0, 0, 0, 0, 0, 87, 0, 0, 0, 0, 0, 0, 0, 7, 0, 0, 0, 47, 0, 0, 0, 49, 0, 0, 0, 56, 0, 0, 0, 63, 0, 0, 0, 70, 0, 0, 0, 75, 0, 0, 0, 77, 0, 0, 0, 82]
abbrev dktX9_count_3 : List UInt8 := dkwX9_count_3 ++ dktX9_count_4
def dkwX9_count_2 : List UInt8 := [162, 0, 22, 29, 42, 180, 0, 19, 16, 36, 21, 4, 96, 46, 96, 62, 132, 4, 1, 167, 255, 229, 27]
abbrev dktX9_count_2 : List UInt8 := dkwX9_count_2 ++ dktX9_count_3
def dkwX9_count_1 : List UInt8 := [3, 96, 61, 132, 3, 1, 167, 255, 230, 3, 62, 3, 54, 4, 21, 4, 42, 180, 0, 19, 4, 46]
abbrev dktX9_count_1 : List UInt8 := dkwX9_count_1 ++ dktX9_count_2
def dkwX9_count_0 : List UInt8 := [3, 61, 3, 62, 29, 16, 8, 162, 0, 26, 28, 42, 180, 0, 13, 29, 46, 155, 0, 7, 4, 167, 0, 4]
abbrev dktX9_count_0 : List UInt8 := dkwX9_count_0 ++ dktX9_count_1
theorem dksX9_count_0 : cX9_count.data.toList.drop 0 = dktX9_count_0 := by decide +kernel
theorem dksX9_count_1 : cX9_count.data.toList.drop 24 = dktX9_count_1 := dk_seg dksX9_count_0 24 rfl rfl
theorem dksX9_count_2 : cX9_count.data.toList.drop 46 = dktX9_count_2 := dk_seg dksX9_count_1 22 rfl rfl
theorem dksX9_count_3 : cX9_count.data.toList.drop 69 = dktX9_count_3 := dk_seg dksX9_count_2 23 rfl rfl
theorem dksX9_count_4 : cX9_count.data.toList.drop 116 = dktX9_count_4 := dk_seg dksX9_count_3 47 rfl rfl
theorem dksX9_count_5 : cX9_count.data.toList.drop 140 = dktX9_count_5 := dk_seg dksX9_count_4 24 rfl rfl
theorem dX9_count_0 : decode cX9_count 0 = .ok (.iconst 0, 1) := dk_3 (dk_at dksX9_count_0 0 rfl rfl)
theorem dX9_count_1 : decode cX9_count 1 = .ok (.istore_n 2, 1) := dk_61 (dk_at dksX9_count_0 1 rfl rfl)
theorem dX9_count_2 : decode cX9_count 2 = .ok (.iconst 0, 1) := dk_3 (dk_at dksX9_count_0 2 rfl rfl)
theorem dX9_count_3 : decode cX9_count 3 = .ok (.istore_n 3, 1) := dk_62 (dk_at dksX9_count_0 3 rfl rfl)
theorem dX9_count_4 : decode cX9_count 4 = .ok (.iload_n 3, 1) := dk_29 (dk_at dksX9_count_0 4 rfl rfl)
theorem dX9_count_5 : decode cX9_count 5 = .ok (.bipush 8, 2) := dk_16 8 (dk_at dksX9_count_0 5 rfl rfl)
theorem dX9_count_7 : decode cX9_count 7 = .ok (.if_icmp .ge 26, 3) := dk_162 0 26 (dk_at dksX9_count_0 7 rfl rfl)
theorem dX9_count_10 : decode cX9_count 10 = .ok (.iload_n 2, 1) := dk_28 (dk_at dksX9_count_0 10 rfl rfl)
theorem dX9_count_11 : decode cX9_count 11 = .ok (.aload_n 0, 1) := dk_42 (dk_at dksX9_count_0 11 rfl rfl)
theorem dX9_count_12 : decode cX9_count 12 = .ok (.getfield 13, 3) := dk_180 0 13 (dk_at dksX9_count_0 12 rfl rfl)
theorem dX9_count_15 : decode cX9_count 15 = .ok (.iload_n 3, 1) := dk_29 (dk_at dksX9_count_0 15 rfl rfl)
theorem dX9_count_16 : decode cX9_count 16 = .ok (.iaload, 1) := dk_46 (dk_at dksX9_count_0 16 rfl rfl)
theorem dX9_count_17 : decode cX9_count 17 = .ok (.ifCond .lt 7, 3) := dk_155 0 7 (dk_at dksX9_count_0 17 rfl rfl)
theorem dX9_count_20 : decode cX9_count 20 = .ok (.iconst 1, 1) := dk_4 (dk_at dksX9_count_0 20 rfl rfl)
theorem dX9_count_21 : decode cX9_count 21 = .ok (.goto 4, 3) := dk_167 0 4 (dk_at dksX9_count_0 21 rfl rfl)
theorem dX9_count_24 : decode cX9_count 24 = .ok (.iconst 0, 1) := dk_3 (dk_at dksX9_count_1 0 rfl rfl)
theorem dX9_count_25 : decode cX9_count 25 = .ok (.iadd, 1) := dk_96 (dk_at dksX9_count_1 1 rfl rfl)
theorem dX9_count_26 : decode cX9_count 26 = .ok (.istore_n 2, 1) := dk_61 (dk_at dksX9_count_1 2 rfl rfl)
theorem dX9_count_27 : decode cX9_count 27 = .ok (.iinc 3 1, 3) := dk_132 3 1 (dk_at dksX9_count_1 3 rfl rfl)
theorem dX9_count_30 : decode cX9_count 30 = .ok (.goto (-26), 3) := dk_167 255 230 (dk_at dksX9_count_1 6 rfl rfl)
theorem dX9_count_33 : decode cX9_count 33 = .ok (.iconst 0, 1) := dk_3 (dk_at dksX9_count_1 9 rfl rfl)
theorem dX9_count_34 : decode cX9_count 34 = .ok (.istore_n 3, 1) := dk_62 (dk_at dksX9_count_1 10 rfl rfl)
theorem dX9_count_35 : decode cX9_count 35 = .ok (.iconst 0, 1) := dk_3 (dk_at dksX9_count_1 11 rfl rfl)
theorem dX9_count_36 : decode cX9_count 36 = .ok (.istore 4, 2) := dk_54 4 (dk_at dksX9_count_1 12 rfl rfl)
theorem dX9_count_38 : decode cX9_count 38 = .ok (.iload 4, 2) := dk_21 4 (dk_at dksX9_count_1 14 rfl rfl)
theorem dX9_count_40 : decode cX9_count 40 = .ok (.aload_n 0, 1) := dk_42 (dk_at dksX9_count_1 16 rfl rfl)
theorem dX9_count_41 : decode cX9_count 41 = .ok (.getfield 19, 3) := dk_180 0 19 (dk_at dksX9_count_1 17 rfl rfl)
theorem dX9_count_44 : decode cX9_count 44 = .ok (.iconst 1, 1) := dk_4 (dk_at dksX9_count_1 20 rfl rfl)
theorem dX9_count_45 : decode cX9_count 45 = .ok (.iaload, 1) := dk_46 (dk_at dksX9_count_1 21 rfl rfl)
theorem dX9_count_46 : decode cX9_count 46 = .ok (.if_icmp .ge 22, 3) := dk_162 0 22 (dk_at dksX9_count_2 0 rfl rfl)
theorem dX9_count_49 : decode cX9_count 49 = .ok (.iload_n 3, 1) := dk_29 (dk_at dksX9_count_2 3 rfl rfl)
theorem dX9_count_50 : decode cX9_count 50 = .ok (.aload_n 0, 1) := dk_42 (dk_at dksX9_count_2 4 rfl rfl)
theorem dX9_count_51 : decode cX9_count 51 = .ok (.getfield 19, 3) := dk_180 0 19 (dk_at dksX9_count_2 5 rfl rfl)
theorem dX9_count_54 : decode cX9_count 54 = .ok (.bipush 36, 2) := dk_16 36 (dk_at dksX9_count_2 8 rfl rfl)
theorem dX9_count_56 : decode cX9_count 56 = .ok (.iload 4, 2) := dk_21 4 (dk_at dksX9_count_2 10 rfl rfl)
theorem dX9_count_58 : decode cX9_count 58 = .ok (.iadd, 1) := dk_96 (dk_at dksX9_count_2 12 rfl rfl)
theorem dX9_count_59 : decode cX9_count 59 = .ok (.iaload, 1) := dk_46 (dk_at dksX9_count_2 13 rfl rfl)
theorem dX9_count_60 : decode cX9_count 60 = .ok (.iadd, 1) := dk_96 (dk_at dksX9_count_2 14 rfl rfl)
theorem dX9_count_61 : decode cX9_count 61 = .ok (.istore_n 3, 1) := dk_62 (dk_at dksX9_count_2 15 rfl rfl)
theorem dX9_count_62 : decode cX9_count 62 = .ok (.iinc 4 1, 3) := dk_132 4 1 (dk_at dksX9_count_2 16 rfl rfl)
theorem dX9_count_65 : decode cX9_count 65 = .ok (.goto (-27), 3) := dk_167 255 229 (dk_at dksX9_count_2 19 rfl rfl)
theorem dX9_count_68 : decode cX9_count 68 = .ok (.iload_n 1, 1) := dk_27 (dk_at dksX9_count_2 22 rfl rfl)
theorem dX9_count_69 : decode cX9_count 69 = .ok (.tableswitch 87 0 7 #[47, 49, 56, 63, 70, 75, 77, 82], 47) := by decide +kernel
theorem dX9_count_116 : decode cX9_count 116 = .ok (.iload_n 2, 1) := dk_28 (dk_at dksX9_count_4 0 rfl rfl)
theorem dX9_count_117 : decode cX9_count 117 = .ok (.ireturn, 1) := dk_172 (dk_at dksX9_count_4 1 rfl rfl)
theorem dX9_count_118 : decode cX9_count 118 = .ok (.aload_n 0, 1) := dk_42 (dk_at dksX9_count_4 2 rfl rfl)
theorem dX9_count_119 : decode cX9_count 119 = .ok (.getfield 19, 3) := dk_180 0 19 (dk_at dksX9_count_4 3 rfl rfl)
theorem dX9_count_122 : decode cX9_count 122 = .ok (.iconst 0, 1) := dk_3 (dk_at dksX9_count_4 6 rfl rfl)
theorem dX9_count_123 : decode cX9_count 123 = .ok (.iaload, 1) := dk_46 (dk_at dksX9_count_4 7 rfl rfl)
theorem dX9_count_124 : decode cX9_count 124 = .ok (.ireturn, 1) := dk_172 (dk_at dksX9_count_4 8 rfl rfl)
theorem dX9_count_125 : decode cX9_count 125 = .ok (.aload_n 0, 1) := dk_42 (dk_at dksX9_count_4 9 rfl rfl)
theorem dX9_count_126 : decode cX9_count 126 = .ok (.getfield 19, 3) := dk_180 0 19 (dk_at dksX9_count_4 10 rfl rfl)
theorem dX9_count_129 : decode cX9_count 129 = .ok (.iconst 1, 1) := dk_4 (dk_at dksX9_count_4 13 rfl rfl)
theorem dX9_count_130 : decode cX9_count 130 = .ok (.iaload, 1) := dk_46 (dk_at dksX9_count_4 14 rfl rfl)
theorem dX9_count_131 : decode cX9_count 131 = .ok (.ireturn, 1) := dk_172 (dk_at dksX9_count_4 15 rfl rfl)
theorem dX9_count_132 : decode cX9_count 132 = .ok (.aload_n 0, 1) := dk_42 (dk_at dksX9_count_4 16 rfl rfl)
theorem dX9_count_133 : decode cX9_count 133 = .ok (.getfield 19, 3) := dk_180 0 19 (dk_at dksX9_count_4 17 rfl rfl)
theorem dX9_count_136 : decode cX9_count 136 = .ok (.iconst 4, 1) := dk_7 (dk_at dksX9_count_4 20 rfl rfl)
theorem dX9_count_137 : decode cX9_count 137 = .ok (.iaload, 1) := dk_46 (dk_at dksX9_count_4 21 rfl rfl)
theorem dX9_count_138 : decode cX9_count 138 = .ok (.ireturn, 1) := dk_172 (dk_at dksX9_count_4 22 rfl rfl)
theorem dX9_count_139 : decode cX9_count 139 = .ok (.aload_n 0, 1) := dk_42 (dk_at dksX9_count_4 23 rfl rfl)
theorem dX9_count_140 : decode cX9_count 140 = .ok (.invokevirtual 190, 3) := dk_182 0 190 (dk_at dksX9_count_5 0 rfl rfl)
theorem dX9_count_143 : decode cX9_count 143 = .ok (.ireturn, 1) := dk_172 (dk_at dksX9_count_5 3 rfl rfl)
theorem dX9_count_144 : decode cX9_count 144 = .ok (.iload_n 3, 1) := dk_29 (dk_at dksX9_count_5 4 rfl rfl)
theorem dX9_count_145 : decode cX9_count 145 = .ok (.ireturn, 1) := dk_172 (dk_at dksX9_count_5 5 rfl rfl)
theorem dX9_count_146 : decode cX9_count 146 = .ok (.aload_n 0, 1) := dk_42 (dk_at dksX9_count_5 6 rfl rfl)
theorem dX9_count_147 : decode cX9_count 147 = .ok (.getfield 151, 3) := dk_180 0 151 (dk_at dksX9_count_5 7 rfl rfl)
theorem dX9_count_150 : decode cX9_count 150 = .ok (.ireturn, 1) := dk_172 (dk_at dksX9_count_5 10 rfl rfl)
theorem dX9_count_151 : decode cX9_count 151 = .ok (.aload_n 0, 1) := dk_42 (dk_at dksX9_count_5 11 rfl rfl)
theorem dX9_count_152 : decode cX9_count 152 = .ok (.getfield 87, 3) := dk_180 0 87 (dk_at dksX9_count_5 12 rfl rfl)
theorem dX9_count_155 : decode cX9_count 155 = .ok (.ireturn, 1) := dk_172 (dk_at dksX9_count_5 15 rfl rfl)
theorem dX9_count_156 : decode cX9_count 156 = .ok (.ldc 73, 2) := dk_18 73 (dk_at dksX9_count_5 16 rfl rfl)
theorem dX9_count_158 : decode cX9_count 158 = .ok (.ireturn, 1) := dk_172 (dk_at dksX9_count_5 18 rfl rfl)
abbrev cX9_status : ByteArray := prog_16_method_92_code
def yX9_status : MethodName := ⟨RX9, "status", "()I"⟩
theorem dX9_status_0 : decode cX9_status 0 = .ok (.aload_n 0, 1) := by decide +kernel
theorem dX9_status_1 : decode cX9_status 1 = .ok (.getfield 56, 3) := by decide +kernel
theorem dX9_status_4 : decode cX9_status 4 = .ok (.ireturn, 1) := by decide +kernel
theorem q89 : (Jvm.Cond.initialized "FishReadersModel") ∈ lw_all := lw_g (lw_at lw_m1 13 rfl) rfl
theorem q745 : (Jvm.Cond.selects "FishReadersModel" ({ cls := "java/lang/Object", name := "getClass", desc := "()Ljava/lang/Class;" } : Jvm.MethodName) ({ cls := "java/lang/Object", name := "getClass", desc := "()Ljava/lang/Class;" } : Jvm.MethodName)) ∈ lw_all := lw_g (lw_at lw_m3 189 rfl) rfl
theorem q1242 : (Jvm.Cond.instantiable "FishReadersModel" (26 : Nat)) ∈ lw_all := lw_g (lw_at lw_m5 206 rfl) rfl
theorem q1244 : (Jvm.Cond.instanceMethod ({ cls := "FishReadersModel", name := "<init>", desc := "()V" } : Jvm.MethodName)) ∈ lw_all := lw_g (lw_at lw_m5 208 rfl) rfl
theorem q1245 : (Jvm.Cond.code ({ cls := "FishReadersModel", name := "<init>", desc := "()V" } : Jvm.MethodName) prog_16_method_1_code (2 : Nat) (Option.none : Option Jvm.ClassFile.FieldType)) ∈ lw_all := lw_g (lw_at lw_m5 209 rfl) rfl
theorem q1246 : (Jvm.Cond.methodLink "FishReadersModel" (1 : Nat) ({ cls := "java/lang/Object", name := "<init>", desc := "()V" } : Jvm.MethodName)) ∈ lw_all := lw_g (lw_at lw_m5 210 rfl) rfl
theorem q1247 : (Jvm.Cond.fieldLink "FishReadersModel" (7 : Nat) "FishReadersModel" "lanes" "[I") ∈ lw_all := lw_g (lw_at lw_m5 211 rfl) rfl
theorem q1248 : (Jvm.Cond.fieldLink "FishReadersModel" (13 : Nat) "FishReadersModel" "sizes" "[I") ∈ lw_all := lw_g (lw_at lw_m5 212 rfl) rfl
theorem q1249 : (Jvm.Cond.fieldLink "FishReadersModel" (16 : Nat) "FishReadersModel" "items" "[I") ∈ lw_all := lw_g (lw_at lw_m5 213 rfl) rfl
theorem q1250 : (Jvm.Cond.fieldLink "FishReadersModel" (56 : Nat) "FishReadersModel" "status" "I") ∈ lw_all := lw_g (lw_at lw_m5 214 rfl) rfl
theorem q1251 : (Jvm.Cond.fieldLink "FishReadersModel" (147 : Nat) "FishReadersModel" "isThere" "Z") ∈ lw_all := lw_g (lw_at lw_m5 215 rfl) rfl
theorem q1252 : (Jvm.Cond.fieldLink "FishReadersModel" (19 : Nat) "FishReadersModel" "st" "[I") ∈ lw_all := lw_g (lw_at lw_m5 216 rfl) rfl
theorem q1253 : (Jvm.Cond.fieldLink "FishReadersModel" (22 : Nat) "FishReadersModel" "moved" "[I") ∈ lw_all := lw_g (lw_at lw_m5 217 rfl) rfl
theorem q1254 : (Jvm.Cond.fieldLink "FishReadersModel" (25 : Nat) "FishReadersModel" "tape" "[I") ∈ lw_all := lw_g (lw_at lw_m5 218 rfl) rfl
theorem q1255 : (Jvm.Cond.fieldLink "FishReadersModel" (87 : Nat) "FishReadersModel" "bytes" "I") ∈ lw_all := lw_g (lw_at lw_m5 219 rfl) rfl
theorem q1256 : (Jvm.Cond.fieldLink "FishReadersModel" (143 : Nat) "FishReadersModel" "latest" "I") ∈ lw_all := lw_g (lw_at lw_m5 220 rfl) rfl
theorem q1257 : (Jvm.Cond.fieldLink "FishReadersModel" (91 : Nat) "FishReadersModel" "place" "I") ∈ lw_all := lw_g (lw_at lw_m5 221 rfl) rfl
theorem q1258 : (Jvm.Cond.fieldLink "FishReadersModel" (97 : Nat) "FishReadersModel" "token" "I") ∈ lw_all := lw_g (lw_at lw_m5 222 rfl) rfl
theorem q1259 : (Jvm.Cond.fieldLink "FishReadersModel" (100 : Nat) "FishReadersModel" "value" "I") ∈ lw_all := lw_g (lw_at lw_m5 223 rfl) rfl
theorem q1260 : (Jvm.Cond.fieldLink "FishReadersModel" (94 : Nat) "FishReadersModel" "begins" "I") ∈ lw_all := lw_g (lw_at lw_m5 224 rfl) rfl
theorem q1261 : (Jvm.Cond.fieldLink "FishReadersModel" (111 : Nat) "FishReadersModel" "wrong" "I") ∈ lw_all := lw_g (lw_at lw_m5 225 rfl) rfl
theorem q1262 : (Jvm.Cond.fieldLink "FishReadersModel" (28 : Nat) "FishReadersModel" "read" "[I") ∈ lw_all := lw_g (lw_at lw_m5 226 rfl) rfl
theorem q1263 : (Jvm.Cond.fieldLink "FishReadersModel" (31 : Nat) "FishReadersModel" "holes" "[I") ∈ lw_all := lw_g (lw_at lw_m5 227 rfl) rfl
theorem q1264 : (Jvm.Cond.fieldLink "FishReadersModel" (34 : Nat) "FishReadersModel" "acts" "[I") ∈ lw_all := lw_g (lw_at lw_m5 228 rfl) rfl
theorem q1265 : (Jvm.Cond.fieldLink "FishReadersModel" (151 : Nat) "FishReadersModel" "actMany" "I") ∈ lw_all := lw_g (lw_at lw_m5 229 rfl) rfl
theorem q1266 : (Jvm.Cond.fieldLink "FishReadersModel" (37 : Nat) "FishReadersModel" "aside" "[I") ∈ lw_all := lw_g (lw_at lw_m5 230 rfl) rfl
theorem q1267 : (Jvm.Cond.fieldLink "FishReadersModel" (40 : Nat) "FishReadersModel" "line" "[I") ∈ lw_all := lw_g (lw_at lw_m5 231 rfl) rfl
theorem q1268 : (Jvm.Cond.fieldLink "FishReadersModel" (43 : Nat) "FishReadersModel" "bestLine" "[I") ∈ lw_all := lw_g (lw_at lw_m5 232 rfl) rfl
theorem q1269 : (Jvm.Cond.fieldLink "FishReadersModel" (46 : Nat) "FishReadersModel" "isKept" "[Z") ∈ lw_all := lw_g (lw_at lw_m5 233 rfl) rfl
theorem q1270 : (Jvm.Cond.fieldLink "FishReadersModel" (50 : Nat) "FishReadersModel" "kept" "[I") ∈ lw_all := lw_g (lw_at lw_m5 234 rfl) rfl
theorem q1271 : (Jvm.Cond.fieldLink "FishReadersModel" (53 : Nat) "FishReadersModel" "trace" "[I") ∈ lw_all := lw_g (lw_at lw_m5 235 rfl) rfl
theorem q1272 : (Jvm.Cond.fieldLink "FishReadersModel" (277 : Nat) "FishReadersModel" "traced" "I") ∈ lw_all := lw_g (lw_at lw_m5 236 rfl) rfl
theorem q1273 : (Jvm.Cond.laysFinal "FishReadersModel" "FishReadersModel" "lanes" "[I") ∈ lw_all := lw_g (lw_at lw_m5 237 rfl) rfl
theorem q1274 : (Jvm.Cond.soleField "FishReadersModel" "lanes") ∈ lw_all := lw_g (lw_at lw_m5 238 rfl) rfl
theorem q1275 : (Jvm.Cond.laysFinal "FishReadersModel" "FishReadersModel" "sizes" "[I") ∈ lw_all := lw_g (lw_at lw_m5 239 rfl) rfl
theorem q1276 : (Jvm.Cond.soleField "FishReadersModel" "sizes") ∈ lw_all := lw_g (lw_at lw_m6 0 rfl) rfl
theorem q1277 : (Jvm.Cond.laysFinal "FishReadersModel" "FishReadersModel" "items" "[I") ∈ lw_all := lw_g (lw_at lw_m6 1 rfl) rfl
theorem q1278 : (Jvm.Cond.soleField "FishReadersModel" "items") ∈ lw_all := lw_g (lw_at lw_m6 2 rfl) rfl
theorem q1279 : (Jvm.Cond.lays "FishReadersModel" "FishReadersModel" "status" "I") ∈ lw_all := lw_g (lw_at lw_m6 3 rfl) rfl
theorem q1280 : (Jvm.Cond.soleField "FishReadersModel" "status") ∈ lw_all := lw_g (lw_at lw_m6 4 rfl) rfl
theorem q1281 : (Jvm.Cond.lays "FishReadersModel" "FishReadersModel" "isThere" "Z") ∈ lw_all := lw_g (lw_at lw_m6 5 rfl) rfl
theorem q1282 : (Jvm.Cond.soleField "FishReadersModel" "isThere") ∈ lw_all := lw_g (lw_at lw_m6 6 rfl) rfl
theorem q1283 : (Jvm.Cond.laysFinal "FishReadersModel" "FishReadersModel" "st" "[I") ∈ lw_all := lw_g (lw_at lw_m6 7 rfl) rfl
theorem q1284 : (Jvm.Cond.soleField "FishReadersModel" "st") ∈ lw_all := lw_g (lw_at lw_m6 8 rfl) rfl
theorem q1285 : (Jvm.Cond.laysFinal "FishReadersModel" "FishReadersModel" "moved" "[I") ∈ lw_all := lw_g (lw_at lw_m6 9 rfl) rfl
theorem q1286 : (Jvm.Cond.soleField "FishReadersModel" "moved") ∈ lw_all := lw_g (lw_at lw_m6 10 rfl) rfl
theorem q1287 : (Jvm.Cond.laysFinal "FishReadersModel" "FishReadersModel" "tape" "[I") ∈ lw_all := lw_g (lw_at lw_m6 11 rfl) rfl
theorem q1288 : (Jvm.Cond.soleField "FishReadersModel" "tape") ∈ lw_all := lw_g (lw_at lw_m6 12 rfl) rfl
theorem q1289 : (Jvm.Cond.lays "FishReadersModel" "FishReadersModel" "bytes" "I") ∈ lw_all := lw_g (lw_at lw_m6 13 rfl) rfl
theorem q1290 : (Jvm.Cond.soleField "FishReadersModel" "bytes") ∈ lw_all := lw_g (lw_at lw_m6 14 rfl) rfl
theorem q1291 : (Jvm.Cond.lays "FishReadersModel" "FishReadersModel" "latest" "I") ∈ lw_all := lw_g (lw_at lw_m6 15 rfl) rfl
theorem q1292 : (Jvm.Cond.soleField "FishReadersModel" "latest") ∈ lw_all := lw_g (lw_at lw_m6 16 rfl) rfl
theorem q1293 : (Jvm.Cond.lays "FishReadersModel" "FishReadersModel" "place" "I") ∈ lw_all := lw_g (lw_at lw_m6 17 rfl) rfl
theorem q1294 : (Jvm.Cond.soleField "FishReadersModel" "place") ∈ lw_all := lw_g (lw_at lw_m6 18 rfl) rfl
theorem q1295 : (Jvm.Cond.lays "FishReadersModel" "FishReadersModel" "token" "I") ∈ lw_all := lw_g (lw_at lw_m6 19 rfl) rfl
theorem q1296 : (Jvm.Cond.soleField "FishReadersModel" "token") ∈ lw_all := lw_g (lw_at lw_m6 20 rfl) rfl
theorem q1297 : (Jvm.Cond.lays "FishReadersModel" "FishReadersModel" "value" "I") ∈ lw_all := lw_g (lw_at lw_m6 21 rfl) rfl
theorem q1298 : (Jvm.Cond.soleField "FishReadersModel" "value") ∈ lw_all := lw_g (lw_at lw_m6 22 rfl) rfl
theorem q1299 : (Jvm.Cond.lays "FishReadersModel" "FishReadersModel" "begins" "I") ∈ lw_all := lw_g (lw_at lw_m6 23 rfl) rfl
theorem q1300 : (Jvm.Cond.soleField "FishReadersModel" "begins") ∈ lw_all := lw_g (lw_at lw_m6 24 rfl) rfl
theorem q1301 : (Jvm.Cond.lays "FishReadersModel" "FishReadersModel" "wrong" "I") ∈ lw_all := lw_g (lw_at lw_m6 25 rfl) rfl
theorem q1302 : (Jvm.Cond.soleField "FishReadersModel" "wrong") ∈ lw_all := lw_g (lw_at lw_m6 26 rfl) rfl
theorem q1303 : (Jvm.Cond.laysFinal "FishReadersModel" "FishReadersModel" "read" "[I") ∈ lw_all := lw_g (lw_at lw_m6 27 rfl) rfl
theorem q1304 : (Jvm.Cond.soleField "FishReadersModel" "read") ∈ lw_all := lw_g (lw_at lw_m6 28 rfl) rfl
theorem q1305 : (Jvm.Cond.laysFinal "FishReadersModel" "FishReadersModel" "holes" "[I") ∈ lw_all := lw_g (lw_at lw_m6 29 rfl) rfl
theorem q1306 : (Jvm.Cond.soleField "FishReadersModel" "holes") ∈ lw_all := lw_g (lw_at lw_m6 30 rfl) rfl
theorem q1307 : (Jvm.Cond.laysFinal "FishReadersModel" "FishReadersModel" "acts" "[I") ∈ lw_all := lw_g (lw_at lw_m6 31 rfl) rfl
theorem q1308 : (Jvm.Cond.soleField "FishReadersModel" "acts") ∈ lw_all := lw_g (lw_at lw_m6 32 rfl) rfl
theorem q1309 : (Jvm.Cond.lays "FishReadersModel" "FishReadersModel" "actMany" "I") ∈ lw_all := lw_g (lw_at lw_m6 33 rfl) rfl
theorem q1310 : (Jvm.Cond.soleField "FishReadersModel" "actMany") ∈ lw_all := lw_g (lw_at lw_m6 34 rfl) rfl
theorem q1311 : (Jvm.Cond.laysFinal "FishReadersModel" "FishReadersModel" "aside" "[I") ∈ lw_all := lw_g (lw_at lw_m6 35 rfl) rfl
theorem q1312 : (Jvm.Cond.soleField "FishReadersModel" "aside") ∈ lw_all := lw_g (lw_at lw_m6 36 rfl) rfl
theorem q1313 : (Jvm.Cond.laysFinal "FishReadersModel" "FishReadersModel" "line" "[I") ∈ lw_all := lw_g (lw_at lw_m6 37 rfl) rfl
theorem q1314 : (Jvm.Cond.soleField "FishReadersModel" "line") ∈ lw_all := lw_g (lw_at lw_m6 38 rfl) rfl
theorem q1315 : (Jvm.Cond.laysFinal "FishReadersModel" "FishReadersModel" "bestLine" "[I") ∈ lw_all := lw_g (lw_at lw_m6 39 rfl) rfl
theorem q1316 : (Jvm.Cond.soleField "FishReadersModel" "bestLine") ∈ lw_all := lw_g (lw_at lw_m6 40 rfl) rfl
theorem q1317 : (Jvm.Cond.laysFinal "FishReadersModel" "FishReadersModel" "isKept" "[Z") ∈ lw_all := lw_g (lw_at lw_m6 41 rfl) rfl
theorem q1318 : (Jvm.Cond.soleField "FishReadersModel" "isKept") ∈ lw_all := lw_g (lw_at lw_m6 42 rfl) rfl
theorem q1319 : (Jvm.Cond.laysFinal "FishReadersModel" "FishReadersModel" "kept" "[I") ∈ lw_all := lw_g (lw_at lw_m6 43 rfl) rfl
theorem q1320 : (Jvm.Cond.soleField "FishReadersModel" "kept") ∈ lw_all := lw_g (lw_at lw_m6 44 rfl) rfl
theorem q1321 : (Jvm.Cond.laysFinal "FishReadersModel" "FishReadersModel" "trace" "[I") ∈ lw_all := lw_g (lw_at lw_m6 45 rfl) rfl
theorem q1322 : (Jvm.Cond.soleField "FishReadersModel" "trace") ∈ lw_all := lw_g (lw_at lw_m6 46 rfl) rfl
theorem q1323 : (Jvm.Cond.lays "FishReadersModel" "FishReadersModel" "traced" "I") ∈ lw_all := lw_g (lw_at lw_m6 47 rfl) rfl
theorem q1324 : (Jvm.Cond.soleField "FishReadersModel" "traced") ∈ lw_all := lw_g (lw_at lw_m6 48 rfl) rfl
theorem q1325 : (Jvm.Cond.superclass "FishReadersModel" "java/lang/Object") ∈ lw_all := lw_g (lw_at lw_m6 49 rfl) rfl
theorem q1328 : (Jvm.Cond.instanceMethod ({ cls := "FishReadersModel", name := "row", desc := "(III)I" } : Jvm.MethodName)) ∈ lw_all := lw_g (lw_at lw_m6 52 rfl) rfl
theorem q1329 : (Jvm.Cond.selects "FishReadersModel" ({ cls := "FishReadersModel", name := "row", desc := "(III)I" } : Jvm.MethodName) ({ cls := "FishReadersModel", name := "row", desc := "(III)I" } : Jvm.MethodName)) ∈ lw_all := lw_g (lw_at lw_m6 53 rfl) rfl
theorem q1330 : (Jvm.Cond.code ({ cls := "FishReadersModel", name := "row", desc := "(III)I" } : Jvm.MethodName) prog_16_method_8_code (5 : Nat) (Option.some Jvm.ClassFile.FieldType.int)) ∈ lw_all := lw_g (lw_at lw_m6 54 rfl) rfl
theorem q1331 : (Jvm.Cond.methodLink "FishReadersModel" (67 : Nat) ({ cls := "FishReadersModel", name := "isRow", desc := "(I)Z" } : Jvm.MethodName)) ∈ lw_all := lw_g (lw_at lw_m6 55 rfl) rfl
theorem q1332 : (Jvm.Cond.static ({ cls := "FishReadersModel", name := "isRow", desc := "(I)Z" } : Jvm.MethodName)) ∈ lw_all := lw_g (lw_at lw_m6 56 rfl) rfl
theorem q1333 : (Jvm.Cond.code ({ cls := "FishReadersModel", name := "isRow", desc := "(I)Z" } : Jvm.MethodName) prog_16_method_7_code (1 : Nat) (Option.some Jvm.ClassFile.FieldType.boolean)) ∈ lw_all := lw_g (lw_at lw_m6 57 rfl) rfl
theorem q1334 : (Jvm.Cond.constantLong "FishReadersModel" (61 : Nat) (7 : Int64)) ∈ lw_all := lw_g (lw_at lw_m6 58 rfl) rfl
theorem q1335 : (Jvm.Cond.methodLink "FishReadersModel" (63 : Nat) ({ cls := "FishReadersModel", name := "in", desc := "(JJJ)Z" } : Jvm.MethodName)) ∈ lw_all := lw_g (lw_at lw_m6 59 rfl) rfl
theorem q1336 : (Jvm.Cond.static ({ cls := "FishReadersModel", name := "in", desc := "(JJJ)Z" } : Jvm.MethodName)) ∈ lw_all := lw_g (lw_at lw_m6 60 rfl) rfl
theorem q1337 : (Jvm.Cond.code ({ cls := "FishReadersModel", name := "in", desc := "(JJJ)Z" } : Jvm.MethodName) prog_16_method_2_code (6 : Nat) (Option.some Jvm.ClassFile.FieldType.boolean)) ∈ lw_all := lw_g (lw_at lw_m6 61 rfl) rfl
theorem q1338 : (Jvm.Cond.constantLong "FishReadersModel" (71 : Nat) (2 : Int64)) ∈ lw_all := lw_g (lw_at lw_m6 62 rfl) rfl
theorem q1339 : (Jvm.Cond.constant "FishReadersModel" (73 : Nat) (-1000001 : Int32)) ∈ lw_all := lw_g (lw_at lw_m6 63 rfl) rfl
theorem q1340 : (Jvm.Cond.methodLink "FishReadersModel" (74 : Nat) ({ cls := "FishReadersModel", name := "find", desc := "(I)I" } : Jvm.MethodName)) ∈ lw_all := lw_g (lw_at lw_m6 64 rfl) rfl
theorem q1341 : (Jvm.Cond.privateMethod ({ cls := "FishReadersModel", name := "find", desc := "(I)I" } : Jvm.MethodName)) ∈ lw_tbl := lw_at lw_m6 65 rfl
theorem q1342 : (Jvm.Cond.instanceMethod ({ cls := "FishReadersModel", name := "find", desc := "(I)I" } : Jvm.MethodName)) ∈ lw_all := lw_g (lw_at lw_m6 66 rfl) rfl
theorem q1343 : (Jvm.Cond.code ({ cls := "FishReadersModel", name := "find", desc := "(I)I" } : Jvm.MethodName) prog_16_method_5_code (2 : Nat) (Option.some Jvm.ClassFile.FieldType.int)) ∈ lw_all := lw_g (lw_at lw_m6 67 rfl) rfl
theorem q1344 : (Jvm.Cond.constant "FishReadersModel" (60 : Nat) (-1000010 : Int32)) ∈ lw_all := lw_g (lw_at lw_m6 68 rfl) rfl
theorem q1345 : (Jvm.Cond.methodLink "FishReadersModel" (78 : Nat) ({ cls := "FishReadersModel", name := "well", desc := "(I)I" } : Jvm.MethodName)) ∈ lw_all := lw_g (lw_at lw_m6 69 rfl) rfl
theorem q1346 : (Jvm.Cond.privateMethod ({ cls := "FishReadersModel", name := "well", desc := "(I)I" } : Jvm.MethodName)) ∈ lw_tbl := lw_at lw_m6 70 rfl
theorem q1347 : (Jvm.Cond.instanceMethod ({ cls := "FishReadersModel", name := "well", desc := "(I)I" } : Jvm.MethodName)) ∈ lw_all := lw_g (lw_at lw_m6 71 rfl) rfl
theorem q1348 : (Jvm.Cond.code ({ cls := "FishReadersModel", name := "well", desc := "(I)I" } : Jvm.MethodName) prog_16_method_6_code (2 : Nat) (Option.some Jvm.ClassFile.FieldType.int)) ∈ lw_all := lw_g (lw_at lw_m6 72 rfl) rfl
theorem q1350 : (Jvm.Cond.instanceMethod ({ cls := "FishReadersModel", name := "set", desc := "(III)I" } : Jvm.MethodName)) ∈ lw_all := lw_g (lw_at lw_m6 74 rfl) rfl
theorem q1351 : (Jvm.Cond.selects "FishReadersModel" ({ cls := "FishReadersModel", name := "set", desc := "(III)I" } : Jvm.MethodName) ({ cls := "FishReadersModel", name := "set", desc := "(III)I" } : Jvm.MethodName)) ∈ lw_all := lw_g (lw_at lw_m6 75 rfl) rfl
theorem q1352 : (Jvm.Cond.code ({ cls := "FishReadersModel", name := "set", desc := "(III)I" } : Jvm.MethodName) prog_16_method_10_code (4 : Nat) (Option.some Jvm.ClassFile.FieldType.int)) ∈ lw_all := lw_g (lw_at lw_m6 76 rfl) rfl
theorem q1353 : (Jvm.Cond.methodLink "FishReadersModel" (81 : Nat) ({ cls := "FishReadersModel", name := "asLane", desc := "(II)I" } : Jvm.MethodName)) ∈ lw_all := lw_g (lw_at lw_m6 77 rfl) rfl
theorem q1354 : (Jvm.Cond.static ({ cls := "FishReadersModel", name := "asLane", desc := "(II)I" } : Jvm.MethodName)) ∈ lw_all := lw_g (lw_at lw_m6 78 rfl) rfl
theorem q1355 : (Jvm.Cond.code ({ cls := "FishReadersModel", name := "asLane", desc := "(II)I" } : Jvm.MethodName) prog_16_method_9_code (2 : Nat) (Option.some Jvm.ClassFile.FieldType.int)) ∈ lw_all := lw_g (lw_at lw_m6 79 rfl) rfl
theorem q1357 : (Jvm.Cond.instanceMethod ({ cls := "FishReadersModel", name := "copy", desc := "(IIIII)I" } : Jvm.MethodName)) ∈ lw_all := lw_g (lw_at lw_m6 81 rfl) rfl
theorem q1358 : (Jvm.Cond.selects "FishReadersModel" ({ cls := "FishReadersModel", name := "copy", desc := "(IIIII)I" } : Jvm.MethodName) ({ cls := "FishReadersModel", name := "copy", desc := "(IIIII)I" } : Jvm.MethodName)) ∈ lw_all := lw_g (lw_at lw_m6 82 rfl) rfl
theorem q1359 : (Jvm.Cond.code ({ cls := "FishReadersModel", name := "copy", desc := "(IIIII)I" } : Jvm.MethodName) prog_16_method_11_code (7 : Nat) (Option.some Jvm.ClassFile.FieldType.int)) ∈ lw_all := lw_g (lw_at lw_m6 83 rfl) rfl
theorem q1361 : (Jvm.Cond.instanceMethod ({ cls := "FishReadersModel", name := "drop", desc := "(I)I" } : Jvm.MethodName)) ∈ lw_all := lw_g (lw_at lw_m6 85 rfl) rfl
theorem q1362 : (Jvm.Cond.selects "FishReadersModel" ({ cls := "FishReadersModel", name := "drop", desc := "(I)I" } : Jvm.MethodName) ({ cls := "FishReadersModel", name := "drop", desc := "(I)I" } : Jvm.MethodName)) ∈ lw_all := lw_g (lw_at lw_m6 86 rfl) rfl
theorem q1363 : (Jvm.Cond.code ({ cls := "FishReadersModel", name := "drop", desc := "(I)I" } : Jvm.MethodName) prog_16_method_12_code (3 : Nat) (Option.some Jvm.ClassFile.FieldType.int)) ∈ lw_all := lw_g (lw_at lw_m6 87 rfl) rfl
theorem q1365 : (Jvm.Cond.instanceMethod ({ cls := "FishReadersModel", name := "feed", desc := "(I)I" } : Jvm.MethodName)) ∈ lw_all := lw_g (lw_at lw_m6 89 rfl) rfl
theorem q1366 : (Jvm.Cond.selects "FishReadersModel" ({ cls := "FishReadersModel", name := "feed", desc := "(I)I" } : Jvm.MethodName) ({ cls := "FishReadersModel", name := "feed", desc := "(I)I" } : Jvm.MethodName)) ∈ lw_all := lw_g (lw_at lw_m6 90 rfl) rfl
theorem q1367 : (Jvm.Cond.code ({ cls := "FishReadersModel", name := "feed", desc := "(I)I" } : Jvm.MethodName) prog_16_method_13_code (2 : Nat) (Option.some Jvm.ClassFile.FieldType.int)) ∈ lw_all := lw_g (lw_at lw_m6 91 rfl) rfl
theorem q1368 : (Jvm.Cond.constantLong "FishReadersModel" (85 : Nat) (255 : Int64)) ∈ lw_all := lw_g (lw_at lw_m6 92 rfl) rfl
theorem q1369 : (Jvm.Cond.constant "FishReadersModel" (90 : Nat) (-1000003 : Int32)) ∈ lw_all := lw_g (lw_at lw_m6 93 rfl) rfl
theorem q1371 : (Jvm.Cond.instanceMethod ({ cls := "FishReadersModel", name := "library", desc := "()I" } : Jvm.MethodName)) ∈ lw_all := lw_g (lw_at lw_m6 95 rfl) rfl
theorem q1372 : (Jvm.Cond.selects "FishReadersModel" ({ cls := "FishReadersModel", name := "library", desc := "()I" } : Jvm.MethodName) ({ cls := "FishReadersModel", name := "library", desc := "()I" } : Jvm.MethodName)) ∈ lw_all := lw_g (lw_at lw_m6 96 rfl) rfl
theorem q1373 : (Jvm.Cond.code ({ cls := "FishReadersModel", name := "library", desc := "()I" } : Jvm.MethodName) prog_16_method_23_code (3 : Nat) (Option.some Jvm.ClassFile.FieldType.int)) ∈ lw_all := lw_g (lw_at lw_m6 97 rfl) rfl
theorem q1374 : (Jvm.Cond.methodLink "FishReadersModel" (140 : Nat) ({ cls := "FishReadersModel", name := "readLibrary", desc := "()Z" } : Jvm.MethodName)) ∈ lw_all := lw_g (lw_at lw_m6 98 rfl) rfl
theorem q1375 : (Jvm.Cond.privateMethod ({ cls := "FishReadersModel", name := "readLibrary", desc := "()Z" } : Jvm.MethodName)) ∈ lw_tbl := lw_at lw_m6 99 rfl
theorem q1376 : (Jvm.Cond.instanceMethod ({ cls := "FishReadersModel", name := "readLibrary", desc := "()Z" } : Jvm.MethodName)) ∈ lw_all := lw_g (lw_at lw_m6 100 rfl) rfl
theorem q1377 : (Jvm.Cond.code ({ cls := "FishReadersModel", name := "readLibrary", desc := "()Z" } : Jvm.MethodName) prog_16_method_22_code (3 : Nat) (Option.some Jvm.ClassFile.FieldType.boolean)) ∈ lw_all := lw_g (lw_at lw_m6 101 rfl) rfl
theorem q1378 : (Jvm.Cond.methodLink "FishReadersModel" (120 : Nat) ({ cls := "FishReadersModel", name := "nextToken", desc := "()V" } : Jvm.MethodName)) ∈ lw_all := lw_g (lw_at lw_m6 102 rfl) rfl
theorem q1379 : (Jvm.Cond.privateMethod ({ cls := "FishReadersModel", name := "nextToken", desc := "()V" } : Jvm.MethodName)) ∈ lw_tbl := lw_at lw_m6 103 rfl
theorem q1380 : (Jvm.Cond.instanceMethod ({ cls := "FishReadersModel", name := "nextToken", desc := "()V" } : Jvm.MethodName)) ∈ lw_all := lw_g (lw_at lw_m6 104 rfl) rfl
theorem q1381 : (Jvm.Cond.code ({ cls := "FishReadersModel", name := "nextToken", desc := "()V" } : Jvm.MethodName) prog_16_method_14_code (1 : Nat) (Option.none : Option Jvm.ClassFile.FieldType)) ∈ lw_all := lw_g (lw_at lw_m6 105 rfl) rfl
theorem q1382 : (Jvm.Cond.constantLong "FishReadersModel" (103 : Nat) (48 : Int64)) ∈ lw_all := lw_g (lw_at lw_m6 106 rfl) rfl
theorem q1383 : (Jvm.Cond.constantLong "FishReadersModel" (105 : Nat) (57 : Int64)) ∈ lw_all := lw_g (lw_at lw_m6 107 rfl) rfl
theorem q1384 : (Jvm.Cond.constantLong "FishReadersModel" (107 : Nat) (97 : Int64)) ∈ lw_all := lw_g (lw_at lw_m6 108 rfl) rfl
theorem q1385 : (Jvm.Cond.constantLong "FishReadersModel" (109 : Nat) (122 : Int64)) ∈ lw_all := lw_g (lw_at lw_m6 109 rfl) rfl
theorem q1386 : (Jvm.Cond.methodLink "FishReadersModel" (123 : Nat) ({ cls := "FishReadersModel", name := "takes", desc := "(I)Z" } : Jvm.MethodName)) ∈ lw_all := lw_g (lw_at lw_m6 110 rfl) rfl
theorem q1387 : (Jvm.Cond.privateMethod ({ cls := "FishReadersModel", name := "takes", desc := "(I)Z" } : Jvm.MethodName)) ∈ lw_tbl := lw_at lw_m6 111 rfl
theorem q1388 : (Jvm.Cond.instanceMethod ({ cls := "FishReadersModel", name := "takes", desc := "(I)Z" } : Jvm.MethodName)) ∈ lw_all := lw_g (lw_at lw_m6 112 rfl) rfl
theorem q1389 : (Jvm.Cond.code ({ cls := "FishReadersModel", name := "takes", desc := "(I)Z" } : Jvm.MethodName) prog_16_method_17_code (2 : Nat) (Option.some Jvm.ClassFile.FieldType.boolean)) ∈ lw_all := lw_g (lw_at lw_m6 113 rfl) rfl
theorem q1390 : (Jvm.Cond.methodLink "FishReadersModel" (114 : Nat) ({ cls := "FishReadersModel", name := "isLetter", desc := "(I)Z" } : Jvm.MethodName)) ∈ lw_all := lw_g (lw_at lw_m6 114 rfl) rfl
theorem q1391 : (Jvm.Cond.privateMethod ({ cls := "FishReadersModel", name := "isLetter", desc := "(I)Z" } : Jvm.MethodName)) ∈ lw_tbl := lw_at lw_m6 115 rfl
theorem q1392 : (Jvm.Cond.instanceMethod ({ cls := "FishReadersModel", name := "isLetter", desc := "(I)Z" } : Jvm.MethodName)) ∈ lw_all := lw_g (lw_at lw_m6 116 rfl) rfl
theorem q1393 : (Jvm.Cond.code ({ cls := "FishReadersModel", name := "isLetter", desc := "(I)Z" } : Jvm.MethodName) prog_16_method_16_code (2 : Nat) (Option.some Jvm.ClassFile.FieldType.boolean)) ∈ lw_all := lw_g (lw_at lw_m6 117 rfl) rfl
theorem q1394 : (Jvm.Cond.methodLink "FishReadersModel" (117 : Nat) ({ cls := "FishReadersModel", name := "faults", desc := "(I)Z" } : Jvm.MethodName)) ∈ lw_all := lw_g (lw_at lw_m6 118 rfl) rfl
theorem q1395 : (Jvm.Cond.privateMethod ({ cls := "FishReadersModel", name := "faults", desc := "(I)Z" } : Jvm.MethodName)) ∈ lw_tbl := lw_at lw_m6 119 rfl
theorem q1396 : (Jvm.Cond.instanceMethod ({ cls := "FishReadersModel", name := "faults", desc := "(I)Z" } : Jvm.MethodName)) ∈ lw_all := lw_g (lw_at lw_m6 120 rfl) rfl
theorem q1397 : (Jvm.Cond.code ({ cls := "FishReadersModel", name := "faults", desc := "(I)Z" } : Jvm.MethodName) prog_16_method_15_code (2 : Nat) (Option.some Jvm.ClassFile.FieldType.boolean)) ∈ lw_all := lw_g (lw_at lw_m6 121 rfl) rfl
theorem q1398 : (Jvm.Cond.methodLink "FishReadersModel" (126 : Nat) ({ cls := "FishReadersModel", name := "takesNumber", desc := "(IIII)Z" } : Jvm.MethodName)) ∈ lw_all := lw_g (lw_at lw_m6 122 rfl) rfl
theorem q1399 : (Jvm.Cond.privateMethod ({ cls := "FishReadersModel", name := "takesNumber", desc := "(IIII)Z" } : Jvm.MethodName)) ∈ lw_tbl := lw_at lw_m6 123 rfl
theorem q1400 : (Jvm.Cond.instanceMethod ({ cls := "FishReadersModel", name := "takesNumber", desc := "(IIII)Z" } : Jvm.MethodName)) ∈ lw_all := lw_g (lw_at lw_m6 124 rfl) rfl
theorem q1401 : (Jvm.Cond.code ({ cls := "FishReadersModel", name := "takesNumber", desc := "(IIII)Z" } : Jvm.MethodName) prog_16_method_18_code (5 : Nat) (Option.some Jvm.ClassFile.FieldType.boolean)) ∈ lw_all := lw_g (lw_at lw_m6 125 rfl) rfl
theorem q1402 : (Jvm.Cond.methodLink "FishReadersModel" (130 : Nat) ({ cls := "FishReadersModel", name := "kindBy", desc := "(I)I" } : Jvm.MethodName)) ∈ lw_all := lw_g (lw_at lw_m6 126 rfl) rfl
theorem q1403 : (Jvm.Cond.static ({ cls := "FishReadersModel", name := "kindBy", desc := "(I)I" } : Jvm.MethodName)) ∈ lw_all := lw_g (lw_at lw_m6 127 rfl) rfl
theorem q1404 : (Jvm.Cond.code ({ cls := "FishReadersModel", name := "kindBy", desc := "(I)I" } : Jvm.MethodName) prog_16_method_20_code (1 : Nat) (Option.some Jvm.ClassFile.FieldType.int)) ∈ lw_all := lw_g (lw_at lw_m6 128 rfl) rfl
theorem q1405 : (Jvm.Cond.methodLink "FishReadersModel" (133 : Nat) ({ cls := "FishReadersModel", name := "readFish", desc := "(I)Z" } : Jvm.MethodName)) ∈ lw_all := lw_g (lw_at lw_m6 129 rfl) rfl
theorem q1406 : (Jvm.Cond.privateMethod ({ cls := "FishReadersModel", name := "readFish", desc := "(I)Z" } : Jvm.MethodName)) ∈ lw_tbl := lw_at lw_m6 130 rfl
theorem q1407 : (Jvm.Cond.instanceMethod ({ cls := "FishReadersModel", name := "readFish", desc := "(I)Z" } : Jvm.MethodName)) ∈ lw_all := lw_g (lw_at lw_m6 131 rfl) rfl
theorem q1408 : (Jvm.Cond.code ({ cls := "FishReadersModel", name := "readFish", desc := "(I)Z" } : Jvm.MethodName) prog_16_method_21_code (3 : Nat) (Option.some Jvm.ClassFile.FieldType.boolean)) ∈ lw_all := lw_g (lw_at lw_m6 132 rfl) rfl
theorem q1409 : (Jvm.Cond.methodLink "FishReadersModel" (136 : Nat) ({ cls := "FishReadersModel", name := "readBook", desc := "()Z" } : Jvm.MethodName)) ∈ lw_all := lw_g (lw_at lw_m6 133 rfl) rfl
theorem q1410 : (Jvm.Cond.privateMethod ({ cls := "FishReadersModel", name := "readBook", desc := "()Z" } : Jvm.MethodName)) ∈ lw_tbl := lw_at lw_m6 134 rfl
theorem q1411 : (Jvm.Cond.instanceMethod ({ cls := "FishReadersModel", name := "readBook", desc := "()Z" } : Jvm.MethodName)) ∈ lw_all := lw_g (lw_at lw_m6 135 rfl) rfl
theorem q1412 : (Jvm.Cond.code ({ cls := "FishReadersModel", name := "readBook", desc := "()Z" } : Jvm.MethodName) prog_16_method_19_code (2 : Nat) (Option.some Jvm.ClassFile.FieldType.boolean)) ∈ lw_all := lw_g (lw_at lw_m6 136 rfl) rfl
theorem q1413 : (Jvm.Cond.constant "FishReadersModel" (146 : Nat) (-1000100 : Int32)) ∈ lw_all := lw_g (lw_at lw_m6 137 rfl) rfl
theorem q1415 : (Jvm.Cond.instanceMethod ({ cls := "FishReadersModel", name := "fault", desc := "()I" } : Jvm.MethodName)) ∈ lw_all := lw_g (lw_at lw_m6 139 rfl) rfl
theorem q1416 : (Jvm.Cond.selects "FishReadersModel" ({ cls := "FishReadersModel", name := "fault", desc := "()I" } : Jvm.MethodName) ({ cls := "FishReadersModel", name := "fault", desc := "()I" } : Jvm.MethodName)) ∈ lw_all := lw_g (lw_at lw_m6 140 rfl) rfl
theorem q1417 : (Jvm.Cond.code ({ cls := "FishReadersModel", name := "fault", desc := "()I" } : Jvm.MethodName) prog_16_method_24_code (1 : Nat) (Option.some Jvm.ClassFile.FieldType.int)) ∈ lw_all := lw_g (lw_at lw_m6 141 rfl) rfl
theorem q1419 : (Jvm.Cond.instanceMethod ({ cls := "FishReadersModel", name := "undo", desc := "()I" } : Jvm.MethodName)) ∈ lw_all := lw_g (lw_at lw_m6 143 rfl) rfl
theorem q1420 : (Jvm.Cond.selects "FishReadersModel" ({ cls := "FishReadersModel", name := "undo", desc := "()I" } : Jvm.MethodName) ({ cls := "FishReadersModel", name := "undo", desc := "()I" } : Jvm.MethodName)) ∈ lw_all := lw_g (lw_at lw_m6 144 rfl) rfl
theorem q1421 : (Jvm.Cond.code ({ cls := "FishReadersModel", name := "undo", desc := "()I" } : Jvm.MethodName) prog_16_method_37_code (2 : Nat) (Option.some Jvm.ClassFile.FieldType.int)) ∈ lw_all := lw_g (lw_at lw_m6 145 rfl) rfl
theorem q1422 : (Jvm.Cond.constant "FishReadersModel" (181 : Nat) (-1000002 : Int32)) ∈ lw_all := lw_g (lw_at lw_m6 146 rfl) rfl
theorem q1424 : (Jvm.Cond.instanceMethod ({ cls := "FishReadersModel", name := "nights", desc := "(I)I" } : Jvm.MethodName)) ∈ lw_all := lw_g (lw_at lw_m6 148 rfl) rfl
theorem q1425 : (Jvm.Cond.selects "FishReadersModel" ({ cls := "FishReadersModel", name := "nights", desc := "(I)I" } : Jvm.MethodName) ({ cls := "FishReadersModel", name := "nights", desc := "(I)I" } : Jvm.MethodName)) ∈ lw_all := lw_g (lw_at lw_m6 149 rfl) rfl
theorem q1426 : (Jvm.Cond.code ({ cls := "FishReadersModel", name := "nights", desc := "(I)I" } : Jvm.MethodName) prog_16_method_38_code (3 : Nat) (Option.some Jvm.ClassFile.FieldType.int)) ∈ lw_all := lw_g (lw_at lw_m6 150 rfl) rfl
theorem q1427 : (Jvm.Cond.constantLong "FishReadersModel" (182 : Nat) (24 : Int64)) ∈ lw_all := lw_g (lw_at lw_m6 151 rfl) rfl
theorem q1428 : (Jvm.Cond.methodLink "FishReadersModel" (184 : Nat) ({ cls := "FishReadersModel", name := "note", desc := "()V" } : Jvm.MethodName)) ∈ lw_all := lw_g (lw_at lw_m6 152 rfl) rfl
theorem q1429 : (Jvm.Cond.privateMethod ({ cls := "FishReadersModel", name := "note", desc := "()V" } : Jvm.MethodName)) ∈ lw_tbl := lw_at lw_m6 153 rfl
theorem q1430 : (Jvm.Cond.instanceMethod ({ cls := "FishReadersModel", name := "note", desc := "()V" } : Jvm.MethodName)) ∈ lw_all := lw_g (lw_at lw_m6 154 rfl) rfl
theorem q1431 : (Jvm.Cond.code ({ cls := "FishReadersModel", name := "note", desc := "()V" } : Jvm.MethodName) prog_16_method_36_code (2 : Nat) (Option.none : Option Jvm.ClassFile.FieldType)) ∈ lw_all := lw_g (lw_at lw_m6 155 rfl) rfl
theorem q1432 : (Jvm.Cond.methodLink "FishReadersModel" (187 : Nat) ({ cls := "FishReadersModel", name := "oneNight", desc := "()V" } : Jvm.MethodName)) ∈ lw_all := lw_g (lw_at lw_m6 156 rfl) rfl
theorem q1433 : (Jvm.Cond.privateMethod ({ cls := "FishReadersModel", name := "oneNight", desc := "()V" } : Jvm.MethodName)) ∈ lw_tbl := lw_at lw_m6 157 rfl
theorem q1434 : (Jvm.Cond.instanceMethod ({ cls := "FishReadersModel", name := "oneNight", desc := "()V" } : Jvm.MethodName)) ∈ lw_all := lw_g (lw_at lw_m6 158 rfl) rfl
theorem q1435 : (Jvm.Cond.code ({ cls := "FishReadersModel", name := "oneNight", desc := "()V" } : Jvm.MethodName) prog_16_method_34_code (2 : Nat) (Option.none : Option Jvm.ClassFile.FieldType)) ∈ lw_all := lw_g (lw_at lw_m6 159 rfl) rfl
theorem q1436 : (Jvm.Cond.methodLink "FishReadersModel" (171 : Nat) ({ cls := "FishReadersModel", name := "isCaught", desc := "(I)Z" } : Jvm.MethodName)) ∈ lw_all := lw_g (lw_at lw_m6 160 rfl) rfl
theorem q1437 : (Jvm.Cond.privateMethod ({ cls := "FishReadersModel", name := "isCaught", desc := "(I)Z" } : Jvm.MethodName)) ∈ lw_tbl := lw_at lw_m6 161 rfl
theorem q1438 : (Jvm.Cond.instanceMethod ({ cls := "FishReadersModel", name := "isCaught", desc := "(I)Z" } : Jvm.MethodName)) ∈ lw_all := lw_g (lw_at lw_m6 162 rfl) rfl
theorem q1439 : (Jvm.Cond.code ({ cls := "FishReadersModel", name := "isCaught", desc := "(I)Z" } : Jvm.MethodName) prog_16_method_27_code (2 : Nat) (Option.some Jvm.ClassFile.FieldType.boolean)) ∈ lw_all := lw_g (lw_at lw_m6 163 rfl) rfl
theorem q1440 : (Jvm.Cond.methodLink "FishReadersModel" (154 : Nat) ({ cls := "FishReadersModel", name := "has", desc := "(II)Z" } : Jvm.MethodName)) ∈ lw_all := lw_g (lw_at lw_m6 164 rfl) rfl
theorem q1441 : (Jvm.Cond.static ({ cls := "FishReadersModel", name := "has", desc := "(II)Z" } : Jvm.MethodName)) ∈ lw_all := lw_g (lw_at lw_m6 165 rfl) rfl
theorem q1442 : (Jvm.Cond.code ({ cls := "FishReadersModel", name := "has", desc := "(II)Z" } : Jvm.MethodName) prog_16_method_3_code (2 : Nat) (Option.some Jvm.ClassFile.FieldType.boolean)) ∈ lw_all := lw_g (lw_at lw_m6 166 rfl) rfl
theorem q1443 : (Jvm.Cond.methodLink "FishReadersModel" (174 : Nat) ({ cls := "FishReadersModel", name := "goesTo", desc := "(I)I" } : Jvm.MethodName)) ∈ lw_all := lw_g (lw_at lw_m6 167 rfl) rfl
theorem q1444 : (Jvm.Cond.privateMethod ({ cls := "FishReadersModel", name := "goesTo", desc := "(I)I" } : Jvm.MethodName)) ∈ lw_tbl := lw_at lw_m6 168 rfl
theorem q1445 : (Jvm.Cond.instanceMethod ({ cls := "FishReadersModel", name := "goesTo", desc := "(I)I" } : Jvm.MethodName)) ∈ lw_all := lw_g (lw_at lw_m6 169 rfl) rfl
theorem q1446 : (Jvm.Cond.code ({ cls := "FishReadersModel", name := "goesTo", desc := "(I)I" } : Jvm.MethodName) prog_16_method_32_code (6 : Nat) (Option.some Jvm.ClassFile.FieldType.int)) ∈ lw_all := lw_g (lw_at lw_m6 170 rfl) rfl
theorem q1447 : (Jvm.Cond.methodLink "FishReadersModel" (159 : Nat) ({ cls := "FishReadersModel", name := "bookAt", desc := "(I)I" } : Jvm.MethodName)) ∈ lw_all := lw_g (lw_at lw_m6 171 rfl) rfl
theorem q1448 : (Jvm.Cond.privateMethod ({ cls := "FishReadersModel", name := "bookAt", desc := "(I)I" } : Jvm.MethodName)) ∈ lw_tbl := lw_at lw_m6 172 rfl
theorem q1449 : (Jvm.Cond.instanceMethod ({ cls := "FishReadersModel", name := "bookAt", desc := "(I)I" } : Jvm.MethodName)) ∈ lw_all := lw_g (lw_at lw_m6 173 rfl) rfl
theorem q1450 : (Jvm.Cond.code ({ cls := "FishReadersModel", name := "bookAt", desc := "(I)I" } : Jvm.MethodName) prog_16_method_28_code (3 : Nat) (Option.some Jvm.ClassFile.FieldType.int)) ∈ lw_all := lw_g (lw_at lw_m6 174 rfl) rfl
theorem q1451 : (Jvm.Cond.methodLink "FishReadersModel" (168 : Nat) ({ cls := "FishReadersModel", name := "likedBy", desc := "(I)I" } : Jvm.MethodName)) ∈ lw_all := lw_g (lw_at lw_m6 175 rfl) rfl
theorem q1452 : (Jvm.Cond.privateMethod ({ cls := "FishReadersModel", name := "likedBy", desc := "(I)I" } : Jvm.MethodName)) ∈ lw_tbl := lw_at lw_m6 176 rfl
theorem q1453 : (Jvm.Cond.instanceMethod ({ cls := "FishReadersModel", name := "likedBy", desc := "(I)I" } : Jvm.MethodName)) ∈ lw_all := lw_g (lw_at lw_m6 177 rfl) rfl
theorem q1454 : (Jvm.Cond.code ({ cls := "FishReadersModel", name := "likedBy", desc := "(I)I" } : Jvm.MethodName) prog_16_method_31_code (7 : Nat) (Option.some Jvm.ClassFile.FieldType.int)) ∈ lw_all := lw_g (lw_at lw_m6 178 rfl) rfl
theorem q1455 : (Jvm.Cond.constant "FishReadersModel" (158 : Nat) (-1000000 : Int32)) ∈ lw_all := lw_g (lw_at lw_m6 179 rfl) rfl
theorem q1456 : (Jvm.Cond.methodLink "FishReadersModel" (162 : Nat) ({ cls := "FishReadersModel", name := "likes", desc := "(II)I" } : Jvm.MethodName)) ∈ lw_all := lw_g (lw_at lw_m6 180 rfl) rfl
theorem q1457 : (Jvm.Cond.privateMethod ({ cls := "FishReadersModel", name := "likes", desc := "(II)I" } : Jvm.MethodName)) ∈ lw_tbl := lw_at lw_m6 181 rfl
theorem q1458 : (Jvm.Cond.instanceMethod ({ cls := "FishReadersModel", name := "likes", desc := "(II)I" } : Jvm.MethodName)) ∈ lw_all := lw_g (lw_at lw_m6 182 rfl) rfl
theorem q1459 : (Jvm.Cond.code ({ cls := "FishReadersModel", name := "likes", desc := "(II)I" } : Jvm.MethodName) prog_16_method_30_code (5 : Nat) (Option.some Jvm.ClassFile.FieldType.int)) ∈ lw_all := lw_g (lw_at lw_m6 183 rfl) rfl
theorem q1460 : (Jvm.Cond.methodLink "FishReadersModel" (165 : Nat) ({ cls := "FishReadersModel", name := "isShut", desc := "(I)Z" } : Jvm.MethodName)) ∈ lw_all := lw_g (lw_at lw_m6 184 rfl) rfl
theorem q1461 : (Jvm.Cond.privateMethod ({ cls := "FishReadersModel", name := "isShut", desc := "(I)Z" } : Jvm.MethodName)) ∈ lw_tbl := lw_at lw_m6 185 rfl
theorem q1462 : (Jvm.Cond.instanceMethod ({ cls := "FishReadersModel", name := "isShut", desc := "(I)Z" } : Jvm.MethodName)) ∈ lw_all := lw_g (lw_at lw_m6 186 rfl) rfl
theorem q1463 : (Jvm.Cond.code ({ cls := "FishReadersModel", name := "isShut", desc := "(I)Z" } : Jvm.MethodName) prog_16_method_29_code (2 : Nat) (Option.some Jvm.ClassFile.FieldType.boolean)) ∈ lw_all := lw_g (lw_at lw_m6 187 rfl) rfl
theorem q1464 : (Jvm.Cond.methodLink "FishReadersModel" (177 : Nat) ({ cls := "FishReadersModel", name := "eats", desc := "(I)V" } : Jvm.MethodName)) ∈ lw_all := lw_g (lw_at lw_m6 188 rfl) rfl
theorem q1465 : (Jvm.Cond.privateMethod ({ cls := "FishReadersModel", name := "eats", desc := "(I)V" } : Jvm.MethodName)) ∈ lw_tbl := lw_at lw_m6 189 rfl
theorem q1466 : (Jvm.Cond.instanceMethod ({ cls := "FishReadersModel", name := "eats", desc := "(I)V" } : Jvm.MethodName)) ∈ lw_all := lw_g (lw_at lw_m6 190 rfl) rfl
theorem q1467 : (Jvm.Cond.code ({ cls := "FishReadersModel", name := "eats", desc := "(I)V" } : Jvm.MethodName) prog_16_method_33_code (4 : Nat) (Option.none : Option Jvm.ClassFile.FieldType)) ∈ lw_all := lw_g (lw_at lw_m6 191 rfl) rfl
theorem q1468 : (Jvm.Cond.methodLink "FishReadersModel" (190 : Nat) ({ cls := "FishReadersModel", name := "allPages", desc := "()I" } : Jvm.MethodName)) ∈ lw_all := lw_g (lw_at lw_m6 192 rfl) rfl
theorem q1469 : (Jvm.Cond.privateMethod ({ cls := "FishReadersModel", name := "allPages", desc := "()I" } : Jvm.MethodName)) ∈ lw_tbl := lw_at lw_m6 193 rfl
theorem q1470 : (Jvm.Cond.instanceMethod ({ cls := "FishReadersModel", name := "allPages", desc := "()I" } : Jvm.MethodName)) ∈ lw_all := lw_g (lw_at lw_m6 194 rfl) rfl
theorem q1471 : (Jvm.Cond.code ({ cls := "FishReadersModel", name := "allPages", desc := "()I" } : Jvm.MethodName) prog_16_method_35_code (3 : Nat) (Option.some Jvm.ClassFile.FieldType.int)) ∈ lw_all := lw_g (lw_at lw_m6 195 rfl) rfl
theorem q1473 : (Jvm.Cond.instanceMethod ({ cls := "FishReadersModel", name := "light", desc := "(II)I" } : Jvm.MethodName)) ∈ lw_all := lw_g (lw_at lw_m6 197 rfl) rfl
theorem q1474 : (Jvm.Cond.selects "FishReadersModel" ({ cls := "FishReadersModel", name := "light", desc := "(II)I" } : Jvm.MethodName) ({ cls := "FishReadersModel", name := "light", desc := "(II)I" } : Jvm.MethodName)) ∈ lw_all := lw_g (lw_at lw_m6 198 rfl) rfl
theorem q1475 : (Jvm.Cond.code ({ cls := "FishReadersModel", name := "light", desc := "(II)I" } : Jvm.MethodName) prog_16_method_39_code (3 : Nat) (Option.some Jvm.ClassFile.FieldType.int)) ∈ lw_all := lw_g (lw_at lw_m6 199 rfl) rfl
theorem q1476 : (Jvm.Cond.methodLink "FishReadersModel" (194 : Nat) ({ cls := "FishReadersModel", name := "isBook", desc := "(I)Z" } : Jvm.MethodName)) ∈ lw_all := lw_g (lw_at lw_m6 200 rfl) rfl
theorem q1477 : (Jvm.Cond.privateMethod ({ cls := "FishReadersModel", name := "isBook", desc := "(I)Z" } : Jvm.MethodName)) ∈ lw_tbl := lw_at lw_m6 201 rfl
theorem q1478 : (Jvm.Cond.instanceMethod ({ cls := "FishReadersModel", name := "isBook", desc := "(I)Z" } : Jvm.MethodName)) ∈ lw_all := lw_g (lw_at lw_m6 202 rfl) rfl
theorem q1479 : (Jvm.Cond.code ({ cls := "FishReadersModel", name := "isBook", desc := "(I)Z" } : Jvm.MethodName) prog_16_method_25_code (2 : Nat) (Option.some Jvm.ClassFile.FieldType.boolean)) ∈ lw_all := lw_g (lw_at lw_m6 203 rfl) rfl
theorem q1480 : (Jvm.Cond.methodLink "FishReadersModel" (197 : Nat) ({ cls := "FishReadersModel", name := "ones", desc := "(I)I" } : Jvm.MethodName)) ∈ lw_all := lw_g (lw_at lw_m6 204 rfl) rfl
theorem q1481 : (Jvm.Cond.static ({ cls := "FishReadersModel", name := "ones", desc := "(I)I" } : Jvm.MethodName)) ∈ lw_all := lw_g (lw_at lw_m6 205 rfl) rfl
theorem q1482 : (Jvm.Cond.code ({ cls := "FishReadersModel", name := "ones", desc := "(I)I" } : Jvm.MethodName) prog_16_method_4_code (3 : Nat) (Option.some Jvm.ClassFile.FieldType.int)) ∈ lw_all := lw_g (lw_at lw_m6 206 rfl) rfl
theorem q1484 : (Jvm.Cond.instanceMethod ({ cls := "FishReadersModel", name := "keepIt", desc := "(II)I" } : Jvm.MethodName)) ∈ lw_all := lw_g (lw_at lw_m6 208 rfl) rfl
theorem q1485 : (Jvm.Cond.selects "FishReadersModel" ({ cls := "FishReadersModel", name := "keepIt", desc := "(II)I" } : Jvm.MethodName) ({ cls := "FishReadersModel", name := "keepIt", desc := "(II)I" } : Jvm.MethodName)) ∈ lw_all := lw_g (lw_at lw_m6 209 rfl) rfl
theorem q1486 : (Jvm.Cond.code ({ cls := "FishReadersModel", name := "keepIt", desc := "(II)I" } : Jvm.MethodName) prog_16_method_40_code (3 : Nat) (Option.some Jvm.ClassFile.FieldType.int)) ∈ lw_all := lw_g (lw_at lw_m6 210 rfl) rfl
theorem q1488 : (Jvm.Cond.instanceMethod ({ cls := "FishReadersModel", name := "change", desc := "(II)I" } : Jvm.MethodName)) ∈ lw_all := lw_g (lw_at lw_m6 212 rfl) rfl
theorem q1489 : (Jvm.Cond.selects "FishReadersModel" ({ cls := "FishReadersModel", name := "change", desc := "(II)I" } : Jvm.MethodName) ({ cls := "FishReadersModel", name := "change", desc := "(II)I" } : Jvm.MethodName)) ∈ lw_all := lw_g (lw_at lw_m6 213 rfl) rfl
theorem q1490 : (Jvm.Cond.code ({ cls := "FishReadersModel", name := "change", desc := "(II)I" } : Jvm.MethodName) prog_16_method_41_code (4 : Nat) (Option.some Jvm.ClassFile.FieldType.int)) ∈ lw_all := lw_g (lw_at lw_m6 214 rfl) rfl
theorem q1492 : (Jvm.Cond.instanceMethod ({ cls := "FishReadersModel", name := "move", desc := "(II)I" } : Jvm.MethodName)) ∈ lw_all := lw_g (lw_at lw_m6 216 rfl) rfl
theorem q1493 : (Jvm.Cond.selects "FishReadersModel" ({ cls := "FishReadersModel", name := "move", desc := "(II)I" } : Jvm.MethodName) ({ cls := "FishReadersModel", name := "move", desc := "(II)I" } : Jvm.MethodName)) ∈ lw_all := lw_g (lw_at lw_m6 217 rfl) rfl
theorem q1494 : (Jvm.Cond.code ({ cls := "FishReadersModel", name := "move", desc := "(II)I" } : Jvm.MethodName) prog_16_method_42_code (4 : Nat) (Option.some Jvm.ClassFile.FieldType.int)) ∈ lw_all := lw_g (lw_at lw_m6 218 rfl) rfl
theorem q1495 : (Jvm.Cond.methodLink "FishReadersModel" (200 : Nat) ({ cls := "FishReadersModel", name := "isFish", desc := "(I)Z" } : Jvm.MethodName)) ∈ lw_all := lw_g (lw_at lw_m6 219 rfl) rfl
theorem q1496 : (Jvm.Cond.privateMethod ({ cls := "FishReadersModel", name := "isFish", desc := "(I)Z" } : Jvm.MethodName)) ∈ lw_tbl := lw_at lw_m6 220 rfl
theorem q1497 : (Jvm.Cond.instanceMethod ({ cls := "FishReadersModel", name := "isFish", desc := "(I)Z" } : Jvm.MethodName)) ∈ lw_all := lw_g (lw_at lw_m6 221 rfl) rfl
theorem q1498 : (Jvm.Cond.code ({ cls := "FishReadersModel", name := "isFish", desc := "(I)Z" } : Jvm.MethodName) prog_16_method_26_code (2 : Nat) (Option.some Jvm.ClassFile.FieldType.boolean)) ∈ lw_all := lw_g (lw_at lw_m6 222 rfl) rfl
theorem q1500 : (Jvm.Cond.instanceMethod ({ cls := "FishReadersModel", name := "catchIt", desc := "(I)I" } : Jvm.MethodName)) ∈ lw_all := lw_g (lw_at lw_m6 224 rfl) rfl
theorem q1501 : (Jvm.Cond.selects "FishReadersModel" ({ cls := "FishReadersModel", name := "catchIt", desc := "(I)I" } : Jvm.MethodName) ({ cls := "FishReadersModel", name := "catchIt", desc := "(I)I" } : Jvm.MethodName)) ∈ lw_all := lw_g (lw_at lw_m6 225 rfl) rfl
theorem q1502 : (Jvm.Cond.code ({ cls := "FishReadersModel", name := "catchIt", desc := "(I)I" } : Jvm.MethodName) prog_16_method_43_code (2 : Nat) (Option.some Jvm.ClassFile.FieldType.int)) ∈ lw_all := lw_g (lw_at lw_m6 226 rfl) rfl
theorem q1504 : (Jvm.Cond.instanceMethod ({ cls := "FishReadersModel", name := "book", desc := "(II)I" } : Jvm.MethodName)) ∈ lw_all := lw_g (lw_at lw_m6 228 rfl) rfl
theorem q1505 : (Jvm.Cond.selects "FishReadersModel" ({ cls := "FishReadersModel", name := "book", desc := "(II)I" } : Jvm.MethodName) ({ cls := "FishReadersModel", name := "book", desc := "(II)I" } : Jvm.MethodName)) ∈ lw_all := lw_g (lw_at lw_m6 229 rfl) rfl
theorem q1506 : (Jvm.Cond.code ({ cls := "FishReadersModel", name := "book", desc := "(II)I" } : Jvm.MethodName) prog_16_method_45_code (3 : Nat) (Option.some Jvm.ClassFile.FieldType.int)) ∈ lw_all := lw_g (lw_at lw_m6 230 rfl) rfl
theorem q1507 : (Jvm.Cond.methodLink "FishReadersModel" (203 : Nat) ({ cls := "FishReadersModel", name := "fishAt", desc := "(I)I" } : Jvm.MethodName)) ∈ lw_all := lw_g (lw_at lw_m6 231 rfl) rfl
theorem q1508 : (Jvm.Cond.privateMethod ({ cls := "FishReadersModel", name := "fishAt", desc := "(I)I" } : Jvm.MethodName)) ∈ lw_tbl := lw_at lw_m6 232 rfl
theorem q1509 : (Jvm.Cond.instanceMethod ({ cls := "FishReadersModel", name := "fishAt", desc := "(I)I" } : Jvm.MethodName)) ∈ lw_all := lw_g (lw_at lw_m6 233 rfl) rfl
theorem q1510 : (Jvm.Cond.code ({ cls := "FishReadersModel", name := "fishAt", desc := "(I)I" } : Jvm.MethodName) prog_16_method_44_code (4 : Nat) (Option.some Jvm.ClassFile.FieldType.int)) ∈ lw_all := lw_g (lw_at lw_m6 234 rfl) rfl
theorem q1512 : (Jvm.Cond.instanceMethod ({ cls := "FishReadersModel", name := "fish", desc := "(II)I" } : Jvm.MethodName)) ∈ lw_all := lw_g (lw_at lw_m6 236 rfl) rfl
theorem q1513 : (Jvm.Cond.selects "FishReadersModel" ({ cls := "FishReadersModel", name := "fish", desc := "(II)I" } : Jvm.MethodName) ({ cls := "FishReadersModel", name := "fish", desc := "(II)I" } : Jvm.MethodName)) ∈ lw_all := lw_g (lw_at lw_m6 237 rfl) rfl
theorem q1514 : (Jvm.Cond.code ({ cls := "FishReadersModel", name := "fish", desc := "(II)I" } : Jvm.MethodName) prog_16_method_46_code (3 : Nat) (Option.some Jvm.ClassFile.FieldType.int)) ∈ lw_all := lw_g (lw_at lw_m6 238 rfl) rfl
theorem q1515 : (Jvm.Cond.constantLong "FishReadersModel" (206 : Nat) (3 : Int64)) ∈ lw_all := lw_g (lw_at lw_m6 239 rfl) rfl
theorem q1517 : (Jvm.Cond.instanceMethod ({ cls := "FishReadersModel", name := "stand", desc := "(I)I" } : Jvm.MethodName)) ∈ lw_all := lw_g (lw_at lw_m7 1 rfl) rfl
theorem q1518 : (Jvm.Cond.selects "FishReadersModel" ({ cls := "FishReadersModel", name := "stand", desc := "(I)I" } : Jvm.MethodName) ({ cls := "FishReadersModel", name := "stand", desc := "(I)I" } : Jvm.MethodName)) ∈ lw_all := lw_g (lw_at lw_m7 2 rfl) rfl
theorem q1519 : (Jvm.Cond.code ({ cls := "FishReadersModel", name := "stand", desc := "(I)I" } : Jvm.MethodName) prog_16_method_47_code (2 : Nat) (Option.some Jvm.ClassFile.FieldType.int)) ∈ lw_all := lw_g (lw_at lw_m7 3 rfl) rfl
theorem q1521 : (Jvm.Cond.instanceMethod ({ cls := "FishReadersModel", name := "ahead", desc := "(III)I" } : Jvm.MethodName)) ∈ lw_all := lw_g (lw_at lw_m7 5 rfl) rfl
theorem q1522 : (Jvm.Cond.selects "FishReadersModel" ({ cls := "FishReadersModel", name := "ahead", desc := "(III)I" } : Jvm.MethodName) ({ cls := "FishReadersModel", name := "ahead", desc := "(III)I" } : Jvm.MethodName)) ∈ lw_all := lw_g (lw_at lw_m7 6 rfl) rfl
theorem q1523 : (Jvm.Cond.code ({ cls := "FishReadersModel", name := "ahead", desc := "(III)I" } : Jvm.MethodName) prog_16_method_53_code (5 : Nat) (Option.some Jvm.ClassFile.FieldType.int)) ∈ lw_all := lw_g (lw_at lw_m7 7 rfl) rfl
theorem q1524 : (Jvm.Cond.constantLong "FishReadersModel" (214 : Nat) (60 : Int64)) ∈ lw_all := lw_g (lw_at lw_m7 8 rfl) rfl
theorem q1525 : (Jvm.Cond.methodLink "FishReadersModel" (216 : Nat) ({ cls := "FishReadersModel", name := "isWhat", desc := "(I)Z" } : Jvm.MethodName)) ∈ lw_all := lw_g (lw_at lw_m7 9 rfl) rfl
theorem q1526 : (Jvm.Cond.static ({ cls := "FishReadersModel", name := "isWhat", desc := "(I)Z" } : Jvm.MethodName)) ∈ lw_all := lw_g (lw_at lw_m7 10 rfl) rfl
theorem q1527 : (Jvm.Cond.code ({ cls := "FishReadersModel", name := "isWhat", desc := "(I)Z" } : Jvm.MethodName) prog_16_method_51_code (1 : Nat) (Option.some Jvm.ClassFile.FieldType.boolean)) ∈ lw_all := lw_g (lw_at lw_m7 11 rfl) rfl
theorem q1528 : (Jvm.Cond.methodLink "FishReadersModel" (219 : Nat) ({ cls := "FishReadersModel", name := "putAside", desc := "()V" } : Jvm.MethodName)) ∈ lw_all := lw_g (lw_at lw_m7 12 rfl) rfl
theorem q1529 : (Jvm.Cond.privateMethod ({ cls := "FishReadersModel", name := "putAside", desc := "()V" } : Jvm.MethodName)) ∈ lw_tbl := lw_at lw_m7 13 rfl
theorem q1530 : (Jvm.Cond.instanceMethod ({ cls := "FishReadersModel", name := "putAside", desc := "()V" } : Jvm.MethodName)) ∈ lw_all := lw_g (lw_at lw_m7 14 rfl) rfl
theorem q1531 : (Jvm.Cond.code ({ cls := "FishReadersModel", name := "putAside", desc := "()V" } : Jvm.MethodName) prog_16_method_48_code (2 : Nat) (Option.none : Option Jvm.ClassFile.FieldType)) ∈ lw_all := lw_g (lw_at lw_m7 15 rfl) rfl
theorem q1532 : (Jvm.Cond.methodLink "FishReadersModel" (208 : Nat) ({ cls := "FishReadersModel", name := "goOn", desc := "(I)V" } : Jvm.MethodName)) ∈ lw_all := lw_g (lw_at lw_m7 16 rfl) rfl
theorem q1533 : (Jvm.Cond.privateMethod ({ cls := "FishReadersModel", name := "goOn", desc := "(I)V" } : Jvm.MethodName)) ∈ lw_tbl := lw_at lw_m7 17 rfl
theorem q1534 : (Jvm.Cond.instanceMethod ({ cls := "FishReadersModel", name := "goOn", desc := "(I)V" } : Jvm.MethodName)) ∈ lw_all := lw_g (lw_at lw_m7 18 rfl) rfl
theorem q1535 : (Jvm.Cond.code ({ cls := "FishReadersModel", name := "goOn", desc := "(I)V" } : Jvm.MethodName) prog_16_method_50_code (3 : Nat) (Option.none : Option Jvm.ClassFile.FieldType)) ∈ lw_all := lw_g (lw_at lw_m7 19 rfl) rfl
theorem q1536 : (Jvm.Cond.methodLink "FishReadersModel" (211 : Nat) ({ cls := "FishReadersModel", name := "takeBack", desc := "()V" } : Jvm.MethodName)) ∈ lw_all := lw_g (lw_at lw_m7 20 rfl) rfl
theorem q1537 : (Jvm.Cond.privateMethod ({ cls := "FishReadersModel", name := "takeBack", desc := "()V" } : Jvm.MethodName)) ∈ lw_tbl := lw_at lw_m7 21 rfl
theorem q1538 : (Jvm.Cond.instanceMethod ({ cls := "FishReadersModel", name := "takeBack", desc := "()V" } : Jvm.MethodName)) ∈ lw_all := lw_g (lw_at lw_m7 22 rfl) rfl
theorem q1539 : (Jvm.Cond.code ({ cls := "FishReadersModel", name := "takeBack", desc := "()V" } : Jvm.MethodName) prog_16_method_49_code (2 : Nat) (Option.none : Option Jvm.ClassFile.FieldType)) ∈ lw_all := lw_g (lw_at lw_m7 23 rfl) rfl
theorem q1541 : (Jvm.Cond.instanceMethod ({ cls := "FishReadersModel", name := "later", desc := "(III)I" } : Jvm.MethodName)) ∈ lw_all := lw_g (lw_at lw_m7 25 rfl) rfl
theorem q1542 : (Jvm.Cond.selects "FishReadersModel" ({ cls := "FishReadersModel", name := "later", desc := "(III)I" } : Jvm.MethodName) ({ cls := "FishReadersModel", name := "later", desc := "(III)I" } : Jvm.MethodName)) ∈ lw_all := lw_g (lw_at lw_m7 26 rfl) rfl
theorem q1543 : (Jvm.Cond.code ({ cls := "FishReadersModel", name := "later", desc := "(III)I" } : Jvm.MethodName) prog_16_method_54_code (5 : Nat) (Option.some Jvm.ClassFile.FieldType.int)) ∈ lw_all := lw_g (lw_at lw_m7 27 rfl) rfl
theorem q1545 : (Jvm.Cond.instanceMethod ({ cls := "FishReadersModel", name := "when", desc := "(I)I" } : Jvm.MethodName)) ∈ lw_all := lw_g (lw_at lw_m7 29 rfl) rfl
theorem q1546 : (Jvm.Cond.selects "FishReadersModel" ({ cls := "FishReadersModel", name := "when", desc := "(I)I" } : Jvm.MethodName) ({ cls := "FishReadersModel", name := "when", desc := "(I)I" } : Jvm.MethodName)) ∈ lw_all := lw_g (lw_at lw_m7 30 rfl) rfl
theorem q1547 : (Jvm.Cond.code ({ cls := "FishReadersModel", name := "when", desc := "(I)I" } : Jvm.MethodName) prog_16_method_55_code (4 : Nat) (Option.some Jvm.ClassFile.FieldType.int)) ∈ lw_all := lw_g (lw_at lw_m7 31 rfl) rfl
theorem q1549 : (Jvm.Cond.instanceMethod ({ cls := "FishReadersModel", name := "first", desc := "(I)I" } : Jvm.MethodName)) ∈ lw_all := lw_g (lw_at lw_m7 33 rfl) rfl
theorem q1550 : (Jvm.Cond.selects "FishReadersModel" ({ cls := "FishReadersModel", name := "first", desc := "(I)I" } : Jvm.MethodName) ({ cls := "FishReadersModel", name := "first", desc := "(I)I" } : Jvm.MethodName)) ∈ lw_all := lw_g (lw_at lw_m7 34 rfl) rfl
theorem q1551 : (Jvm.Cond.code ({ cls := "FishReadersModel", name := "first", desc := "(I)I" } : Jvm.MethodName) prog_16_method_58_code (5 : Nat) (Option.some Jvm.ClassFile.FieldType.int)) ∈ lw_all := lw_g (lw_at lw_m7 35 rfl) rfl
theorem q1552 : (Jvm.Cond.methodLink "FishReadersModel" (222 : Nat) ({ cls := "FishReadersModel", name := "emptySet", desc := "()I" } : Jvm.MethodName)) ∈ lw_all := lw_g (lw_at lw_m7 36 rfl) rfl
theorem q1553 : (Jvm.Cond.privateMethod ({ cls := "FishReadersModel", name := "emptySet", desc := "()I" } : Jvm.MethodName)) ∈ lw_tbl := lw_at lw_m7 37 rfl
theorem q1554 : (Jvm.Cond.instanceMethod ({ cls := "FishReadersModel", name := "emptySet", desc := "()I" } : Jvm.MethodName)) ∈ lw_all := lw_g (lw_at lw_m7 38 rfl) rfl
theorem q1555 : (Jvm.Cond.code ({ cls := "FishReadersModel", name := "emptySet", desc := "()I" } : Jvm.MethodName) prog_16_method_56_code (3 : Nat) (Option.some Jvm.ClassFile.FieldType.int)) ∈ lw_all := lw_g (lw_at lw_m7 39 rfl) rfl
theorem q1556 : (Jvm.Cond.methodLink "FishReadersModel" (225 : Nat) ({ cls := "FishReadersModel", name := "least", desc := "(I)I" } : Jvm.MethodName)) ∈ lw_all := lw_g (lw_at lw_m7 40 rfl) rfl
theorem q1557 : (Jvm.Cond.static ({ cls := "FishReadersModel", name := "least", desc := "(I)I" } : Jvm.MethodName)) ∈ lw_all := lw_g (lw_at lw_m7 41 rfl) rfl
theorem q1558 : (Jvm.Cond.code ({ cls := "FishReadersModel", name := "least", desc := "(I)I" } : Jvm.MethodName) prog_16_method_57_code (2 : Nat) (Option.some Jvm.ClassFile.FieldType.int)) ∈ lw_all := lw_g (lw_at lw_m7 42 rfl) rfl
theorem q1560 : (Jvm.Cond.instanceMethod ({ cls := "FishReadersModel", name := "hole", desc := "(II)I" } : Jvm.MethodName)) ∈ lw_all := lw_g (lw_at lw_m7 44 rfl) rfl
theorem q1561 : (Jvm.Cond.selects "FishReadersModel" ({ cls := "FishReadersModel", name := "hole", desc := "(II)I" } : Jvm.MethodName) ({ cls := "FishReadersModel", name := "hole", desc := "(II)I" } : Jvm.MethodName)) ∈ lw_all := lw_g (lw_at lw_m7 45 rfl) rfl
theorem q1562 : (Jvm.Cond.code ({ cls := "FishReadersModel", name := "hole", desc := "(II)I" } : Jvm.MethodName) prog_16_method_59_code (3 : Nat) (Option.some Jvm.ClassFile.FieldType.int)) ∈ lw_all := lw_g (lw_at lw_m7 46 rfl) rfl
theorem q1564 : (Jvm.Cond.instanceMethod ({ cls := "FishReadersModel", name := "order", desc := "(III)I" } : Jvm.MethodName)) ∈ lw_all := lw_g (lw_at lw_m7 48 rfl) rfl
theorem q1565 : (Jvm.Cond.selects "FishReadersModel" ({ cls := "FishReadersModel", name := "order", desc := "(III)I" } : Jvm.MethodName) ({ cls := "FishReadersModel", name := "order", desc := "(III)I" } : Jvm.MethodName)) ∈ lw_all := lw_g (lw_at lw_m7 49 rfl) rfl
theorem q1566 : (Jvm.Cond.code ({ cls := "FishReadersModel", name := "order", desc := "(III)I" } : Jvm.MethodName) prog_16_method_63_code (8 : Nat) (Option.some Jvm.ClassFile.FieldType.int)) ∈ lw_all := lw_g (lw_at lw_m7 50 rfl) rfl
theorem q1567 : (Jvm.Cond.constantLong "FishReadersModel" (232 : Nat) (12 : Int64)) ∈ lw_all := lw_g (lw_at lw_m7 51 rfl) rfl
theorem q1568 : (Jvm.Cond.constantLong "FishReadersModel" (234 : Nat) (-1 : Int64)) ∈ lw_all := lw_g (lw_at lw_m7 52 rfl) rfl
theorem q1569 : (Jvm.Cond.methodLink "FishReadersModel" (236 : Nat) ({ cls := "FishReadersModel", name := "pagesOf", desc := "(I)I" } : Jvm.MethodName)) ∈ lw_all := lw_g (lw_at lw_m7 53 rfl) rfl
theorem q1570 : (Jvm.Cond.privateMethod ({ cls := "FishReadersModel", name := "pagesOf", desc := "(I)I" } : Jvm.MethodName)) ∈ lw_tbl := lw_at lw_m7 54 rfl
theorem q1571 : (Jvm.Cond.instanceMethod ({ cls := "FishReadersModel", name := "pagesOf", desc := "(I)I" } : Jvm.MethodName)) ∈ lw_all := lw_g (lw_at lw_m7 55 rfl) rfl
theorem q1572 : (Jvm.Cond.code ({ cls := "FishReadersModel", name := "pagesOf", desc := "(I)I" } : Jvm.MethodName) prog_16_method_62_code (4 : Nat) (Option.some Jvm.ClassFile.FieldType.int)) ∈ lw_all := lw_g (lw_at lw_m7 56 rfl) rfl
theorem q1573 : (Jvm.Cond.methodLink "FishReadersModel" (239 : Nat) ({ cls := "FishReadersModel", name := "isNext", desc := "(I)Z" } : Jvm.MethodName)) ∈ lw_all := lw_g (lw_at lw_m7 57 rfl) rfl
theorem q1574 : (Jvm.Cond.privateMethod ({ cls := "FishReadersModel", name := "isNext", desc := "(I)Z" } : Jvm.MethodName)) ∈ lw_tbl := lw_at lw_m7 58 rfl
theorem q1575 : (Jvm.Cond.instanceMethod ({ cls := "FishReadersModel", name := "isNext", desc := "(I)Z" } : Jvm.MethodName)) ∈ lw_all := lw_g (lw_at lw_m7 59 rfl) rfl
theorem q1576 : (Jvm.Cond.code ({ cls := "FishReadersModel", name := "isNext", desc := "(I)Z" } : Jvm.MethodName) prog_16_method_61_code (6 : Nat) (Option.some Jvm.ClassFile.FieldType.boolean)) ∈ lw_all := lw_g (lw_at lw_m7 60 rfl) rfl
theorem q1577 : (Jvm.Cond.methodLink "FishReadersModel" (228 : Nat) ({ cls := "FishReadersModel", name := "exchange", desc := "(II)V" } : Jvm.MethodName)) ∈ lw_all := lw_g (lw_at lw_m7 61 rfl) rfl
theorem q1578 : (Jvm.Cond.privateMethod ({ cls := "FishReadersModel", name := "exchange", desc := "(II)V" } : Jvm.MethodName)) ∈ lw_tbl := lw_at lw_m7 62 rfl
theorem q1579 : (Jvm.Cond.instanceMethod ({ cls := "FishReadersModel", name := "exchange", desc := "(II)V" } : Jvm.MethodName)) ∈ lw_all := lw_g (lw_at lw_m7 63 rfl) rfl
theorem q1580 : (Jvm.Cond.code ({ cls := "FishReadersModel", name := "exchange", desc := "(II)V" } : Jvm.MethodName) prog_16_method_60_code (4 : Nat) (Option.none : Option Jvm.ClassFile.FieldType)) ∈ lw_all := lw_g (lw_at lw_m7 64 rfl) rfl
theorem q1582 : (Jvm.Cond.instanceMethod ({ cls := "FishReadersModel", name := "lamp", desc := "(III)I" } : Jvm.MethodName)) ∈ lw_all := lw_g (lw_at lw_m7 66 rfl) rfl
theorem q1583 : (Jvm.Cond.selects "FishReadersModel" ({ cls := "FishReadersModel", name := "lamp", desc := "(III)I" } : Jvm.MethodName) ({ cls := "FishReadersModel", name := "lamp", desc := "(III)I" } : Jvm.MethodName)) ∈ lw_all := lw_g (lw_at lw_m7 67 rfl) rfl
theorem q1584 : (Jvm.Cond.code ({ cls := "FishReadersModel", name := "lamp", desc := "(III)I" } : Jvm.MethodName) prog_16_method_64_code (8 : Nat) (Option.some Jvm.ClassFile.FieldType.int)) ∈ lw_all := lw_g (lw_at lw_m7 68 rfl) rfl
theorem q1585 : (Jvm.Cond.methodLink "FishReadersModel" (242 : Nat) ({ cls := "FishReadersModel", name := "pagesBehind", desc := "(II)I" } : Jvm.MethodName)) ∈ lw_all := lw_g (lw_at lw_m7 69 rfl) rfl
theorem q1586 : (Jvm.Cond.privateMethod ({ cls := "FishReadersModel", name := "pagesBehind", desc := "(II)I" } : Jvm.MethodName)) ∈ lw_tbl := lw_at lw_m7 70 rfl
theorem q1587 : (Jvm.Cond.instanceMethod ({ cls := "FishReadersModel", name := "pagesBehind", desc := "(II)I" } : Jvm.MethodName)) ∈ lw_all := lw_g (lw_at lw_m7 71 rfl) rfl
theorem q1588 : (Jvm.Cond.code ({ cls := "FishReadersModel", name := "pagesBehind", desc := "(II)I" } : Jvm.MethodName) prog_16_method_52_code (4 : Nat) (Option.some Jvm.ClassFile.FieldType.int)) ∈ lw_all := lw_g (lw_at lw_m7 72 rfl) rfl
theorem q1590 : (Jvm.Cond.instanceMethod ({ cls := "FishReadersModel", name := "caught", desc := "(III)I" } : Jvm.MethodName)) ∈ lw_all := lw_g (lw_at lw_m7 74 rfl) rfl
theorem q1591 : (Jvm.Cond.selects "FishReadersModel" ({ cls := "FishReadersModel", name := "caught", desc := "(III)I" } : Jvm.MethodName) ({ cls := "FishReadersModel", name := "caught", desc := "(III)I" } : Jvm.MethodName)) ∈ lw_all := lw_g (lw_at lw_m7 75 rfl) rfl
theorem q1592 : (Jvm.Cond.code ({ cls := "FishReadersModel", name := "caught", desc := "(III)I" } : Jvm.MethodName) prog_16_method_65_code (6 : Nat) (Option.some Jvm.ClassFile.FieldType.int)) ∈ lw_all := lw_g (lw_at lw_m7 76 rfl) rfl
theorem q1594 : (Jvm.Cond.instanceMethod ({ cls := "FishReadersModel", name := "grams", desc := "(II)I" } : Jvm.MethodName)) ∈ lw_all := lw_g (lw_at lw_m7 78 rfl) rfl
theorem q1595 : (Jvm.Cond.selects "FishReadersModel" ({ cls := "FishReadersModel", name := "grams", desc := "(II)I" } : Jvm.MethodName) ({ cls := "FishReadersModel", name := "grams", desc := "(II)I" } : Jvm.MethodName)) ∈ lw_all := lw_g (lw_at lw_m7 79 rfl) rfl
theorem q1596 : (Jvm.Cond.code ({ cls := "FishReadersModel", name := "grams", desc := "(II)I" } : Jvm.MethodName) prog_16_method_67_code (7 : Nat) (Option.some Jvm.ClassFile.FieldType.int)) ∈ lw_all := lw_g (lw_at lw_m7 80 rfl) rfl
theorem q1597 : (Jvm.Cond.constantLong "FishReadersModel" (245 : Nat) (999 : Int64)) ∈ lw_all := lw_g (lw_at lw_m7 81 rfl) rfl
theorem q1598 : (Jvm.Cond.methodLink "FishReadersModel" (247 : Nat) ({ cls := "FishReadersModel", name := "dustOf", desc := "(I)I" } : Jvm.MethodName)) ∈ lw_all := lw_g (lw_at lw_m7 82 rfl) rfl
theorem q1599 : (Jvm.Cond.privateMethod ({ cls := "FishReadersModel", name := "dustOf", desc := "(I)I" } : Jvm.MethodName)) ∈ lw_tbl := lw_at lw_m7 83 rfl
theorem q1600 : (Jvm.Cond.instanceMethod ({ cls := "FishReadersModel", name := "dustOf", desc := "(I)I" } : Jvm.MethodName)) ∈ lw_all := lw_g (lw_at lw_m7 84 rfl) rfl
theorem q1601 : (Jvm.Cond.code ({ cls := "FishReadersModel", name := "dustOf", desc := "(I)I" } : Jvm.MethodName) prog_16_method_66_code (2 : Nat) (Option.some Jvm.ClassFile.FieldType.int)) ∈ lw_all := lw_g (lw_at lw_m7 85 rfl) rfl
theorem q1603 : (Jvm.Cond.instanceMethod ({ cls := "FishReadersModel", name := "who", desc := "(IIIIII)I" } : Jvm.MethodName)) ∈ lw_all := lw_g (lw_at lw_m7 87 rfl) rfl
theorem q1604 : (Jvm.Cond.selects "FishReadersModel" ({ cls := "FishReadersModel", name := "who", desc := "(IIIIII)I" } : Jvm.MethodName) ({ cls := "FishReadersModel", name := "who", desc := "(IIIIII)I" } : Jvm.MethodName)) ∈ lw_all := lw_g (lw_at lw_m7 88 rfl) rfl
theorem q1605 : (Jvm.Cond.code ({ cls := "FishReadersModel", name := "who", desc := "(IIIIII)I" } : Jvm.MethodName) prog_16_method_71_code (8 : Nat) (Option.some Jvm.ClassFile.FieldType.int)) ∈ lw_all := lw_g (lw_at lw_m7 89 rfl) rfl
theorem q1606 : (Jvm.Cond.methodLink "FishReadersModel" (254 : Nat) ({ cls := "FishReadersModel", name := "lacks", desc := "(III)I" } : Jvm.MethodName)) ∈ lw_all := lw_g (lw_at lw_m7 90 rfl) rfl
theorem q1607 : (Jvm.Cond.privateMethod ({ cls := "FishReadersModel", name := "lacks", desc := "(III)I" } : Jvm.MethodName)) ∈ lw_tbl := lw_at lw_m7 91 rfl
theorem q1608 : (Jvm.Cond.instanceMethod ({ cls := "FishReadersModel", name := "lacks", desc := "(III)I" } : Jvm.MethodName)) ∈ lw_all := lw_g (lw_at lw_m7 92 rfl) rfl
theorem q1609 : (Jvm.Cond.code ({ cls := "FishReadersModel", name := "lacks", desc := "(III)I" } : Jvm.MethodName) prog_16_method_68_code (4 : Nat) (Option.some Jvm.ClassFile.FieldType.int)) ∈ lw_all := lw_g (lw_at lw_m7 93 rfl) rfl
theorem q1610 : (Jvm.Cond.methodLink "FishReadersModel" (258 : Nat) ({ cls := "FishReadersModel", name := "fits", desc := "(IIIIII)I" } : Jvm.MethodName)) ∈ lw_all := lw_g (lw_at lw_m7 94 rfl) rfl
theorem q1611 : (Jvm.Cond.privateMethod ({ cls := "FishReadersModel", name := "fits", desc := "(IIIIII)I" } : Jvm.MethodName)) ∈ lw_tbl := lw_at lw_m7 95 rfl
theorem q1612 : (Jvm.Cond.instanceMethod ({ cls := "FishReadersModel", name := "fits", desc := "(IIIIII)I" } : Jvm.MethodName)) ∈ lw_all := lw_g (lw_at lw_m7 96 rfl) rfl
theorem q1613 : (Jvm.Cond.code ({ cls := "FishReadersModel", name := "fits", desc := "(IIIIII)I" } : Jvm.MethodName) prog_16_method_70_code (9 : Nat) (Option.some Jvm.ClassFile.FieldType.int)) ∈ lw_all := lw_g (lw_at lw_m7 97 rfl) rfl
theorem q1614 : (Jvm.Cond.methodLink "FishReadersModel" (250 : Nat) ({ cls := "FishReadersModel", name := "isSo", desc := "(III)Z" } : Jvm.MethodName)) ∈ lw_all := lw_g (lw_at lw_m7 98 rfl) rfl
theorem q1615 : (Jvm.Cond.privateMethod ({ cls := "FishReadersModel", name := "isSo", desc := "(III)Z" } : Jvm.MethodName)) ∈ lw_tbl := lw_at lw_m7 99 rfl
theorem q1616 : (Jvm.Cond.instanceMethod ({ cls := "FishReadersModel", name := "isSo", desc := "(III)Z" } : Jvm.MethodName)) ∈ lw_all := lw_g (lw_at lw_m7 100 rfl) rfl
theorem q1617 : (Jvm.Cond.code ({ cls := "FishReadersModel", name := "isSo", desc := "(III)Z" } : Jvm.MethodName) prog_16_method_69_code (6 : Nat) (Option.some Jvm.ClassFile.FieldType.boolean)) ∈ lw_all := lw_g (lw_at lw_m7 101 rfl) rfl
theorem q1619 : (Jvm.Cond.instanceMethod ({ cls := "FishReadersModel", name := "paste", desc := "(IIIII)I" } : Jvm.MethodName)) ∈ lw_all := lw_g (lw_at lw_m7 103 rfl) rfl
theorem q1620 : (Jvm.Cond.selects "FishReadersModel" ({ cls := "FishReadersModel", name := "paste", desc := "(IIIII)I" } : Jvm.MethodName) ({ cls := "FishReadersModel", name := "paste", desc := "(IIIII)I" } : Jvm.MethodName)) ∈ lw_all := lw_g (lw_at lw_m7 104 rfl) rfl
theorem q1621 : (Jvm.Cond.code ({ cls := "FishReadersModel", name := "paste", desc := "(IIIII)I" } : Jvm.MethodName) prog_16_method_72_code (7 : Nat) (Option.some Jvm.ClassFile.FieldType.int)) ∈ lw_all := lw_g (lw_at lw_m7 105 rfl) rfl
theorem q1623 : (Jvm.Cond.instanceMethod ({ cls := "FishReadersModel", name := "hungers", desc := "(IIII)I" } : Jvm.MethodName)) ∈ lw_all := lw_g (lw_at lw_m7 107 rfl) rfl
theorem q1624 : (Jvm.Cond.selects "FishReadersModel" ({ cls := "FishReadersModel", name := "hungers", desc := "(IIII)I" } : Jvm.MethodName) ({ cls := "FishReadersModel", name := "hungers", desc := "(IIII)I" } : Jvm.MethodName)) ∈ lw_all := lw_g (lw_at lw_m7 108 rfl) rfl
theorem q1625 : (Jvm.Cond.code ({ cls := "FishReadersModel", name := "hungers", desc := "(IIII)I" } : Jvm.MethodName) prog_16_method_73_code (6 : Nat) (Option.some Jvm.ClassFile.FieldType.int)) ∈ lw_all := lw_g (lw_at lw_m7 109 rfl) rfl
theorem q1627 : (Jvm.Cond.instanceMethod ({ cls := "FishReadersModel", name := "dark", desc := "(IIII)J" } : Jvm.MethodName)) ∈ lw_all := lw_g (lw_at lw_m7 111 rfl) rfl
theorem q1628 : (Jvm.Cond.selects "FishReadersModel" ({ cls := "FishReadersModel", name := "dark", desc := "(IIII)J" } : Jvm.MethodName) ({ cls := "FishReadersModel", name := "dark", desc := "(IIII)J" } : Jvm.MethodName)) ∈ lw_all := lw_g (lw_at lw_m7 112 rfl) rfl
theorem q1629 : (Jvm.Cond.code ({ cls := "FishReadersModel", name := "dark", desc := "(IIII)J" } : Jvm.MethodName) prog_16_method_74_code (16 : Nat) (Option.some Jvm.ClassFile.FieldType.long)) ∈ lw_all := lw_g (lw_at lw_m7 113 rfl) rfl
theorem q1630 : (Jvm.Cond.constantLong "FishReadersModel" (262 : Nat) (10 : Int64)) ∈ lw_all := lw_g (lw_at lw_m7 114 rfl) rfl
theorem q1631 : (Jvm.Cond.constantLong "FishReadersModel" (264 : Nat) (-1000001 : Int64)) ∈ lw_all := lw_g (lw_at lw_m7 115 rfl) rfl
theorem q1633 : (Jvm.Cond.instanceMethod ({ cls := "FishReadersModel", name := "drawn", desc := "(III)I" } : Jvm.MethodName)) ∈ lw_all := lw_g (lw_at lw_m7 117 rfl) rfl
theorem q1634 : (Jvm.Cond.selects "FishReadersModel" ({ cls := "FishReadersModel", name := "drawn", desc := "(III)I" } : Jvm.MethodName) ({ cls := "FishReadersModel", name := "drawn", desc := "(III)I" } : Jvm.MethodName)) ∈ lw_all := lw_g (lw_at lw_m7 118 rfl) rfl
theorem q1635 : (Jvm.Cond.code ({ cls := "FishReadersModel", name := "drawn", desc := "(III)I" } : Jvm.MethodName) prog_16_method_75_code (8 : Nat) (Option.some Jvm.ClassFile.FieldType.int)) ∈ lw_all := lw_g (lw_at lw_m7 119 rfl) rfl
theorem q1636 : (Jvm.Cond.constantLong "FishReadersModel" (266 : Nat) (999999 : Int64)) ∈ lw_all := lw_g (lw_at lw_m7 120 rfl) rfl
theorem q1637 : (Jvm.Cond.constantLong "FishReadersModel" (268 : Nat) (16807 : Int64)) ∈ lw_all := lw_g (lw_at lw_m7 121 rfl) rfl
theorem q1638 : (Jvm.Cond.constantLong "FishReadersModel" (270 : Nat) (2147483647 : Int64)) ∈ lw_all := lw_g (lw_at lw_m7 122 rfl) rfl
theorem q1639 : (Jvm.Cond.constantLong "FishReadersModel" (272 : Nat) (5 : Int64)) ∈ lw_all := lw_g (lw_at lw_m7 123 rfl) rfl
theorem q1641 : (Jvm.Cond.instanceMethod ({ cls := "FishReadersModel", name := "image", desc := "(I)I" } : Jvm.MethodName)) ∈ lw_all := lw_g (lw_at lw_m7 125 rfl) rfl
theorem q1642 : (Jvm.Cond.selects "FishReadersModel" ({ cls := "FishReadersModel", name := "image", desc := "(I)I" } : Jvm.MethodName) ({ cls := "FishReadersModel", name := "image", desc := "(I)I" } : Jvm.MethodName)) ∈ lw_all := lw_g (lw_at lw_m7 126 rfl) rfl
theorem q1643 : (Jvm.Cond.code ({ cls := "FishReadersModel", name := "image", desc := "(I)I" } : Jvm.MethodName) prog_16_method_76_code (3 : Nat) (Option.some Jvm.ClassFile.FieldType.int)) ∈ lw_all := lw_g (lw_at lw_m7 127 rfl) rfl
theorem q1645 : (Jvm.Cond.instanceMethod ({ cls := "FishReadersModel", name := "restore", desc := "(I)I" } : Jvm.MethodName)) ∈ lw_all := lw_g (lw_at lw_m7 129 rfl) rfl
theorem q1646 : (Jvm.Cond.selects "FishReadersModel" ({ cls := "FishReadersModel", name := "restore", desc := "(I)I" } : Jvm.MethodName) ({ cls := "FishReadersModel", name := "restore", desc := "(I)I" } : Jvm.MethodName)) ∈ lw_all := lw_g (lw_at lw_m7 130 rfl) rfl
theorem q1647 : (Jvm.Cond.code ({ cls := "FishReadersModel", name := "restore", desc := "(I)I" } : Jvm.MethodName) prog_16_method_77_code (3 : Nat) (Option.some Jvm.ClassFile.FieldType.int)) ∈ lw_all := lw_g (lw_at lw_m7 131 rfl) rfl
theorem q1649 : (Jvm.Cond.instanceMethod ({ cls := "FishReadersModel", name := "kind", desc := "(I)I" } : Jvm.MethodName)) ∈ lw_all := lw_g (lw_at lw_m7 133 rfl) rfl
theorem q1650 : (Jvm.Cond.selects "FishReadersModel" ({ cls := "FishReadersModel", name := "kind", desc := "(I)I" } : Jvm.MethodName) ({ cls := "FishReadersModel", name := "kind", desc := "(I)I" } : Jvm.MethodName)) ∈ lw_all := lw_g (lw_at lw_m7 134 rfl) rfl
theorem q1651 : (Jvm.Cond.code ({ cls := "FishReadersModel", name := "kind", desc := "(I)I" } : Jvm.MethodName) prog_16_method_78_code (2 : Nat) (Option.some Jvm.ClassFile.FieldType.int)) ∈ lw_all := lw_g (lw_at lw_m7 135 rfl) rfl
theorem q1653 : (Jvm.Cond.instanceMethod ({ cls := "FishReadersModel", name := "as", desc := "(II)I" } : Jvm.MethodName)) ∈ lw_all := lw_g (lw_at lw_m7 137 rfl) rfl
theorem q1654 : (Jvm.Cond.selects "FishReadersModel" ({ cls := "FishReadersModel", name := "as", desc := "(II)I" } : Jvm.MethodName) ({ cls := "FishReadersModel", name := "as", desc := "(II)I" } : Jvm.MethodName)) ∈ lw_all := lw_g (lw_at lw_m7 138 rfl) rfl
theorem q1655 : (Jvm.Cond.code ({ cls := "FishReadersModel", name := "as", desc := "(II)I" } : Jvm.MethodName) prog_16_method_80_code (3 : Nat) (Option.some Jvm.ClassFile.FieldType.int)) ∈ lw_all := lw_g (lw_at lw_m7 139 rfl) rfl
theorem q1656 : (Jvm.Cond.methodLink "FishReadersModel" (274 : Nat) ({ cls := "FishReadersModel", name := "isKind", desc := "(II)Z" } : Jvm.MethodName)) ∈ lw_all := lw_g (lw_at lw_m7 140 rfl) rfl
theorem q1657 : (Jvm.Cond.static ({ cls := "FishReadersModel", name := "isKind", desc := "(II)Z" } : Jvm.MethodName)) ∈ lw_all := lw_g (lw_at lw_m7 141 rfl) rfl
theorem q1658 : (Jvm.Cond.code ({ cls := "FishReadersModel", name := "isKind", desc := "(II)Z" } : Jvm.MethodName) prog_16_method_79_code (2 : Nat) (Option.some Jvm.ClassFile.FieldType.boolean)) ∈ lw_all := lw_g (lw_at lw_m7 142 rfl) rfl
theorem q1660 : (Jvm.Cond.instanceMethod ({ cls := "FishReadersModel", name := "ask", desc := "(II)I" } : Jvm.MethodName)) ∈ lw_all := lw_g (lw_at lw_m7 144 rfl) rfl
theorem q1661 : (Jvm.Cond.selects "FishReadersModel" ({ cls := "FishReadersModel", name := "ask", desc := "(II)I" } : Jvm.MethodName) ({ cls := "FishReadersModel", name := "ask", desc := "(II)I" } : Jvm.MethodName)) ∈ lw_all := lw_g (lw_at lw_m7 145 rfl) rfl
theorem q1662 : (Jvm.Cond.code ({ cls := "FishReadersModel", name := "ask", desc := "(II)I" } : Jvm.MethodName) prog_16_method_89_code (3 : Nat) (Option.some Jvm.ClassFile.FieldType.int)) ∈ lw_all := lw_g (lw_at lw_m7 146 rfl) rfl
theorem q1663 : (Jvm.Cond.methodLink "FishReadersModel" (301 : Nat) ({ cls := "FishReadersModel", name := "sizeOf", desc := "(I)I" } : Jvm.MethodName)) ∈ lw_all := lw_g (lw_at lw_m7 147 rfl) rfl
theorem q1664 : (Jvm.Cond.privateMethod ({ cls := "FishReadersModel", name := "sizeOf", desc := "(I)I" } : Jvm.MethodName)) ∈ lw_tbl := lw_at lw_m7 148 rfl
theorem q1665 : (Jvm.Cond.instanceMethod ({ cls := "FishReadersModel", name := "sizeOf", desc := "(I)I" } : Jvm.MethodName)) ∈ lw_all := lw_g (lw_at lw_m7 149 rfl) rfl
theorem q1666 : (Jvm.Cond.code ({ cls := "FishReadersModel", name := "sizeOf", desc := "(I)I" } : Jvm.MethodName) prog_16_method_88_code (3 : Nat) (Option.some Jvm.ClassFile.FieldType.int)) ∈ lw_all := lw_g (lw_at lw_m7 150 rfl) rfl
theorem q1667 : (Jvm.Cond.methodLink "FishReadersModel" (280 : Nat) ({ cls := "FishReadersModel", name := "begin", desc := "(I)V" } : Jvm.MethodName)) ∈ lw_all := lw_g (lw_at lw_m7 151 rfl) rfl
theorem q1668 : (Jvm.Cond.privateMethod ({ cls := "FishReadersModel", name := "begin", desc := "(I)V" } : Jvm.MethodName)) ∈ lw_tbl := lw_at lw_m7 152 rfl
theorem q1669 : (Jvm.Cond.instanceMethod ({ cls := "FishReadersModel", name := "begin", desc := "(I)V" } : Jvm.MethodName)) ∈ lw_all := lw_g (lw_at lw_m7 153 rfl) rfl
theorem q1670 : (Jvm.Cond.code ({ cls := "FishReadersModel", name := "begin", desc := "(I)V" } : Jvm.MethodName) prog_16_method_81_code (2 : Nat) (Option.none : Option Jvm.ClassFile.FieldType)) ∈ lw_all := lw_g (lw_at lw_m7 154 rfl) rfl
theorem q1671 : (Jvm.Cond.methodLink "FishReadersModel" (298 : Nat) ({ cls := "FishReadersModel", name := "readerSize", desc := "(I)I" } : Jvm.MethodName)) ∈ lw_all := lw_g (lw_at lw_m7 155 rfl) rfl
theorem q1672 : (Jvm.Cond.privateMethod ({ cls := "FishReadersModel", name := "readerSize", desc := "(I)I" } : Jvm.MethodName)) ∈ lw_tbl := lw_at lw_m7 156 rfl
theorem q1673 : (Jvm.Cond.instanceMethod ({ cls := "FishReadersModel", name := "readerSize", desc := "(I)I" } : Jvm.MethodName)) ∈ lw_all := lw_g (lw_at lw_m7 157 rfl) rfl
theorem q1674 : (Jvm.Cond.code ({ cls := "FishReadersModel", name := "readerSize", desc := "(I)I" } : Jvm.MethodName) prog_16_method_87_code (3 : Nat) (Option.some Jvm.ClassFile.FieldType.int)) ∈ lw_all := lw_g (lw_at lw_m7 158 rfl) rfl
theorem q1675 : (Jvm.Cond.methodLink "FishReadersModel" (283 : Nat) ({ cls := "FishReadersModel", name := "lent", desc := "(II)I" } : Jvm.MethodName)) ∈ lw_all := lw_g (lw_at lw_m7 159 rfl) rfl
theorem q1676 : (Jvm.Cond.privateMethod ({ cls := "FishReadersModel", name := "lent", desc := "(II)I" } : Jvm.MethodName)) ∈ lw_tbl := lw_at lw_m7 160 rfl
theorem q1677 : (Jvm.Cond.instanceMethod ({ cls := "FishReadersModel", name := "lent", desc := "(II)I" } : Jvm.MethodName)) ∈ lw_all := lw_g (lw_at lw_m7 161 rfl) rfl
theorem q1678 : (Jvm.Cond.code ({ cls := "FishReadersModel", name := "lent", desc := "(II)I" } : Jvm.MethodName) prog_16_method_82_code (3 : Nat) (Option.some Jvm.ClassFile.FieldType.int)) ∈ lw_all := lw_g (lw_at lw_m7 162 rfl) rfl
theorem q1679 : (Jvm.Cond.methodLink "FishReadersModel" (295 : Nat) ({ cls := "FishReadersModel", name := "markOf", desc := "(I)I" } : Jvm.MethodName)) ∈ lw_all := lw_g (lw_at lw_m7 163 rfl) rfl
theorem q1680 : (Jvm.Cond.privateMethod ({ cls := "FishReadersModel", name := "markOf", desc := "(I)I" } : Jvm.MethodName)) ∈ lw_tbl := lw_at lw_m7 164 rfl
theorem q1681 : (Jvm.Cond.instanceMethod ({ cls := "FishReadersModel", name := "markOf", desc := "(I)I" } : Jvm.MethodName)) ∈ lw_all := lw_g (lw_at lw_m7 165 rfl) rfl
theorem q1682 : (Jvm.Cond.code ({ cls := "FishReadersModel", name := "markOf", desc := "(I)I" } : Jvm.MethodName) prog_16_method_86_code (4 : Nat) (Option.some Jvm.ClassFile.FieldType.int)) ∈ lw_all := lw_g (lw_at lw_m7 166 rfl) rfl
theorem q1683 : (Jvm.Cond.methodLink "FishReadersModel" (289 : Nat) ({ cls := "FishReadersModel", name := "readerMark", desc := "(I)I" } : Jvm.MethodName)) ∈ lw_all := lw_g (lw_at lw_m7 167 rfl) rfl
theorem q1684 : (Jvm.Cond.privateMethod ({ cls := "FishReadersModel", name := "readerMark", desc := "(I)I" } : Jvm.MethodName)) ∈ lw_tbl := lw_at lw_m7 168 rfl
theorem q1685 : (Jvm.Cond.instanceMethod ({ cls := "FishReadersModel", name := "readerMark", desc := "(I)I" } : Jvm.MethodName)) ∈ lw_all := lw_g (lw_at lw_m7 169 rfl) rfl
theorem q1686 : (Jvm.Cond.code ({ cls := "FishReadersModel", name := "readerMark", desc := "(I)I" } : Jvm.MethodName) prog_16_method_83_code (2 : Nat) (Option.some Jvm.ClassFile.FieldType.int)) ∈ lw_all := lw_g (lw_at lw_m7 170 rfl) rfl
theorem q1687 : (Jvm.Cond.methodLink "FishReadersModel" (292 : Nat) ({ cls := "FishReadersModel", name := "sizeOfWanderer", desc := "(I)I" } : Jvm.MethodName)) ∈ lw_all := lw_g (lw_at lw_m7 171 rfl) rfl
theorem q1688 : (Jvm.Cond.privateMethod ({ cls := "FishReadersModel", name := "sizeOfWanderer", desc := "(I)I" } : Jvm.MethodName)) ∈ lw_tbl := lw_at lw_m7 172 rfl
theorem q1689 : (Jvm.Cond.instanceMethod ({ cls := "FishReadersModel", name := "sizeOfWanderer", desc := "(I)I" } : Jvm.MethodName)) ∈ lw_all := lw_g (lw_at lw_m7 173 rfl) rfl
theorem q1690 : (Jvm.Cond.code ({ cls := "FishReadersModel", name := "sizeOfWanderer", desc := "(I)I" } : Jvm.MethodName) prog_16_method_85_code (2 : Nat) (Option.some Jvm.ClassFile.FieldType.int)) ∈ lw_all := lw_g (lw_at lw_m7 174 rfl) rfl
theorem q1691 : (Jvm.Cond.methodLink "FishReadersModel" (286 : Nat) ({ cls := "FishReadersModel", name := "wandererSize", desc := "(I)I" } : Jvm.MethodName)) ∈ lw_all := lw_g (lw_at lw_m7 175 rfl) rfl
theorem q1692 : (Jvm.Cond.privateMethod ({ cls := "FishReadersModel", name := "wandererSize", desc := "(I)I" } : Jvm.MethodName)) ∈ lw_tbl := lw_at lw_m7 176 rfl
theorem q1693 : (Jvm.Cond.instanceMethod ({ cls := "FishReadersModel", name := "wandererSize", desc := "(I)I" } : Jvm.MethodName)) ∈ lw_all := lw_g (lw_at lw_m7 177 rfl) rfl
theorem q1694 : (Jvm.Cond.code ({ cls := "FishReadersModel", name := "wandererSize", desc := "(I)I" } : Jvm.MethodName) prog_16_method_84_code (2 : Nat) (Option.some Jvm.ClassFile.FieldType.int)) ∈ lw_all := lw_g (lw_at lw_m7 178 rfl) rfl
theorem q1696 : (Jvm.Cond.instanceMethod ({ cls := "FishReadersModel", name := "trace", desc := "(I)I" } : Jvm.MethodName)) ∈ lw_all := lw_g (lw_at lw_m7 180 rfl) rfl
theorem q1697 : (Jvm.Cond.selects "FishReadersModel" ({ cls := "FishReadersModel", name := "trace", desc := "(I)I" } : Jvm.MethodName) ({ cls := "FishReadersModel", name := "trace", desc := "(I)I" } : Jvm.MethodName)) ∈ lw_all := lw_g (lw_at lw_m7 181 rfl) rfl
theorem q1698 : (Jvm.Cond.code ({ cls := "FishReadersModel", name := "trace", desc := "(I)I" } : Jvm.MethodName) prog_16_method_90_code (2 : Nat) (Option.some Jvm.ClassFile.FieldType.int)) ∈ lw_all := lw_g (lw_at lw_m7 182 rfl) rfl
theorem q1700 : (Jvm.Cond.instanceMethod ({ cls := "FishReadersModel", name := "count", desc := "(I)I" } : Jvm.MethodName)) ∈ lw_all := lw_g (lw_at lw_m7 184 rfl) rfl
theorem q1701 : (Jvm.Cond.selects "FishReadersModel" ({ cls := "FishReadersModel", name := "count", desc := "(I)I" } : Jvm.MethodName) ({ cls := "FishReadersModel", name := "count", desc := "(I)I" } : Jvm.MethodName)) ∈ lw_all := lw_g (lw_at lw_m7 185 rfl) rfl
theorem q1702 : (Jvm.Cond.code ({ cls := "FishReadersModel", name := "count", desc := "(I)I" } : Jvm.MethodName) prog_16_method_91_code (5 : Nat) (Option.some Jvm.ClassFile.FieldType.int)) ∈ lw_all := lw_g (lw_at lw_m7 186 rfl) rfl
theorem q1704 : (Jvm.Cond.instanceMethod ({ cls := "FishReadersModel", name := "status", desc := "()I" } : Jvm.MethodName)) ∈ lw_all := lw_g (lw_at lw_m7 188 rfl) rfl
theorem q1705 : (Jvm.Cond.selects "FishReadersModel" ({ cls := "FishReadersModel", name := "status", desc := "()I" } : Jvm.MethodName) ({ cls := "FishReadersModel", name := "status", desc := "()I" } : Jvm.MethodName)) ∈ lw_all := lw_g (lw_at lw_m7 189 rfl) rfl
theorem q1706 : (Jvm.Cond.code ({ cls := "FishReadersModel", name := "status", desc := "()I" } : Jvm.MethodName) prog_16_method_92_code (1 : Nat) (Option.some Jvm.ClassFile.FieldType.int)) ∈ lw_all := lw_g (lw_at lw_m7 190 rfl) rfl
theorem q1734 : (Jvm.Cond.castable "FishReadersModel" "java/lang/Object") ∈ lw_tbl := lw_at lw_m7 218 rfl
theorem in_X9 : ∀ w ∈ wsX90, w ∈ lw_all := lw_in wsX90 [1273, 1275, 1277, 1279, 1281, 1283, 1285, 1287, 1289, 1291, 1293, 1295, 1297, 1299, 1301, 1303, 1305, 1307, 1309, 1311, 1313, 1315, 1317, 1319, 1321, 1323] (by decide +kernel) (by decide +kernel)
