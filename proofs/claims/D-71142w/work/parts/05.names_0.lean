/-! FishReaders -/
set_option maxRecDepth 100000
def RX0 : String := "FishReaders"
def TX0 : u_T := fun k => match k with
  | 0 => ("FishReaders", "rows", "[LFishReaders$Row;", true)
  | 1 => ("FishReaders", "tape", "[B", true)
  | 2 => ("FishReaders", "taped", "I", false)
  | 3 => ("FishReaders", "faultKind", "I", false)
  | 4 => ("FishReaders", "library", "LFishReaders$Library;", true)
  | 5 => ("FishReaders", "trial", "LFishReaders$Library;", true)
  | 6 => ("FishReaders", "past", "[LFishReaders$Library;", true)
  | 7 => ("FishReaders", "acts", "I", false)
  | 8 => ("FishReaders", "images", "[LFishReaders$Library;", true)
  | 9 => ("FishReaders", "trail", "LFishReaders$Trail;", false)
  | 10 => ("FishReaders", "status", "I", false)
  | 11 => ("FishReaders", "line", "[I", true)
  | 12 => ("FishReaders", "best", "[I", true)
  | 13 => ("FishReaders", "most", "I", false)
  | _ => ("FishReaders", "takens", "[LFishReaders$Fish;", true)
def tyX0 : Nat → FieldType := fun k => match k with
  | 0 => .array (.object "FishReaders$Row")
  | 1 => .array .byte
  | 2 => .int
  | 3 => .int
  | 4 => .object "FishReaders$Library"
  | 5 => .object "FishReaders$Library"
  | 6 => .array (.object "FishReaders$Library")
  | 7 => .int
  | 8 => .array (.object "FishReaders$Library")
  | 9 => .object "FishReaders$Trail"
  | 10 => .int
  | 11 => .array .int
  | 12 => .array .int
  | 13 => .int
  | _ => .array (.object "FishReaders$Fish")
abbrev wsX00 : List Cond := u_ws RX0 TX0 15
set_option maxRecDepth 100000 in
theorem nmX0 : ∀ a, a < 15 → ∀ b, b < 15 → a ≠ b → (TX0 a).2.1 ≠ (TX0 b).2.1 := by decide +kernel
set_option maxRecDepth 100000 in
theorem tyX0_ok : ∀ k, k < 15 → parseFieldDescriptor (TX0 k).2.2.1 = some (tyX0 k) := by decide +kernel
abbrev cX0_init : ByteArray := prog_1_method_4_code
def yX0_init : MethodName := ⟨RX0, "<init>", "()V"⟩
def dkwX0_init_6 : List UInt8 := [187, 0, 16, 89, 3, 183, 0, 18, 83, 181, 0, 69, 177]
abbrev dktX0_init_6 : List UInt8 := dkwX0_init_6 ++ []
def dkwX0_init_5 : List UInt8 := [187, 0, 10, 89, 3, 183, 0, 12, 83, 89, 6, 187, 0, 13, 89, 3, 183, 0, 15, 83, 89, 7]
abbrev dktX0_init_5 : List UInt8 := dkwX0_init_5 ++ dktX0_init_6
def dkwX0_init_4 : List UInt8 := [89, 3, 187, 0, 1, 89, 3, 183, 0, 3, 83, 89, 4, 187, 0, 7, 89, 3, 183, 0, 9, 83, 89, 5]
abbrev dktX0_init_4 : List UInt8 := dkwX0_init_4 ++ dktX0_init_5
def dkwX0_init_3 : List UInt8 := [181, 0, 56, 42, 16, 6, 188, 10, 181, 0, 60, 42, 16, 6, 188, 10, 181, 0, 64, 42, 8, 189, 0, 67]
abbrev dktX0_init_3 : List UInt8 := dkwX0_init_3 ++ dktX0_init_4
def dkwX0_init_2 : List UInt8 := [189, 0, 36, 181, 0, 46, 42, 5, 189, 0, 36, 181, 0, 50, 42, 187, 0, 53, 89, 183, 0, 55]
abbrev dktX0_init_2 : List UInt8 := dkwX0_init_2 ++ dktX0_init_3
def dkwX0_init_1 : List UInt8 := [187, 0, 36, 89, 183, 0, 38, 181, 0, 39, 42, 187, 0, 36, 89, 183, 0, 38, 181, 0, 43, 42, 16, 24]
abbrev dktX0_init_1 : List UInt8 := dkwX0_init_1 ++ dktX0_init_2
def dkwX0_init_0 : List UInt8 := [42, 183, 0, 19, 42, 16, 8, 189, 0, 26, 181, 0, 28, 42, 16, 120, 188, 8, 181, 0, 32, 42]
abbrev dktX0_init_0 : List UInt8 := dkwX0_init_0 ++ dktX0_init_1
theorem dksX0_init_0 : cX0_init.data.toList.drop 0 = dktX0_init_0 := by decide +kernel
theorem dksX0_init_1 : cX0_init.data.toList.drop 22 = dktX0_init_1 := dk_seg dksX0_init_0 22 rfl rfl
theorem dksX0_init_2 : cX0_init.data.toList.drop 46 = dktX0_init_2 := dk_seg dksX0_init_1 24 rfl rfl
theorem dksX0_init_3 : cX0_init.data.toList.drop 68 = dktX0_init_3 := dk_seg dksX0_init_2 22 rfl rfl
theorem dksX0_init_4 : cX0_init.data.toList.drop 92 = dktX0_init_4 := dk_seg dksX0_init_3 24 rfl rfl
theorem dksX0_init_5 : cX0_init.data.toList.drop 116 = dktX0_init_5 := dk_seg dksX0_init_4 24 rfl rfl
theorem dksX0_init_6 : cX0_init.data.toList.drop 138 = dktX0_init_6 := dk_seg dksX0_init_5 22 rfl rfl
theorem dX0_init_0 : decode cX0_init 0 = .ok (.aload_n 0, 1) := dk_42 (dk_at dksX0_init_0 0 rfl rfl)
theorem dX0_init_1 : decode cX0_init 1 = .ok (.invokespecial 19, 3) := dk_183 0 19 (dk_at dksX0_init_0 1 rfl rfl)
theorem dX0_init_4 : decode cX0_init 4 = .ok (.aload_n 0, 1) := dk_42 (dk_at dksX0_init_0 4 rfl rfl)
theorem dX0_init_5 : decode cX0_init 5 = .ok (.bipush 8, 2) := dk_16 8 (dk_at dksX0_init_0 5 rfl rfl)
theorem dX0_init_7 : decode cX0_init 7 = .ok (.anewarray 26, 3) := dk_189 0 26 (dk_at dksX0_init_0 7 rfl rfl)
theorem dX0_init_10 : decode cX0_init 10 = .ok (.putfield 28, 3) := dk_181 0 28 (dk_at dksX0_init_0 10 rfl rfl)
theorem dX0_init_13 : decode cX0_init 13 = .ok (.aload_n 0, 1) := dk_42 (dk_at dksX0_init_0 13 rfl rfl)
theorem dX0_init_14 : decode cX0_init 14 = .ok (.bipush 120, 2) := dk_16 120 (dk_at dksX0_init_0 14 rfl rfl)
theorem dX0_init_16 : decode cX0_init 16 = .ok (.newarray .byte, 2) := dk_188_8 (dk_at dksX0_init_0 16 rfl rfl)
theorem dX0_init_18 : decode cX0_init 18 = .ok (.putfield 32, 3) := dk_181 0 32 (dk_at dksX0_init_0 18 rfl rfl)
theorem dX0_init_21 : decode cX0_init 21 = .ok (.aload_n 0, 1) := dk_42 (dk_at dksX0_init_0 21 rfl rfl)
theorem dX0_init_22 : decode cX0_init 22 = .ok (.new 36, 3) := dk_187 0 36 (dk_at dksX0_init_1 0 rfl rfl)
theorem dX0_init_25 : decode cX0_init 25 = .ok (.dup, 1) := dk_89 (dk_at dksX0_init_1 3 rfl rfl)
theorem dX0_init_26 : decode cX0_init 26 = .ok (.invokespecial 38, 3) := dk_183 0 38 (dk_at dksX0_init_1 4 rfl rfl)
theorem dX0_init_29 : decode cX0_init 29 = .ok (.putfield 39, 3) := dk_181 0 39 (dk_at dksX0_init_1 7 rfl rfl)
theorem dX0_init_32 : decode cX0_init 32 = .ok (.aload_n 0, 1) := dk_42 (dk_at dksX0_init_1 10 rfl rfl)
theorem dX0_init_33 : decode cX0_init 33 = .ok (.new 36, 3) := dk_187 0 36 (dk_at dksX0_init_1 11 rfl rfl)
theorem dX0_init_36 : decode cX0_init 36 = .ok (.dup, 1) := dk_89 (dk_at dksX0_init_1 14 rfl rfl)
theorem dX0_init_37 : decode cX0_init 37 = .ok (.invokespecial 38, 3) := dk_183 0 38 (dk_at dksX0_init_1 15 rfl rfl)
theorem dX0_init_40 : decode cX0_init 40 = .ok (.putfield 43, 3) := dk_181 0 43 (dk_at dksX0_init_1 18 rfl rfl)
theorem dX0_init_43 : decode cX0_init 43 = .ok (.aload_n 0, 1) := dk_42 (dk_at dksX0_init_1 21 rfl rfl)
theorem dX0_init_44 : decode cX0_init 44 = .ok (.bipush 24, 2) := dk_16 24 (dk_at dksX0_init_1 22 rfl rfl)
theorem dX0_init_46 : decode cX0_init 46 = .ok (.anewarray 36, 3) := dk_189 0 36 (dk_at dksX0_init_2 0 rfl rfl)
theorem dX0_init_49 : decode cX0_init 49 = .ok (.putfield 46, 3) := dk_181 0 46 (dk_at dksX0_init_2 3 rfl rfl)
theorem dX0_init_52 : decode cX0_init 52 = .ok (.aload_n 0, 1) := dk_42 (dk_at dksX0_init_2 6 rfl rfl)
theorem dX0_init_53 : decode cX0_init 53 = .ok (.iconst 2, 1) := dk_5 (dk_at dksX0_init_2 7 rfl rfl)
theorem dX0_init_54 : decode cX0_init 54 = .ok (.anewarray 36, 3) := dk_189 0 36 (dk_at dksX0_init_2 8 rfl rfl)
theorem dX0_init_57 : decode cX0_init 57 = .ok (.putfield 50, 3) := dk_181 0 50 (dk_at dksX0_init_2 11 rfl rfl)
theorem dX0_init_60 : decode cX0_init 60 = .ok (.aload_n 0, 1) := dk_42 (dk_at dksX0_init_2 14 rfl rfl)
theorem dX0_init_61 : decode cX0_init 61 = .ok (.new 53, 3) := dk_187 0 53 (dk_at dksX0_init_2 15 rfl rfl)
theorem dX0_init_64 : decode cX0_init 64 = .ok (.dup, 1) := dk_89 (dk_at dksX0_init_2 18 rfl rfl)
theorem dX0_init_65 : decode cX0_init 65 = .ok (.invokespecial 55, 3) := dk_183 0 55 (dk_at dksX0_init_2 19 rfl rfl)
theorem dX0_init_68 : decode cX0_init 68 = .ok (.putfield 56, 3) := dk_181 0 56 (dk_at dksX0_init_3 0 rfl rfl)
theorem dX0_init_71 : decode cX0_init 71 = .ok (.aload_n 0, 1) := dk_42 (dk_at dksX0_init_3 3 rfl rfl)
theorem dX0_init_72 : decode cX0_init 72 = .ok (.bipush 6, 2) := dk_16 6 (dk_at dksX0_init_3 4 rfl rfl)
theorem dX0_init_74 : decode cX0_init 74 = .ok (.newarray .int, 2) := dk_188_10 (dk_at dksX0_init_3 6 rfl rfl)
theorem dX0_init_76 : decode cX0_init 76 = .ok (.putfield 60, 3) := dk_181 0 60 (dk_at dksX0_init_3 8 rfl rfl)
theorem dX0_init_79 : decode cX0_init 79 = .ok (.aload_n 0, 1) := dk_42 (dk_at dksX0_init_3 11 rfl rfl)
theorem dX0_init_80 : decode cX0_init 80 = .ok (.bipush 6, 2) := dk_16 6 (dk_at dksX0_init_3 12 rfl rfl)
theorem dX0_init_82 : decode cX0_init 82 = .ok (.newarray .int, 2) := dk_188_10 (dk_at dksX0_init_3 14 rfl rfl)
theorem dX0_init_84 : decode cX0_init 84 = .ok (.putfield 64, 3) := dk_181 0 64 (dk_at dksX0_init_3 16 rfl rfl)
theorem dX0_init_87 : decode cX0_init 87 = .ok (.aload_n 0, 1) := dk_42 (dk_at dksX0_init_3 19 rfl rfl)
theorem dX0_init_88 : decode cX0_init 88 = .ok (.iconst 5, 1) := dk_8 (dk_at dksX0_init_3 20 rfl rfl)
theorem dX0_init_89 : decode cX0_init 89 = .ok (.anewarray 67, 3) := dk_189 0 67 (dk_at dksX0_init_3 21 rfl rfl)
theorem dX0_init_92 : decode cX0_init 92 = .ok (.dup, 1) := dk_89 (dk_at dksX0_init_4 0 rfl rfl)
theorem dX0_init_93 : decode cX0_init 93 = .ok (.iconst 0, 1) := dk_3 (dk_at dksX0_init_4 1 rfl rfl)
theorem dX0_init_94 : decode cX0_init 94 = .ok (.new 1, 3) := dk_187 0 1 (dk_at dksX0_init_4 2 rfl rfl)
theorem dX0_init_97 : decode cX0_init 97 = .ok (.dup, 1) := dk_89 (dk_at dksX0_init_4 5 rfl rfl)
theorem dX0_init_98 : decode cX0_init 98 = .ok (.iconst 0, 1) := dk_3 (dk_at dksX0_init_4 6 rfl rfl)
theorem dX0_init_99 : decode cX0_init 99 = .ok (.invokespecial 3, 3) := dk_183 0 3 (dk_at dksX0_init_4 7 rfl rfl)
theorem dX0_init_102 : decode cX0_init 102 = .ok (.aastore, 1) := dk_83 (dk_at dksX0_init_4 10 rfl rfl)
theorem dX0_init_103 : decode cX0_init 103 = .ok (.dup, 1) := dk_89 (dk_at dksX0_init_4 11 rfl rfl)
theorem dX0_init_104 : decode cX0_init 104 = .ok (.iconst 1, 1) := dk_4 (dk_at dksX0_init_4 12 rfl rfl)
theorem dX0_init_105 : decode cX0_init 105 = .ok (.new 7, 3) := dk_187 0 7 (dk_at dksX0_init_4 13 rfl rfl)
theorem dX0_init_108 : decode cX0_init 108 = .ok (.dup, 1) := dk_89 (dk_at dksX0_init_4 16 rfl rfl)
theorem dX0_init_109 : decode cX0_init 109 = .ok (.iconst 0, 1) := dk_3 (dk_at dksX0_init_4 17 rfl rfl)
theorem dX0_init_110 : decode cX0_init 110 = .ok (.invokespecial 9, 3) := dk_183 0 9 (dk_at dksX0_init_4 18 rfl rfl)
theorem dX0_init_113 : decode cX0_init 113 = .ok (.aastore, 1) := dk_83 (dk_at dksX0_init_4 21 rfl rfl)
theorem dX0_init_114 : decode cX0_init 114 = .ok (.dup, 1) := dk_89 (dk_at dksX0_init_4 22 rfl rfl)
theorem dX0_init_115 : decode cX0_init 115 = .ok (.iconst 2, 1) := dk_5 (dk_at dksX0_init_4 23 rfl rfl)
theorem dX0_init_116 : decode cX0_init 116 = .ok (.new 10, 3) := dk_187 0 10 (dk_at dksX0_init_5 0 rfl rfl)
theorem dX0_init_119 : decode cX0_init 119 = .ok (.dup, 1) := dk_89 (dk_at dksX0_init_5 3 rfl rfl)
theorem dX0_init_120 : decode cX0_init 120 = .ok (.iconst 0, 1) := dk_3 (dk_at dksX0_init_5 4 rfl rfl)
theorem dX0_init_121 : decode cX0_init 121 = .ok (.invokespecial 12, 3) := dk_183 0 12 (dk_at dksX0_init_5 5 rfl rfl)
theorem dX0_init_124 : decode cX0_init 124 = .ok (.aastore, 1) := dk_83 (dk_at dksX0_init_5 8 rfl rfl)
theorem dX0_init_125 : decode cX0_init 125 = .ok (.dup, 1) := dk_89 (dk_at dksX0_init_5 9 rfl rfl)
theorem dX0_init_126 : decode cX0_init 126 = .ok (.iconst 3, 1) := dk_6 (dk_at dksX0_init_5 10 rfl rfl)
theorem dX0_init_127 : decode cX0_init 127 = .ok (.new 13, 3) := dk_187 0 13 (dk_at dksX0_init_5 11 rfl rfl)
theorem dX0_init_130 : decode cX0_init 130 = .ok (.dup, 1) := dk_89 (dk_at dksX0_init_5 14 rfl rfl)
theorem dX0_init_131 : decode cX0_init 131 = .ok (.iconst 0, 1) := dk_3 (dk_at dksX0_init_5 15 rfl rfl)
theorem dX0_init_132 : decode cX0_init 132 = .ok (.invokespecial 15, 3) := dk_183 0 15 (dk_at dksX0_init_5 16 rfl rfl)
theorem dX0_init_135 : decode cX0_init 135 = .ok (.aastore, 1) := dk_83 (dk_at dksX0_init_5 19 rfl rfl)
theorem dX0_init_136 : decode cX0_init 136 = .ok (.dup, 1) := dk_89 (dk_at dksX0_init_5 20 rfl rfl)
theorem dX0_init_137 : decode cX0_init 137 = .ok (.iconst 4, 1) := dk_7 (dk_at dksX0_init_5 21 rfl rfl)
theorem dX0_init_138 : decode cX0_init 138 = .ok (.new 16, 3) := dk_187 0 16 (dk_at dksX0_init_6 0 rfl rfl)
theorem dX0_init_141 : decode cX0_init 141 = .ok (.dup, 1) := dk_89 (dk_at dksX0_init_6 3 rfl rfl)
theorem dX0_init_142 : decode cX0_init 142 = .ok (.iconst 0, 1) := dk_3 (dk_at dksX0_init_6 4 rfl rfl)
theorem dX0_init_143 : decode cX0_init 143 = .ok (.invokespecial 18, 3) := dk_183 0 18 (dk_at dksX0_init_6 5 rfl rfl)
theorem dX0_init_146 : decode cX0_init 146 = .ok (.aastore, 1) := dk_83 (dk_at dksX0_init_6 8 rfl rfl)
theorem dX0_init_147 : decode cX0_init 147 = .ok (.putfield 69, 3) := dk_181 0 69 (dk_at dksX0_init_6 9 rfl rfl)
theorem dX0_init_150 : decode cX0_init 150 = .ok (.return_, 1) := dk_177 (dk_at dksX0_init_6 12 rfl rfl)
abbrev cX0_row : ByteArray := prog_1_method_10_code
def yX0_row : MethodName := ⟨RX0, "row", "(III)I"⟩
def dkwX0_row_3 : List UInt8 := [172]
abbrev dktX0_row_3 : List UInt8 := dkwX0_row_3 ++ []
def dkwX0_row_2 : List UInt8 := [187, 0, 26, 89, 28, 29, 183, 0, 101, 83, 42, 29, 182, 0, 104, 172, 58, 4, 42, 25, 4, 182, 0, 108]
abbrev dktX0_row_2 : List UInt8 := dkwX0_row_2 ++ dktX0_row_3
def dkwX0_row_1 : List UInt8 := [164, 0, 6, 18, 100, 172, 29, 155, 0, 7, 4, 167, 0, 4, 3, 7, 184, 0, 90, 42, 180, 0, 28, 27]
abbrev dktX0_row_1 : List UInt8 := dkwX0_row_1 ++ dktX0_row_2
def dkwX0_row_0 : List UInt8 := [27, 184, 0, 94, 153, 0, 21, 28, 133, 9, 20, 0, 98, 184, 0, 86, 153, 0, 9, 29, 16, 40]
abbrev dktX0_row_0 : List UInt8 := dkwX0_row_0 ++ dktX0_row_1
theorem dksX0_row_0 : cX0_row.data.toList.drop 0 = dktX0_row_0 := by decide +kernel
theorem dksX0_row_1 : cX0_row.data.toList.drop 22 = dktX0_row_1 := dk_seg dksX0_row_0 22 rfl rfl
theorem dksX0_row_2 : cX0_row.data.toList.drop 46 = dktX0_row_2 := dk_seg dksX0_row_1 24 rfl rfl
theorem dksX0_row_3 : cX0_row.data.toList.drop 70 = dktX0_row_3 := dk_seg dksX0_row_2 24 rfl rfl
theorem dX0_row_0 : decode cX0_row 0 = .ok (.iload_n 1, 1) := dk_27 (dk_at dksX0_row_0 0 rfl rfl)
theorem dX0_row_1 : decode cX0_row 1 = .ok (.invokestatic 94, 3) := dk_184 0 94 (dk_at dksX0_row_0 1 rfl rfl)
theorem dX0_row_4 : decode cX0_row 4 = .ok (.ifCond .eq 21, 3) := dk_153 0 21 (dk_at dksX0_row_0 4 rfl rfl)
theorem dX0_row_7 : decode cX0_row 7 = .ok (.iload_n 2, 1) := dk_28 (dk_at dksX0_row_0 7 rfl rfl)
theorem dX0_row_8 : decode cX0_row 8 = .ok (.i2l, 1) := dk_133 (dk_at dksX0_row_0 8 rfl rfl)
theorem dX0_row_9 : decode cX0_row 9 = .ok (.lconst 0, 1) := dk_9 (dk_at dksX0_row_0 9 rfl rfl)
theorem dX0_row_10 : decode cX0_row 10 = .ok (.ldc2_w 98, 3) := dk_20 0 98 (dk_at dksX0_row_0 10 rfl rfl)
theorem dX0_row_13 : decode cX0_row 13 = .ok (.invokestatic 86, 3) := dk_184 0 86 (dk_at dksX0_row_0 13 rfl rfl)
theorem dX0_row_16 : decode cX0_row 16 = .ok (.ifCond .eq 9, 3) := dk_153 0 9 (dk_at dksX0_row_0 16 rfl rfl)
theorem dX0_row_19 : decode cX0_row 19 = .ok (.iload_n 3, 1) := dk_29 (dk_at dksX0_row_0 19 rfl rfl)
theorem dX0_row_20 : decode cX0_row 20 = .ok (.bipush 40, 2) := dk_16 40 (dk_at dksX0_row_0 20 rfl rfl)
theorem dX0_row_22 : decode cX0_row 22 = .ok (.if_icmp .le 6, 3) := dk_164 0 6 (dk_at dksX0_row_1 0 rfl rfl)
theorem dX0_row_25 : decode cX0_row 25 = .ok (.ldc 100, 2) := dk_18 100 (dk_at dksX0_row_1 3 rfl rfl)
theorem dX0_row_27 : decode cX0_row 27 = .ok (.ireturn, 1) := dk_172 (dk_at dksX0_row_1 5 rfl rfl)
theorem dX0_row_28 : decode cX0_row 28 = .ok (.iload_n 3, 1) := dk_29 (dk_at dksX0_row_1 6 rfl rfl)
theorem dX0_row_29 : decode cX0_row 29 = .ok (.ifCond .lt 7, 3) := dk_155 0 7 (dk_at dksX0_row_1 7 rfl rfl)
theorem dX0_row_32 : decode cX0_row 32 = .ok (.iconst 1, 1) := dk_4 (dk_at dksX0_row_1 10 rfl rfl)
theorem dX0_row_33 : decode cX0_row 33 = .ok (.goto 4, 3) := dk_167 0 4 (dk_at dksX0_row_1 11 rfl rfl)
theorem dX0_row_36 : decode cX0_row 36 = .ok (.iconst 0, 1) := dk_3 (dk_at dksX0_row_1 14 rfl rfl)
theorem dX0_row_37 : decode cX0_row 37 = .ok (.iconst 4, 1) := dk_7 (dk_at dksX0_row_1 15 rfl rfl)
theorem dX0_row_38 : decode cX0_row 38 = .ok (.invokestatic 90, 3) := dk_184 0 90 (dk_at dksX0_row_1 16 rfl rfl)
theorem dX0_row_41 : decode cX0_row 41 = .ok (.aload_n 0, 1) := dk_42 (dk_at dksX0_row_1 19 rfl rfl)
theorem dX0_row_42 : decode cX0_row 42 = .ok (.getfield 28, 3) := dk_180 0 28 (dk_at dksX0_row_1 20 rfl rfl)
theorem dX0_row_45 : decode cX0_row 45 = .ok (.iload_n 1, 1) := dk_27 (dk_at dksX0_row_1 23 rfl rfl)
theorem dX0_row_46 : decode cX0_row 46 = .ok (.new 26, 3) := dk_187 0 26 (dk_at dksX0_row_2 0 rfl rfl)
theorem dX0_row_49 : decode cX0_row 49 = .ok (.dup, 1) := dk_89 (dk_at dksX0_row_2 3 rfl rfl)
theorem dX0_row_50 : decode cX0_row 50 = .ok (.iload_n 2, 1) := dk_28 (dk_at dksX0_row_2 4 rfl rfl)
theorem dX0_row_51 : decode cX0_row 51 = .ok (.iload_n 3, 1) := dk_29 (dk_at dksX0_row_2 5 rfl rfl)
theorem dX0_row_52 : decode cX0_row 52 = .ok (.invokespecial 101, 3) := dk_183 0 101 (dk_at dksX0_row_2 6 rfl rfl)
theorem dX0_row_55 : decode cX0_row 55 = .ok (.aastore, 1) := dk_83 (dk_at dksX0_row_2 9 rfl rfl)
theorem dX0_row_56 : decode cX0_row 56 = .ok (.aload_n 0, 1) := dk_42 (dk_at dksX0_row_2 10 rfl rfl)
theorem dX0_row_57 : decode cX0_row 57 = .ok (.iload_n 3, 1) := dk_29 (dk_at dksX0_row_2 11 rfl rfl)
theorem dX0_row_58 : decode cX0_row 58 = .ok (.invokevirtual 104, 3) := dk_182 0 104 (dk_at dksX0_row_2 12 rfl rfl)
theorem dX0_row_61 : decode cX0_row 61 = .ok (.ireturn, 1) := dk_172 (dk_at dksX0_row_2 15 rfl rfl)
theorem dX0_row_62 : decode cX0_row 62 = .ok (.astore 4, 2) := dk_58 4 (dk_at dksX0_row_2 16 rfl rfl)
theorem dX0_row_64 : decode cX0_row 64 = .ok (.aload_n 0, 1) := dk_42 (dk_at dksX0_row_2 18 rfl rfl)
theorem dX0_row_65 : decode cX0_row 65 = .ok (.aload 4, 2) := dk_25 4 (dk_at dksX0_row_2 19 rfl rfl)
theorem dX0_row_67 : decode cX0_row 67 = .ok (.invokevirtual 108, 3) := dk_182 0 108 (dk_at dksX0_row_2 21 rfl rfl)
theorem dX0_row_70 : decode cX0_row 70 = .ok (.ireturn, 1) := dk_172 (dk_at dksX0_row_3 0 rfl rfl)
abbrev cX0_isRow : ByteArray := prog_1_method_8_code
def yX0_isRow : MethodName := ⟨RX0, "isRow", "(I)Z"⟩
def dkwX0_isRow_0 : List UInt8 := [26, 133, 9, 20, 0, 84, 184, 0, 86, 172]
abbrev dktX0_isRow_0 : List UInt8 := dkwX0_isRow_0 ++ []
theorem dksX0_isRow_0 : cX0_isRow.data.toList.drop 0 = dktX0_isRow_0 := by decide +kernel
theorem dX0_isRow_0 : decode cX0_isRow 0 = .ok (.iload_n 0, 1) := dk_26 (dk_at dksX0_isRow_0 0 rfl rfl)
theorem dX0_isRow_1 : decode cX0_isRow 1 = .ok (.i2l, 1) := dk_133 (dk_at dksX0_isRow_0 1 rfl rfl)
theorem dX0_isRow_2 : decode cX0_isRow 2 = .ok (.lconst 0, 1) := dk_9 (dk_at dksX0_isRow_0 2 rfl rfl)
theorem dX0_isRow_3 : decode cX0_isRow 3 = .ok (.ldc2_w 84, 3) := dk_20 0 84 (dk_at dksX0_isRow_0 3 rfl rfl)
theorem dX0_isRow_6 : decode cX0_isRow 6 = .ok (.invokestatic 86, 3) := dk_184 0 86 (dk_at dksX0_isRow_0 6 rfl rfl)
theorem dX0_isRow_9 : decode cX0_isRow 9 = .ok (.ireturn, 1) := dk_172 (dk_at dksX0_isRow_0 9 rfl rfl)
abbrev cX0_isIn : ByteArray := prog_1_method_1_code
def yX0_isIn : MethodName := ⟨RX0, "isIn", "(JJJ)Z"⟩
def dkwX0_isIn_0 : List UInt8 := [30, 32, 148, 155, 0, 14, 30, 22, 4, 148, 157, 0, 7, 4, 167, 0, 4, 3, 172]
abbrev dktX0_isIn_0 : List UInt8 := dkwX0_isIn_0 ++ []
theorem dksX0_isIn_0 : cX0_isIn.data.toList.drop 0 = dktX0_isIn_0 := by decide +kernel
theorem dX0_isIn_0 : decode cX0_isIn 0 = .ok (.lload_n 0, 1) := dk_30 (dk_at dksX0_isIn_0 0 rfl rfl)
theorem dX0_isIn_1 : decode cX0_isIn 1 = .ok (.lload_n 2, 1) := dk_32 (dk_at dksX0_isIn_0 1 rfl rfl)
theorem dX0_isIn_2 : decode cX0_isIn 2 = .ok (.lcmp, 1) := dk_148 (dk_at dksX0_isIn_0 2 rfl rfl)
theorem dX0_isIn_3 : decode cX0_isIn 3 = .ok (.ifCond .lt 14, 3) := dk_155 0 14 (dk_at dksX0_isIn_0 3 rfl rfl)
theorem dX0_isIn_6 : decode cX0_isIn 6 = .ok (.lload_n 0, 1) := dk_30 (dk_at dksX0_isIn_0 6 rfl rfl)
theorem dX0_isIn_7 : decode cX0_isIn 7 = .ok (.lload 4, 2) := dk_22 4 (dk_at dksX0_isIn_0 7 rfl rfl)
theorem dX0_isIn_9 : decode cX0_isIn 9 = .ok (.lcmp, 1) := dk_148 (dk_at dksX0_isIn_0 9 rfl rfl)
theorem dX0_isIn_10 : decode cX0_isIn 10 = .ok (.ifCond .gt 7, 3) := dk_157 0 7 (dk_at dksX0_isIn_0 10 rfl rfl)
theorem dX0_isIn_13 : decode cX0_isIn 13 = .ok (.iconst 1, 1) := dk_4 (dk_at dksX0_isIn_0 13 rfl rfl)
theorem dX0_isIn_14 : decode cX0_isIn 14 = .ok (.goto 4, 3) := dk_167 0 4 (dk_at dksX0_isIn_0 14 rfl rfl)
theorem dX0_isIn_17 : decode cX0_isIn 17 = .ok (.iconst 0, 1) := dk_3 (dk_at dksX0_isIn_0 17 rfl rfl)
theorem dX0_isIn_18 : decode cX0_isIn 18 = .ok (.ireturn, 1) := dk_172 (dk_at dksX0_isIn_0 18 rfl rfl)
abbrev cX0_must : ByteArray := prog_1_method_7_code
def yX0_must : MethodName := ⟨RX0, "must", "(ZI)V"⟩
def dkwX0_must_0 : List UInt8 := [26, 154, 0, 12, 187, 0, 74, 89, 27, 183, 0, 83, 191, 177]
abbrev dktX0_must_0 : List UInt8 := dkwX0_must_0 ++ []
theorem dksX0_must_0 : cX0_must.data.toList.drop 0 = dktX0_must_0 := by decide +kernel
theorem dX0_must_0 : decode cX0_must 0 = .ok (.iload_n 0, 1) := dk_26 (dk_at dksX0_must_0 0 rfl rfl)
theorem dX0_must_1 : decode cX0_must 1 = .ok (.ifCond .ne 12, 3) := dk_154 0 12 (dk_at dksX0_must_0 1 rfl rfl)
theorem dX0_must_4 : decode cX0_must 4 = .ok (.new 74, 3) := dk_187 0 74 (dk_at dksX0_must_0 4 rfl rfl)
theorem dX0_must_7 : decode cX0_must 7 = .ok (.dup, 1) := dk_89 (dk_at dksX0_must_0 7 rfl rfl)
theorem dX0_must_8 : decode cX0_must 8 = .ok (.iload_n 1, 1) := dk_27 (dk_at dksX0_must_0 8 rfl rfl)
theorem dX0_must_9 : decode cX0_must 9 = .ok (.invokespecial 83, 3) := dk_183 0 83 (dk_at dksX0_must_0 9 rfl rfl)
theorem dX0_must_12 : decode cX0_must 12 = .ok (.athrow, 1) := dk_191 (dk_at dksX0_must_0 12 rfl rfl)
theorem dX0_must_13 : decode cX0_must 13 = .ok (.return_, 1) := dk_177 (dk_at dksX0_must_0 13 rfl rfl)
abbrev cX0_well : ByteArray := prog_1_method_6_code
def yX0_well : MethodName := ⟨RX0, "well", "(I)I"⟩
def dkwX0_well_0 : List UInt8 := [42, 3, 181, 0, 79, 27, 172]
abbrev dktX0_well_0 : List UInt8 := dkwX0_well_0 ++ []
theorem dksX0_well_0 : cX0_well.data.toList.drop 0 = dktX0_well_0 := by decide +kernel
theorem dX0_well_0 : decode cX0_well 0 = .ok (.aload_n 0, 1) := dk_42 (dk_at dksX0_well_0 0 rfl rfl)
theorem dX0_well_1 : decode cX0_well 1 = .ok (.iconst 0, 1) := dk_3 (dk_at dksX0_well_0 1 rfl rfl)
theorem dX0_well_2 : decode cX0_well 2 = .ok (.putfield 79, 3) := dk_181 0 79 (dk_at dksX0_well_0 2 rfl rfl)
theorem dX0_well_5 : decode cX0_well 5 = .ok (.iload_n 1, 1) := dk_27 (dk_at dksX0_well_0 5 rfl rfl)
theorem dX0_well_6 : decode cX0_well 6 = .ok (.ireturn, 1) := dk_172 (dk_at dksX0_well_0 6 rfl rfl)
abbrev cX0_found : ByteArray := prog_1_method_5_code
def yX0_found : MethodName := ⟨RX0, "found", "(LFishReaders$Finding;)I"⟩
def dkwX0_found_0 : List UInt8 := [42, 43, 180, 0, 73, 181, 0, 79, 18, 82, 43, 180, 0, 73, 100, 172]
abbrev dktX0_found_0 : List UInt8 := dkwX0_found_0 ++ []
theorem dksX0_found_0 : cX0_found.data.toList.drop 0 = dktX0_found_0 := by decide +kernel
theorem dX0_found_0 : decode cX0_found 0 = .ok (.aload_n 0, 1) := dk_42 (dk_at dksX0_found_0 0 rfl rfl)
theorem dX0_found_1 : decode cX0_found 1 = .ok (.aload_n 1, 1) := dk_43 (dk_at dksX0_found_0 1 rfl rfl)
theorem dX0_found_2 : decode cX0_found 2 = .ok (.getfield 73, 3) := dk_180 0 73 (dk_at dksX0_found_0 2 rfl rfl)
theorem dX0_found_5 : decode cX0_found 5 = .ok (.putfield 79, 3) := dk_181 0 79 (dk_at dksX0_found_0 5 rfl rfl)
theorem dX0_found_8 : decode cX0_found 8 = .ok (.ldc 82, 2) := dk_18 82 (dk_at dksX0_found_0 8 rfl rfl)
theorem dX0_found_10 : decode cX0_found 10 = .ok (.aload_n 1, 1) := dk_43 (dk_at dksX0_found_0 10 rfl rfl)
theorem dX0_found_11 : decode cX0_found 11 = .ok (.getfield 73, 3) := dk_180 0 73 (dk_at dksX0_found_0 11 rfl rfl)
theorem dX0_found_14 : decode cX0_found 14 = .ok (.isub, 1) := dk_100 (dk_at dksX0_found_0 14 rfl rfl)
theorem dX0_found_15 : decode cX0_found 15 = .ok (.ireturn, 1) := dk_172 (dk_at dksX0_found_0 15 rfl rfl)
abbrev cX0_set : ByteArray := prog_1_method_11_code
def yX0_set : MethodName := ⟨RX0, "set", "(III)I"⟩
def dkwX0_set_3 : List UInt8 := [172]
abbrev dktX0_set_3 : List UInt8 := dkwX0_set_3 ++ []
def dkwX0_set_2 : List UInt8 := [182, 0, 119, 79, 42, 25, 4, 180, 0, 116, 28, 46, 182, 0, 104, 172, 58, 4, 42, 25, 4, 182, 0, 108]
abbrev dktX0_set_2 : List UInt8 := dkwX0_set_2 ++ dktX0_set_3
def dkwX0_set_1 : List UInt8 := [180, 0, 116, 190, 4, 100, 133, 184, 0, 86, 5, 184, 0, 90, 25, 4, 180, 0, 116, 28, 25, 4, 29]
abbrev dktX0_set_1 : List UInt8 := dkwX0_set_1 ++ dktX0_set_2
def dkwX0_set_0 : List UInt8 := [27, 184, 0, 94, 154, 0, 6, 18, 100, 172, 42, 27, 182, 0, 112, 58, 4, 28, 133, 9, 25, 4]
abbrev dktX0_set_0 : List UInt8 := dkwX0_set_0 ++ dktX0_set_1
theorem dksX0_set_0 : cX0_set.data.toList.drop 0 = dktX0_set_0 := by decide +kernel
theorem dksX0_set_1 : cX0_set.data.toList.drop 22 = dktX0_set_1 := dk_seg dksX0_set_0 22 rfl rfl
theorem dksX0_set_2 : cX0_set.data.toList.drop 45 = dktX0_set_2 := dk_seg dksX0_set_1 23 rfl rfl
theorem dksX0_set_3 : cX0_set.data.toList.drop 69 = dktX0_set_3 := dk_seg dksX0_set_2 24 rfl rfl
theorem dX0_set_0 : decode cX0_set 0 = .ok (.iload_n 1, 1) := dk_27 (dk_at dksX0_set_0 0 rfl rfl)
theorem dX0_set_1 : decode cX0_set 1 = .ok (.invokestatic 94, 3) := dk_184 0 94 (dk_at dksX0_set_0 1 rfl rfl)
theorem dX0_set_4 : decode cX0_set 4 = .ok (.ifCond .ne 6, 3) := dk_154 0 6 (dk_at dksX0_set_0 4 rfl rfl)
theorem dX0_set_7 : decode cX0_set 7 = .ok (.ldc 100, 2) := dk_18 100 (dk_at dksX0_set_0 7 rfl rfl)
theorem dX0_set_9 : decode cX0_set 9 = .ok (.ireturn, 1) := dk_172 (dk_at dksX0_set_0 9 rfl rfl)
theorem dX0_set_10 : decode cX0_set 10 = .ok (.aload_n 0, 1) := dk_42 (dk_at dksX0_set_0 10 rfl rfl)
theorem dX0_set_11 : decode cX0_set 11 = .ok (.iload_n 1, 1) := dk_27 (dk_at dksX0_set_0 11 rfl rfl)
theorem dX0_set_12 : decode cX0_set 12 = .ok (.invokevirtual 112, 3) := dk_182 0 112 (dk_at dksX0_set_0 12 rfl rfl)
theorem dX0_set_15 : decode cX0_set 15 = .ok (.astore 4, 2) := dk_58 4 (dk_at dksX0_set_0 15 rfl rfl)
theorem dX0_set_17 : decode cX0_set 17 = .ok (.iload_n 2, 1) := dk_28 (dk_at dksX0_set_0 17 rfl rfl)
theorem dX0_set_18 : decode cX0_set 18 = .ok (.i2l, 1) := dk_133 (dk_at dksX0_set_0 18 rfl rfl)
theorem dX0_set_19 : decode cX0_set 19 = .ok (.lconst 0, 1) := dk_9 (dk_at dksX0_set_0 19 rfl rfl)
theorem dX0_set_20 : decode cX0_set 20 = .ok (.aload 4, 2) := dk_25 4 (dk_at dksX0_set_0 20 rfl rfl)
theorem dX0_set_22 : decode cX0_set 22 = .ok (.getfield 116, 3) := dk_180 0 116 (dk_at dksX0_set_1 0 rfl rfl)
theorem dX0_set_25 : decode cX0_set 25 = .ok (.arraylength, 1) := dk_190 (dk_at dksX0_set_1 3 rfl rfl)
theorem dX0_set_26 : decode cX0_set 26 = .ok (.iconst 1, 1) := dk_4 (dk_at dksX0_set_1 4 rfl rfl)
theorem dX0_set_27 : decode cX0_set 27 = .ok (.isub, 1) := dk_100 (dk_at dksX0_set_1 5 rfl rfl)
theorem dX0_set_28 : decode cX0_set 28 = .ok (.i2l, 1) := dk_133 (dk_at dksX0_set_1 6 rfl rfl)
theorem dX0_set_29 : decode cX0_set 29 = .ok (.invokestatic 86, 3) := dk_184 0 86 (dk_at dksX0_set_1 7 rfl rfl)
theorem dX0_set_32 : decode cX0_set 32 = .ok (.iconst 2, 1) := dk_5 (dk_at dksX0_set_1 10 rfl rfl)
theorem dX0_set_33 : decode cX0_set 33 = .ok (.invokestatic 90, 3) := dk_184 0 90 (dk_at dksX0_set_1 11 rfl rfl)
theorem dX0_set_36 : decode cX0_set 36 = .ok (.aload 4, 2) := dk_25 4 (dk_at dksX0_set_1 14 rfl rfl)
theorem dX0_set_38 : decode cX0_set 38 = .ok (.getfield 116, 3) := dk_180 0 116 (dk_at dksX0_set_1 16 rfl rfl)
theorem dX0_set_41 : decode cX0_set 41 = .ok (.iload_n 2, 1) := dk_28 (dk_at dksX0_set_1 19 rfl rfl)
theorem dX0_set_42 : decode cX0_set 42 = .ok (.aload 4, 2) := dk_25 4 (dk_at dksX0_set_1 20 rfl rfl)
theorem dX0_set_44 : decode cX0_set 44 = .ok (.iload_n 3, 1) := dk_29 (dk_at dksX0_set_1 22 rfl rfl)
theorem dX0_set_45 : decode cX0_set 45 = .ok (.invokevirtual 119, 3) := dk_182 0 119 (dk_at dksX0_set_2 0 rfl rfl)
theorem dX0_set_48 : decode cX0_set 48 = .ok (.iastore, 1) := dk_79 (dk_at dksX0_set_2 3 rfl rfl)
theorem dX0_set_49 : decode cX0_set 49 = .ok (.aload_n 0, 1) := dk_42 (dk_at dksX0_set_2 4 rfl rfl)
theorem dX0_set_50 : decode cX0_set 50 = .ok (.aload 4, 2) := dk_25 4 (dk_at dksX0_set_2 5 rfl rfl)
theorem dX0_set_52 : decode cX0_set 52 = .ok (.getfield 116, 3) := dk_180 0 116 (dk_at dksX0_set_2 7 rfl rfl)
theorem dX0_set_55 : decode cX0_set 55 = .ok (.iload_n 2, 1) := dk_28 (dk_at dksX0_set_2 10 rfl rfl)
theorem dX0_set_56 : decode cX0_set 56 = .ok (.iaload, 1) := dk_46 (dk_at dksX0_set_2 11 rfl rfl)
theorem dX0_set_57 : decode cX0_set 57 = .ok (.invokevirtual 104, 3) := dk_182 0 104 (dk_at dksX0_set_2 12 rfl rfl)
theorem dX0_set_60 : decode cX0_set 60 = .ok (.ireturn, 1) := dk_172 (dk_at dksX0_set_2 15 rfl rfl)
theorem dX0_set_61 : decode cX0_set 61 = .ok (.astore 4, 2) := dk_58 4 (dk_at dksX0_set_2 16 rfl rfl)
theorem dX0_set_63 : decode cX0_set 63 = .ok (.aload_n 0, 1) := dk_42 (dk_at dksX0_set_2 18 rfl rfl)
theorem dX0_set_64 : decode cX0_set 64 = .ok (.aload 4, 2) := dk_25 4 (dk_at dksX0_set_2 19 rfl rfl)
theorem dX0_set_66 : decode cX0_set 66 = .ok (.invokevirtual 108, 3) := dk_182 0 108 (dk_at dksX0_set_2 21 rfl rfl)
theorem dX0_set_69 : decode cX0_set 69 = .ok (.ireturn, 1) := dk_172 (dk_at dksX0_set_3 0 rfl rfl)
abbrev cX0_rowAt : ByteArray := prog_1_method_9_code
def yX0_rowAt : MethodName := ⟨RX0, "rowAt", "(I)LFishReaders$Row;"⟩
def dkwX0_rowAt_1 : List UInt8 := [176]
abbrev dktX0_rowAt_1 : List UInt8 := dkwX0_rowAt_1 ++ []
def dkwX0_rowAt_0 : List UInt8 := [42, 180, 0, 28, 27, 50, 198, 0, 7, 4, 167, 0, 4, 3, 4, 184, 0, 90, 42, 180, 0, 28, 27, 50]
abbrev dktX0_rowAt_0 : List UInt8 := dkwX0_rowAt_0 ++ dktX0_rowAt_1
theorem dksX0_rowAt_0 : cX0_rowAt.data.toList.drop 0 = dktX0_rowAt_0 := by decide +kernel
theorem dksX0_rowAt_1 : cX0_rowAt.data.toList.drop 24 = dktX0_rowAt_1 := dk_seg dksX0_rowAt_0 24 rfl rfl
theorem dX0_rowAt_0 : decode cX0_rowAt 0 = .ok (.aload_n 0, 1) := dk_42 (dk_at dksX0_rowAt_0 0 rfl rfl)
theorem dX0_rowAt_1 : decode cX0_rowAt 1 = .ok (.getfield 28, 3) := dk_180 0 28 (dk_at dksX0_rowAt_0 1 rfl rfl)
theorem dX0_rowAt_4 : decode cX0_rowAt 4 = .ok (.iload_n 1, 1) := dk_27 (dk_at dksX0_rowAt_0 4 rfl rfl)
theorem dX0_rowAt_5 : decode cX0_rowAt 5 = .ok (.aaload, 1) := dk_50 (dk_at dksX0_rowAt_0 5 rfl rfl)
theorem dX0_rowAt_6 : decode cX0_rowAt 6 = .ok (.ifnull 7, 3) := dk_198 0 7 (dk_at dksX0_rowAt_0 6 rfl rfl)
theorem dX0_rowAt_9 : decode cX0_rowAt 9 = .ok (.iconst 1, 1) := dk_4 (dk_at dksX0_rowAt_0 9 rfl rfl)
theorem dX0_rowAt_10 : decode cX0_rowAt 10 = .ok (.goto 4, 3) := dk_167 0 4 (dk_at dksX0_rowAt_0 10 rfl rfl)
theorem dX0_rowAt_13 : decode cX0_rowAt 13 = .ok (.iconst 0, 1) := dk_3 (dk_at dksX0_rowAt_0 13 rfl rfl)
theorem dX0_rowAt_14 : decode cX0_rowAt 14 = .ok (.iconst 1, 1) := dk_4 (dk_at dksX0_rowAt_0 14 rfl rfl)
theorem dX0_rowAt_15 : decode cX0_rowAt 15 = .ok (.invokestatic 90, 3) := dk_184 0 90 (dk_at dksX0_rowAt_0 15 rfl rfl)
theorem dX0_rowAt_18 : decode cX0_rowAt 18 = .ok (.aload_n 0, 1) := dk_42 (dk_at dksX0_rowAt_0 18 rfl rfl)
theorem dX0_rowAt_19 : decode cX0_rowAt 19 = .ok (.getfield 28, 3) := dk_180 0 28 (dk_at dksX0_rowAt_0 19 rfl rfl)
theorem dX0_rowAt_22 : decode cX0_rowAt 22 = .ok (.iload_n 1, 1) := dk_27 (dk_at dksX0_rowAt_0 22 rfl rfl)
theorem dX0_rowAt_23 : decode cX0_rowAt 23 = .ok (.aaload, 1) := dk_50 (dk_at dksX0_rowAt_0 23 rfl rfl)
theorem dX0_rowAt_24 : decode cX0_rowAt 24 = .ok (.areturn, 1) := dk_176 (dk_at dksX0_rowAt_1 0 rfl rfl)
abbrev cX0_copy : ByteArray := prog_1_method_12_code
def yX0_copy : MethodName := ⟨RX0, "copy", "(IIIII)I"⟩
def dkwX0_copy_4 : List UInt8 := [25, 6, 182, 0, 108, 172]
abbrev dktX0_copy_4 : List UInt8 := dkwX0_copy_4 ++ []
def dkwX0_copy_3 : List UInt8 := [167, 0, 14, 58, 8, 187, 0, 74, 89, 5, 183, 0, 83, 191, 42, 21, 5, 182, 0, 104, 172, 58, 6, 42]
abbrev dktX0_copy_3 : List UInt8 := dkwX0_copy_3 ++ dktX0_copy_4
def dkwX0_copy_2 : List UInt8 := [3, 8, 184, 0, 90, 25, 6, 180, 0, 116, 28, 25, 7, 180, 0, 116, 21, 4, 21, 5, 184, 0, 125]
abbrev dktX0_copy_2 : List UInt8 := dkwX0_copy_2 ++ dktX0_copy_3
def dkwX0_copy_1 : List UInt8 := [42, 29, 182, 0, 112, 58, 7, 25, 6, 180, 0, 122, 25, 7, 180, 0, 122, 160, 0, 7, 4, 167, 0, 4]
abbrev dktX0_copy_1 : List UInt8 := dkwX0_copy_1 ++ dktX0_copy_2
def dkwX0_copy_0 : List UInt8 := [27, 184, 0, 94, 153, 0, 10, 29, 184, 0, 94, 154, 0, 6, 18, 100, 172, 42, 27, 182, 0, 112, 58, 6]
abbrev dktX0_copy_0 : List UInt8 := dkwX0_copy_0 ++ dktX0_copy_1
theorem dksX0_copy_0 : cX0_copy.data.toList.drop 0 = dktX0_copy_0 := by decide +kernel
theorem dksX0_copy_1 : cX0_copy.data.toList.drop 24 = dktX0_copy_1 := dk_seg dksX0_copy_0 24 rfl rfl
theorem dksX0_copy_2 : cX0_copy.data.toList.drop 48 = dktX0_copy_2 := dk_seg dksX0_copy_1 24 rfl rfl
theorem dksX0_copy_3 : cX0_copy.data.toList.drop 71 = dktX0_copy_3 := dk_seg dksX0_copy_2 23 rfl rfl
theorem dksX0_copy_4 : cX0_copy.data.toList.drop 95 = dktX0_copy_4 := dk_seg dksX0_copy_3 24 rfl rfl
theorem dX0_copy_0 : decode cX0_copy 0 = .ok (.iload_n 1, 1) := dk_27 (dk_at dksX0_copy_0 0 rfl rfl)
theorem dX0_copy_1 : decode cX0_copy 1 = .ok (.invokestatic 94, 3) := dk_184 0 94 (dk_at dksX0_copy_0 1 rfl rfl)
theorem dX0_copy_4 : decode cX0_copy 4 = .ok (.ifCond .eq 10, 3) := dk_153 0 10 (dk_at dksX0_copy_0 4 rfl rfl)
theorem dX0_copy_7 : decode cX0_copy 7 = .ok (.iload_n 3, 1) := dk_29 (dk_at dksX0_copy_0 7 rfl rfl)
theorem dX0_copy_8 : decode cX0_copy 8 = .ok (.invokestatic 94, 3) := dk_184 0 94 (dk_at dksX0_copy_0 8 rfl rfl)
theorem dX0_copy_11 : decode cX0_copy 11 = .ok (.ifCond .ne 6, 3) := dk_154 0 6 (dk_at dksX0_copy_0 11 rfl rfl)
theorem dX0_copy_14 : decode cX0_copy 14 = .ok (.ldc 100, 2) := dk_18 100 (dk_at dksX0_copy_0 14 rfl rfl)
theorem dX0_copy_16 : decode cX0_copy 16 = .ok (.ireturn, 1) := dk_172 (dk_at dksX0_copy_0 16 rfl rfl)
theorem dX0_copy_17 : decode cX0_copy 17 = .ok (.aload_n 0, 1) := dk_42 (dk_at dksX0_copy_0 17 rfl rfl)
theorem dX0_copy_18 : decode cX0_copy 18 = .ok (.iload_n 1, 1) := dk_27 (dk_at dksX0_copy_0 18 rfl rfl)
theorem dX0_copy_19 : decode cX0_copy 19 = .ok (.invokevirtual 112, 3) := dk_182 0 112 (dk_at dksX0_copy_0 19 rfl rfl)
theorem dX0_copy_22 : decode cX0_copy 22 = .ok (.astore 6, 2) := dk_58 6 (dk_at dksX0_copy_0 22 rfl rfl)
theorem dX0_copy_24 : decode cX0_copy 24 = .ok (.aload_n 0, 1) := dk_42 (dk_at dksX0_copy_1 0 rfl rfl)
theorem dX0_copy_25 : decode cX0_copy 25 = .ok (.iload_n 3, 1) := dk_29 (dk_at dksX0_copy_1 1 rfl rfl)
theorem dX0_copy_26 : decode cX0_copy 26 = .ok (.invokevirtual 112, 3) := dk_182 0 112 (dk_at dksX0_copy_1 2 rfl rfl)
theorem dX0_copy_29 : decode cX0_copy 29 = .ok (.astore 7, 2) := dk_58 7 (dk_at dksX0_copy_1 5 rfl rfl)
theorem dX0_copy_31 : decode cX0_copy 31 = .ok (.aload 6, 2) := dk_25 6 (dk_at dksX0_copy_1 7 rfl rfl)
theorem dX0_copy_33 : decode cX0_copy 33 = .ok (.getfield 122, 3) := dk_180 0 122 (dk_at dksX0_copy_1 9 rfl rfl)
theorem dX0_copy_36 : decode cX0_copy 36 = .ok (.aload 7, 2) := dk_25 7 (dk_at dksX0_copy_1 12 rfl rfl)
theorem dX0_copy_38 : decode cX0_copy 38 = .ok (.getfield 122, 3) := dk_180 0 122 (dk_at dksX0_copy_1 14 rfl rfl)
theorem dX0_copy_41 : decode cX0_copy 41 = .ok (.if_icmp .ne 7, 3) := dk_160 0 7 (dk_at dksX0_copy_1 17 rfl rfl)
theorem dX0_copy_44 : decode cX0_copy 44 = .ok (.iconst 1, 1) := dk_4 (dk_at dksX0_copy_1 20 rfl rfl)
theorem dX0_copy_45 : decode cX0_copy 45 = .ok (.goto 4, 3) := dk_167 0 4 (dk_at dksX0_copy_1 21 rfl rfl)
theorem dX0_copy_48 : decode cX0_copy 48 = .ok (.iconst 0, 1) := dk_3 (dk_at dksX0_copy_2 0 rfl rfl)
theorem dX0_copy_49 : decode cX0_copy 49 = .ok (.iconst 5, 1) := dk_8 (dk_at dksX0_copy_2 1 rfl rfl)
theorem dX0_copy_50 : decode cX0_copy 50 = .ok (.invokestatic 90, 3) := dk_184 0 90 (dk_at dksX0_copy_2 2 rfl rfl)
theorem dX0_copy_53 : decode cX0_copy 53 = .ok (.aload 6, 2) := dk_25 6 (dk_at dksX0_copy_2 5 rfl rfl)
theorem dX0_copy_55 : decode cX0_copy 55 = .ok (.getfield 116, 3) := dk_180 0 116 (dk_at dksX0_copy_2 7 rfl rfl)
theorem dX0_copy_58 : decode cX0_copy 58 = .ok (.iload_n 2, 1) := dk_28 (dk_at dksX0_copy_2 10 rfl rfl)
theorem dX0_copy_59 : decode cX0_copy 59 = .ok (.aload 7, 2) := dk_25 7 (dk_at dksX0_copy_2 11 rfl rfl)
theorem dX0_copy_61 : decode cX0_copy 61 = .ok (.getfield 116, 3) := dk_180 0 116 (dk_at dksX0_copy_2 13 rfl rfl)
theorem dX0_copy_64 : decode cX0_copy 64 = .ok (.iload 4, 2) := dk_21 4 (dk_at dksX0_copy_2 16 rfl rfl)
theorem dX0_copy_66 : decode cX0_copy 66 = .ok (.iload 5, 2) := dk_21 5 (dk_at dksX0_copy_2 18 rfl rfl)
theorem dX0_copy_68 : decode cX0_copy 68 = .ok (.invokestatic 125, 3) := dk_184 0 125 (dk_at dksX0_copy_2 20 rfl rfl)
theorem dX0_copy_71 : decode cX0_copy 71 = .ok (.goto 14, 3) := dk_167 0 14 (dk_at dksX0_copy_3 0 rfl rfl)
theorem dX0_copy_74 : decode cX0_copy 74 = .ok (.astore 8, 2) := dk_58 8 (dk_at dksX0_copy_3 3 rfl rfl)
theorem dX0_copy_76 : decode cX0_copy 76 = .ok (.new 74, 3) := dk_187 0 74 (dk_at dksX0_copy_3 5 rfl rfl)
theorem dX0_copy_79 : decode cX0_copy 79 = .ok (.dup, 1) := dk_89 (dk_at dksX0_copy_3 8 rfl rfl)
theorem dX0_copy_80 : decode cX0_copy 80 = .ok (.iconst 2, 1) := dk_5 (dk_at dksX0_copy_3 9 rfl rfl)
theorem dX0_copy_81 : decode cX0_copy 81 = .ok (.invokespecial 83, 3) := dk_183 0 83 (dk_at dksX0_copy_3 10 rfl rfl)
theorem dX0_copy_84 : decode cX0_copy 84 = .ok (.athrow, 1) := dk_191 (dk_at dksX0_copy_3 13 rfl rfl)
theorem dX0_copy_85 : decode cX0_copy 85 = .ok (.aload_n 0, 1) := dk_42 (dk_at dksX0_copy_3 14 rfl rfl)
theorem dX0_copy_86 : decode cX0_copy 86 = .ok (.iload 5, 2) := dk_21 5 (dk_at dksX0_copy_3 15 rfl rfl)
theorem dX0_copy_88 : decode cX0_copy 88 = .ok (.invokevirtual 104, 3) := dk_182 0 104 (dk_at dksX0_copy_3 17 rfl rfl)
theorem dX0_copy_91 : decode cX0_copy 91 = .ok (.ireturn, 1) := dk_172 (dk_at dksX0_copy_3 20 rfl rfl)
theorem dX0_copy_92 : decode cX0_copy 92 = .ok (.astore 6, 2) := dk_58 6 (dk_at dksX0_copy_3 21 rfl rfl)
theorem dX0_copy_94 : decode cX0_copy 94 = .ok (.aload_n 0, 1) := dk_42 (dk_at dksX0_copy_3 23 rfl rfl)
theorem dX0_copy_95 : decode cX0_copy 95 = .ok (.aload 6, 2) := dk_25 6 (dk_at dksX0_copy_4 0 rfl rfl)
theorem dX0_copy_97 : decode cX0_copy 97 = .ok (.invokevirtual 108, 3) := dk_182 0 108 (dk_at dksX0_copy_4 2 rfl rfl)
theorem dX0_copy_100 : decode cX0_copy 100 = .ok (.ireturn, 1) := dk_172 (dk_at dksX0_copy_4 5 rfl rfl)
abbrev cX0_drop : ByteArray := prog_1_method_13_code
def yX0_drop : MethodName := ⟨RX0, "drop", "(I)I"⟩
def dkwX0_drop_1 : List UInt8 := [27, 1, 83, 42, 28, 182, 0, 104, 172, 77, 42, 44, 182, 0, 108, 172]
abbrev dktX0_drop_1 : List UInt8 := dkwX0_drop_1 ++ []
def dkwX0_drop_0 : List UInt8 := [27, 184, 0, 94, 154, 0, 6, 18, 100, 172, 42, 27, 182, 0, 112, 180, 0, 116, 190, 61, 42, 180, 0, 28]
abbrev dktX0_drop_0 : List UInt8 := dkwX0_drop_0 ++ dktX0_drop_1
theorem dksX0_drop_0 : cX0_drop.data.toList.drop 0 = dktX0_drop_0 := by decide +kernel
theorem dksX0_drop_1 : cX0_drop.data.toList.drop 24 = dktX0_drop_1 := dk_seg dksX0_drop_0 24 rfl rfl
theorem dX0_drop_0 : decode cX0_drop 0 = .ok (.iload_n 1, 1) := dk_27 (dk_at dksX0_drop_0 0 rfl rfl)
theorem dX0_drop_1 : decode cX0_drop 1 = .ok (.invokestatic 94, 3) := dk_184 0 94 (dk_at dksX0_drop_0 1 rfl rfl)
theorem dX0_drop_4 : decode cX0_drop 4 = .ok (.ifCond .ne 6, 3) := dk_154 0 6 (dk_at dksX0_drop_0 4 rfl rfl)
theorem dX0_drop_7 : decode cX0_drop 7 = .ok (.ldc 100, 2) := dk_18 100 (dk_at dksX0_drop_0 7 rfl rfl)
theorem dX0_drop_9 : decode cX0_drop 9 = .ok (.ireturn, 1) := dk_172 (dk_at dksX0_drop_0 9 rfl rfl)
theorem dX0_drop_10 : decode cX0_drop 10 = .ok (.aload_n 0, 1) := dk_42 (dk_at dksX0_drop_0 10 rfl rfl)
theorem dX0_drop_11 : decode cX0_drop 11 = .ok (.iload_n 1, 1) := dk_27 (dk_at dksX0_drop_0 11 rfl rfl)
theorem dX0_drop_12 : decode cX0_drop 12 = .ok (.invokevirtual 112, 3) := dk_182 0 112 (dk_at dksX0_drop_0 12 rfl rfl)
theorem dX0_drop_15 : decode cX0_drop 15 = .ok (.getfield 116, 3) := dk_180 0 116 (dk_at dksX0_drop_0 15 rfl rfl)
theorem dX0_drop_18 : decode cX0_drop 18 = .ok (.arraylength, 1) := dk_190 (dk_at dksX0_drop_0 18 rfl rfl)
theorem dX0_drop_19 : decode cX0_drop 19 = .ok (.istore_n 2, 1) := dk_61 (dk_at dksX0_drop_0 19 rfl rfl)
theorem dX0_drop_20 : decode cX0_drop 20 = .ok (.aload_n 0, 1) := dk_42 (dk_at dksX0_drop_0 20 rfl rfl)
theorem dX0_drop_21 : decode cX0_drop 21 = .ok (.getfield 28, 3) := dk_180 0 28 (dk_at dksX0_drop_0 21 rfl rfl)
theorem dX0_drop_24 : decode cX0_drop 24 = .ok (.iload_n 1, 1) := dk_27 (dk_at dksX0_drop_1 0 rfl rfl)
theorem dX0_drop_25 : decode cX0_drop 25 = .ok (.aconst_null, 1) := dk_1 (dk_at dksX0_drop_1 1 rfl rfl)
theorem dX0_drop_26 : decode cX0_drop 26 = .ok (.aastore, 1) := dk_83 (dk_at dksX0_drop_1 2 rfl rfl)
theorem dX0_drop_27 : decode cX0_drop 27 = .ok (.aload_n 0, 1) := dk_42 (dk_at dksX0_drop_1 3 rfl rfl)
theorem dX0_drop_28 : decode cX0_drop 28 = .ok (.iload_n 2, 1) := dk_28 (dk_at dksX0_drop_1 4 rfl rfl)
theorem dX0_drop_29 : decode cX0_drop 29 = .ok (.invokevirtual 104, 3) := dk_182 0 104 (dk_at dksX0_drop_1 5 rfl rfl)
theorem dX0_drop_32 : decode cX0_drop 32 = .ok (.ireturn, 1) := dk_172 (dk_at dksX0_drop_1 8 rfl rfl)
theorem dX0_drop_33 : decode cX0_drop 33 = .ok (.astore_n 2, 1) := dk_77 (dk_at dksX0_drop_1 9 rfl rfl)
theorem dX0_drop_34 : decode cX0_drop 34 = .ok (.aload_n 0, 1) := dk_42 (dk_at dksX0_drop_1 10 rfl rfl)
theorem dX0_drop_35 : decode cX0_drop 35 = .ok (.aload_n 2, 1) := dk_44 (dk_at dksX0_drop_1 11 rfl rfl)
theorem dX0_drop_36 : decode cX0_drop 36 = .ok (.invokevirtual 108, 3) := dk_182 0 108 (dk_at dksX0_drop_1 12 rfl rfl)
theorem dX0_drop_39 : decode cX0_drop 39 = .ok (.ireturn, 1) := dk_172 (dk_at dksX0_drop_1 15 rfl rfl)
abbrev cX0_feed : ByteArray := prog_1_method_14_code
def yX0_feed : MethodName := ⟨RX0, "feed", "(I)I"⟩
def dkwX0_feed_2 : List UInt8 := [180, 0, 135, 172]
abbrev dktX0_feed_2 : List UInt8 := dkwX0_feed_2 ++ []
def dkwX0_feed_1 : List UInt8 := [18, 138, 172, 42, 180, 0, 32, 42, 89, 180, 0, 135, 90, 4, 96, 181, 0, 135, 27, 145, 84, 42]
abbrev dktX0_feed_1 : List UInt8 := dkwX0_feed_1 ++ dktX0_feed_2
def dkwX0_feed_0 : List UInt8 := [27, 133, 9, 20, 0, 133, 184, 0, 86, 154, 0, 6, 18, 100, 172, 42, 180, 0, 135, 16, 120, 160, 0, 6]
abbrev dktX0_feed_0 : List UInt8 := dkwX0_feed_0 ++ dktX0_feed_1
theorem dksX0_feed_0 : cX0_feed.data.toList.drop 0 = dktX0_feed_0 := by decide +kernel
theorem dksX0_feed_1 : cX0_feed.data.toList.drop 24 = dktX0_feed_1 := dk_seg dksX0_feed_0 24 rfl rfl
theorem dksX0_feed_2 : cX0_feed.data.toList.drop 46 = dktX0_feed_2 := dk_seg dksX0_feed_1 22 rfl rfl
theorem dX0_feed_0 : decode cX0_feed 0 = .ok (.iload_n 1, 1) := dk_27 (dk_at dksX0_feed_0 0 rfl rfl)
theorem dX0_feed_1 : decode cX0_feed 1 = .ok (.i2l, 1) := dk_133 (dk_at dksX0_feed_0 1 rfl rfl)
theorem dX0_feed_2 : decode cX0_feed 2 = .ok (.lconst 0, 1) := dk_9 (dk_at dksX0_feed_0 2 rfl rfl)
theorem dX0_feed_3 : decode cX0_feed 3 = .ok (.ldc2_w 133, 3) := dk_20 0 133 (dk_at dksX0_feed_0 3 rfl rfl)
theorem dX0_feed_6 : decode cX0_feed 6 = .ok (.invokestatic 86, 3) := dk_184 0 86 (dk_at dksX0_feed_0 6 rfl rfl)
theorem dX0_feed_9 : decode cX0_feed 9 = .ok (.ifCond .ne 6, 3) := dk_154 0 6 (dk_at dksX0_feed_0 9 rfl rfl)
theorem dX0_feed_12 : decode cX0_feed 12 = .ok (.ldc 100, 2) := dk_18 100 (dk_at dksX0_feed_0 12 rfl rfl)
theorem dX0_feed_14 : decode cX0_feed 14 = .ok (.ireturn, 1) := dk_172 (dk_at dksX0_feed_0 14 rfl rfl)
theorem dX0_feed_15 : decode cX0_feed 15 = .ok (.aload_n 0, 1) := dk_42 (dk_at dksX0_feed_0 15 rfl rfl)
theorem dX0_feed_16 : decode cX0_feed 16 = .ok (.getfield 135, 3) := dk_180 0 135 (dk_at dksX0_feed_0 16 rfl rfl)
theorem dX0_feed_19 : decode cX0_feed 19 = .ok (.bipush 120, 2) := dk_16 120 (dk_at dksX0_feed_0 19 rfl rfl)
theorem dX0_feed_21 : decode cX0_feed 21 = .ok (.if_icmp .ne 6, 3) := dk_160 0 6 (dk_at dksX0_feed_0 21 rfl rfl)
theorem dX0_feed_24 : decode cX0_feed 24 = .ok (.ldc 138, 2) := dk_18 138 (dk_at dksX0_feed_1 0 rfl rfl)
theorem dX0_feed_26 : decode cX0_feed 26 = .ok (.ireturn, 1) := dk_172 (dk_at dksX0_feed_1 2 rfl rfl)
theorem dX0_feed_27 : decode cX0_feed 27 = .ok (.aload_n 0, 1) := dk_42 (dk_at dksX0_feed_1 3 rfl rfl)
theorem dX0_feed_28 : decode cX0_feed 28 = .ok (.getfield 32, 3) := dk_180 0 32 (dk_at dksX0_feed_1 4 rfl rfl)
theorem dX0_feed_31 : decode cX0_feed 31 = .ok (.aload_n 0, 1) := dk_42 (dk_at dksX0_feed_1 7 rfl rfl)
theorem dX0_feed_32 : decode cX0_feed 32 = .ok (.dup, 1) := dk_89 (dk_at dksX0_feed_1 8 rfl rfl)
theorem dX0_feed_33 : decode cX0_feed 33 = .ok (.getfield 135, 3) := dk_180 0 135 (dk_at dksX0_feed_1 9 rfl rfl)
theorem dX0_feed_36 : decode cX0_feed 36 = .ok (.dup_x1, 1) := dk_90 (dk_at dksX0_feed_1 12 rfl rfl)
theorem dX0_feed_37 : decode cX0_feed 37 = .ok (.iconst 1, 1) := dk_4 (dk_at dksX0_feed_1 13 rfl rfl)
theorem dX0_feed_38 : decode cX0_feed 38 = .ok (.iadd, 1) := dk_96 (dk_at dksX0_feed_1 14 rfl rfl)
theorem dX0_feed_39 : decode cX0_feed 39 = .ok (.putfield 135, 3) := dk_181 0 135 (dk_at dksX0_feed_1 15 rfl rfl)
theorem dX0_feed_42 : decode cX0_feed 42 = .ok (.iload_n 1, 1) := dk_27 (dk_at dksX0_feed_1 18 rfl rfl)
theorem dX0_feed_43 : decode cX0_feed 43 = .ok (.i2b, 1) := dk_145 (dk_at dksX0_feed_1 19 rfl rfl)
theorem dX0_feed_44 : decode cX0_feed 44 = .ok (.bastore, 1) := dk_84 (dk_at dksX0_feed_1 20 rfl rfl)
theorem dX0_feed_45 : decode cX0_feed 45 = .ok (.aload_n 0, 1) := dk_42 (dk_at dksX0_feed_1 21 rfl rfl)
theorem dX0_feed_46 : decode cX0_feed 46 = .ok (.getfield 135, 3) := dk_180 0 135 (dk_at dksX0_feed_2 0 rfl rfl)
theorem dX0_feed_49 : decode cX0_feed 49 = .ok (.ireturn, 1) := dk_172 (dk_at dksX0_feed_2 3 rfl rfl)
abbrev cX0_library : ByteArray := prog_1_method_15_code
def yX0_library : MethodName := ⟨RX0, "library", "()I"⟩
def dkwX0_library_2 : List UInt8 := [180, 0, 39, 43, 180, 0, 159, 182, 0, 162, 87, 42, 3, 181, 0, 166, 42, 180, 0, 39, 182, 0, 169, 172]
abbrev dktX0_library_2 : List UInt8 := dkwX0_library_2 ++ []
def dkwX0_library_1 : List UInt8 := [182, 0, 144, 167, 0, 20, 77, 42, 44, 180, 0, 149, 181, 0, 152, 18, 155, 44, 180, 0, 156, 100, 172, 42]
abbrev dktX0_library_1 : List UInt8 := dkwX0_library_1 ++ dktX0_library_2
def dkwX0_library_0 : List UInt8 := [187, 0, 139, 89, 42, 180, 0, 32, 42, 180, 0, 135, 183, 0, 141, 76, 42, 3, 181, 0, 135, 43]
abbrev dktX0_library_0 : List UInt8 := dkwX0_library_0 ++ dktX0_library_1
theorem dksX0_library_0 : cX0_library.data.toList.drop 0 = dktX0_library_0 := by decide +kernel
theorem dksX0_library_1 : cX0_library.data.toList.drop 22 = dktX0_library_1 := dk_seg dksX0_library_0 22 rfl rfl
theorem dksX0_library_2 : cX0_library.data.toList.drop 46 = dktX0_library_2 := dk_seg dksX0_library_1 24 rfl rfl
theorem dX0_library_0 : decode cX0_library 0 = .ok (.new 139, 3) := dk_187 0 139 (dk_at dksX0_library_0 0 rfl rfl)
theorem dX0_library_3 : decode cX0_library 3 = .ok (.dup, 1) := dk_89 (dk_at dksX0_library_0 3 rfl rfl)
theorem dX0_library_4 : decode cX0_library 4 = .ok (.aload_n 0, 1) := dk_42 (dk_at dksX0_library_0 4 rfl rfl)
theorem dX0_library_5 : decode cX0_library 5 = .ok (.getfield 32, 3) := dk_180 0 32 (dk_at dksX0_library_0 5 rfl rfl)
theorem dX0_library_8 : decode cX0_library 8 = .ok (.aload_n 0, 1) := dk_42 (dk_at dksX0_library_0 8 rfl rfl)
theorem dX0_library_9 : decode cX0_library 9 = .ok (.getfield 135, 3) := dk_180 0 135 (dk_at dksX0_library_0 9 rfl rfl)
theorem dX0_library_12 : decode cX0_library 12 = .ok (.invokespecial 141, 3) := dk_183 0 141 (dk_at dksX0_library_0 12 rfl rfl)
theorem dX0_library_15 : decode cX0_library 15 = .ok (.astore_n 1, 1) := dk_76 (dk_at dksX0_library_0 15 rfl rfl)
theorem dX0_library_16 : decode cX0_library 16 = .ok (.aload_n 0, 1) := dk_42 (dk_at dksX0_library_0 16 rfl rfl)
theorem dX0_library_17 : decode cX0_library 17 = .ok (.iconst 0, 1) := dk_3 (dk_at dksX0_library_0 17 rfl rfl)
theorem dX0_library_18 : decode cX0_library 18 = .ok (.putfield 135, 3) := dk_181 0 135 (dk_at dksX0_library_0 18 rfl rfl)
theorem dX0_library_21 : decode cX0_library 21 = .ok (.aload_n 1, 1) := dk_43 (dk_at dksX0_library_0 21 rfl rfl)
theorem dX0_library_22 : decode cX0_library 22 = .ok (.invokevirtual 144, 3) := dk_182 0 144 (dk_at dksX0_library_1 0 rfl rfl)
theorem dX0_library_25 : decode cX0_library 25 = .ok (.goto 20, 3) := dk_167 0 20 (dk_at dksX0_library_1 3 rfl rfl)
theorem dX0_library_28 : decode cX0_library 28 = .ok (.astore_n 2, 1) := dk_77 (dk_at dksX0_library_1 6 rfl rfl)
theorem dX0_library_29 : decode cX0_library 29 = .ok (.aload_n 0, 1) := dk_42 (dk_at dksX0_library_1 7 rfl rfl)
theorem dX0_library_30 : decode cX0_library 30 = .ok (.aload_n 2, 1) := dk_44 (dk_at dksX0_library_1 8 rfl rfl)
theorem dX0_library_31 : decode cX0_library 31 = .ok (.getfield 149, 3) := dk_180 0 149 (dk_at dksX0_library_1 9 rfl rfl)
theorem dX0_library_34 : decode cX0_library 34 = .ok (.putfield 152, 3) := dk_181 0 152 (dk_at dksX0_library_1 12 rfl rfl)
theorem dX0_library_37 : decode cX0_library 37 = .ok (.ldc 155, 2) := dk_18 155 (dk_at dksX0_library_1 15 rfl rfl)
theorem dX0_library_39 : decode cX0_library 39 = .ok (.aload_n 2, 1) := dk_44 (dk_at dksX0_library_1 17 rfl rfl)
theorem dX0_library_40 : decode cX0_library 40 = .ok (.getfield 156, 3) := dk_180 0 156 (dk_at dksX0_library_1 18 rfl rfl)
theorem dX0_library_43 : decode cX0_library 43 = .ok (.isub, 1) := dk_100 (dk_at dksX0_library_1 21 rfl rfl)
theorem dX0_library_44 : decode cX0_library 44 = .ok (.ireturn, 1) := dk_172 (dk_at dksX0_library_1 22 rfl rfl)
theorem dX0_library_45 : decode cX0_library 45 = .ok (.aload_n 0, 1) := dk_42 (dk_at dksX0_library_1 23 rfl rfl)
theorem dX0_library_46 : decode cX0_library 46 = .ok (.getfield 39, 3) := dk_180 0 39 (dk_at dksX0_library_2 0 rfl rfl)
theorem dX0_library_49 : decode cX0_library 49 = .ok (.aload_n 1, 1) := dk_43 (dk_at dksX0_library_2 3 rfl rfl)
theorem dX0_library_50 : decode cX0_library 50 = .ok (.getfield 159, 3) := dk_180 0 159 (dk_at dksX0_library_2 4 rfl rfl)
theorem dX0_library_53 : decode cX0_library 53 = .ok (.invokevirtual 162, 3) := dk_182 0 162 (dk_at dksX0_library_2 7 rfl rfl)
theorem dX0_library_56 : decode cX0_library 56 = .ok (.pop, 1) := dk_87 (dk_at dksX0_library_2 10 rfl rfl)
theorem dX0_library_57 : decode cX0_library 57 = .ok (.aload_n 0, 1) := dk_42 (dk_at dksX0_library_2 11 rfl rfl)
theorem dX0_library_58 : decode cX0_library 58 = .ok (.iconst 0, 1) := dk_3 (dk_at dksX0_library_2 12 rfl rfl)
theorem dX0_library_59 : decode cX0_library 59 = .ok (.putfield 166, 3) := dk_181 0 166 (dk_at dksX0_library_2 13 rfl rfl)
theorem dX0_library_62 : decode cX0_library 62 = .ok (.aload_n 0, 1) := dk_42 (dk_at dksX0_library_2 16 rfl rfl)
theorem dX0_library_63 : decode cX0_library 63 = .ok (.getfield 39, 3) := dk_180 0 39 (dk_at dksX0_library_2 17 rfl rfl)
theorem dX0_library_66 : decode cX0_library 66 = .ok (.invokevirtual 169, 3) := dk_182 0 169 (dk_at dksX0_library_2 20 rfl rfl)
theorem dX0_library_69 : decode cX0_library 69 = .ok (.ireturn, 1) := dk_172 (dk_at dksX0_library_2 23 rfl rfl)
abbrev cX0_fishBy : ByteArray := prog_1_method_3_code
def yX0_fishBy : MethodName := ⟨RX0, "fishBy", "(II)LFishReaders$Fish;"⟩
def dkwX0_fishBy_3 : List UInt8 := [183, 0, 12, 176, 187, 0, 13, 89, 27, 183, 0, 15, 176, 187, 0, 16, 89, 27, 183, 0, 18, 176]
abbrev dktX0_fishBy_3 : List UInt8 := dkwX0_fishBy_3 ++ []
def dkwX0_fishBy_2 : List UInt8 := [187, 0, 1, 89, 27, 183, 0, 3, 176, 187, 0, 7, 89, 27, 183, 0, 9, 176, 187, 0, 10, 89, 27]
abbrev dktX0_fishBy_2 : List UInt8 := dkwX0_fishBy_2 ++ dktX0_fishBy_3
def dkwX0_fishBy_1 : List UInt8 := [170, 0, 0, 0, 0, 0, 67, 0, 0, 0, 0, 0, 0, 0, 3, 0, 0, 0, 31, 0, 0, 0, 40, 0, 0, 0, 49, 0, 0, 0, 58]
abbrev dktX0_fishBy_1 : List UInt8 := dkwX0_fishBy_1 ++ dktX0_fishBy_2
def dkwX0_fishBy_0 : List UInt8 := [26]
abbrev dktX0_fishBy_0 : List UInt8 := dkwX0_fishBy_0 ++ dktX0_fishBy_1
theorem dksX0_fishBy_0 : cX0_fishBy.data.toList.drop 0 = dktX0_fishBy_0 := by decide +kernel
theorem dksX0_fishBy_1 : cX0_fishBy.data.toList.drop 1 = dktX0_fishBy_1 := dk_seg dksX0_fishBy_0 1 rfl rfl
theorem dksX0_fishBy_2 : cX0_fishBy.data.toList.drop 32 = dktX0_fishBy_2 := dk_seg dksX0_fishBy_1 31 rfl rfl
theorem dksX0_fishBy_3 : cX0_fishBy.data.toList.drop 55 = dktX0_fishBy_3 := dk_seg dksX0_fishBy_2 23 rfl rfl
theorem dX0_fishBy_0 : decode cX0_fishBy 0 = .ok (.iload_n 0, 1) := dk_26 (dk_at dksX0_fishBy_0 0 rfl rfl)
theorem dX0_fishBy_1 : decode cX0_fishBy 1 = .ok (.tableswitch 67 0 3 #[31, 40, 49, 58], 31) := by decide +kernel
theorem dX0_fishBy_32 : decode cX0_fishBy 32 = .ok (.new 1, 3) := dk_187 0 1 (dk_at dksX0_fishBy_2 0 rfl rfl)
theorem dX0_fishBy_35 : decode cX0_fishBy 35 = .ok (.dup, 1) := dk_89 (dk_at dksX0_fishBy_2 3 rfl rfl)
theorem dX0_fishBy_36 : decode cX0_fishBy 36 = .ok (.iload_n 1, 1) := dk_27 (dk_at dksX0_fishBy_2 4 rfl rfl)
theorem dX0_fishBy_37 : decode cX0_fishBy 37 = .ok (.invokespecial 3, 3) := dk_183 0 3 (dk_at dksX0_fishBy_2 5 rfl rfl)
theorem dX0_fishBy_40 : decode cX0_fishBy 40 = .ok (.areturn, 1) := dk_176 (dk_at dksX0_fishBy_2 8 rfl rfl)
theorem dX0_fishBy_41 : decode cX0_fishBy 41 = .ok (.new 7, 3) := dk_187 0 7 (dk_at dksX0_fishBy_2 9 rfl rfl)
theorem dX0_fishBy_44 : decode cX0_fishBy 44 = .ok (.dup, 1) := dk_89 (dk_at dksX0_fishBy_2 12 rfl rfl)
theorem dX0_fishBy_45 : decode cX0_fishBy 45 = .ok (.iload_n 1, 1) := dk_27 (dk_at dksX0_fishBy_2 13 rfl rfl)
theorem dX0_fishBy_46 : decode cX0_fishBy 46 = .ok (.invokespecial 9, 3) := dk_183 0 9 (dk_at dksX0_fishBy_2 14 rfl rfl)
theorem dX0_fishBy_49 : decode cX0_fishBy 49 = .ok (.areturn, 1) := dk_176 (dk_at dksX0_fishBy_2 17 rfl rfl)
theorem dX0_fishBy_50 : decode cX0_fishBy 50 = .ok (.new 10, 3) := dk_187 0 10 (dk_at dksX0_fishBy_2 18 rfl rfl)
theorem dX0_fishBy_53 : decode cX0_fishBy 53 = .ok (.dup, 1) := dk_89 (dk_at dksX0_fishBy_2 21 rfl rfl)
theorem dX0_fishBy_54 : decode cX0_fishBy 54 = .ok (.iload_n 1, 1) := dk_27 (dk_at dksX0_fishBy_2 22 rfl rfl)
theorem dX0_fishBy_55 : decode cX0_fishBy 55 = .ok (.invokespecial 12, 3) := dk_183 0 12 (dk_at dksX0_fishBy_3 0 rfl rfl)
theorem dX0_fishBy_58 : decode cX0_fishBy 58 = .ok (.areturn, 1) := dk_176 (dk_at dksX0_fishBy_3 3 rfl rfl)
theorem dX0_fishBy_59 : decode cX0_fishBy 59 = .ok (.new 13, 3) := dk_187 0 13 (dk_at dksX0_fishBy_3 4 rfl rfl)
theorem dX0_fishBy_62 : decode cX0_fishBy 62 = .ok (.dup, 1) := dk_89 (dk_at dksX0_fishBy_3 7 rfl rfl)
theorem dX0_fishBy_63 : decode cX0_fishBy 63 = .ok (.iload_n 1, 1) := dk_27 (dk_at dksX0_fishBy_3 8 rfl rfl)
theorem dX0_fishBy_64 : decode cX0_fishBy 64 = .ok (.invokespecial 15, 3) := dk_183 0 15 (dk_at dksX0_fishBy_3 9 rfl rfl)
theorem dX0_fishBy_67 : decode cX0_fishBy 67 = .ok (.areturn, 1) := dk_176 (dk_at dksX0_fishBy_3 12 rfl rfl)
theorem dX0_fishBy_68 : decode cX0_fishBy 68 = .ok (.new 16, 3) := dk_187 0 16 (dk_at dksX0_fishBy_3 13 rfl rfl)
theorem dX0_fishBy_71 : decode cX0_fishBy 71 = .ok (.dup, 1) := dk_89 (dk_at dksX0_fishBy_3 16 rfl rfl)
theorem dX0_fishBy_72 : decode cX0_fishBy 72 = .ok (.iload_n 1, 1) := dk_27 (dk_at dksX0_fishBy_3 17 rfl rfl)
theorem dX0_fishBy_73 : decode cX0_fishBy 73 = .ok (.invokespecial 18, 3) := dk_183 0 18 (dk_at dksX0_fishBy_3 18 rfl rfl)
theorem dX0_fishBy_76 : decode cX0_fishBy 76 = .ok (.areturn, 1) := dk_176 (dk_at dksX0_fishBy_3 21 rfl rfl)
abbrev cX0_fault : ByteArray := prog_1_method_16_code
def yX0_fault : MethodName := ⟨RX0, "fault", "()I"⟩
theorem dX0_fault_0 : decode cX0_fault 0 = .ok (.aload_n 0, 1) := by decide +kernel
theorem dX0_fault_1 : decode cX0_fault 1 = .ok (.getfield 152, 3) := by decide +kernel
theorem dX0_fault_4 : decode cX0_fault 4 = .ok (.ireturn, 1) := by decide +kernel
abbrev cX0_undo : ByteArray := prog_1_method_19_code
def yX0_undo : MethodName := ⟨RX0, "undo", "()I"⟩
def dkwX0_undo_1 : List UInt8 := [42, 180, 0, 46, 42, 180, 0, 166, 50, 182, 0, 162, 87, 42, 180, 0, 166, 172]
abbrev dktX0_undo_1 : List UInt8 := dkwX0_undo_1 ++ []
def dkwX0_undo_0 : List UInt8 := [42, 180, 0, 166, 154, 0, 6, 18, 173, 172, 42, 89, 180, 0, 166, 4, 100, 181, 0, 166, 42, 180, 0, 39]
abbrev dktX0_undo_0 : List UInt8 := dkwX0_undo_0 ++ dktX0_undo_1
theorem dksX0_undo_0 : cX0_undo.data.toList.drop 0 = dktX0_undo_0 := by decide +kernel
theorem dksX0_undo_1 : cX0_undo.data.toList.drop 24 = dktX0_undo_1 := dk_seg dksX0_undo_0 24 rfl rfl
theorem dX0_undo_0 : decode cX0_undo 0 = .ok (.aload_n 0, 1) := dk_42 (dk_at dksX0_undo_0 0 rfl rfl)
theorem dX0_undo_1 : decode cX0_undo 1 = .ok (.getfield 166, 3) := dk_180 0 166 (dk_at dksX0_undo_0 1 rfl rfl)
theorem dX0_undo_4 : decode cX0_undo 4 = .ok (.ifCond .ne 6, 3) := dk_154 0 6 (dk_at dksX0_undo_0 4 rfl rfl)
theorem dX0_undo_7 : decode cX0_undo 7 = .ok (.ldc 173, 2) := dk_18 173 (dk_at dksX0_undo_0 7 rfl rfl)
theorem dX0_undo_9 : decode cX0_undo 9 = .ok (.ireturn, 1) := dk_172 (dk_at dksX0_undo_0 9 rfl rfl)
theorem dX0_undo_10 : decode cX0_undo 10 = .ok (.aload_n 0, 1) := dk_42 (dk_at dksX0_undo_0 10 rfl rfl)
theorem dX0_undo_11 : decode cX0_undo 11 = .ok (.dup, 1) := dk_89 (dk_at dksX0_undo_0 11 rfl rfl)
theorem dX0_undo_12 : decode cX0_undo 12 = .ok (.getfield 166, 3) := dk_180 0 166 (dk_at dksX0_undo_0 12 rfl rfl)
theorem dX0_undo_15 : decode cX0_undo 15 = .ok (.iconst 1, 1) := dk_4 (dk_at dksX0_undo_0 15 rfl rfl)
theorem dX0_undo_16 : decode cX0_undo 16 = .ok (.isub, 1) := dk_100 (dk_at dksX0_undo_0 16 rfl rfl)
theorem dX0_undo_17 : decode cX0_undo 17 = .ok (.putfield 166, 3) := dk_181 0 166 (dk_at dksX0_undo_0 17 rfl rfl)
theorem dX0_undo_20 : decode cX0_undo 20 = .ok (.aload_n 0, 1) := dk_42 (dk_at dksX0_undo_0 20 rfl rfl)
theorem dX0_undo_21 : decode cX0_undo 21 = .ok (.getfield 39, 3) := dk_180 0 39 (dk_at dksX0_undo_0 21 rfl rfl)
theorem dX0_undo_24 : decode cX0_undo 24 = .ok (.aload_n 0, 1) := dk_42 (dk_at dksX0_undo_1 0 rfl rfl)
theorem dX0_undo_25 : decode cX0_undo 25 = .ok (.getfield 46, 3) := dk_180 0 46 (dk_at dksX0_undo_1 1 rfl rfl)
theorem dX0_undo_28 : decode cX0_undo 28 = .ok (.aload_n 0, 1) := dk_42 (dk_at dksX0_undo_1 4 rfl rfl)
theorem dX0_undo_29 : decode cX0_undo 29 = .ok (.getfield 166, 3) := dk_180 0 166 (dk_at dksX0_undo_1 5 rfl rfl)
theorem dX0_undo_32 : decode cX0_undo 32 = .ok (.aaload, 1) := dk_50 (dk_at dksX0_undo_1 8 rfl rfl)
theorem dX0_undo_33 : decode cX0_undo 33 = .ok (.invokevirtual 162, 3) := dk_182 0 162 (dk_at dksX0_undo_1 9 rfl rfl)
theorem dX0_undo_36 : decode cX0_undo 36 = .ok (.pop, 1) := dk_87 (dk_at dksX0_undo_1 12 rfl rfl)
theorem dX0_undo_37 : decode cX0_undo 37 = .ok (.aload_n 0, 1) := dk_42 (dk_at dksX0_undo_1 13 rfl rfl)
theorem dX0_undo_38 : decode cX0_undo 38 = .ok (.getfield 166, 3) := dk_180 0 166 (dk_at dksX0_undo_1 14 rfl rfl)
theorem dX0_undo_41 : decode cX0_undo 41 = .ok (.ireturn, 1) := dk_172 (dk_at dksX0_undo_1 17 rfl rfl)
abbrev cX0_nights : ByteArray := prog_1_method_27_code
def yX0_nights : MethodName := ⟨RX0, "nights", "(I)I"⟩
def dkwX0_nights_3 : List UInt8 := [180, 0, 39, 42, 182, 0, 200, 182, 0, 203, 172]
abbrev dktX0_nights_3 : List UInt8 := dkwX0_nights_3 ++ []
def dkwX0_nights_2 : List UInt8 := [162, 0, 21, 42, 182, 0, 193, 42, 180, 0, 39, 182, 0, 196, 87, 132, 2, 1, 167, 255, 236, 42]
abbrev dktX0_nights_2 : List UInt8 := dkwX0_nights_2 ++ dktX0_nights_3
def dkwX0_nights_1 : List UInt8 := [172, 42, 180, 0, 39, 180, 0, 190, 27, 96, 17, 3, 231, 164, 0, 6, 18, 138, 172, 3, 61, 28, 27]
abbrev dktX0_nights_1 : List UInt8 := dkwX0_nights_1 ++ dktX0_nights_2
def dkwX0_nights_0 : List UInt8 := [42, 182, 0, 184, 154, 0, 6, 18, 173, 172, 27, 133, 10, 20, 0, 188, 184, 0, 86, 154, 0, 6, 18, 100]
abbrev dktX0_nights_0 : List UInt8 := dkwX0_nights_0 ++ dktX0_nights_1
theorem dksX0_nights_0 : cX0_nights.data.toList.drop 0 = dktX0_nights_0 := by decide +kernel
theorem dksX0_nights_1 : cX0_nights.data.toList.drop 24 = dktX0_nights_1 := dk_seg dksX0_nights_0 24 rfl rfl
theorem dksX0_nights_2 : cX0_nights.data.toList.drop 47 = dktX0_nights_2 := dk_seg dksX0_nights_1 23 rfl rfl
theorem dksX0_nights_3 : cX0_nights.data.toList.drop 69 = dktX0_nights_3 := dk_seg dksX0_nights_2 22 rfl rfl
theorem dX0_nights_0 : decode cX0_nights 0 = .ok (.aload_n 0, 1) := dk_42 (dk_at dksX0_nights_0 0 rfl rfl)
theorem dX0_nights_1 : decode cX0_nights 1 = .ok (.invokevirtual 184, 3) := dk_182 0 184 (dk_at dksX0_nights_0 1 rfl rfl)
theorem dX0_nights_4 : decode cX0_nights 4 = .ok (.ifCond .ne 6, 3) := dk_154 0 6 (dk_at dksX0_nights_0 4 rfl rfl)
theorem dX0_nights_7 : decode cX0_nights 7 = .ok (.ldc 173, 2) := dk_18 173 (dk_at dksX0_nights_0 7 rfl rfl)
theorem dX0_nights_9 : decode cX0_nights 9 = .ok (.ireturn, 1) := dk_172 (dk_at dksX0_nights_0 9 rfl rfl)
theorem dX0_nights_10 : decode cX0_nights 10 = .ok (.iload_n 1, 1) := dk_27 (dk_at dksX0_nights_0 10 rfl rfl)
theorem dX0_nights_11 : decode cX0_nights 11 = .ok (.i2l, 1) := dk_133 (dk_at dksX0_nights_0 11 rfl rfl)
theorem dX0_nights_12 : decode cX0_nights 12 = .ok (.lconst 1, 1) := dk_10 (dk_at dksX0_nights_0 12 rfl rfl)
theorem dX0_nights_13 : decode cX0_nights 13 = .ok (.ldc2_w 188, 3) := dk_20 0 188 (dk_at dksX0_nights_0 13 rfl rfl)
theorem dX0_nights_16 : decode cX0_nights 16 = .ok (.invokestatic 86, 3) := dk_184 0 86 (dk_at dksX0_nights_0 16 rfl rfl)
theorem dX0_nights_19 : decode cX0_nights 19 = .ok (.ifCond .ne 6, 3) := dk_154 0 6 (dk_at dksX0_nights_0 19 rfl rfl)
theorem dX0_nights_22 : decode cX0_nights 22 = .ok (.ldc 100, 2) := dk_18 100 (dk_at dksX0_nights_0 22 rfl rfl)
theorem dX0_nights_24 : decode cX0_nights 24 = .ok (.ireturn, 1) := dk_172 (dk_at dksX0_nights_1 0 rfl rfl)
theorem dX0_nights_25 : decode cX0_nights 25 = .ok (.aload_n 0, 1) := dk_42 (dk_at dksX0_nights_1 1 rfl rfl)
theorem dX0_nights_26 : decode cX0_nights 26 = .ok (.getfield 39, 3) := dk_180 0 39 (dk_at dksX0_nights_1 2 rfl rfl)
theorem dX0_nights_29 : decode cX0_nights 29 = .ok (.getfield 190, 3) := dk_180 0 190 (dk_at dksX0_nights_1 5 rfl rfl)
theorem dX0_nights_32 : decode cX0_nights 32 = .ok (.iload_n 1, 1) := dk_27 (dk_at dksX0_nights_1 8 rfl rfl)
theorem dX0_nights_33 : decode cX0_nights 33 = .ok (.iadd, 1) := dk_96 (dk_at dksX0_nights_1 9 rfl rfl)
theorem dX0_nights_34 : decode cX0_nights 34 = .ok (.sipush 999, 3) := dk_17 3 231 (dk_at dksX0_nights_1 10 rfl rfl)
theorem dX0_nights_37 : decode cX0_nights 37 = .ok (.if_icmp .le 6, 3) := dk_164 0 6 (dk_at dksX0_nights_1 13 rfl rfl)
theorem dX0_nights_40 : decode cX0_nights 40 = .ok (.ldc 138, 2) := dk_18 138 (dk_at dksX0_nights_1 16 rfl rfl)
theorem dX0_nights_42 : decode cX0_nights 42 = .ok (.ireturn, 1) := dk_172 (dk_at dksX0_nights_1 18 rfl rfl)
theorem dX0_nights_43 : decode cX0_nights 43 = .ok (.iconst 0, 1) := dk_3 (dk_at dksX0_nights_1 19 rfl rfl)
theorem dX0_nights_44 : decode cX0_nights 44 = .ok (.istore_n 2, 1) := dk_61 (dk_at dksX0_nights_1 20 rfl rfl)
theorem dX0_nights_45 : decode cX0_nights 45 = .ok (.iload_n 2, 1) := dk_28 (dk_at dksX0_nights_1 21 rfl rfl)
theorem dX0_nights_46 : decode cX0_nights 46 = .ok (.iload_n 1, 1) := dk_27 (dk_at dksX0_nights_1 22 rfl rfl)
theorem dX0_nights_47 : decode cX0_nights 47 = .ok (.if_icmp .ge 21, 3) := dk_162 0 21 (dk_at dksX0_nights_2 0 rfl rfl)
theorem dX0_nights_50 : decode cX0_nights 50 = .ok (.aload_n 0, 1) := dk_42 (dk_at dksX0_nights_2 3 rfl rfl)
theorem dX0_nights_51 : decode cX0_nights 51 = .ok (.invokevirtual 193, 3) := dk_182 0 193 (dk_at dksX0_nights_2 4 rfl rfl)
theorem dX0_nights_54 : decode cX0_nights 54 = .ok (.aload_n 0, 1) := dk_42 (dk_at dksX0_nights_2 7 rfl rfl)
theorem dX0_nights_55 : decode cX0_nights 55 = .ok (.getfield 39, 3) := dk_180 0 39 (dk_at dksX0_nights_2 8 rfl rfl)
theorem dX0_nights_58 : decode cX0_nights 58 = .ok (.invokevirtual 196, 3) := dk_182 0 196 (dk_at dksX0_nights_2 11 rfl rfl)
theorem dX0_nights_61 : decode cX0_nights 61 = .ok (.pop, 1) := dk_87 (dk_at dksX0_nights_2 14 rfl rfl)
theorem dX0_nights_62 : decode cX0_nights 62 = .ok (.iinc 2 1, 3) := dk_132 2 1 (dk_at dksX0_nights_2 15 rfl rfl)
theorem dX0_nights_65 : decode cX0_nights 65 = .ok (.goto (-20), 3) := dk_167 255 236 (dk_at dksX0_nights_2 18 rfl rfl)
theorem dX0_nights_68 : decode cX0_nights 68 = .ok (.aload_n 0, 1) := dk_42 (dk_at dksX0_nights_2 21 rfl rfl)
theorem dX0_nights_69 : decode cX0_nights 69 = .ok (.getfield 39, 3) := dk_180 0 39 (dk_at dksX0_nights_3 0 rfl rfl)
theorem dX0_nights_72 : decode cX0_nights 72 = .ok (.aload_n 0, 1) := dk_42 (dk_at dksX0_nights_3 3 rfl rfl)
theorem dX0_nights_73 : decode cX0_nights 73 = .ok (.invokevirtual 200, 3) := dk_182 0 200 (dk_at dksX0_nights_3 4 rfl rfl)
theorem dX0_nights_76 : decode cX0_nights 76 = .ok (.invokevirtual 203, 3) := dk_182 0 203 (dk_at dksX0_nights_3 7 rfl rfl)
theorem dX0_nights_79 : decode cX0_nights 79 = .ok (.ireturn, 1) := dk_172 (dk_at dksX0_nights_3 10 rfl rfl)
abbrev cX0_isLibrary : ByteArray := prog_1_method_20_code
def yX0_isLibrary : MethodName := ⟨RX0, "isLibrary", "()Z"⟩
def dkwX0_isLibrary_0 : List UInt8 := [42, 180, 0, 39, 180, 0, 174, 158, 0, 7, 4, 167, 0, 4, 3, 172]
abbrev dktX0_isLibrary_0 : List UInt8 := dkwX0_isLibrary_0 ++ []
theorem dksX0_isLibrary_0 : cX0_isLibrary.data.toList.drop 0 = dktX0_isLibrary_0 := by decide +kernel
theorem dX0_isLibrary_0 : decode cX0_isLibrary 0 = .ok (.aload_n 0, 1) := dk_42 (dk_at dksX0_isLibrary_0 0 rfl rfl)
theorem dX0_isLibrary_1 : decode cX0_isLibrary 1 = .ok (.getfield 39, 3) := dk_180 0 39 (dk_at dksX0_isLibrary_0 1 rfl rfl)
theorem dX0_isLibrary_4 : decode cX0_isLibrary 4 = .ok (.getfield 174, 3) := dk_180 0 174 (dk_at dksX0_isLibrary_0 4 rfl rfl)
theorem dX0_isLibrary_7 : decode cX0_isLibrary 7 = .ok (.ifCond .le 7, 3) := dk_158 0 7 (dk_at dksX0_isLibrary_0 7 rfl rfl)
theorem dX0_isLibrary_10 : decode cX0_isLibrary 10 = .ok (.iconst 1, 1) := dk_4 (dk_at dksX0_isLibrary_0 10 rfl rfl)
theorem dX0_isLibrary_11 : decode cX0_isLibrary 11 = .ok (.goto 4, 3) := dk_167 0 4 (dk_at dksX0_isLibrary_0 11 rfl rfl)
theorem dX0_isLibrary_14 : decode cX0_isLibrary 14 = .ok (.iconst 0, 1) := dk_3 (dk_at dksX0_isLibrary_0 14 rfl rfl)
theorem dX0_isLibrary_15 : decode cX0_isLibrary 15 = .ok (.ireturn, 1) := dk_172 (dk_at dksX0_isLibrary_0 15 rfl rfl)
abbrev cX0_keep : ByteArray := prog_1_method_18_code
def yX0_keep : MethodName := ⟨RX0, "keep", "()V"⟩
def dkwX0_keep_4 : List UInt8 := [180, 0, 166, 50, 42, 180, 0, 39, 182, 0, 162, 87, 42, 89, 180, 0, 166, 4, 96, 181, 0, 166, 177]
abbrev dktX0_keep_4 : List UInt8 := dkwX0_keep_4 ++ []
def dkwX0_keep_3 : List UInt8 := [199, 0, 19, 42, 180, 0, 46, 42, 180, 0, 166, 187, 0, 36, 89, 183, 0, 38, 83, 42, 180, 0, 46, 42]
abbrev dktX0_keep_3 : List UInt8 := dkwX0_keep_3 ++ dktX0_keep_4
def dkwX0_keep_2 : List UInt8 := [16, 23, 43, 83, 42, 89, 180, 0, 166, 4, 100, 181, 0, 166, 42, 180, 0, 46, 42, 180, 0, 166, 50]
abbrev dktX0_keep_2 : List UInt8 := dkwX0_keep_2 ++ dktX0_keep_3
def dkwX0_keep_1 : List UInt8 := [42, 180, 0, 46, 28, 4, 100, 42, 180, 0, 46, 28, 50, 83, 132, 2, 1, 167, 255, 233, 42, 180, 0, 46]
abbrev dktX0_keep_1 : List UInt8 := dkwX0_keep_1 ++ dktX0_keep_2
def dkwX0_keep_0 : List UInt8 := [42, 180, 0, 166, 16, 24, 160, 0, 56, 42, 180, 0, 46, 3, 50, 76, 4, 61, 28, 16, 24, 162, 0, 23]
abbrev dktX0_keep_0 : List UInt8 := dkwX0_keep_0 ++ dktX0_keep_1
theorem dksX0_keep_0 : cX0_keep.data.toList.drop 0 = dktX0_keep_0 := by decide +kernel
theorem dksX0_keep_1 : cX0_keep.data.toList.drop 24 = dktX0_keep_1 := dk_seg dksX0_keep_0 24 rfl rfl
theorem dksX0_keep_2 : cX0_keep.data.toList.drop 48 = dktX0_keep_2 := dk_seg dksX0_keep_1 24 rfl rfl
theorem dksX0_keep_3 : cX0_keep.data.toList.drop 71 = dktX0_keep_3 := dk_seg dksX0_keep_2 23 rfl rfl
theorem dksX0_keep_4 : cX0_keep.data.toList.drop 95 = dktX0_keep_4 := dk_seg dksX0_keep_3 24 rfl rfl
theorem dX0_keep_0 : decode cX0_keep 0 = .ok (.aload_n 0, 1) := dk_42 (dk_at dksX0_keep_0 0 rfl rfl)
theorem dX0_keep_1 : decode cX0_keep 1 = .ok (.getfield 166, 3) := dk_180 0 166 (dk_at dksX0_keep_0 1 rfl rfl)
theorem dX0_keep_4 : decode cX0_keep 4 = .ok (.bipush 24, 2) := dk_16 24 (dk_at dksX0_keep_0 4 rfl rfl)
theorem dX0_keep_6 : decode cX0_keep 6 = .ok (.if_icmp .ne 56, 3) := dk_160 0 56 (dk_at dksX0_keep_0 6 rfl rfl)
theorem dX0_keep_9 : decode cX0_keep 9 = .ok (.aload_n 0, 1) := dk_42 (dk_at dksX0_keep_0 9 rfl rfl)
theorem dX0_keep_10 : decode cX0_keep 10 = .ok (.getfield 46, 3) := dk_180 0 46 (dk_at dksX0_keep_0 10 rfl rfl)
theorem dX0_keep_13 : decode cX0_keep 13 = .ok (.iconst 0, 1) := dk_3 (dk_at dksX0_keep_0 13 rfl rfl)
theorem dX0_keep_14 : decode cX0_keep 14 = .ok (.aaload, 1) := dk_50 (dk_at dksX0_keep_0 14 rfl rfl)
theorem dX0_keep_15 : decode cX0_keep 15 = .ok (.astore_n 1, 1) := dk_76 (dk_at dksX0_keep_0 15 rfl rfl)
theorem dX0_keep_16 : decode cX0_keep 16 = .ok (.iconst 1, 1) := dk_4 (dk_at dksX0_keep_0 16 rfl rfl)
theorem dX0_keep_17 : decode cX0_keep 17 = .ok (.istore_n 2, 1) := dk_61 (dk_at dksX0_keep_0 17 rfl rfl)
theorem dX0_keep_18 : decode cX0_keep 18 = .ok (.iload_n 2, 1) := dk_28 (dk_at dksX0_keep_0 18 rfl rfl)
theorem dX0_keep_19 : decode cX0_keep 19 = .ok (.bipush 24, 2) := dk_16 24 (dk_at dksX0_keep_0 19 rfl rfl)
theorem dX0_keep_21 : decode cX0_keep 21 = .ok (.if_icmp .ge 23, 3) := dk_162 0 23 (dk_at dksX0_keep_0 21 rfl rfl)
theorem dX0_keep_24 : decode cX0_keep 24 = .ok (.aload_n 0, 1) := dk_42 (dk_at dksX0_keep_1 0 rfl rfl)
theorem dX0_keep_25 : decode cX0_keep 25 = .ok (.getfield 46, 3) := dk_180 0 46 (dk_at dksX0_keep_1 1 rfl rfl)
theorem dX0_keep_28 : decode cX0_keep 28 = .ok (.iload_n 2, 1) := dk_28 (dk_at dksX0_keep_1 4 rfl rfl)
theorem dX0_keep_29 : decode cX0_keep 29 = .ok (.iconst 1, 1) := dk_4 (dk_at dksX0_keep_1 5 rfl rfl)
theorem dX0_keep_30 : decode cX0_keep 30 = .ok (.isub, 1) := dk_100 (dk_at dksX0_keep_1 6 rfl rfl)
theorem dX0_keep_31 : decode cX0_keep 31 = .ok (.aload_n 0, 1) := dk_42 (dk_at dksX0_keep_1 7 rfl rfl)
theorem dX0_keep_32 : decode cX0_keep 32 = .ok (.getfield 46, 3) := dk_180 0 46 (dk_at dksX0_keep_1 8 rfl rfl)
theorem dX0_keep_35 : decode cX0_keep 35 = .ok (.iload_n 2, 1) := dk_28 (dk_at dksX0_keep_1 11 rfl rfl)
theorem dX0_keep_36 : decode cX0_keep 36 = .ok (.aaload, 1) := dk_50 (dk_at dksX0_keep_1 12 rfl rfl)
theorem dX0_keep_37 : decode cX0_keep 37 = .ok (.aastore, 1) := dk_83 (dk_at dksX0_keep_1 13 rfl rfl)
theorem dX0_keep_38 : decode cX0_keep 38 = .ok (.iinc 2 1, 3) := dk_132 2 1 (dk_at dksX0_keep_1 14 rfl rfl)
theorem dX0_keep_41 : decode cX0_keep 41 = .ok (.goto (-23), 3) := dk_167 255 233 (dk_at dksX0_keep_1 17 rfl rfl)
theorem dX0_keep_44 : decode cX0_keep 44 = .ok (.aload_n 0, 1) := dk_42 (dk_at dksX0_keep_1 20 rfl rfl)
theorem dX0_keep_45 : decode cX0_keep 45 = .ok (.getfield 46, 3) := dk_180 0 46 (dk_at dksX0_keep_1 21 rfl rfl)
theorem dX0_keep_48 : decode cX0_keep 48 = .ok (.bipush 23, 2) := dk_16 23 (dk_at dksX0_keep_2 0 rfl rfl)
theorem dX0_keep_50 : decode cX0_keep 50 = .ok (.aload_n 1, 1) := dk_43 (dk_at dksX0_keep_2 2 rfl rfl)
theorem dX0_keep_51 : decode cX0_keep 51 = .ok (.aastore, 1) := dk_83 (dk_at dksX0_keep_2 3 rfl rfl)
theorem dX0_keep_52 : decode cX0_keep 52 = .ok (.aload_n 0, 1) := dk_42 (dk_at dksX0_keep_2 4 rfl rfl)
theorem dX0_keep_53 : decode cX0_keep 53 = .ok (.dup, 1) := dk_89 (dk_at dksX0_keep_2 5 rfl rfl)
theorem dX0_keep_54 : decode cX0_keep 54 = .ok (.getfield 166, 3) := dk_180 0 166 (dk_at dksX0_keep_2 6 rfl rfl)
theorem dX0_keep_57 : decode cX0_keep 57 = .ok (.iconst 1, 1) := dk_4 (dk_at dksX0_keep_2 9 rfl rfl)
theorem dX0_keep_58 : decode cX0_keep 58 = .ok (.isub, 1) := dk_100 (dk_at dksX0_keep_2 10 rfl rfl)
theorem dX0_keep_59 : decode cX0_keep 59 = .ok (.putfield 166, 3) := dk_181 0 166 (dk_at dksX0_keep_2 11 rfl rfl)
theorem dX0_keep_62 : decode cX0_keep 62 = .ok (.aload_n 0, 1) := dk_42 (dk_at dksX0_keep_2 14 rfl rfl)
theorem dX0_keep_63 : decode cX0_keep 63 = .ok (.getfield 46, 3) := dk_180 0 46 (dk_at dksX0_keep_2 15 rfl rfl)
theorem dX0_keep_66 : decode cX0_keep 66 = .ok (.aload_n 0, 1) := dk_42 (dk_at dksX0_keep_2 18 rfl rfl)
theorem dX0_keep_67 : decode cX0_keep 67 = .ok (.getfield 166, 3) := dk_180 0 166 (dk_at dksX0_keep_2 19 rfl rfl)
theorem dX0_keep_70 : decode cX0_keep 70 = .ok (.aaload, 1) := dk_50 (dk_at dksX0_keep_2 22 rfl rfl)
theorem dX0_keep_71 : decode cX0_keep 71 = .ok (.ifnonnull 19, 3) := dk_199 0 19 (dk_at dksX0_keep_3 0 rfl rfl)
theorem dX0_keep_74 : decode cX0_keep 74 = .ok (.aload_n 0, 1) := dk_42 (dk_at dksX0_keep_3 3 rfl rfl)
theorem dX0_keep_75 : decode cX0_keep 75 = .ok (.getfield 46, 3) := dk_180 0 46 (dk_at dksX0_keep_3 4 rfl rfl)
theorem dX0_keep_78 : decode cX0_keep 78 = .ok (.aload_n 0, 1) := dk_42 (dk_at dksX0_keep_3 7 rfl rfl)
theorem dX0_keep_79 : decode cX0_keep 79 = .ok (.getfield 166, 3) := dk_180 0 166 (dk_at dksX0_keep_3 8 rfl rfl)
theorem dX0_keep_82 : decode cX0_keep 82 = .ok (.new 36, 3) := dk_187 0 36 (dk_at dksX0_keep_3 11 rfl rfl)
theorem dX0_keep_85 : decode cX0_keep 85 = .ok (.dup, 1) := dk_89 (dk_at dksX0_keep_3 14 rfl rfl)
theorem dX0_keep_86 : decode cX0_keep 86 = .ok (.invokespecial 38, 3) := dk_183 0 38 (dk_at dksX0_keep_3 15 rfl rfl)
theorem dX0_keep_89 : decode cX0_keep 89 = .ok (.aastore, 1) := dk_83 (dk_at dksX0_keep_3 18 rfl rfl)
theorem dX0_keep_90 : decode cX0_keep 90 = .ok (.aload_n 0, 1) := dk_42 (dk_at dksX0_keep_3 19 rfl rfl)
theorem dX0_keep_91 : decode cX0_keep 91 = .ok (.getfield 46, 3) := dk_180 0 46 (dk_at dksX0_keep_3 20 rfl rfl)
theorem dX0_keep_94 : decode cX0_keep 94 = .ok (.aload_n 0, 1) := dk_42 (dk_at dksX0_keep_3 23 rfl rfl)
theorem dX0_keep_95 : decode cX0_keep 95 = .ok (.getfield 166, 3) := dk_180 0 166 (dk_at dksX0_keep_4 0 rfl rfl)
theorem dX0_keep_98 : decode cX0_keep 98 = .ok (.aaload, 1) := dk_50 (dk_at dksX0_keep_4 3 rfl rfl)
theorem dX0_keep_99 : decode cX0_keep 99 = .ok (.aload_n 0, 1) := dk_42 (dk_at dksX0_keep_4 4 rfl rfl)
theorem dX0_keep_100 : decode cX0_keep 100 = .ok (.getfield 39, 3) := dk_180 0 39 (dk_at dksX0_keep_4 5 rfl rfl)
theorem dX0_keep_103 : decode cX0_keep 103 = .ok (.invokevirtual 162, 3) := dk_182 0 162 (dk_at dksX0_keep_4 8 rfl rfl)
theorem dX0_keep_106 : decode cX0_keep 106 = .ok (.pop, 1) := dk_87 (dk_at dksX0_keep_4 11 rfl rfl)
theorem dX0_keep_107 : decode cX0_keep 107 = .ok (.aload_n 0, 1) := dk_42 (dk_at dksX0_keep_4 12 rfl rfl)
theorem dX0_keep_108 : decode cX0_keep 108 = .ok (.dup, 1) := dk_89 (dk_at dksX0_keep_4 13 rfl rfl)
theorem dX0_keep_109 : decode cX0_keep 109 = .ok (.getfield 166, 3) := dk_180 0 166 (dk_at dksX0_keep_4 14 rfl rfl)
theorem dX0_keep_112 : decode cX0_keep 112 = .ok (.iconst 1, 1) := dk_4 (dk_at dksX0_keep_4 17 rfl rfl)
theorem dX0_keep_113 : decode cX0_keep 113 = .ok (.iadd, 1) := dk_96 (dk_at dksX0_keep_4 18 rfl rfl)
theorem dX0_keep_114 : decode cX0_keep 114 = .ok (.putfield 166, 3) := dk_181 0 166 (dk_at dksX0_keep_4 19 rfl rfl)
theorem dX0_keep_117 : decode cX0_keep 117 = .ok (.return_, 1) := dk_177 (dk_at dksX0_keep_4 22 rfl rfl)
abbrev cX0_allBooks : ByteArray := prog_1_method_23_code
def yX0_allBooks : MethodName := ⟨RX0, "allBooks", "()I"⟩
def dkwX0_allBooks_0 : List UInt8 := [4, 42, 180, 0, 39, 180, 0, 177, 120, 4, 100, 172]
abbrev dktX0_allBooks_0 : List UInt8 := dkwX0_allBooks_0 ++ []
theorem dksX0_allBooks_0 : cX0_allBooks.data.toList.drop 0 = dktX0_allBooks_0 := by decide +kernel
theorem dX0_allBooks_0 : decode cX0_allBooks 0 = .ok (.iconst 1, 1) := dk_4 (dk_at dksX0_allBooks_0 0 rfl rfl)
theorem dX0_allBooks_1 : decode cX0_allBooks 1 = .ok (.aload_n 0, 1) := dk_42 (dk_at dksX0_allBooks_0 1 rfl rfl)
theorem dX0_allBooks_2 : decode cX0_allBooks 2 = .ok (.getfield 39, 3) := dk_180 0 39 (dk_at dksX0_allBooks_0 2 rfl rfl)
theorem dX0_allBooks_5 : decode cX0_allBooks 5 = .ok (.getfield 177, 3) := dk_180 0 177 (dk_at dksX0_allBooks_0 5 rfl rfl)
theorem dX0_allBooks_8 : decode cX0_allBooks 8 = .ok (.ishl, 1) := dk_120 (dk_at dksX0_allBooks_0 8 rfl rfl)
theorem dX0_allBooks_9 : decode cX0_allBooks 9 = .ok (.iconst 1, 1) := dk_4 (dk_at dksX0_allBooks_0 9 rfl rfl)
theorem dX0_allBooks_10 : decode cX0_allBooks 10 = .ok (.isub, 1) := dk_100 (dk_at dksX0_allBooks_0 10 rfl rfl)
theorem dX0_allBooks_11 : decode cX0_allBooks 11 = .ok (.ireturn, 1) := dk_172 (dk_at dksX0_allBooks_0 11 rfl rfl)
abbrev cX0_light : ByteArray := prog_1_method_28_code
def yX0_light : MethodName := ⟨RX0, "light", "(II)I"⟩
def dkwX0_light_3 : List UInt8 := [89, 180, 0, 212, 4, 27, 120, 130, 181, 0, 212, 42, 180, 0, 39, 180, 0, 212, 172]
abbrev dktX0_light_3 : List UInt8 := dkwX0_light_3 ++ []
def dkwX0_light_2 : List UInt8 := [184, 0, 215, 42, 180, 0, 39, 180, 0, 220, 161, 0, 6, 18, 173, 172, 42, 182, 0, 193, 42, 180, 0, 39]
abbrev dktX0_light_2 : List UInt8 := dkwX0_light_2 ++ dktX0_light_3
def dkwX0_light_1 : List UInt8 := [180, 0, 212, 27, 122, 4, 126, 28, 159, 0, 28, 28, 4, 160, 0, 26, 42, 180, 0, 39, 180, 0, 212]
abbrev dktX0_light_1 : List UInt8 := dkwX0_light_1 ++ dktX0_light_2
def dkwX0_light_0 : List UInt8 := [42, 27, 182, 0, 206, 153, 0, 10, 28, 184, 0, 209, 154, 0, 6, 18, 100, 172, 42, 180, 0, 39]
abbrev dktX0_light_0 : List UInt8 := dkwX0_light_0 ++ dktX0_light_1
theorem dksX0_light_0 : cX0_light.data.toList.drop 0 = dktX0_light_0 := by decide +kernel
theorem dksX0_light_1 : cX0_light.data.toList.drop 22 = dktX0_light_1 := dk_seg dksX0_light_0 22 rfl rfl
theorem dksX0_light_2 : cX0_light.data.toList.drop 45 = dktX0_light_2 := dk_seg dksX0_light_1 23 rfl rfl
theorem dksX0_light_3 : cX0_light.data.toList.drop 69 = dktX0_light_3 := dk_seg dksX0_light_2 24 rfl rfl
theorem dX0_light_0 : decode cX0_light 0 = .ok (.aload_n 0, 1) := dk_42 (dk_at dksX0_light_0 0 rfl rfl)
theorem dX0_light_1 : decode cX0_light 1 = .ok (.iload_n 1, 1) := dk_27 (dk_at dksX0_light_0 1 rfl rfl)
theorem dX0_light_2 : decode cX0_light 2 = .ok (.invokevirtual 206, 3) := dk_182 0 206 (dk_at dksX0_light_0 2 rfl rfl)
theorem dX0_light_5 : decode cX0_light 5 = .ok (.ifCond .eq 10, 3) := dk_153 0 10 (dk_at dksX0_light_0 5 rfl rfl)
theorem dX0_light_8 : decode cX0_light 8 = .ok (.iload_n 2, 1) := dk_28 (dk_at dksX0_light_0 8 rfl rfl)
theorem dX0_light_9 : decode cX0_light 9 = .ok (.invokestatic 209, 3) := dk_184 0 209 (dk_at dksX0_light_0 9 rfl rfl)
theorem dX0_light_12 : decode cX0_light 12 = .ok (.ifCond .ne 6, 3) := dk_154 0 6 (dk_at dksX0_light_0 12 rfl rfl)
theorem dX0_light_15 : decode cX0_light 15 = .ok (.ldc 100, 2) := dk_18 100 (dk_at dksX0_light_0 15 rfl rfl)
theorem dX0_light_17 : decode cX0_light 17 = .ok (.ireturn, 1) := dk_172 (dk_at dksX0_light_0 17 rfl rfl)
theorem dX0_light_18 : decode cX0_light 18 = .ok (.aload_n 0, 1) := dk_42 (dk_at dksX0_light_0 18 rfl rfl)
theorem dX0_light_19 : decode cX0_light 19 = .ok (.getfield 39, 3) := dk_180 0 39 (dk_at dksX0_light_0 19 rfl rfl)
theorem dX0_light_22 : decode cX0_light 22 = .ok (.getfield 212, 3) := dk_180 0 212 (dk_at dksX0_light_1 0 rfl rfl)
theorem dX0_light_25 : decode cX0_light 25 = .ok (.iload_n 1, 1) := dk_27 (dk_at dksX0_light_1 3 rfl rfl)
theorem dX0_light_26 : decode cX0_light 26 = .ok (.ishr, 1) := dk_122 (dk_at dksX0_light_1 4 rfl rfl)
theorem dX0_light_27 : decode cX0_light 27 = .ok (.iconst 1, 1) := dk_4 (dk_at dksX0_light_1 5 rfl rfl)
theorem dX0_light_28 : decode cX0_light 28 = .ok (.iand, 1) := dk_126 (dk_at dksX0_light_1 6 rfl rfl)
theorem dX0_light_29 : decode cX0_light 29 = .ok (.iload_n 2, 1) := dk_28 (dk_at dksX0_light_1 7 rfl rfl)
theorem dX0_light_30 : decode cX0_light 30 = .ok (.if_icmp .eq 28, 3) := dk_159 0 28 (dk_at dksX0_light_1 8 rfl rfl)
theorem dX0_light_33 : decode cX0_light 33 = .ok (.iload_n 2, 1) := dk_28 (dk_at dksX0_light_1 11 rfl rfl)
theorem dX0_light_34 : decode cX0_light 34 = .ok (.iconst 1, 1) := dk_4 (dk_at dksX0_light_1 12 rfl rfl)
theorem dX0_light_35 : decode cX0_light 35 = .ok (.if_icmp .ne 26, 3) := dk_160 0 26 (dk_at dksX0_light_1 13 rfl rfl)
theorem dX0_light_38 : decode cX0_light 38 = .ok (.aload_n 0, 1) := dk_42 (dk_at dksX0_light_1 16 rfl rfl)
theorem dX0_light_39 : decode cX0_light 39 = .ok (.getfield 39, 3) := dk_180 0 39 (dk_at dksX0_light_1 17 rfl rfl)
theorem dX0_light_42 : decode cX0_light 42 = .ok (.getfield 212, 3) := dk_180 0 212 (dk_at dksX0_light_1 20 rfl rfl)
theorem dX0_light_45 : decode cX0_light 45 = .ok (.invokestatic 215, 3) := dk_184 0 215 (dk_at dksX0_light_2 0 rfl rfl)
theorem dX0_light_48 : decode cX0_light 48 = .ok (.aload_n 0, 1) := dk_42 (dk_at dksX0_light_2 3 rfl rfl)
theorem dX0_light_49 : decode cX0_light 49 = .ok (.getfield 39, 3) := dk_180 0 39 (dk_at dksX0_light_2 4 rfl rfl)
theorem dX0_light_52 : decode cX0_light 52 = .ok (.getfield 220, 3) := dk_180 0 220 (dk_at dksX0_light_2 7 rfl rfl)
theorem dX0_light_55 : decode cX0_light 55 = .ok (.if_icmp .lt 6, 3) := dk_161 0 6 (dk_at dksX0_light_2 10 rfl rfl)
theorem dX0_light_58 : decode cX0_light 58 = .ok (.ldc 173, 2) := dk_18 173 (dk_at dksX0_light_2 13 rfl rfl)
theorem dX0_light_60 : decode cX0_light 60 = .ok (.ireturn, 1) := dk_172 (dk_at dksX0_light_2 15 rfl rfl)
theorem dX0_light_61 : decode cX0_light 61 = .ok (.aload_n 0, 1) := dk_42 (dk_at dksX0_light_2 16 rfl rfl)
theorem dX0_light_62 : decode cX0_light 62 = .ok (.invokevirtual 193, 3) := dk_182 0 193 (dk_at dksX0_light_2 17 rfl rfl)
theorem dX0_light_65 : decode cX0_light 65 = .ok (.aload_n 0, 1) := dk_42 (dk_at dksX0_light_2 20 rfl rfl)
theorem dX0_light_66 : decode cX0_light 66 = .ok (.getfield 39, 3) := dk_180 0 39 (dk_at dksX0_light_2 21 rfl rfl)
theorem dX0_light_69 : decode cX0_light 69 = .ok (.dup, 1) := dk_89 (dk_at dksX0_light_3 0 rfl rfl)
theorem dX0_light_70 : decode cX0_light 70 = .ok (.getfield 212, 3) := dk_180 0 212 (dk_at dksX0_light_3 1 rfl rfl)
theorem dX0_light_73 : decode cX0_light 73 = .ok (.iconst 1, 1) := dk_4 (dk_at dksX0_light_3 4 rfl rfl)
theorem dX0_light_74 : decode cX0_light 74 = .ok (.iload_n 1, 1) := dk_27 (dk_at dksX0_light_3 5 rfl rfl)
theorem dX0_light_75 : decode cX0_light 75 = .ok (.ishl, 1) := dk_120 (dk_at dksX0_light_3 6 rfl rfl)
theorem dX0_light_76 : decode cX0_light 76 = .ok (.ixor, 1) := dk_130 (dk_at dksX0_light_3 7 rfl rfl)
theorem dX0_light_77 : decode cX0_light 77 = .ok (.putfield 212, 3) := dk_181 0 212 (dk_at dksX0_light_3 8 rfl rfl)
theorem dX0_light_80 : decode cX0_light 80 = .ok (.aload_n 0, 1) := dk_42 (dk_at dksX0_light_3 11 rfl rfl)
theorem dX0_light_81 : decode cX0_light 81 = .ok (.getfield 39, 3) := dk_180 0 39 (dk_at dksX0_light_3 12 rfl rfl)
theorem dX0_light_84 : decode cX0_light 84 = .ok (.getfield 212, 3) := dk_180 0 212 (dk_at dksX0_light_3 15 rfl rfl)
theorem dX0_light_87 : decode cX0_light 87 = .ok (.ireturn, 1) := dk_172 (dk_at dksX0_light_3 18 rfl rfl)
abbrev cX0_isBook : ByteArray := prog_1_method_21_code
def yX0_isBook : MethodName := ⟨RX0, "isBook", "(I)Z"⟩
def dkwX0_isBook_0 : List UInt8 := [27, 133, 9, 42, 180, 0, 39, 180, 0, 177, 4, 100, 133, 184, 0, 86, 172]
abbrev dktX0_isBook_0 : List UInt8 := dkwX0_isBook_0 ++ []
theorem dksX0_isBook_0 : cX0_isBook.data.toList.drop 0 = dktX0_isBook_0 := by decide +kernel
theorem dX0_isBook_0 : decode cX0_isBook 0 = .ok (.iload_n 1, 1) := dk_27 (dk_at dksX0_isBook_0 0 rfl rfl)
theorem dX0_isBook_1 : decode cX0_isBook 1 = .ok (.i2l, 1) := dk_133 (dk_at dksX0_isBook_0 1 rfl rfl)
theorem dX0_isBook_2 : decode cX0_isBook 2 = .ok (.lconst 0, 1) := dk_9 (dk_at dksX0_isBook_0 2 rfl rfl)
theorem dX0_isBook_3 : decode cX0_isBook 3 = .ok (.aload_n 0, 1) := dk_42 (dk_at dksX0_isBook_0 3 rfl rfl)
theorem dX0_isBook_4 : decode cX0_isBook 4 = .ok (.getfield 39, 3) := dk_180 0 39 (dk_at dksX0_isBook_0 4 rfl rfl)
theorem dX0_isBook_7 : decode cX0_isBook 7 = .ok (.getfield 177, 3) := dk_180 0 177 (dk_at dksX0_isBook_0 7 rfl rfl)
theorem dX0_isBook_10 : decode cX0_isBook 10 = .ok (.iconst 1, 1) := dk_4 (dk_at dksX0_isBook_0 10 rfl rfl)
theorem dX0_isBook_11 : decode cX0_isBook 11 = .ok (.isub, 1) := dk_100 (dk_at dksX0_isBook_0 11 rfl rfl)
theorem dX0_isBook_12 : decode cX0_isBook 12 = .ok (.i2l, 1) := dk_133 (dk_at dksX0_isBook_0 12 rfl rfl)
theorem dX0_isBook_13 : decode cX0_isBook 13 = .ok (.invokestatic 86, 3) := dk_184 0 86 (dk_at dksX0_isBook_0 13 rfl rfl)
theorem dX0_isBook_16 : decode cX0_isBook 16 = .ok (.ireturn, 1) := dk_172 (dk_at dksX0_isBook_0 16 rfl rfl)
abbrev cX0_isHalf : ByteArray := prog_1_method_17_code
def yX0_isHalf : MethodName := ⟨RX0, "isHalf", "(I)Z"⟩
def dkwX0_isHalf_0 : List UInt8 := [26, 133, 9, 10, 184, 0, 86, 172]
abbrev dktX0_isHalf_0 : List UInt8 := dkwX0_isHalf_0 ++ []
theorem dksX0_isHalf_0 : cX0_isHalf.data.toList.drop 0 = dktX0_isHalf_0 := by decide +kernel
theorem dX0_isHalf_0 : decode cX0_isHalf 0 = .ok (.iload_n 0, 1) := dk_26 (dk_at dksX0_isHalf_0 0 rfl rfl)
theorem dX0_isHalf_1 : decode cX0_isHalf 1 = .ok (.i2l, 1) := dk_133 (dk_at dksX0_isHalf_0 1 rfl rfl)
theorem dX0_isHalf_2 : decode cX0_isHalf 2 = .ok (.lconst 0, 1) := dk_9 (dk_at dksX0_isHalf_0 2 rfl rfl)
theorem dX0_isHalf_3 : decode cX0_isHalf 3 = .ok (.lconst 1, 1) := dk_10 (dk_at dksX0_isHalf_0 3 rfl rfl)
theorem dX0_isHalf_4 : decode cX0_isHalf 4 = .ok (.invokestatic 86, 3) := dk_184 0 86 (dk_at dksX0_isHalf_0 4 rfl rfl)
theorem dX0_isHalf_7 : decode cX0_isHalf 7 = .ok (.ireturn, 1) := dk_172 (dk_at dksX0_isHalf_0 7 rfl rfl)
abbrev cX0_keepIt : ByteArray := prog_1_method_29_code
def yX0_keepIt : MethodName := ⟨RX0, "keepIt", "(II)I"⟩
def dkwX0_keepIt_2 : List UInt8 := [180, 0, 223, 4, 27, 120, 130, 181, 0, 223, 42, 180, 0, 39, 180, 0, 223, 172]
abbrev dktX0_keepIt_2 : List UInt8 := dkwX0_keepIt_2 ++ []
def dkwX0_keepIt_1 : List UInt8 := [180, 0, 223, 27, 122, 4, 126, 28, 160, 0, 6, 18, 173, 172, 42, 182, 0, 193, 42, 180, 0, 39, 89]
abbrev dktX0_keepIt_1 : List UInt8 := dkwX0_keepIt_1 ++ dktX0_keepIt_2
def dkwX0_keepIt_0 : List UInt8 := [42, 27, 182, 0, 206, 153, 0, 10, 28, 184, 0, 209, 154, 0, 6, 18, 100, 172, 42, 180, 0, 39]
abbrev dktX0_keepIt_0 : List UInt8 := dkwX0_keepIt_0 ++ dktX0_keepIt_1
theorem dksX0_keepIt_0 : cX0_keepIt.data.toList.drop 0 = dktX0_keepIt_0 := by decide +kernel
theorem dksX0_keepIt_1 : cX0_keepIt.data.toList.drop 22 = dktX0_keepIt_1 := dk_seg dksX0_keepIt_0 22 rfl rfl
theorem dksX0_keepIt_2 : cX0_keepIt.data.toList.drop 45 = dktX0_keepIt_2 := dk_seg dksX0_keepIt_1 23 rfl rfl
theorem dX0_keepIt_0 : decode cX0_keepIt 0 = .ok (.aload_n 0, 1) := dk_42 (dk_at dksX0_keepIt_0 0 rfl rfl)
theorem dX0_keepIt_1 : decode cX0_keepIt 1 = .ok (.iload_n 1, 1) := dk_27 (dk_at dksX0_keepIt_0 1 rfl rfl)
theorem dX0_keepIt_2 : decode cX0_keepIt 2 = .ok (.invokevirtual 206, 3) := dk_182 0 206 (dk_at dksX0_keepIt_0 2 rfl rfl)
theorem dX0_keepIt_5 : decode cX0_keepIt 5 = .ok (.ifCond .eq 10, 3) := dk_153 0 10 (dk_at dksX0_keepIt_0 5 rfl rfl)
theorem dX0_keepIt_8 : decode cX0_keepIt 8 = .ok (.iload_n 2, 1) := dk_28 (dk_at dksX0_keepIt_0 8 rfl rfl)
theorem dX0_keepIt_9 : decode cX0_keepIt 9 = .ok (.invokestatic 209, 3) := dk_184 0 209 (dk_at dksX0_keepIt_0 9 rfl rfl)
theorem dX0_keepIt_12 : decode cX0_keepIt 12 = .ok (.ifCond .ne 6, 3) := dk_154 0 6 (dk_at dksX0_keepIt_0 12 rfl rfl)
theorem dX0_keepIt_15 : decode cX0_keepIt 15 = .ok (.ldc 100, 2) := dk_18 100 (dk_at dksX0_keepIt_0 15 rfl rfl)
theorem dX0_keepIt_17 : decode cX0_keepIt 17 = .ok (.ireturn, 1) := dk_172 (dk_at dksX0_keepIt_0 17 rfl rfl)
theorem dX0_keepIt_18 : decode cX0_keepIt 18 = .ok (.aload_n 0, 1) := dk_42 (dk_at dksX0_keepIt_0 18 rfl rfl)
theorem dX0_keepIt_19 : decode cX0_keepIt 19 = .ok (.getfield 39, 3) := dk_180 0 39 (dk_at dksX0_keepIt_0 19 rfl rfl)
theorem dX0_keepIt_22 : decode cX0_keepIt 22 = .ok (.getfield 223, 3) := dk_180 0 223 (dk_at dksX0_keepIt_1 0 rfl rfl)
theorem dX0_keepIt_25 : decode cX0_keepIt 25 = .ok (.iload_n 1, 1) := dk_27 (dk_at dksX0_keepIt_1 3 rfl rfl)
theorem dX0_keepIt_26 : decode cX0_keepIt 26 = .ok (.ishr, 1) := dk_122 (dk_at dksX0_keepIt_1 4 rfl rfl)
theorem dX0_keepIt_27 : decode cX0_keepIt 27 = .ok (.iconst 1, 1) := dk_4 (dk_at dksX0_keepIt_1 5 rfl rfl)
theorem dX0_keepIt_28 : decode cX0_keepIt 28 = .ok (.iand, 1) := dk_126 (dk_at dksX0_keepIt_1 6 rfl rfl)
theorem dX0_keepIt_29 : decode cX0_keepIt 29 = .ok (.iload_n 2, 1) := dk_28 (dk_at dksX0_keepIt_1 7 rfl rfl)
theorem dX0_keepIt_30 : decode cX0_keepIt 30 = .ok (.if_icmp .ne 6, 3) := dk_160 0 6 (dk_at dksX0_keepIt_1 8 rfl rfl)
theorem dX0_keepIt_33 : decode cX0_keepIt 33 = .ok (.ldc 173, 2) := dk_18 173 (dk_at dksX0_keepIt_1 11 rfl rfl)
theorem dX0_keepIt_35 : decode cX0_keepIt 35 = .ok (.ireturn, 1) := dk_172 (dk_at dksX0_keepIt_1 13 rfl rfl)
theorem dX0_keepIt_36 : decode cX0_keepIt 36 = .ok (.aload_n 0, 1) := dk_42 (dk_at dksX0_keepIt_1 14 rfl rfl)
theorem dX0_keepIt_37 : decode cX0_keepIt 37 = .ok (.invokevirtual 193, 3) := dk_182 0 193 (dk_at dksX0_keepIt_1 15 rfl rfl)
theorem dX0_keepIt_40 : decode cX0_keepIt 40 = .ok (.aload_n 0, 1) := dk_42 (dk_at dksX0_keepIt_1 18 rfl rfl)
theorem dX0_keepIt_41 : decode cX0_keepIt 41 = .ok (.getfield 39, 3) := dk_180 0 39 (dk_at dksX0_keepIt_1 19 rfl rfl)
theorem dX0_keepIt_44 : decode cX0_keepIt 44 = .ok (.dup, 1) := dk_89 (dk_at dksX0_keepIt_1 22 rfl rfl)
theorem dX0_keepIt_45 : decode cX0_keepIt 45 = .ok (.getfield 223, 3) := dk_180 0 223 (dk_at dksX0_keepIt_2 0 rfl rfl)
theorem dX0_keepIt_48 : decode cX0_keepIt 48 = .ok (.iconst 1, 1) := dk_4 (dk_at dksX0_keepIt_2 3 rfl rfl)
theorem dX0_keepIt_49 : decode cX0_keepIt 49 = .ok (.iload_n 1, 1) := dk_27 (dk_at dksX0_keepIt_2 4 rfl rfl)
theorem dX0_keepIt_50 : decode cX0_keepIt 50 = .ok (.ishl, 1) := dk_120 (dk_at dksX0_keepIt_2 5 rfl rfl)
theorem dX0_keepIt_51 : decode cX0_keepIt 51 = .ok (.ixor, 1) := dk_130 (dk_at dksX0_keepIt_2 6 rfl rfl)
theorem dX0_keepIt_52 : decode cX0_keepIt 52 = .ok (.putfield 223, 3) := dk_181 0 223 (dk_at dksX0_keepIt_2 7 rfl rfl)
theorem dX0_keepIt_55 : decode cX0_keepIt 55 = .ok (.aload_n 0, 1) := dk_42 (dk_at dksX0_keepIt_2 10 rfl rfl)
theorem dX0_keepIt_56 : decode cX0_keepIt 56 = .ok (.getfield 39, 3) := dk_180 0 39 (dk_at dksX0_keepIt_2 11 rfl rfl)
theorem dX0_keepIt_59 : decode cX0_keepIt 59 = .ok (.getfield 223, 3) := dk_180 0 223 (dk_at dksX0_keepIt_2 14 rfl rfl)
theorem dX0_keepIt_62 : decode cX0_keepIt 62 = .ok (.ireturn, 1) := dk_172 (dk_at dksX0_keepIt_2 17 rfl rfl)
abbrev cX0_change : ByteArray := prog_1_method_30_code
def yX0_change : MethodName := ⟨RX0, "change", "(II)I"⟩
def dkwX0_change_3 : List UInt8 := [27, 46, 172]
abbrev dktX0_change_3 : List UInt8 := dkwX0_change_3 ++ []
def dkwX0_change_2 : List UInt8 := [180, 0, 226, 28, 46, 182, 0, 228, 42, 180, 0, 39, 28, 29, 182, 0, 228, 42, 180, 0, 39, 180, 0, 226]
abbrev dktX0_change_2 : List UInt8 := dkwX0_change_2 ++ dktX0_change_3
def dkwX0_change_1 : List UInt8 := [42, 182, 0, 193, 42, 180, 0, 39, 180, 0, 226, 27, 46, 62, 42, 180, 0, 39, 27, 42, 180, 0, 39]
abbrev dktX0_change_1 : List UInt8 := dkwX0_change_1 ++ dktX0_change_2
def dkwX0_change_0 : List UInt8 := [42, 27, 182, 0, 206, 153, 0, 16, 42, 28, 182, 0, 206, 153, 0, 8, 27, 28, 160, 0, 6, 18, 100, 172]
abbrev dktX0_change_0 : List UInt8 := dkwX0_change_0 ++ dktX0_change_1
theorem dksX0_change_0 : cX0_change.data.toList.drop 0 = dktX0_change_0 := by decide +kernel
theorem dksX0_change_1 : cX0_change.data.toList.drop 24 = dktX0_change_1 := dk_seg dksX0_change_0 24 rfl rfl
theorem dksX0_change_2 : cX0_change.data.toList.drop 47 = dktX0_change_2 := dk_seg dksX0_change_1 23 rfl rfl
theorem dksX0_change_3 : cX0_change.data.toList.drop 71 = dktX0_change_3 := dk_seg dksX0_change_2 24 rfl rfl
theorem dX0_change_0 : decode cX0_change 0 = .ok (.aload_n 0, 1) := dk_42 (dk_at dksX0_change_0 0 rfl rfl)
theorem dX0_change_1 : decode cX0_change 1 = .ok (.iload_n 1, 1) := dk_27 (dk_at dksX0_change_0 1 rfl rfl)
theorem dX0_change_2 : decode cX0_change 2 = .ok (.invokevirtual 206, 3) := dk_182 0 206 (dk_at dksX0_change_0 2 rfl rfl)
theorem dX0_change_5 : decode cX0_change 5 = .ok (.ifCond .eq 16, 3) := dk_153 0 16 (dk_at dksX0_change_0 5 rfl rfl)
theorem dX0_change_8 : decode cX0_change 8 = .ok (.aload_n 0, 1) := dk_42 (dk_at dksX0_change_0 8 rfl rfl)
theorem dX0_change_9 : decode cX0_change 9 = .ok (.iload_n 2, 1) := dk_28 (dk_at dksX0_change_0 9 rfl rfl)
theorem dX0_change_10 : decode cX0_change 10 = .ok (.invokevirtual 206, 3) := dk_182 0 206 (dk_at dksX0_change_0 10 rfl rfl)
theorem dX0_change_13 : decode cX0_change 13 = .ok (.ifCond .eq 8, 3) := dk_153 0 8 (dk_at dksX0_change_0 13 rfl rfl)
theorem dX0_change_16 : decode cX0_change 16 = .ok (.iload_n 1, 1) := dk_27 (dk_at dksX0_change_0 16 rfl rfl)
theorem dX0_change_17 : decode cX0_change 17 = .ok (.iload_n 2, 1) := dk_28 (dk_at dksX0_change_0 17 rfl rfl)
theorem dX0_change_18 : decode cX0_change 18 = .ok (.if_icmp .ne 6, 3) := dk_160 0 6 (dk_at dksX0_change_0 18 rfl rfl)
theorem dX0_change_21 : decode cX0_change 21 = .ok (.ldc 100, 2) := dk_18 100 (dk_at dksX0_change_0 21 rfl rfl)
theorem dX0_change_23 : decode cX0_change 23 = .ok (.ireturn, 1) := dk_172 (dk_at dksX0_change_0 23 rfl rfl)
theorem dX0_change_24 : decode cX0_change 24 = .ok (.aload_n 0, 1) := dk_42 (dk_at dksX0_change_1 0 rfl rfl)
theorem dX0_change_25 : decode cX0_change 25 = .ok (.invokevirtual 193, 3) := dk_182 0 193 (dk_at dksX0_change_1 1 rfl rfl)
theorem dX0_change_28 : decode cX0_change 28 = .ok (.aload_n 0, 1) := dk_42 (dk_at dksX0_change_1 4 rfl rfl)
theorem dX0_change_29 : decode cX0_change 29 = .ok (.getfield 39, 3) := dk_180 0 39 (dk_at dksX0_change_1 5 rfl rfl)
theorem dX0_change_32 : decode cX0_change 32 = .ok (.getfield 226, 3) := dk_180 0 226 (dk_at dksX0_change_1 8 rfl rfl)
theorem dX0_change_35 : decode cX0_change 35 = .ok (.iload_n 1, 1) := dk_27 (dk_at dksX0_change_1 11 rfl rfl)
theorem dX0_change_36 : decode cX0_change 36 = .ok (.iaload, 1) := dk_46 (dk_at dksX0_change_1 12 rfl rfl)
theorem dX0_change_37 : decode cX0_change 37 = .ok (.istore_n 3, 1) := dk_62 (dk_at dksX0_change_1 13 rfl rfl)
theorem dX0_change_38 : decode cX0_change 38 = .ok (.aload_n 0, 1) := dk_42 (dk_at dksX0_change_1 14 rfl rfl)
theorem dX0_change_39 : decode cX0_change 39 = .ok (.getfield 39, 3) := dk_180 0 39 (dk_at dksX0_change_1 15 rfl rfl)
theorem dX0_change_42 : decode cX0_change 42 = .ok (.iload_n 1, 1) := dk_27 (dk_at dksX0_change_1 18 rfl rfl)
theorem dX0_change_43 : decode cX0_change 43 = .ok (.aload_n 0, 1) := dk_42 (dk_at dksX0_change_1 19 rfl rfl)
theorem dX0_change_44 : decode cX0_change 44 = .ok (.getfield 39, 3) := dk_180 0 39 (dk_at dksX0_change_1 20 rfl rfl)
theorem dX0_change_47 : decode cX0_change 47 = .ok (.getfield 226, 3) := dk_180 0 226 (dk_at dksX0_change_2 0 rfl rfl)
theorem dX0_change_50 : decode cX0_change 50 = .ok (.iload_n 2, 1) := dk_28 (dk_at dksX0_change_2 3 rfl rfl)
theorem dX0_change_51 : decode cX0_change 51 = .ok (.iaload, 1) := dk_46 (dk_at dksX0_change_2 4 rfl rfl)
theorem dX0_change_52 : decode cX0_change 52 = .ok (.invokevirtual 228, 3) := dk_182 0 228 (dk_at dksX0_change_2 5 rfl rfl)
theorem dX0_change_55 : decode cX0_change 55 = .ok (.aload_n 0, 1) := dk_42 (dk_at dksX0_change_2 8 rfl rfl)
theorem dX0_change_56 : decode cX0_change 56 = .ok (.getfield 39, 3) := dk_180 0 39 (dk_at dksX0_change_2 9 rfl rfl)
theorem dX0_change_59 : decode cX0_change 59 = .ok (.iload_n 2, 1) := dk_28 (dk_at dksX0_change_2 12 rfl rfl)
theorem dX0_change_60 : decode cX0_change 60 = .ok (.iload_n 3, 1) := dk_29 (dk_at dksX0_change_2 13 rfl rfl)
theorem dX0_change_61 : decode cX0_change 61 = .ok (.invokevirtual 228, 3) := dk_182 0 228 (dk_at dksX0_change_2 14 rfl rfl)
theorem dX0_change_64 : decode cX0_change 64 = .ok (.aload_n 0, 1) := dk_42 (dk_at dksX0_change_2 17 rfl rfl)
theorem dX0_change_65 : decode cX0_change 65 = .ok (.getfield 39, 3) := dk_180 0 39 (dk_at dksX0_change_2 18 rfl rfl)
theorem dX0_change_68 : decode cX0_change 68 = .ok (.getfield 226, 3) := dk_180 0 226 (dk_at dksX0_change_2 21 rfl rfl)
theorem dX0_change_71 : decode cX0_change 71 = .ok (.iload_n 1, 1) := dk_27 (dk_at dksX0_change_3 0 rfl rfl)
theorem dX0_change_72 : decode cX0_change 72 = .ok (.iaload, 1) := dk_46 (dk_at dksX0_change_3 1 rfl rfl)
theorem dX0_change_73 : decode cX0_change 73 = .ok (.ireturn, 1) := dk_172 (dk_at dksX0_change_3 2 rfl rfl)
abbrev cX0_move : ByteArray := prog_1_method_31_code
def yX0_move : MethodName := ⟨RX0, "move", "(II)I"⟩
def dkwX0_move_3 : List UInt8 := [172]
abbrev dktX0_move_3 : List UInt8 := dkwX0_move_3 ++ []
def dkwX0_move_2 : List UInt8 := [182, 0, 193, 42, 180, 0, 39, 180, 0, 237, 27, 46, 62, 42, 180, 0, 39, 180, 0, 237, 27, 28, 79, 29]
abbrev dktX0_move_2 : List UInt8 := dkwX0_move_2 ++ dktX0_move_3
def dkwX0_move_1 : List UInt8 := [182, 0, 234, 154, 0, 16, 42, 180, 0, 39, 180, 0, 237, 27, 46, 28, 160, 0, 6, 18, 173, 172, 42]
abbrev dktX0_move_1 : List UInt8 := dkwX0_move_1 ++ dktX0_move_2
def dkwX0_move_0 : List UInt8 := [42, 27, 182, 0, 231, 153, 0, 11, 42, 28, 182, 0, 206, 154, 0, 6, 18, 100, 172, 42, 180, 0, 39, 27]
abbrev dktX0_move_0 : List UInt8 := dkwX0_move_0 ++ dktX0_move_1
theorem dksX0_move_0 : cX0_move.data.toList.drop 0 = dktX0_move_0 := by decide +kernel
theorem dksX0_move_1 : cX0_move.data.toList.drop 24 = dktX0_move_1 := dk_seg dksX0_move_0 24 rfl rfl
theorem dksX0_move_2 : cX0_move.data.toList.drop 47 = dktX0_move_2 := dk_seg dksX0_move_1 23 rfl rfl
theorem dksX0_move_3 : cX0_move.data.toList.drop 71 = dktX0_move_3 := dk_seg dksX0_move_2 24 rfl rfl
theorem dX0_move_0 : decode cX0_move 0 = .ok (.aload_n 0, 1) := dk_42 (dk_at dksX0_move_0 0 rfl rfl)
theorem dX0_move_1 : decode cX0_move 1 = .ok (.iload_n 1, 1) := dk_27 (dk_at dksX0_move_0 1 rfl rfl)
theorem dX0_move_2 : decode cX0_move 2 = .ok (.invokevirtual 231, 3) := dk_182 0 231 (dk_at dksX0_move_0 2 rfl rfl)
theorem dX0_move_5 : decode cX0_move 5 = .ok (.ifCond .eq 11, 3) := dk_153 0 11 (dk_at dksX0_move_0 5 rfl rfl)
theorem dX0_move_8 : decode cX0_move 8 = .ok (.aload_n 0, 1) := dk_42 (dk_at dksX0_move_0 8 rfl rfl)
theorem dX0_move_9 : decode cX0_move 9 = .ok (.iload_n 2, 1) := dk_28 (dk_at dksX0_move_0 9 rfl rfl)
theorem dX0_move_10 : decode cX0_move 10 = .ok (.invokevirtual 206, 3) := dk_182 0 206 (dk_at dksX0_move_0 10 rfl rfl)
theorem dX0_move_13 : decode cX0_move 13 = .ok (.ifCond .ne 6, 3) := dk_154 0 6 (dk_at dksX0_move_0 13 rfl rfl)
theorem dX0_move_16 : decode cX0_move 16 = .ok (.ldc 100, 2) := dk_18 100 (dk_at dksX0_move_0 16 rfl rfl)
theorem dX0_move_18 : decode cX0_move 18 = .ok (.ireturn, 1) := dk_172 (dk_at dksX0_move_0 18 rfl rfl)
theorem dX0_move_19 : decode cX0_move 19 = .ok (.aload_n 0, 1) := dk_42 (dk_at dksX0_move_0 19 rfl rfl)
theorem dX0_move_20 : decode cX0_move 20 = .ok (.getfield 39, 3) := dk_180 0 39 (dk_at dksX0_move_0 20 rfl rfl)
theorem dX0_move_23 : decode cX0_move 23 = .ok (.iload_n 1, 1) := dk_27 (dk_at dksX0_move_0 23 rfl rfl)
theorem dX0_move_24 : decode cX0_move 24 = .ok (.invokevirtual 234, 3) := dk_182 0 234 (dk_at dksX0_move_1 0 rfl rfl)
theorem dX0_move_27 : decode cX0_move 27 = .ok (.ifCond .ne 16, 3) := dk_154 0 16 (dk_at dksX0_move_1 3 rfl rfl)
theorem dX0_move_30 : decode cX0_move 30 = .ok (.aload_n 0, 1) := dk_42 (dk_at dksX0_move_1 6 rfl rfl)
theorem dX0_move_31 : decode cX0_move 31 = .ok (.getfield 39, 3) := dk_180 0 39 (dk_at dksX0_move_1 7 rfl rfl)
theorem dX0_move_34 : decode cX0_move 34 = .ok (.getfield 237, 3) := dk_180 0 237 (dk_at dksX0_move_1 10 rfl rfl)
theorem dX0_move_37 : decode cX0_move 37 = .ok (.iload_n 1, 1) := dk_27 (dk_at dksX0_move_1 13 rfl rfl)
theorem dX0_move_38 : decode cX0_move 38 = .ok (.iaload, 1) := dk_46 (dk_at dksX0_move_1 14 rfl rfl)
theorem dX0_move_39 : decode cX0_move 39 = .ok (.iload_n 2, 1) := dk_28 (dk_at dksX0_move_1 15 rfl rfl)
theorem dX0_move_40 : decode cX0_move 40 = .ok (.if_icmp .ne 6, 3) := dk_160 0 6 (dk_at dksX0_move_1 16 rfl rfl)
theorem dX0_move_43 : decode cX0_move 43 = .ok (.ldc 173, 2) := dk_18 173 (dk_at dksX0_move_1 19 rfl rfl)
theorem dX0_move_45 : decode cX0_move 45 = .ok (.ireturn, 1) := dk_172 (dk_at dksX0_move_1 21 rfl rfl)
theorem dX0_move_46 : decode cX0_move 46 = .ok (.aload_n 0, 1) := dk_42 (dk_at dksX0_move_1 22 rfl rfl)
theorem dX0_move_47 : decode cX0_move 47 = .ok (.invokevirtual 193, 3) := dk_182 0 193 (dk_at dksX0_move_2 0 rfl rfl)
theorem dX0_move_50 : decode cX0_move 50 = .ok (.aload_n 0, 1) := dk_42 (dk_at dksX0_move_2 3 rfl rfl)
theorem dX0_move_51 : decode cX0_move 51 = .ok (.getfield 39, 3) := dk_180 0 39 (dk_at dksX0_move_2 4 rfl rfl)
theorem dX0_move_54 : decode cX0_move 54 = .ok (.getfield 237, 3) := dk_180 0 237 (dk_at dksX0_move_2 7 rfl rfl)
theorem dX0_move_57 : decode cX0_move 57 = .ok (.iload_n 1, 1) := dk_27 (dk_at dksX0_move_2 10 rfl rfl)
theorem dX0_move_58 : decode cX0_move 58 = .ok (.iaload, 1) := dk_46 (dk_at dksX0_move_2 11 rfl rfl)
theorem dX0_move_59 : decode cX0_move 59 = .ok (.istore_n 3, 1) := dk_62 (dk_at dksX0_move_2 12 rfl rfl)
theorem dX0_move_60 : decode cX0_move 60 = .ok (.aload_n 0, 1) := dk_42 (dk_at dksX0_move_2 13 rfl rfl)
theorem dX0_move_61 : decode cX0_move 61 = .ok (.getfield 39, 3) := dk_180 0 39 (dk_at dksX0_move_2 14 rfl rfl)
theorem dX0_move_64 : decode cX0_move 64 = .ok (.getfield 237, 3) := dk_180 0 237 (dk_at dksX0_move_2 17 rfl rfl)
theorem dX0_move_67 : decode cX0_move 67 = .ok (.iload_n 1, 1) := dk_27 (dk_at dksX0_move_2 20 rfl rfl)
theorem dX0_move_68 : decode cX0_move 68 = .ok (.iload_n 2, 1) := dk_28 (dk_at dksX0_move_2 21 rfl rfl)
theorem dX0_move_69 : decode cX0_move 69 = .ok (.iastore, 1) := dk_79 (dk_at dksX0_move_2 22 rfl rfl)
theorem dX0_move_70 : decode cX0_move 70 = .ok (.iload_n 3, 1) := dk_29 (dk_at dksX0_move_2 23 rfl rfl)
theorem dX0_move_71 : decode cX0_move 71 = .ok (.ireturn, 1) := dk_172 (dk_at dksX0_move_3 0 rfl rfl)
abbrev cX0_isFish : ByteArray := prog_1_method_22_code
def yX0_isFish : MethodName := ⟨RX0, "isFish", "(I)Z"⟩
def dkwX0_isFish_0 : List UInt8 := [27, 133, 9, 42, 180, 0, 39, 182, 0, 169, 4, 100, 133, 184, 0, 86, 172]
abbrev dktX0_isFish_0 : List UInt8 := dkwX0_isFish_0 ++ []
theorem dksX0_isFish_0 : cX0_isFish.data.toList.drop 0 = dktX0_isFish_0 := by decide +kernel
theorem dX0_isFish_0 : decode cX0_isFish 0 = .ok (.iload_n 1, 1) := dk_27 (dk_at dksX0_isFish_0 0 rfl rfl)
theorem dX0_isFish_1 : decode cX0_isFish 1 = .ok (.i2l, 1) := dk_133 (dk_at dksX0_isFish_0 1 rfl rfl)
theorem dX0_isFish_2 : decode cX0_isFish 2 = .ok (.lconst 0, 1) := dk_9 (dk_at dksX0_isFish_0 2 rfl rfl)
theorem dX0_isFish_3 : decode cX0_isFish 3 = .ok (.aload_n 0, 1) := dk_42 (dk_at dksX0_isFish_0 3 rfl rfl)
theorem dX0_isFish_4 : decode cX0_isFish 4 = .ok (.getfield 39, 3) := dk_180 0 39 (dk_at dksX0_isFish_0 4 rfl rfl)
theorem dX0_isFish_7 : decode cX0_isFish 7 = .ok (.invokevirtual 169, 3) := dk_182 0 169 (dk_at dksX0_isFish_0 7 rfl rfl)
theorem dX0_isFish_10 : decode cX0_isFish 10 = .ok (.iconst 1, 1) := dk_4 (dk_at dksX0_isFish_0 10 rfl rfl)
theorem dX0_isFish_11 : decode cX0_isFish 11 = .ok (.isub, 1) := dk_100 (dk_at dksX0_isFish_0 11 rfl rfl)
theorem dX0_isFish_12 : decode cX0_isFish 12 = .ok (.i2l, 1) := dk_133 (dk_at dksX0_isFish_0 12 rfl rfl)
theorem dX0_isFish_13 : decode cX0_isFish 13 = .ok (.invokestatic 86, 3) := dk_184 0 86 (dk_at dksX0_isFish_0 13 rfl rfl)
theorem dX0_isFish_16 : decode cX0_isFish 16 = .ok (.ireturn, 1) := dk_172 (dk_at dksX0_isFish_0 16 rfl rfl)
abbrev cX0_catchIt : ByteArray := prog_1_method_32_code
def yX0_catchIt : MethodName := ⟨RX0, "catchIt", "(I)I"⟩
def dkwX0_catchIt_2 : List UInt8 := [180, 0, 240, 172]
abbrev dktX0_catchIt_2 : List UInt8 := dkwX0_catchIt_2 ++ []
def dkwX0_catchIt_1 : List UInt8 := [172, 42, 182, 0, 193, 42, 180, 0, 39, 89, 180, 0, 240, 4, 27, 120, 128, 181, 0, 240, 42, 180, 0, 39]
abbrev dktX0_catchIt_1 : List UInt8 := dkwX0_catchIt_1 ++ dktX0_catchIt_2
def dkwX0_catchIt_0 : List UInt8 := [42, 27, 182, 0, 231, 154, 0, 6, 18, 100, 172, 42, 180, 0, 39, 27, 182, 0, 234, 153, 0, 6, 18, 173]
abbrev dktX0_catchIt_0 : List UInt8 := dkwX0_catchIt_0 ++ dktX0_catchIt_1
theorem dksX0_catchIt_0 : cX0_catchIt.data.toList.drop 0 = dktX0_catchIt_0 := by decide +kernel
theorem dksX0_catchIt_1 : cX0_catchIt.data.toList.drop 24 = dktX0_catchIt_1 := dk_seg dksX0_catchIt_0 24 rfl rfl
theorem dksX0_catchIt_2 : cX0_catchIt.data.toList.drop 48 = dktX0_catchIt_2 := dk_seg dksX0_catchIt_1 24 rfl rfl
theorem dX0_catchIt_0 : decode cX0_catchIt 0 = .ok (.aload_n 0, 1) := dk_42 (dk_at dksX0_catchIt_0 0 rfl rfl)
theorem dX0_catchIt_1 : decode cX0_catchIt 1 = .ok (.iload_n 1, 1) := dk_27 (dk_at dksX0_catchIt_0 1 rfl rfl)
theorem dX0_catchIt_2 : decode cX0_catchIt 2 = .ok (.invokevirtual 231, 3) := dk_182 0 231 (dk_at dksX0_catchIt_0 2 rfl rfl)
theorem dX0_catchIt_5 : decode cX0_catchIt 5 = .ok (.ifCond .ne 6, 3) := dk_154 0 6 (dk_at dksX0_catchIt_0 5 rfl rfl)
theorem dX0_catchIt_8 : decode cX0_catchIt 8 = .ok (.ldc 100, 2) := dk_18 100 (dk_at dksX0_catchIt_0 8 rfl rfl)
theorem dX0_catchIt_10 : decode cX0_catchIt 10 = .ok (.ireturn, 1) := dk_172 (dk_at dksX0_catchIt_0 10 rfl rfl)
theorem dX0_catchIt_11 : decode cX0_catchIt 11 = .ok (.aload_n 0, 1) := dk_42 (dk_at dksX0_catchIt_0 11 rfl rfl)
theorem dX0_catchIt_12 : decode cX0_catchIt 12 = .ok (.getfield 39, 3) := dk_180 0 39 (dk_at dksX0_catchIt_0 12 rfl rfl)
theorem dX0_catchIt_15 : decode cX0_catchIt 15 = .ok (.iload_n 1, 1) := dk_27 (dk_at dksX0_catchIt_0 15 rfl rfl)
theorem dX0_catchIt_16 : decode cX0_catchIt 16 = .ok (.invokevirtual 234, 3) := dk_182 0 234 (dk_at dksX0_catchIt_0 16 rfl rfl)
theorem dX0_catchIt_19 : decode cX0_catchIt 19 = .ok (.ifCond .eq 6, 3) := dk_153 0 6 (dk_at dksX0_catchIt_0 19 rfl rfl)
theorem dX0_catchIt_22 : decode cX0_catchIt 22 = .ok (.ldc 173, 2) := dk_18 173 (dk_at dksX0_catchIt_0 22 rfl rfl)
theorem dX0_catchIt_24 : decode cX0_catchIt 24 = .ok (.ireturn, 1) := dk_172 (dk_at dksX0_catchIt_1 0 rfl rfl)
theorem dX0_catchIt_25 : decode cX0_catchIt 25 = .ok (.aload_n 0, 1) := dk_42 (dk_at dksX0_catchIt_1 1 rfl rfl)
theorem dX0_catchIt_26 : decode cX0_catchIt 26 = .ok (.invokevirtual 193, 3) := dk_182 0 193 (dk_at dksX0_catchIt_1 2 rfl rfl)
theorem dX0_catchIt_29 : decode cX0_catchIt 29 = .ok (.aload_n 0, 1) := dk_42 (dk_at dksX0_catchIt_1 5 rfl rfl)
theorem dX0_catchIt_30 : decode cX0_catchIt 30 = .ok (.getfield 39, 3) := dk_180 0 39 (dk_at dksX0_catchIt_1 6 rfl rfl)
theorem dX0_catchIt_33 : decode cX0_catchIt 33 = .ok (.dup, 1) := dk_89 (dk_at dksX0_catchIt_1 9 rfl rfl)
theorem dX0_catchIt_34 : decode cX0_catchIt 34 = .ok (.getfield 240, 3) := dk_180 0 240 (dk_at dksX0_catchIt_1 10 rfl rfl)
theorem dX0_catchIt_37 : decode cX0_catchIt 37 = .ok (.iconst 1, 1) := dk_4 (dk_at dksX0_catchIt_1 13 rfl rfl)
theorem dX0_catchIt_38 : decode cX0_catchIt 38 = .ok (.iload_n 1, 1) := dk_27 (dk_at dksX0_catchIt_1 14 rfl rfl)
theorem dX0_catchIt_39 : decode cX0_catchIt 39 = .ok (.ishl, 1) := dk_120 (dk_at dksX0_catchIt_1 15 rfl rfl)
theorem dX0_catchIt_40 : decode cX0_catchIt 40 = .ok (.ior, 1) := dk_128 (dk_at dksX0_catchIt_1 16 rfl rfl)
theorem dX0_catchIt_41 : decode cX0_catchIt 41 = .ok (.putfield 240, 3) := dk_181 0 240 (dk_at dksX0_catchIt_1 17 rfl rfl)
theorem dX0_catchIt_44 : decode cX0_catchIt 44 = .ok (.aload_n 0, 1) := dk_42 (dk_at dksX0_catchIt_1 20 rfl rfl)
theorem dX0_catchIt_45 : decode cX0_catchIt 45 = .ok (.getfield 39, 3) := dk_180 0 39 (dk_at dksX0_catchIt_1 21 rfl rfl)
theorem dX0_catchIt_48 : decode cX0_catchIt 48 = .ok (.getfield 240, 3) := dk_180 0 240 (dk_at dksX0_catchIt_2 0 rfl rfl)
theorem dX0_catchIt_51 : decode cX0_catchIt 51 = .ok (.ireturn, 1) := dk_172 (dk_at dksX0_catchIt_2 3 rfl rfl)
abbrev cX0_book : ByteArray := prog_1_method_34_code
def yX0_book : MethodName := ⟨RX0, "book", "(II)I"⟩
def dkwX0_book_5 : List UInt8 := [172]
abbrev dktX0_book_5 : List UInt8 := dkwX0_book_5 ++ []
def dkwX0_book_4 : List UInt8 := [180, 0, 223, 27, 122, 4, 126, 172, 42, 42, 180, 0, 39, 180, 0, 226, 27, 46, 182, 0, 249, 172, 18, 100]
abbrev dktX0_book_4 : List UInt8 := dkwX0_book_4 ++ dktX0_book_5
def dkwX0_book_3 : List UInt8 := [180, 0, 226, 27, 46, 172, 42, 180, 0, 39, 180, 0, 212, 27, 122, 4, 126, 172, 42, 180, 0, 39]
abbrev dktX0_book_3 : List UInt8 := dkwX0_book_3 ++ dktX0_book_4
def dkwX0_book_2 : List UInt8 := [42, 180, 0, 39, 180, 0, 243, 27, 46, 172, 42, 180, 0, 39, 180, 0, 246, 27, 46, 172, 42, 180, 0, 39]
abbrev dktX0_book_2 : List UInt8 := dkwX0_book_2 ++ dktX0_book_3
def dkwX0_book_1 : List UInt8 := [170, 0, 0, 0, 0, 0, 0, 108, 0, 0, 0, 0, 0, 0, 0, 5, 0, 0, 0, 40, 0, 0, 0, 50, 0, 0, 0, 60, 0, 0, 0, 70, 0, 0, 0, 82, 0, 0, 0, 94]
abbrev dktX0_book_1 : List UInt8 := dkwX0_book_1 ++ dktX0_book_2
def dkwX0_book_0 : List UInt8 := [42, 27, 182, 0, 206, 154, 0, 6, 18, 100, 172, 28]
abbrev dktX0_book_0 : List UInt8 := dkwX0_book_0 ++ dktX0_book_1
theorem dksX0_book_0 : cX0_book.data.toList.drop 0 = dktX0_book_0 := by decide +kernel
theorem dksX0_book_1 : cX0_book.data.toList.drop 12 = dktX0_book_1 := dk_seg dksX0_book_0 12 rfl rfl
theorem dksX0_book_2 : cX0_book.data.toList.drop 52 = dktX0_book_2 := dk_seg dksX0_book_1 40 rfl rfl
theorem dksX0_book_3 : cX0_book.data.toList.drop 76 = dktX0_book_3 := dk_seg dksX0_book_2 24 rfl rfl
theorem dksX0_book_4 : cX0_book.data.toList.drop 98 = dktX0_book_4 := dk_seg dksX0_book_3 22 rfl rfl
theorem dksX0_book_5 : cX0_book.data.toList.drop 122 = dktX0_book_5 := dk_seg dksX0_book_4 24 rfl rfl
theorem dX0_book_0 : decode cX0_book 0 = .ok (.aload_n 0, 1) := dk_42 (dk_at dksX0_book_0 0 rfl rfl)
theorem dX0_book_1 : decode cX0_book 1 = .ok (.iload_n 1, 1) := dk_27 (dk_at dksX0_book_0 1 rfl rfl)
theorem dX0_book_2 : decode cX0_book 2 = .ok (.invokevirtual 206, 3) := dk_182 0 206 (dk_at dksX0_book_0 2 rfl rfl)
theorem dX0_book_5 : decode cX0_book 5 = .ok (.ifCond .ne 6, 3) := dk_154 0 6 (dk_at dksX0_book_0 5 rfl rfl)
theorem dX0_book_8 : decode cX0_book 8 = .ok (.ldc 100, 2) := dk_18 100 (dk_at dksX0_book_0 8 rfl rfl)
theorem dX0_book_10 : decode cX0_book 10 = .ok (.ireturn, 1) := dk_172 (dk_at dksX0_book_0 10 rfl rfl)
theorem dX0_book_11 : decode cX0_book 11 = .ok (.iload_n 2, 1) := dk_28 (dk_at dksX0_book_0 11 rfl rfl)
theorem dX0_book_12 : decode cX0_book 12 = .ok (.tableswitch 108 0 5 #[40, 50, 60, 70, 82, 94], 40) := by decide +kernel
theorem dX0_book_52 : decode cX0_book 52 = .ok (.aload_n 0, 1) := dk_42 (dk_at dksX0_book_2 0 rfl rfl)
theorem dX0_book_53 : decode cX0_book 53 = .ok (.getfield 39, 3) := dk_180 0 39 (dk_at dksX0_book_2 1 rfl rfl)
theorem dX0_book_56 : decode cX0_book 56 = .ok (.getfield 243, 3) := dk_180 0 243 (dk_at dksX0_book_2 4 rfl rfl)
theorem dX0_book_59 : decode cX0_book 59 = .ok (.iload_n 1, 1) := dk_27 (dk_at dksX0_book_2 7 rfl rfl)
theorem dX0_book_60 : decode cX0_book 60 = .ok (.iaload, 1) := dk_46 (dk_at dksX0_book_2 8 rfl rfl)
theorem dX0_book_61 : decode cX0_book 61 = .ok (.ireturn, 1) := dk_172 (dk_at dksX0_book_2 9 rfl rfl)
theorem dX0_book_62 : decode cX0_book 62 = .ok (.aload_n 0, 1) := dk_42 (dk_at dksX0_book_2 10 rfl rfl)
theorem dX0_book_63 : decode cX0_book 63 = .ok (.getfield 39, 3) := dk_180 0 39 (dk_at dksX0_book_2 11 rfl rfl)
theorem dX0_book_66 : decode cX0_book 66 = .ok (.getfield 246, 3) := dk_180 0 246 (dk_at dksX0_book_2 14 rfl rfl)
theorem dX0_book_69 : decode cX0_book 69 = .ok (.iload_n 1, 1) := dk_27 (dk_at dksX0_book_2 17 rfl rfl)
theorem dX0_book_70 : decode cX0_book 70 = .ok (.iaload, 1) := dk_46 (dk_at dksX0_book_2 18 rfl rfl)
theorem dX0_book_71 : decode cX0_book 71 = .ok (.ireturn, 1) := dk_172 (dk_at dksX0_book_2 19 rfl rfl)
theorem dX0_book_72 : decode cX0_book 72 = .ok (.aload_n 0, 1) := dk_42 (dk_at dksX0_book_2 20 rfl rfl)
theorem dX0_book_73 : decode cX0_book 73 = .ok (.getfield 39, 3) := dk_180 0 39 (dk_at dksX0_book_2 21 rfl rfl)
theorem dX0_book_76 : decode cX0_book 76 = .ok (.getfield 226, 3) := dk_180 0 226 (dk_at dksX0_book_3 0 rfl rfl)
theorem dX0_book_79 : decode cX0_book 79 = .ok (.iload_n 1, 1) := dk_27 (dk_at dksX0_book_3 3 rfl rfl)
theorem dX0_book_80 : decode cX0_book 80 = .ok (.iaload, 1) := dk_46 (dk_at dksX0_book_3 4 rfl rfl)
theorem dX0_book_81 : decode cX0_book 81 = .ok (.ireturn, 1) := dk_172 (dk_at dksX0_book_3 5 rfl rfl)
theorem dX0_book_82 : decode cX0_book 82 = .ok (.aload_n 0, 1) := dk_42 (dk_at dksX0_book_3 6 rfl rfl)
theorem dX0_book_83 : decode cX0_book 83 = .ok (.getfield 39, 3) := dk_180 0 39 (dk_at dksX0_book_3 7 rfl rfl)
theorem dX0_book_86 : decode cX0_book 86 = .ok (.getfield 212, 3) := dk_180 0 212 (dk_at dksX0_book_3 10 rfl rfl)
theorem dX0_book_89 : decode cX0_book 89 = .ok (.iload_n 1, 1) := dk_27 (dk_at dksX0_book_3 13 rfl rfl)
theorem dX0_book_90 : decode cX0_book 90 = .ok (.ishr, 1) := dk_122 (dk_at dksX0_book_3 14 rfl rfl)
theorem dX0_book_91 : decode cX0_book 91 = .ok (.iconst 1, 1) := dk_4 (dk_at dksX0_book_3 15 rfl rfl)
theorem dX0_book_92 : decode cX0_book 92 = .ok (.iand, 1) := dk_126 (dk_at dksX0_book_3 16 rfl rfl)
theorem dX0_book_93 : decode cX0_book 93 = .ok (.ireturn, 1) := dk_172 (dk_at dksX0_book_3 17 rfl rfl)
theorem dX0_book_94 : decode cX0_book 94 = .ok (.aload_n 0, 1) := dk_42 (dk_at dksX0_book_3 18 rfl rfl)
theorem dX0_book_95 : decode cX0_book 95 = .ok (.getfield 39, 3) := dk_180 0 39 (dk_at dksX0_book_3 19 rfl rfl)
theorem dX0_book_98 : decode cX0_book 98 = .ok (.getfield 223, 3) := dk_180 0 223 (dk_at dksX0_book_4 0 rfl rfl)
theorem dX0_book_101 : decode cX0_book 101 = .ok (.iload_n 1, 1) := dk_27 (dk_at dksX0_book_4 3 rfl rfl)
theorem dX0_book_102 : decode cX0_book 102 = .ok (.ishr, 1) := dk_122 (dk_at dksX0_book_4 4 rfl rfl)
theorem dX0_book_103 : decode cX0_book 103 = .ok (.iconst 1, 1) := dk_4 (dk_at dksX0_book_4 5 rfl rfl)
theorem dX0_book_104 : decode cX0_book 104 = .ok (.iand, 1) := dk_126 (dk_at dksX0_book_4 6 rfl rfl)
theorem dX0_book_105 : decode cX0_book 105 = .ok (.ireturn, 1) := dk_172 (dk_at dksX0_book_4 7 rfl rfl)
theorem dX0_book_106 : decode cX0_book 106 = .ok (.aload_n 0, 1) := dk_42 (dk_at dksX0_book_4 8 rfl rfl)
theorem dX0_book_107 : decode cX0_book 107 = .ok (.aload_n 0, 1) := dk_42 (dk_at dksX0_book_4 9 rfl rfl)
theorem dX0_book_108 : decode cX0_book 108 = .ok (.getfield 39, 3) := dk_180 0 39 (dk_at dksX0_book_4 10 rfl rfl)
theorem dX0_book_111 : decode cX0_book 111 = .ok (.getfield 226, 3) := dk_180 0 226 (dk_at dksX0_book_4 13 rfl rfl)
theorem dX0_book_114 : decode cX0_book 114 = .ok (.iload_n 1, 1) := dk_27 (dk_at dksX0_book_4 16 rfl rfl)
theorem dX0_book_115 : decode cX0_book 115 = .ok (.iaload, 1) := dk_46 (dk_at dksX0_book_4 17 rfl rfl)
theorem dX0_book_116 : decode cX0_book 116 = .ok (.invokevirtual 249, 3) := dk_182 0 249 (dk_at dksX0_book_4 18 rfl rfl)
theorem dX0_book_119 : decode cX0_book 119 = .ok (.ireturn, 1) := dk_172 (dk_at dksX0_book_4 21 rfl rfl)
theorem dX0_book_120 : decode cX0_book 120 = .ok (.ldc 100, 2) := dk_18 100 (dk_at dksX0_book_4 22 rfl rfl)
theorem dX0_book_122 : decode cX0_book 122 = .ok (.ireturn, 1) := dk_172 (dk_at dksX0_book_5 0 rfl rfl)
abbrev cX0_fishAt : ByteArray := prog_1_method_33_code
def yX0_fishAt : MethodName := ⟨RX0, "fishAt", "(I)I"⟩
def dkwX0_fishAt_2 : List UInt8 := [61, 132, 3, 1, 167, 255, 208, 28, 172]
abbrev dktX0_fishAt_2 : List UInt8 := dkwX0_fishAt_2 ++ []
def dkwX0_fishAt_1 : List UInt8 := [154, 0, 22, 42, 180, 0, 39, 180, 0, 237, 29, 46, 27, 160, 0, 9, 4, 29, 120, 167, 0, 4, 3, 128]
abbrev dktX0_fishAt_1 : List UInt8 := dkwX0_fishAt_1 ++ dktX0_fishAt_2
def dkwX0_fishAt_0 : List UInt8 := [3, 61, 3, 62, 29, 42, 180, 0, 39, 182, 0, 169, 162, 0, 43, 28, 42, 180, 0, 39, 29, 182, 0, 234]
abbrev dktX0_fishAt_0 : List UInt8 := dkwX0_fishAt_0 ++ dktX0_fishAt_1
theorem dksX0_fishAt_0 : cX0_fishAt.data.toList.drop 0 = dktX0_fishAt_0 := by decide +kernel
theorem dksX0_fishAt_1 : cX0_fishAt.data.toList.drop 24 = dktX0_fishAt_1 := dk_seg dksX0_fishAt_0 24 rfl rfl
theorem dksX0_fishAt_2 : cX0_fishAt.data.toList.drop 48 = dktX0_fishAt_2 := dk_seg dksX0_fishAt_1 24 rfl rfl
theorem dX0_fishAt_0 : decode cX0_fishAt 0 = .ok (.iconst 0, 1) := dk_3 (dk_at dksX0_fishAt_0 0 rfl rfl)
theorem dX0_fishAt_1 : decode cX0_fishAt 1 = .ok (.istore_n 2, 1) := dk_61 (dk_at dksX0_fishAt_0 1 rfl rfl)
theorem dX0_fishAt_2 : decode cX0_fishAt 2 = .ok (.iconst 0, 1) := dk_3 (dk_at dksX0_fishAt_0 2 rfl rfl)
theorem dX0_fishAt_3 : decode cX0_fishAt 3 = .ok (.istore_n 3, 1) := dk_62 (dk_at dksX0_fishAt_0 3 rfl rfl)
theorem dX0_fishAt_4 : decode cX0_fishAt 4 = .ok (.iload_n 3, 1) := dk_29 (dk_at dksX0_fishAt_0 4 rfl rfl)
theorem dX0_fishAt_5 : decode cX0_fishAt 5 = .ok (.aload_n 0, 1) := dk_42 (dk_at dksX0_fishAt_0 5 rfl rfl)
theorem dX0_fishAt_6 : decode cX0_fishAt 6 = .ok (.getfield 39, 3) := dk_180 0 39 (dk_at dksX0_fishAt_0 6 rfl rfl)
theorem dX0_fishAt_9 : decode cX0_fishAt 9 = .ok (.invokevirtual 169, 3) := dk_182 0 169 (dk_at dksX0_fishAt_0 9 rfl rfl)
theorem dX0_fishAt_12 : decode cX0_fishAt 12 = .ok (.if_icmp .ge 43, 3) := dk_162 0 43 (dk_at dksX0_fishAt_0 12 rfl rfl)
theorem dX0_fishAt_15 : decode cX0_fishAt 15 = .ok (.iload_n 2, 1) := dk_28 (dk_at dksX0_fishAt_0 15 rfl rfl)
theorem dX0_fishAt_16 : decode cX0_fishAt 16 = .ok (.aload_n 0, 1) := dk_42 (dk_at dksX0_fishAt_0 16 rfl rfl)
theorem dX0_fishAt_17 : decode cX0_fishAt 17 = .ok (.getfield 39, 3) := dk_180 0 39 (dk_at dksX0_fishAt_0 17 rfl rfl)
theorem dX0_fishAt_20 : decode cX0_fishAt 20 = .ok (.iload_n 3, 1) := dk_29 (dk_at dksX0_fishAt_0 20 rfl rfl)
theorem dX0_fishAt_21 : decode cX0_fishAt 21 = .ok (.invokevirtual 234, 3) := dk_182 0 234 (dk_at dksX0_fishAt_0 21 rfl rfl)
theorem dX0_fishAt_24 : decode cX0_fishAt 24 = .ok (.ifCond .ne 22, 3) := dk_154 0 22 (dk_at dksX0_fishAt_1 0 rfl rfl)
theorem dX0_fishAt_27 : decode cX0_fishAt 27 = .ok (.aload_n 0, 1) := dk_42 (dk_at dksX0_fishAt_1 3 rfl rfl)
theorem dX0_fishAt_28 : decode cX0_fishAt 28 = .ok (.getfield 39, 3) := dk_180 0 39 (dk_at dksX0_fishAt_1 4 rfl rfl)
theorem dX0_fishAt_31 : decode cX0_fishAt 31 = .ok (.getfield 237, 3) := dk_180 0 237 (dk_at dksX0_fishAt_1 7 rfl rfl)
theorem dX0_fishAt_34 : decode cX0_fishAt 34 = .ok (.iload_n 3, 1) := dk_29 (dk_at dksX0_fishAt_1 10 rfl rfl)
theorem dX0_fishAt_35 : decode cX0_fishAt 35 = .ok (.iaload, 1) := dk_46 (dk_at dksX0_fishAt_1 11 rfl rfl)
theorem dX0_fishAt_36 : decode cX0_fishAt 36 = .ok (.iload_n 1, 1) := dk_27 (dk_at dksX0_fishAt_1 12 rfl rfl)
theorem dX0_fishAt_37 : decode cX0_fishAt 37 = .ok (.if_icmp .ne 9, 3) := dk_160 0 9 (dk_at dksX0_fishAt_1 13 rfl rfl)
theorem dX0_fishAt_40 : decode cX0_fishAt 40 = .ok (.iconst 1, 1) := dk_4 (dk_at dksX0_fishAt_1 16 rfl rfl)
theorem dX0_fishAt_41 : decode cX0_fishAt 41 = .ok (.iload_n 3, 1) := dk_29 (dk_at dksX0_fishAt_1 17 rfl rfl)
theorem dX0_fishAt_42 : decode cX0_fishAt 42 = .ok (.ishl, 1) := dk_120 (dk_at dksX0_fishAt_1 18 rfl rfl)
theorem dX0_fishAt_43 : decode cX0_fishAt 43 = .ok (.goto 4, 3) := dk_167 0 4 (dk_at dksX0_fishAt_1 19 rfl rfl)
theorem dX0_fishAt_46 : decode cX0_fishAt 46 = .ok (.iconst 0, 1) := dk_3 (dk_at dksX0_fishAt_1 22 rfl rfl)
theorem dX0_fishAt_47 : decode cX0_fishAt 47 = .ok (.ior, 1) := dk_128 (dk_at dksX0_fishAt_1 23 rfl rfl)
theorem dX0_fishAt_48 : decode cX0_fishAt 48 = .ok (.istore_n 2, 1) := dk_61 (dk_at dksX0_fishAt_2 0 rfl rfl)
theorem dX0_fishAt_49 : decode cX0_fishAt 49 = .ok (.iinc 3 1, 3) := dk_132 3 1 (dk_at dksX0_fishAt_2 1 rfl rfl)
theorem dX0_fishAt_52 : decode cX0_fishAt 52 = .ok (.goto (-48), 3) := dk_167 255 208 (dk_at dksX0_fishAt_2 4 rfl rfl)
theorem dX0_fishAt_55 : decode cX0_fishAt 55 = .ok (.iload_n 2, 1) := dk_28 (dk_at dksX0_fishAt_2 7 rfl rfl)
theorem dX0_fishAt_56 : decode cX0_fishAt 56 = .ok (.ireturn, 1) := dk_172 (dk_at dksX0_fishAt_2 8 rfl rfl)
abbrev cX0_fish : ByteArray := prog_1_method_35_code
def yX0_fish : MethodName := ⟨RX0, "fish", "(II)I"⟩
def dkwX0_fish_4 : List UInt8 := [167, 0, 12, 42, 180, 0, 39, 180, 1, 13, 29, 46, 172]
abbrev dktX0_fish_4 : List UInt8 := dkwX0_fish_4 ++ []
def dkwX0_fish_3 : List UInt8 := [5, 160, 0, 25, 42, 180, 0, 39, 29, 42, 180, 0, 39, 27, 182, 1, 2, 182, 1, 6, 182, 1, 9]
abbrev dktX0_fish_3 : List UInt8 := dkwX0_fish_3 ++ dktX0_fish_4
def dkwX0_fish_2 : List UInt8 := [42, 180, 0, 39, 27, 182, 0, 234, 153, 0, 7, 19, 1, 1, 172, 28, 154, 0, 7, 29, 167, 0, 39, 28]
abbrev dktX0_fish_2 : List UInt8 := dkwX0_fish_2 ++ dktX0_fish_3
def dkwX0_fish_1 : List UInt8 := [180, 0, 39, 180, 0, 237, 27, 46, 62, 28, 4, 160, 0, 13, 42, 180, 0, 39, 180, 0, 254, 27, 46, 172]
abbrev dktX0_fish_1 : List UInt8 := dkwX0_fish_1 ++ dktX0_fish_2
def dkwX0_fish_0 : List UInt8 := [42, 27, 182, 0, 231, 153, 0, 15, 28, 133, 9, 20, 0, 252, 184, 0, 86, 154, 0, 6, 18, 100, 172, 42]
abbrev dktX0_fish_0 : List UInt8 := dkwX0_fish_0 ++ dktX0_fish_1
theorem dksX0_fish_0 : cX0_fish.data.toList.drop 0 = dktX0_fish_0 := by decide +kernel
theorem dksX0_fish_1 : cX0_fish.data.toList.drop 24 = dktX0_fish_1 := dk_seg dksX0_fish_0 24 rfl rfl
theorem dksX0_fish_2 : cX0_fish.data.toList.drop 48 = dktX0_fish_2 := dk_seg dksX0_fish_1 24 rfl rfl
theorem dksX0_fish_3 : cX0_fish.data.toList.drop 72 = dktX0_fish_3 := dk_seg dksX0_fish_2 24 rfl rfl
theorem dksX0_fish_4 : cX0_fish.data.toList.drop 95 = dktX0_fish_4 := dk_seg dksX0_fish_3 23 rfl rfl
theorem dX0_fish_0 : decode cX0_fish 0 = .ok (.aload_n 0, 1) := dk_42 (dk_at dksX0_fish_0 0 rfl rfl)
theorem dX0_fish_1 : decode cX0_fish 1 = .ok (.iload_n 1, 1) := dk_27 (dk_at dksX0_fish_0 1 rfl rfl)
theorem dX0_fish_2 : decode cX0_fish 2 = .ok (.invokevirtual 231, 3) := dk_182 0 231 (dk_at dksX0_fish_0 2 rfl rfl)
theorem dX0_fish_5 : decode cX0_fish 5 = .ok (.ifCond .eq 15, 3) := dk_153 0 15 (dk_at dksX0_fish_0 5 rfl rfl)
theorem dX0_fish_8 : decode cX0_fish 8 = .ok (.iload_n 2, 1) := dk_28 (dk_at dksX0_fish_0 8 rfl rfl)
theorem dX0_fish_9 : decode cX0_fish 9 = .ok (.i2l, 1) := dk_133 (dk_at dksX0_fish_0 9 rfl rfl)
theorem dX0_fish_10 : decode cX0_fish 10 = .ok (.lconst 0, 1) := dk_9 (dk_at dksX0_fish_0 10 rfl rfl)
theorem dX0_fish_11 : decode cX0_fish 11 = .ok (.ldc2_w 252, 3) := dk_20 0 252 (dk_at dksX0_fish_0 11 rfl rfl)
theorem dX0_fish_14 : decode cX0_fish 14 = .ok (.invokestatic 86, 3) := dk_184 0 86 (dk_at dksX0_fish_0 14 rfl rfl)
theorem dX0_fish_17 : decode cX0_fish 17 = .ok (.ifCond .ne 6, 3) := dk_154 0 6 (dk_at dksX0_fish_0 17 rfl rfl)
theorem dX0_fish_20 : decode cX0_fish 20 = .ok (.ldc 100, 2) := dk_18 100 (dk_at dksX0_fish_0 20 rfl rfl)
theorem dX0_fish_22 : decode cX0_fish 22 = .ok (.ireturn, 1) := dk_172 (dk_at dksX0_fish_0 22 rfl rfl)
theorem dX0_fish_23 : decode cX0_fish 23 = .ok (.aload_n 0, 1) := dk_42 (dk_at dksX0_fish_0 23 rfl rfl)
theorem dX0_fish_24 : decode cX0_fish 24 = .ok (.getfield 39, 3) := dk_180 0 39 (dk_at dksX0_fish_1 0 rfl rfl)
theorem dX0_fish_27 : decode cX0_fish 27 = .ok (.getfield 237, 3) := dk_180 0 237 (dk_at dksX0_fish_1 3 rfl rfl)
theorem dX0_fish_30 : decode cX0_fish 30 = .ok (.iload_n 1, 1) := dk_27 (dk_at dksX0_fish_1 6 rfl rfl)
theorem dX0_fish_31 : decode cX0_fish 31 = .ok (.iaload, 1) := dk_46 (dk_at dksX0_fish_1 7 rfl rfl)
theorem dX0_fish_32 : decode cX0_fish 32 = .ok (.istore_n 3, 1) := dk_62 (dk_at dksX0_fish_1 8 rfl rfl)
theorem dX0_fish_33 : decode cX0_fish 33 = .ok (.iload_n 2, 1) := dk_28 (dk_at dksX0_fish_1 9 rfl rfl)
theorem dX0_fish_34 : decode cX0_fish 34 = .ok (.iconst 1, 1) := dk_4 (dk_at dksX0_fish_1 10 rfl rfl)
theorem dX0_fish_35 : decode cX0_fish 35 = .ok (.if_icmp .ne 13, 3) := dk_160 0 13 (dk_at dksX0_fish_1 11 rfl rfl)
theorem dX0_fish_38 : decode cX0_fish 38 = .ok (.aload_n 0, 1) := dk_42 (dk_at dksX0_fish_1 14 rfl rfl)
theorem dX0_fish_39 : decode cX0_fish 39 = .ok (.getfield 39, 3) := dk_180 0 39 (dk_at dksX0_fish_1 15 rfl rfl)
theorem dX0_fish_42 : decode cX0_fish 42 = .ok (.getfield 254, 3) := dk_180 0 254 (dk_at dksX0_fish_1 18 rfl rfl)
theorem dX0_fish_45 : decode cX0_fish 45 = .ok (.iload_n 1, 1) := dk_27 (dk_at dksX0_fish_1 21 rfl rfl)
theorem dX0_fish_46 : decode cX0_fish 46 = .ok (.iaload, 1) := dk_46 (dk_at dksX0_fish_1 22 rfl rfl)
theorem dX0_fish_47 : decode cX0_fish 47 = .ok (.ireturn, 1) := dk_172 (dk_at dksX0_fish_1 23 rfl rfl)
theorem dX0_fish_48 : decode cX0_fish 48 = .ok (.aload_n 0, 1) := dk_42 (dk_at dksX0_fish_2 0 rfl rfl)
theorem dX0_fish_49 : decode cX0_fish 49 = .ok (.getfield 39, 3) := dk_180 0 39 (dk_at dksX0_fish_2 1 rfl rfl)
theorem dX0_fish_52 : decode cX0_fish 52 = .ok (.iload_n 1, 1) := dk_27 (dk_at dksX0_fish_2 4 rfl rfl)
theorem dX0_fish_53 : decode cX0_fish 53 = .ok (.invokevirtual 234, 3) := dk_182 0 234 (dk_at dksX0_fish_2 5 rfl rfl)
theorem dX0_fish_56 : decode cX0_fish 56 = .ok (.ifCond .eq 7, 3) := dk_153 0 7 (dk_at dksX0_fish_2 8 rfl rfl)
theorem dX0_fish_59 : decode cX0_fish 59 = .ok (.ldc_w 257, 3) := dk_19 1 1 (dk_at dksX0_fish_2 11 rfl rfl)
theorem dX0_fish_62 : decode cX0_fish 62 = .ok (.ireturn, 1) := dk_172 (dk_at dksX0_fish_2 14 rfl rfl)
theorem dX0_fish_63 : decode cX0_fish 63 = .ok (.iload_n 2, 1) := dk_28 (dk_at dksX0_fish_2 15 rfl rfl)
theorem dX0_fish_64 : decode cX0_fish 64 = .ok (.ifCond .ne 7, 3) := dk_154 0 7 (dk_at dksX0_fish_2 16 rfl rfl)
theorem dX0_fish_67 : decode cX0_fish 67 = .ok (.iload_n 3, 1) := dk_29 (dk_at dksX0_fish_2 19 rfl rfl)
theorem dX0_fish_68 : decode cX0_fish 68 = .ok (.goto 39, 3) := dk_167 0 39 (dk_at dksX0_fish_2 20 rfl rfl)
theorem dX0_fish_71 : decode cX0_fish 71 = .ok (.iload_n 2, 1) := dk_28 (dk_at dksX0_fish_2 23 rfl rfl)
theorem dX0_fish_72 : decode cX0_fish 72 = .ok (.iconst 2, 1) := dk_5 (dk_at dksX0_fish_3 0 rfl rfl)
theorem dX0_fish_73 : decode cX0_fish 73 = .ok (.if_icmp .ne 25, 3) := dk_160 0 25 (dk_at dksX0_fish_3 1 rfl rfl)
theorem dX0_fish_76 : decode cX0_fish 76 = .ok (.aload_n 0, 1) := dk_42 (dk_at dksX0_fish_3 4 rfl rfl)
theorem dX0_fish_77 : decode cX0_fish 77 = .ok (.getfield 39, 3) := dk_180 0 39 (dk_at dksX0_fish_3 5 rfl rfl)
theorem dX0_fish_80 : decode cX0_fish 80 = .ok (.iload_n 3, 1) := dk_29 (dk_at dksX0_fish_3 8 rfl rfl)
theorem dX0_fish_81 : decode cX0_fish 81 = .ok (.aload_n 0, 1) := dk_42 (dk_at dksX0_fish_3 9 rfl rfl)
theorem dX0_fish_82 : decode cX0_fish 82 = .ok (.getfield 39, 3) := dk_180 0 39 (dk_at dksX0_fish_3 10 rfl rfl)
theorem dX0_fish_85 : decode cX0_fish 85 = .ok (.iload_n 1, 1) := dk_27 (dk_at dksX0_fish_3 13 rfl rfl)
theorem dX0_fish_86 : decode cX0_fish 86 = .ok (.invokevirtual 258, 3) := dk_182 1 2 (dk_at dksX0_fish_3 14 rfl rfl)
theorem dX0_fish_89 : decode cX0_fish 89 = .ok (.invokevirtual 262, 3) := dk_182 1 6 (dk_at dksX0_fish_3 17 rfl rfl)
theorem dX0_fish_92 : decode cX0_fish 92 = .ok (.invokevirtual 265, 3) := dk_182 1 9 (dk_at dksX0_fish_3 20 rfl rfl)
theorem dX0_fish_95 : decode cX0_fish 95 = .ok (.goto 12, 3) := dk_167 0 12 (dk_at dksX0_fish_4 0 rfl rfl)
theorem dX0_fish_98 : decode cX0_fish 98 = .ok (.aload_n 0, 1) := dk_42 (dk_at dksX0_fish_4 3 rfl rfl)
theorem dX0_fish_99 : decode cX0_fish 99 = .ok (.getfield 39, 3) := dk_180 0 39 (dk_at dksX0_fish_4 4 rfl rfl)
theorem dX0_fish_102 : decode cX0_fish 102 = .ok (.getfield 269, 3) := dk_180 1 13 (dk_at dksX0_fish_4 7 rfl rfl)
theorem dX0_fish_105 : decode cX0_fish 105 = .ok (.iload_n 3, 1) := dk_29 (dk_at dksX0_fish_4 10 rfl rfl)
theorem dX0_fish_106 : decode cX0_fish 106 = .ok (.iaload, 1) := dk_46 (dk_at dksX0_fish_4 11 rfl rfl)
theorem dX0_fish_107 : decode cX0_fish 107 = .ok (.ireturn, 1) := dk_172 (dk_at dksX0_fish_4 12 rfl rfl)
abbrev cX0_stand : ByteArray := prog_1_method_36_code
def yX0_stand : MethodName := ⟨RX0, "stand", "(I)I"⟩
def dkwX0_stand_4 : List UInt8 := [180, 0, 220, 172, 18, 100, 172]
abbrev dktX0_stand_4 : List UInt8 := dkwX0_stand_4 ++ []
def dkwX0_stand_3 : List UInt8 := [42, 180, 0, 39, 42, 182, 0, 200, 182, 0, 203, 172, 42, 180, 0, 39, 180, 0, 174, 172, 42, 180, 0, 39]
abbrev dktX0_stand_3 : List UInt8 := dkwX0_stand_3 ++ dktX0_stand_4
def dkwX0_stand_2 : List UInt8 := [42, 180, 0, 39, 180, 0, 212, 172, 42, 180, 0, 39, 180, 0, 223, 172, 42, 180, 0, 39, 180, 0, 240, 172]
abbrev dktX0_stand_2 : List UInt8 := dkwX0_stand_2 ++ dktX0_stand_3
def dkwX0_stand_1 : List UInt8 := [170, 0, 0, 0, 89, 0, 0, 0, 0, 0, 0, 0, 5, 0, 0, 0, 37, 0, 0, 0, 45, 0, 0, 0, 53, 0, 0, 0, 61, 0, 0, 0, 73, 0, 0, 0, 81]
abbrev dktX0_stand_1 : List UInt8 := dkwX0_stand_1 ++ dktX0_stand_2
def dkwX0_stand_0 : List UInt8 := [42, 182, 0, 184, 154, 0, 6, 18, 173, 172, 27]
abbrev dktX0_stand_0 : List UInt8 := dkwX0_stand_0 ++ dktX0_stand_1
theorem dksX0_stand_0 : cX0_stand.data.toList.drop 0 = dktX0_stand_0 := by decide +kernel
theorem dksX0_stand_1 : cX0_stand.data.toList.drop 11 = dktX0_stand_1 := dk_seg dksX0_stand_0 11 rfl rfl
theorem dksX0_stand_2 : cX0_stand.data.toList.drop 48 = dktX0_stand_2 := dk_seg dksX0_stand_1 37 rfl rfl
theorem dksX0_stand_3 : cX0_stand.data.toList.drop 72 = dktX0_stand_3 := dk_seg dksX0_stand_2 24 rfl rfl
theorem dksX0_stand_4 : cX0_stand.data.toList.drop 96 = dktX0_stand_4 := dk_seg dksX0_stand_3 24 rfl rfl
theorem dX0_stand_0 : decode cX0_stand 0 = .ok (.aload_n 0, 1) := dk_42 (dk_at dksX0_stand_0 0 rfl rfl)
theorem dX0_stand_1 : decode cX0_stand 1 = .ok (.invokevirtual 184, 3) := dk_182 0 184 (dk_at dksX0_stand_0 1 rfl rfl)
theorem dX0_stand_4 : decode cX0_stand 4 = .ok (.ifCond .ne 6, 3) := dk_154 0 6 (dk_at dksX0_stand_0 4 rfl rfl)
theorem dX0_stand_7 : decode cX0_stand 7 = .ok (.ldc 173, 2) := dk_18 173 (dk_at dksX0_stand_0 7 rfl rfl)
theorem dX0_stand_9 : decode cX0_stand 9 = .ok (.ireturn, 1) := dk_172 (dk_at dksX0_stand_0 9 rfl rfl)
theorem dX0_stand_10 : decode cX0_stand 10 = .ok (.iload_n 1, 1) := dk_27 (dk_at dksX0_stand_0 10 rfl rfl)
theorem dX0_stand_11 : decode cX0_stand 11 = .ok (.tableswitch 89 0 5 #[37, 45, 53, 61, 73, 81], 37) := by decide +kernel
theorem dX0_stand_48 : decode cX0_stand 48 = .ok (.aload_n 0, 1) := dk_42 (dk_at dksX0_stand_2 0 rfl rfl)
theorem dX0_stand_49 : decode cX0_stand 49 = .ok (.getfield 39, 3) := dk_180 0 39 (dk_at dksX0_stand_2 1 rfl rfl)
theorem dX0_stand_52 : decode cX0_stand 52 = .ok (.getfield 212, 3) := dk_180 0 212 (dk_at dksX0_stand_2 4 rfl rfl)
theorem dX0_stand_55 : decode cX0_stand 55 = .ok (.ireturn, 1) := dk_172 (dk_at dksX0_stand_2 7 rfl rfl)
theorem dX0_stand_56 : decode cX0_stand 56 = .ok (.aload_n 0, 1) := dk_42 (dk_at dksX0_stand_2 8 rfl rfl)
theorem dX0_stand_57 : decode cX0_stand 57 = .ok (.getfield 39, 3) := dk_180 0 39 (dk_at dksX0_stand_2 9 rfl rfl)
theorem dX0_stand_60 : decode cX0_stand 60 = .ok (.getfield 223, 3) := dk_180 0 223 (dk_at dksX0_stand_2 12 rfl rfl)
theorem dX0_stand_63 : decode cX0_stand 63 = .ok (.ireturn, 1) := dk_172 (dk_at dksX0_stand_2 15 rfl rfl)
theorem dX0_stand_64 : decode cX0_stand 64 = .ok (.aload_n 0, 1) := dk_42 (dk_at dksX0_stand_2 16 rfl rfl)
theorem dX0_stand_65 : decode cX0_stand 65 = .ok (.getfield 39, 3) := dk_180 0 39 (dk_at dksX0_stand_2 17 rfl rfl)
theorem dX0_stand_68 : decode cX0_stand 68 = .ok (.getfield 240, 3) := dk_180 0 240 (dk_at dksX0_stand_2 20 rfl rfl)
theorem dX0_stand_71 : decode cX0_stand 71 = .ok (.ireturn, 1) := dk_172 (dk_at dksX0_stand_2 23 rfl rfl)
theorem dX0_stand_72 : decode cX0_stand 72 = .ok (.aload_n 0, 1) := dk_42 (dk_at dksX0_stand_3 0 rfl rfl)
theorem dX0_stand_73 : decode cX0_stand 73 = .ok (.getfield 39, 3) := dk_180 0 39 (dk_at dksX0_stand_3 1 rfl rfl)
theorem dX0_stand_76 : decode cX0_stand 76 = .ok (.aload_n 0, 1) := dk_42 (dk_at dksX0_stand_3 4 rfl rfl)
theorem dX0_stand_77 : decode cX0_stand 77 = .ok (.invokevirtual 200, 3) := dk_182 0 200 (dk_at dksX0_stand_3 5 rfl rfl)
theorem dX0_stand_80 : decode cX0_stand 80 = .ok (.invokevirtual 203, 3) := dk_182 0 203 (dk_at dksX0_stand_3 8 rfl rfl)
theorem dX0_stand_83 : decode cX0_stand 83 = .ok (.ireturn, 1) := dk_172 (dk_at dksX0_stand_3 11 rfl rfl)
theorem dX0_stand_84 : decode cX0_stand 84 = .ok (.aload_n 0, 1) := dk_42 (dk_at dksX0_stand_3 12 rfl rfl)
theorem dX0_stand_85 : decode cX0_stand 85 = .ok (.getfield 39, 3) := dk_180 0 39 (dk_at dksX0_stand_3 13 rfl rfl)
theorem dX0_stand_88 : decode cX0_stand 88 = .ok (.getfield 174, 3) := dk_180 0 174 (dk_at dksX0_stand_3 16 rfl rfl)
theorem dX0_stand_91 : decode cX0_stand 91 = .ok (.ireturn, 1) := dk_172 (dk_at dksX0_stand_3 19 rfl rfl)
theorem dX0_stand_92 : decode cX0_stand 92 = .ok (.aload_n 0, 1) := dk_42 (dk_at dksX0_stand_3 20 rfl rfl)
theorem dX0_stand_93 : decode cX0_stand 93 = .ok (.getfield 39, 3) := dk_180 0 39 (dk_at dksX0_stand_3 21 rfl rfl)
theorem dX0_stand_96 : decode cX0_stand 96 = .ok (.getfield 220, 3) := dk_180 0 220 (dk_at dksX0_stand_4 0 rfl rfl)
theorem dX0_stand_99 : decode cX0_stand 99 = .ok (.ireturn, 1) := dk_172 (dk_at dksX0_stand_4 3 rfl rfl)
theorem dX0_stand_100 : decode cX0_stand 100 = .ok (.ldc 100, 2) := dk_18 100 (dk_at dksX0_stand_4 4 rfl rfl)
theorem dX0_stand_102 : decode cX0_stand 102 = .ok (.ireturn, 1) := dk_172 (dk_at dksX0_stand_4 6 rfl rfl)
abbrev cX0_ahead : ByteArray := prog_1_method_39_code
def yX0_ahead : MethodName := ⟨RX0, "ahead", "(III)I"⟩
def dkwX0_ahead_2 : List UInt8 := [46, 167, 0, 12, 42, 180, 0, 43, 180, 0, 246, 27, 46, 172]
abbrev dktX0_ahead_2 : List UInt8 := dkwX0_ahead_2 ++ []
def dkwX0_ahead_1 : List UInt8 := [172, 42, 182, 1, 19, 87, 42, 28, 182, 1, 22, 87, 29, 154, 0, 15, 42, 180, 0, 43, 180, 0, 243, 27]
abbrev dktX0_ahead_1 : List UInt8 := dkwX0_ahead_1 ++ dktX0_ahead_2
def dkwX0_ahead_0 : List UInt8 := [42, 27, 182, 0, 206, 153, 0, 17, 28, 184, 1, 16, 153, 0, 10, 29, 184, 0, 209, 154, 0, 6, 18, 100]
abbrev dktX0_ahead_0 : List UInt8 := dkwX0_ahead_0 ++ dktX0_ahead_1
theorem dksX0_ahead_0 : cX0_ahead.data.toList.drop 0 = dktX0_ahead_0 := by decide +kernel
theorem dksX0_ahead_1 : cX0_ahead.data.toList.drop 24 = dktX0_ahead_1 := dk_seg dksX0_ahead_0 24 rfl rfl
theorem dksX0_ahead_2 : cX0_ahead.data.toList.drop 48 = dktX0_ahead_2 := dk_seg dksX0_ahead_1 24 rfl rfl
theorem dX0_ahead_0 : decode cX0_ahead 0 = .ok (.aload_n 0, 1) := dk_42 (dk_at dksX0_ahead_0 0 rfl rfl)
theorem dX0_ahead_1 : decode cX0_ahead 1 = .ok (.iload_n 1, 1) := dk_27 (dk_at dksX0_ahead_0 1 rfl rfl)
theorem dX0_ahead_2 : decode cX0_ahead 2 = .ok (.invokevirtual 206, 3) := dk_182 0 206 (dk_at dksX0_ahead_0 2 rfl rfl)
theorem dX0_ahead_5 : decode cX0_ahead 5 = .ok (.ifCond .eq 17, 3) := dk_153 0 17 (dk_at dksX0_ahead_0 5 rfl rfl)
theorem dX0_ahead_8 : decode cX0_ahead 8 = .ok (.iload_n 2, 1) := dk_28 (dk_at dksX0_ahead_0 8 rfl rfl)
theorem dX0_ahead_9 : decode cX0_ahead 9 = .ok (.invokestatic 272, 3) := dk_184 1 16 (dk_at dksX0_ahead_0 9 rfl rfl)
theorem dX0_ahead_12 : decode cX0_ahead 12 = .ok (.ifCond .eq 10, 3) := dk_153 0 10 (dk_at dksX0_ahead_0 12 rfl rfl)
theorem dX0_ahead_15 : decode cX0_ahead 15 = .ok (.iload_n 3, 1) := dk_29 (dk_at dksX0_ahead_0 15 rfl rfl)
theorem dX0_ahead_16 : decode cX0_ahead 16 = .ok (.invokestatic 209, 3) := dk_184 0 209 (dk_at dksX0_ahead_0 16 rfl rfl)
theorem dX0_ahead_19 : decode cX0_ahead 19 = .ok (.ifCond .ne 6, 3) := dk_154 0 6 (dk_at dksX0_ahead_0 19 rfl rfl)
theorem dX0_ahead_22 : decode cX0_ahead 22 = .ok (.ldc 100, 2) := dk_18 100 (dk_at dksX0_ahead_0 22 rfl rfl)
theorem dX0_ahead_24 : decode cX0_ahead 24 = .ok (.ireturn, 1) := dk_172 (dk_at dksX0_ahead_1 0 rfl rfl)
theorem dX0_ahead_25 : decode cX0_ahead 25 = .ok (.aload_n 0, 1) := dk_42 (dk_at dksX0_ahead_1 1 rfl rfl)
theorem dX0_ahead_26 : decode cX0_ahead 26 = .ok (.invokevirtual 275, 3) := dk_182 1 19 (dk_at dksX0_ahead_1 2 rfl rfl)
theorem dX0_ahead_29 : decode cX0_ahead 29 = .ok (.pop, 1) := dk_87 (dk_at dksX0_ahead_1 5 rfl rfl)
theorem dX0_ahead_30 : decode cX0_ahead 30 = .ok (.aload_n 0, 1) := dk_42 (dk_at dksX0_ahead_1 6 rfl rfl)
theorem dX0_ahead_31 : decode cX0_ahead 31 = .ok (.iload_n 2, 1) := dk_28 (dk_at dksX0_ahead_1 7 rfl rfl)
theorem dX0_ahead_32 : decode cX0_ahead 32 = .ok (.invokevirtual 278, 3) := dk_182 1 22 (dk_at dksX0_ahead_1 8 rfl rfl)
theorem dX0_ahead_35 : decode cX0_ahead 35 = .ok (.pop, 1) := dk_87 (dk_at dksX0_ahead_1 11 rfl rfl)
theorem dX0_ahead_36 : decode cX0_ahead 36 = .ok (.iload_n 3, 1) := dk_29 (dk_at dksX0_ahead_1 12 rfl rfl)
theorem dX0_ahead_37 : decode cX0_ahead 37 = .ok (.ifCond .ne 15, 3) := dk_154 0 15 (dk_at dksX0_ahead_1 13 rfl rfl)
theorem dX0_ahead_40 : decode cX0_ahead 40 = .ok (.aload_n 0, 1) := dk_42 (dk_at dksX0_ahead_1 16 rfl rfl)
theorem dX0_ahead_41 : decode cX0_ahead 41 = .ok (.getfield 43, 3) := dk_180 0 43 (dk_at dksX0_ahead_1 17 rfl rfl)
theorem dX0_ahead_44 : decode cX0_ahead 44 = .ok (.getfield 243, 3) := dk_180 0 243 (dk_at dksX0_ahead_1 20 rfl rfl)
theorem dX0_ahead_47 : decode cX0_ahead 47 = .ok (.iload_n 1, 1) := dk_27 (dk_at dksX0_ahead_1 23 rfl rfl)
theorem dX0_ahead_48 : decode cX0_ahead 48 = .ok (.iaload, 1) := dk_46 (dk_at dksX0_ahead_2 0 rfl rfl)
theorem dX0_ahead_49 : decode cX0_ahead 49 = .ok (.goto 12, 3) := dk_167 0 12 (dk_at dksX0_ahead_2 1 rfl rfl)
theorem dX0_ahead_52 : decode cX0_ahead 52 = .ok (.aload_n 0, 1) := dk_42 (dk_at dksX0_ahead_2 4 rfl rfl)
theorem dX0_ahead_53 : decode cX0_ahead 53 = .ok (.getfield 43, 3) := dk_180 0 43 (dk_at dksX0_ahead_2 5 rfl rfl)
theorem dX0_ahead_56 : decode cX0_ahead 56 = .ok (.getfield 246, 3) := dk_180 0 246 (dk_at dksX0_ahead_2 8 rfl rfl)
theorem dX0_ahead_59 : decode cX0_ahead 59 = .ok (.iload_n 1, 1) := dk_27 (dk_at dksX0_ahead_2 11 rfl rfl)
theorem dX0_ahead_60 : decode cX0_ahead 60 = .ok (.iaload, 1) := dk_46 (dk_at dksX0_ahead_2 12 rfl rfl)
theorem dX0_ahead_61 : decode cX0_ahead 61 = .ok (.ireturn, 1) := dk_172 (dk_at dksX0_ahead_2 13 rfl rfl)
abbrev cX0_isFar : ByteArray := prog_1_method_24_code
def yX0_isFar : MethodName := ⟨RX0, "isFar", "(I)Z"⟩
def dkwX0_isFar_0 : List UInt8 := [26, 133, 9, 20, 0, 180, 184, 0, 86, 172]
abbrev dktX0_isFar_0 : List UInt8 := dkwX0_isFar_0 ++ []
theorem dksX0_isFar_0 : cX0_isFar.data.toList.drop 0 = dktX0_isFar_0 := by decide +kernel
theorem dX0_isFar_0 : decode cX0_isFar 0 = .ok (.iload_n 0, 1) := dk_26 (dk_at dksX0_isFar_0 0 rfl rfl)
theorem dX0_isFar_1 : decode cX0_isFar 1 = .ok (.i2l, 1) := dk_133 (dk_at dksX0_isFar_0 1 rfl rfl)
theorem dX0_isFar_2 : decode cX0_isFar 2 = .ok (.lconst 0, 1) := dk_9 (dk_at dksX0_isFar_0 2 rfl rfl)
theorem dX0_isFar_3 : decode cX0_isFar 3 = .ok (.ldc2_w 180, 3) := dk_20 0 180 (dk_at dksX0_isFar_0 3 rfl rfl)
theorem dX0_isFar_6 : decode cX0_isFar 6 = .ok (.invokestatic 86, 3) := dk_184 0 86 (dk_at dksX0_isFar_0 6 rfl rfl)
theorem dX0_isFar_9 : decode cX0_isFar 9 = .ok (.ireturn, 1) := dk_172 (dk_at dksX0_isFar_0 9 rfl rfl)
abbrev cX0_tried : ByteArray := prog_1_method_37_code
def yX0_tried : MethodName := ⟨RX0, "tried", "()LFishReaders$Library;"⟩
def dkwX0_tried_0 : List UInt8 := [42, 180, 0, 43, 42, 180, 0, 39, 182, 0, 162, 176]
abbrev dktX0_tried_0 : List UInt8 := dkwX0_tried_0 ++ []
theorem dksX0_tried_0 : cX0_tried.data.toList.drop 0 = dktX0_tried_0 := by decide +kernel
theorem dX0_tried_0 : decode cX0_tried 0 = .ok (.aload_n 0, 1) := dk_42 (dk_at dksX0_tried_0 0 rfl rfl)
theorem dX0_tried_1 : decode cX0_tried 1 = .ok (.getfield 43, 3) := dk_180 0 43 (dk_at dksX0_tried_0 1 rfl rfl)
theorem dX0_tried_4 : decode cX0_tried 4 = .ok (.aload_n 0, 1) := dk_42 (dk_at dksX0_tried_0 4 rfl rfl)
theorem dX0_tried_5 : decode cX0_tried 5 = .ok (.getfield 39, 3) := dk_180 0 39 (dk_at dksX0_tried_0 5 rfl rfl)
theorem dX0_tried_8 : decode cX0_tried 8 = .ok (.invokevirtual 162, 3) := dk_182 0 162 (dk_at dksX0_tried_0 8 rfl rfl)
theorem dX0_tried_11 : decode cX0_tried 11 = .ok (.areturn, 1) := dk_176 (dk_at dksX0_tried_0 11 rfl rfl)
abbrev cX0_goOn : ByteArray := prog_1_method_38_code
def yX0_goOn : MethodName := ⟨RX0, "goOn", "(I)LFishReaders$Library;"⟩
def dkwX0_goOn_1 : List UInt8 := [180, 0, 43, 176]
abbrev dktX0_goOn_1 : List UInt8 := dkwX0_goOn_1 ++ []
def dkwX0_goOn_0 : List UInt8 := [3, 61, 28, 27, 162, 0, 17, 42, 180, 0, 43, 182, 0, 196, 87, 132, 2, 1, 167, 255, 240, 42]
abbrev dktX0_goOn_0 : List UInt8 := dkwX0_goOn_0 ++ dktX0_goOn_1
theorem dksX0_goOn_0 : cX0_goOn.data.toList.drop 0 = dktX0_goOn_0 := by decide +kernel
theorem dksX0_goOn_1 : cX0_goOn.data.toList.drop 22 = dktX0_goOn_1 := dk_seg dksX0_goOn_0 22 rfl rfl
theorem dX0_goOn_0 : decode cX0_goOn 0 = .ok (.iconst 0, 1) := dk_3 (dk_at dksX0_goOn_0 0 rfl rfl)
theorem dX0_goOn_1 : decode cX0_goOn 1 = .ok (.istore_n 2, 1) := dk_61 (dk_at dksX0_goOn_0 1 rfl rfl)
theorem dX0_goOn_2 : decode cX0_goOn 2 = .ok (.iload_n 2, 1) := dk_28 (dk_at dksX0_goOn_0 2 rfl rfl)
theorem dX0_goOn_3 : decode cX0_goOn 3 = .ok (.iload_n 1, 1) := dk_27 (dk_at dksX0_goOn_0 3 rfl rfl)
theorem dX0_goOn_4 : decode cX0_goOn 4 = .ok (.if_icmp .ge 17, 3) := dk_162 0 17 (dk_at dksX0_goOn_0 4 rfl rfl)
theorem dX0_goOn_7 : decode cX0_goOn 7 = .ok (.aload_n 0, 1) := dk_42 (dk_at dksX0_goOn_0 7 rfl rfl)
theorem dX0_goOn_8 : decode cX0_goOn 8 = .ok (.getfield 43, 3) := dk_180 0 43 (dk_at dksX0_goOn_0 8 rfl rfl)
theorem dX0_goOn_11 : decode cX0_goOn 11 = .ok (.invokevirtual 196, 3) := dk_182 0 196 (dk_at dksX0_goOn_0 11 rfl rfl)
theorem dX0_goOn_14 : decode cX0_goOn 14 = .ok (.pop, 1) := dk_87 (dk_at dksX0_goOn_0 14 rfl rfl)
theorem dX0_goOn_15 : decode cX0_goOn 15 = .ok (.iinc 2 1, 3) := dk_132 2 1 (dk_at dksX0_goOn_0 15 rfl rfl)
theorem dX0_goOn_18 : decode cX0_goOn 18 = .ok (.goto (-16), 3) := dk_167 255 240 (dk_at dksX0_goOn_0 18 rfl rfl)
theorem dX0_goOn_21 : decode cX0_goOn 21 = .ok (.aload_n 0, 1) := dk_42 (dk_at dksX0_goOn_0 21 rfl rfl)
theorem dX0_goOn_22 : decode cX0_goOn 22 = .ok (.getfield 43, 3) := dk_180 0 43 (dk_at dksX0_goOn_1 0 rfl rfl)
theorem dX0_goOn_25 : decode cX0_goOn 25 = .ok (.areturn, 1) := dk_176 (dk_at dksX0_goOn_1 3 rfl rfl)
abbrev cX0_later : ByteArray := prog_1_method_40_code
def yX0_later : MethodName := ⟨RX0, "later", "(III)I"⟩
def dkwX0_later_3 : List UInt8 := [180, 0, 43, 180, 0, 237, 27, 46, 172]
abbrev dktX0_later_3 : List UInt8 := dkwX0_later_3 ++ []
def dkwX0_later_2 : List UInt8 := [27, 46, 167, 0, 29, 42, 180, 0, 43, 27, 182, 0, 234, 153, 0, 9, 19, 1, 1, 167, 0, 12, 42]
abbrev dktX0_later_2 : List UInt8 := dkwX0_later_2 ++ dktX0_later_3
def dkwX0_later_1 : List UInt8 := [172, 42, 182, 1, 19, 87, 42, 28, 182, 1, 22, 87, 29, 4, 160, 0, 15, 42, 180, 0, 43, 180, 0, 254]
abbrev dktX0_later_1 : List UInt8 := dkwX0_later_1 ++ dktX0_later_2
def dkwX0_later_0 : List UInt8 := [42, 27, 182, 0, 231, 153, 0, 17, 28, 184, 1, 16, 153, 0, 10, 29, 184, 0, 209, 154, 0, 6, 18, 100]
abbrev dktX0_later_0 : List UInt8 := dkwX0_later_0 ++ dktX0_later_1
theorem dksX0_later_0 : cX0_later.data.toList.drop 0 = dktX0_later_0 := by decide +kernel
theorem dksX0_later_1 : cX0_later.data.toList.drop 24 = dktX0_later_1 := dk_seg dksX0_later_0 24 rfl rfl
theorem dksX0_later_2 : cX0_later.data.toList.drop 48 = dktX0_later_2 := dk_seg dksX0_later_1 24 rfl rfl
theorem dksX0_later_3 : cX0_later.data.toList.drop 71 = dktX0_later_3 := dk_seg dksX0_later_2 23 rfl rfl
theorem dX0_later_0 : decode cX0_later 0 = .ok (.aload_n 0, 1) := dk_42 (dk_at dksX0_later_0 0 rfl rfl)
theorem dX0_later_1 : decode cX0_later 1 = .ok (.iload_n 1, 1) := dk_27 (dk_at dksX0_later_0 1 rfl rfl)
theorem dX0_later_2 : decode cX0_later 2 = .ok (.invokevirtual 231, 3) := dk_182 0 231 (dk_at dksX0_later_0 2 rfl rfl)
theorem dX0_later_5 : decode cX0_later 5 = .ok (.ifCond .eq 17, 3) := dk_153 0 17 (dk_at dksX0_later_0 5 rfl rfl)
theorem dX0_later_8 : decode cX0_later 8 = .ok (.iload_n 2, 1) := dk_28 (dk_at dksX0_later_0 8 rfl rfl)
theorem dX0_later_9 : decode cX0_later 9 = .ok (.invokestatic 272, 3) := dk_184 1 16 (dk_at dksX0_later_0 9 rfl rfl)
theorem dX0_later_12 : decode cX0_later 12 = .ok (.ifCond .eq 10, 3) := dk_153 0 10 (dk_at dksX0_later_0 12 rfl rfl)
theorem dX0_later_15 : decode cX0_later 15 = .ok (.iload_n 3, 1) := dk_29 (dk_at dksX0_later_0 15 rfl rfl)
theorem dX0_later_16 : decode cX0_later 16 = .ok (.invokestatic 209, 3) := dk_184 0 209 (dk_at dksX0_later_0 16 rfl rfl)
theorem dX0_later_19 : decode cX0_later 19 = .ok (.ifCond .ne 6, 3) := dk_154 0 6 (dk_at dksX0_later_0 19 rfl rfl)
theorem dX0_later_22 : decode cX0_later 22 = .ok (.ldc 100, 2) := dk_18 100 (dk_at dksX0_later_0 22 rfl rfl)
theorem dX0_later_24 : decode cX0_later 24 = .ok (.ireturn, 1) := dk_172 (dk_at dksX0_later_1 0 rfl rfl)
theorem dX0_later_25 : decode cX0_later 25 = .ok (.aload_n 0, 1) := dk_42 (dk_at dksX0_later_1 1 rfl rfl)
theorem dX0_later_26 : decode cX0_later 26 = .ok (.invokevirtual 275, 3) := dk_182 1 19 (dk_at dksX0_later_1 2 rfl rfl)
theorem dX0_later_29 : decode cX0_later 29 = .ok (.pop, 1) := dk_87 (dk_at dksX0_later_1 5 rfl rfl)
theorem dX0_later_30 : decode cX0_later 30 = .ok (.aload_n 0, 1) := dk_42 (dk_at dksX0_later_1 6 rfl rfl)
theorem dX0_later_31 : decode cX0_later 31 = .ok (.iload_n 2, 1) := dk_28 (dk_at dksX0_later_1 7 rfl rfl)
theorem dX0_later_32 : decode cX0_later 32 = .ok (.invokevirtual 278, 3) := dk_182 1 22 (dk_at dksX0_later_1 8 rfl rfl)
theorem dX0_later_35 : decode cX0_later 35 = .ok (.pop, 1) := dk_87 (dk_at dksX0_later_1 11 rfl rfl)
theorem dX0_later_36 : decode cX0_later 36 = .ok (.iload_n 3, 1) := dk_29 (dk_at dksX0_later_1 12 rfl rfl)
theorem dX0_later_37 : decode cX0_later 37 = .ok (.iconst 1, 1) := dk_4 (dk_at dksX0_later_1 13 rfl rfl)
theorem dX0_later_38 : decode cX0_later 38 = .ok (.if_icmp .ne 15, 3) := dk_160 0 15 (dk_at dksX0_later_1 14 rfl rfl)
theorem dX0_later_41 : decode cX0_later 41 = .ok (.aload_n 0, 1) := dk_42 (dk_at dksX0_later_1 17 rfl rfl)
theorem dX0_later_42 : decode cX0_later 42 = .ok (.getfield 43, 3) := dk_180 0 43 (dk_at dksX0_later_1 18 rfl rfl)
theorem dX0_later_45 : decode cX0_later 45 = .ok (.getfield 254, 3) := dk_180 0 254 (dk_at dksX0_later_1 21 rfl rfl)
theorem dX0_later_48 : decode cX0_later 48 = .ok (.iload_n 1, 1) := dk_27 (dk_at dksX0_later_2 0 rfl rfl)
theorem dX0_later_49 : decode cX0_later 49 = .ok (.iaload, 1) := dk_46 (dk_at dksX0_later_2 1 rfl rfl)
theorem dX0_later_50 : decode cX0_later 50 = .ok (.goto 29, 3) := dk_167 0 29 (dk_at dksX0_later_2 2 rfl rfl)
theorem dX0_later_53 : decode cX0_later 53 = .ok (.aload_n 0, 1) := dk_42 (dk_at dksX0_later_2 5 rfl rfl)
theorem dX0_later_54 : decode cX0_later 54 = .ok (.getfield 43, 3) := dk_180 0 43 (dk_at dksX0_later_2 6 rfl rfl)
theorem dX0_later_57 : decode cX0_later 57 = .ok (.iload_n 1, 1) := dk_27 (dk_at dksX0_later_2 9 rfl rfl)
theorem dX0_later_58 : decode cX0_later 58 = .ok (.invokevirtual 234, 3) := dk_182 0 234 (dk_at dksX0_later_2 10 rfl rfl)
theorem dX0_later_61 : decode cX0_later 61 = .ok (.ifCond .eq 9, 3) := dk_153 0 9 (dk_at dksX0_later_2 13 rfl rfl)
theorem dX0_later_64 : decode cX0_later 64 = .ok (.ldc_w 257, 3) := dk_19 1 1 (dk_at dksX0_later_2 16 rfl rfl)
theorem dX0_later_67 : decode cX0_later 67 = .ok (.goto 12, 3) := dk_167 0 12 (dk_at dksX0_later_2 19 rfl rfl)
theorem dX0_later_70 : decode cX0_later 70 = .ok (.aload_n 0, 1) := dk_42 (dk_at dksX0_later_2 22 rfl rfl)
theorem dX0_later_71 : decode cX0_later 71 = .ok (.getfield 43, 3) := dk_180 0 43 (dk_at dksX0_later_3 0 rfl rfl)
theorem dX0_later_74 : decode cX0_later 74 = .ok (.getfield 237, 3) := dk_180 0 237 (dk_at dksX0_later_3 3 rfl rfl)
theorem dX0_later_77 : decode cX0_later 77 = .ok (.iload_n 1, 1) := dk_27 (dk_at dksX0_later_3 6 rfl rfl)
theorem dX0_later_78 : decode cX0_later 78 = .ok (.iaload, 1) := dk_46 (dk_at dksX0_later_3 7 rfl rfl)
theorem dX0_later_79 : decode cX0_later 79 = .ok (.ireturn, 1) := dk_172 (dk_at dksX0_later_3 8 rfl rfl)
abbrev cX0_when : ByteArray := prog_1_method_41_code
def yX0_when : MethodName := ⟨RX0, "when", "(I)I"⟩
def dkwX0_when_2 : List UInt8 := [132, 2, 1, 167, 255, 225, 19, 1, 1, 172]
abbrev dktX0_when_2 : List UInt8 := dkwX0_when_2 ++ []
def dkwX0_when_1 : List UInt8 := [42, 180, 0, 43, 180, 0, 243, 27, 46, 154, 0, 5, 28, 172, 42, 180, 0, 43, 182, 0, 196, 87]
abbrev dktX0_when_1 : List UInt8 := dkwX0_when_1 ++ dktX0_when_2
def dkwX0_when_0 : List UInt8 := [42, 27, 182, 0, 206, 154, 0, 6, 18, 100, 172, 42, 182, 1, 19, 87, 3, 61, 28, 16, 60, 163, 0, 31]
abbrev dktX0_when_0 : List UInt8 := dkwX0_when_0 ++ dktX0_when_1
theorem dksX0_when_0 : cX0_when.data.toList.drop 0 = dktX0_when_0 := by decide +kernel
theorem dksX0_when_1 : cX0_when.data.toList.drop 24 = dktX0_when_1 := dk_seg dksX0_when_0 24 rfl rfl
theorem dksX0_when_2 : cX0_when.data.toList.drop 46 = dktX0_when_2 := dk_seg dksX0_when_1 22 rfl rfl
theorem dX0_when_0 : decode cX0_when 0 = .ok (.aload_n 0, 1) := dk_42 (dk_at dksX0_when_0 0 rfl rfl)
theorem dX0_when_1 : decode cX0_when 1 = .ok (.iload_n 1, 1) := dk_27 (dk_at dksX0_when_0 1 rfl rfl)
theorem dX0_when_2 : decode cX0_when 2 = .ok (.invokevirtual 206, 3) := dk_182 0 206 (dk_at dksX0_when_0 2 rfl rfl)
theorem dX0_when_5 : decode cX0_when 5 = .ok (.ifCond .ne 6, 3) := dk_154 0 6 (dk_at dksX0_when_0 5 rfl rfl)
theorem dX0_when_8 : decode cX0_when 8 = .ok (.ldc 100, 2) := dk_18 100 (dk_at dksX0_when_0 8 rfl rfl)
theorem dX0_when_10 : decode cX0_when 10 = .ok (.ireturn, 1) := dk_172 (dk_at dksX0_when_0 10 rfl rfl)
theorem dX0_when_11 : decode cX0_when 11 = .ok (.aload_n 0, 1) := dk_42 (dk_at dksX0_when_0 11 rfl rfl)
theorem dX0_when_12 : decode cX0_when 12 = .ok (.invokevirtual 275, 3) := dk_182 1 19 (dk_at dksX0_when_0 12 rfl rfl)
theorem dX0_when_15 : decode cX0_when 15 = .ok (.pop, 1) := dk_87 (dk_at dksX0_when_0 15 rfl rfl)
theorem dX0_when_16 : decode cX0_when 16 = .ok (.iconst 0, 1) := dk_3 (dk_at dksX0_when_0 16 rfl rfl)
theorem dX0_when_17 : decode cX0_when 17 = .ok (.istore_n 2, 1) := dk_61 (dk_at dksX0_when_0 17 rfl rfl)
theorem dX0_when_18 : decode cX0_when 18 = .ok (.iload_n 2, 1) := dk_28 (dk_at dksX0_when_0 18 rfl rfl)
theorem dX0_when_19 : decode cX0_when 19 = .ok (.bipush 60, 2) := dk_16 60 (dk_at dksX0_when_0 19 rfl rfl)
theorem dX0_when_21 : decode cX0_when 21 = .ok (.if_icmp .gt 31, 3) := dk_163 0 31 (dk_at dksX0_when_0 21 rfl rfl)
theorem dX0_when_24 : decode cX0_when 24 = .ok (.aload_n 0, 1) := dk_42 (dk_at dksX0_when_1 0 rfl rfl)
theorem dX0_when_25 : decode cX0_when 25 = .ok (.getfield 43, 3) := dk_180 0 43 (dk_at dksX0_when_1 1 rfl rfl)
theorem dX0_when_28 : decode cX0_when 28 = .ok (.getfield 243, 3) := dk_180 0 243 (dk_at dksX0_when_1 4 rfl rfl)
theorem dX0_when_31 : decode cX0_when 31 = .ok (.iload_n 1, 1) := dk_27 (dk_at dksX0_when_1 7 rfl rfl)
theorem dX0_when_32 : decode cX0_when 32 = .ok (.iaload, 1) := dk_46 (dk_at dksX0_when_1 8 rfl rfl)
theorem dX0_when_33 : decode cX0_when 33 = .ok (.ifCond .ne 5, 3) := dk_154 0 5 (dk_at dksX0_when_1 9 rfl rfl)
theorem dX0_when_36 : decode cX0_when 36 = .ok (.iload_n 2, 1) := dk_28 (dk_at dksX0_when_1 12 rfl rfl)
theorem dX0_when_37 : decode cX0_when 37 = .ok (.ireturn, 1) := dk_172 (dk_at dksX0_when_1 13 rfl rfl)
theorem dX0_when_38 : decode cX0_when 38 = .ok (.aload_n 0, 1) := dk_42 (dk_at dksX0_when_1 14 rfl rfl)
theorem dX0_when_39 : decode cX0_when 39 = .ok (.getfield 43, 3) := dk_180 0 43 (dk_at dksX0_when_1 15 rfl rfl)
theorem dX0_when_42 : decode cX0_when 42 = .ok (.invokevirtual 196, 3) := dk_182 0 196 (dk_at dksX0_when_1 18 rfl rfl)
theorem dX0_when_45 : decode cX0_when 45 = .ok (.pop, 1) := dk_87 (dk_at dksX0_when_1 21 rfl rfl)
theorem dX0_when_46 : decode cX0_when 46 = .ok (.iinc 2 1, 3) := dk_132 2 1 (dk_at dksX0_when_2 0 rfl rfl)
theorem dX0_when_49 : decode cX0_when 49 = .ok (.goto (-31), 3) := dk_167 255 225 (dk_at dksX0_when_2 3 rfl rfl)
theorem dX0_when_52 : decode cX0_when 52 = .ok (.ldc_w 257, 3) := dk_19 1 1 (dk_at dksX0_when_2 6 rfl rfl)
theorem dX0_when_55 : decode cX0_when 55 = .ok (.ireturn, 1) := dk_172 (dk_at dksX0_when_2 9 rfl rfl)
abbrev cX0_first : ByteArray := prog_1_method_42_code
def yX0_first : MethodName := ⟨RX0, "first", "(I)I"⟩
def dkwX0_first_3 : List UInt8 := [132, 2, 1, 167, 255, 209, 19, 1, 1, 172]
abbrev dktX0_first_3 : List UInt8 := dkwX0_first_3 ++ []
def dkwX0_first_2 : List UInt8 := [182, 1, 26, 2, 130, 126, 62, 29, 153, 0, 16, 27, 154, 0, 10, 29, 184, 1, 29, 167, 0, 4, 28, 172]
abbrev dktX0_first_2 : List UInt8 := dkwX0_first_2 ++ dktX0_first_3
def dkwX0_first_1 : List UInt8 := [87, 4, 61, 28, 16, 60, 163, 0, 47, 42, 180, 0, 43, 182, 0, 196, 182, 1, 26, 42, 180, 0, 39]
abbrev dktX0_first_1 : List UInt8 := dkwX0_first_1 ++ dktX0_first_2
def dkwX0_first_0 : List UInt8 := [42, 182, 0, 184, 154, 0, 6, 18, 173, 172, 27, 184, 0, 209, 154, 0, 6, 18, 100, 172, 42, 182, 1, 19]
abbrev dktX0_first_0 : List UInt8 := dkwX0_first_0 ++ dktX0_first_1
theorem dksX0_first_0 : cX0_first.data.toList.drop 0 = dktX0_first_0 := by decide +kernel
theorem dksX0_first_1 : cX0_first.data.toList.drop 24 = dktX0_first_1 := dk_seg dksX0_first_0 24 rfl rfl
theorem dksX0_first_2 : cX0_first.data.toList.drop 47 = dktX0_first_2 := dk_seg dksX0_first_1 23 rfl rfl
theorem dksX0_first_3 : cX0_first.data.toList.drop 71 = dktX0_first_3 := dk_seg dksX0_first_2 24 rfl rfl
theorem dX0_first_0 : decode cX0_first 0 = .ok (.aload_n 0, 1) := dk_42 (dk_at dksX0_first_0 0 rfl rfl)
theorem dX0_first_1 : decode cX0_first 1 = .ok (.invokevirtual 184, 3) := dk_182 0 184 (dk_at dksX0_first_0 1 rfl rfl)
theorem dX0_first_4 : decode cX0_first 4 = .ok (.ifCond .ne 6, 3) := dk_154 0 6 (dk_at dksX0_first_0 4 rfl rfl)
theorem dX0_first_7 : decode cX0_first 7 = .ok (.ldc 173, 2) := dk_18 173 (dk_at dksX0_first_0 7 rfl rfl)
theorem dX0_first_9 : decode cX0_first 9 = .ok (.ireturn, 1) := dk_172 (dk_at dksX0_first_0 9 rfl rfl)
theorem dX0_first_10 : decode cX0_first 10 = .ok (.iload_n 1, 1) := dk_27 (dk_at dksX0_first_0 10 rfl rfl)
theorem dX0_first_11 : decode cX0_first 11 = .ok (.invokestatic 209, 3) := dk_184 0 209 (dk_at dksX0_first_0 11 rfl rfl)
theorem dX0_first_14 : decode cX0_first 14 = .ok (.ifCond .ne 6, 3) := dk_154 0 6 (dk_at dksX0_first_0 14 rfl rfl)
theorem dX0_first_17 : decode cX0_first 17 = .ok (.ldc 100, 2) := dk_18 100 (dk_at dksX0_first_0 17 rfl rfl)
theorem dX0_first_19 : decode cX0_first 19 = .ok (.ireturn, 1) := dk_172 (dk_at dksX0_first_0 19 rfl rfl)
theorem dX0_first_20 : decode cX0_first 20 = .ok (.aload_n 0, 1) := dk_42 (dk_at dksX0_first_0 20 rfl rfl)
theorem dX0_first_21 : decode cX0_first 21 = .ok (.invokevirtual 275, 3) := dk_182 1 19 (dk_at dksX0_first_0 21 rfl rfl)
theorem dX0_first_24 : decode cX0_first 24 = .ok (.pop, 1) := dk_87 (dk_at dksX0_first_1 0 rfl rfl)
theorem dX0_first_25 : decode cX0_first 25 = .ok (.iconst 1, 1) := dk_4 (dk_at dksX0_first_1 1 rfl rfl)
theorem dX0_first_26 : decode cX0_first 26 = .ok (.istore_n 2, 1) := dk_61 (dk_at dksX0_first_1 2 rfl rfl)
theorem dX0_first_27 : decode cX0_first 27 = .ok (.iload_n 2, 1) := dk_28 (dk_at dksX0_first_1 3 rfl rfl)
theorem dX0_first_28 : decode cX0_first 28 = .ok (.bipush 60, 2) := dk_16 60 (dk_at dksX0_first_1 4 rfl rfl)
theorem dX0_first_30 : decode cX0_first 30 = .ok (.if_icmp .gt 47, 3) := dk_163 0 47 (dk_at dksX0_first_1 6 rfl rfl)
theorem dX0_first_33 : decode cX0_first 33 = .ok (.aload_n 0, 1) := dk_42 (dk_at dksX0_first_1 9 rfl rfl)
theorem dX0_first_34 : decode cX0_first 34 = .ok (.getfield 43, 3) := dk_180 0 43 (dk_at dksX0_first_1 10 rfl rfl)
theorem dX0_first_37 : decode cX0_first 37 = .ok (.invokevirtual 196, 3) := dk_182 0 196 (dk_at dksX0_first_1 13 rfl rfl)
theorem dX0_first_40 : decode cX0_first 40 = .ok (.invokevirtual 282, 3) := dk_182 1 26 (dk_at dksX0_first_1 16 rfl rfl)
theorem dX0_first_43 : decode cX0_first 43 = .ok (.aload_n 0, 1) := dk_42 (dk_at dksX0_first_1 19 rfl rfl)
theorem dX0_first_44 : decode cX0_first 44 = .ok (.getfield 39, 3) := dk_180 0 39 (dk_at dksX0_first_1 20 rfl rfl)
theorem dX0_first_47 : decode cX0_first 47 = .ok (.invokevirtual 282, 3) := dk_182 1 26 (dk_at dksX0_first_2 0 rfl rfl)
theorem dX0_first_50 : decode cX0_first 50 = .ok (.iconst (-1), 1) := dk_2 (dk_at dksX0_first_2 3 rfl rfl)
theorem dX0_first_51 : decode cX0_first 51 = .ok (.ixor, 1) := dk_130 (dk_at dksX0_first_2 4 rfl rfl)
theorem dX0_first_52 : decode cX0_first 52 = .ok (.iand, 1) := dk_126 (dk_at dksX0_first_2 5 rfl rfl)
theorem dX0_first_53 : decode cX0_first 53 = .ok (.istore_n 3, 1) := dk_62 (dk_at dksX0_first_2 6 rfl rfl)
theorem dX0_first_54 : decode cX0_first 54 = .ok (.iload_n 3, 1) := dk_29 (dk_at dksX0_first_2 7 rfl rfl)
theorem dX0_first_55 : decode cX0_first 55 = .ok (.ifCond .eq 16, 3) := dk_153 0 16 (dk_at dksX0_first_2 8 rfl rfl)
theorem dX0_first_58 : decode cX0_first 58 = .ok (.iload_n 1, 1) := dk_27 (dk_at dksX0_first_2 11 rfl rfl)
theorem dX0_first_59 : decode cX0_first 59 = .ok (.ifCond .ne 10, 3) := dk_154 0 10 (dk_at dksX0_first_2 12 rfl rfl)
theorem dX0_first_62 : decode cX0_first 62 = .ok (.iload_n 3, 1) := dk_29 (dk_at dksX0_first_2 15 rfl rfl)
theorem dX0_first_63 : decode cX0_first 63 = .ok (.invokestatic 285, 3) := dk_184 1 29 (dk_at dksX0_first_2 16 rfl rfl)
theorem dX0_first_66 : decode cX0_first 66 = .ok (.goto 4, 3) := dk_167 0 4 (dk_at dksX0_first_2 19 rfl rfl)
theorem dX0_first_69 : decode cX0_first 69 = .ok (.iload_n 2, 1) := dk_28 (dk_at dksX0_first_2 22 rfl rfl)
theorem dX0_first_70 : decode cX0_first 70 = .ok (.ireturn, 1) := dk_172 (dk_at dksX0_first_2 23 rfl rfl)
theorem dX0_first_71 : decode cX0_first 71 = .ok (.iinc 2 1, 3) := dk_132 2 1 (dk_at dksX0_first_3 0 rfl rfl)
theorem dX0_first_74 : decode cX0_first 74 = .ok (.goto (-47), 3) := dk_167 255 209 (dk_at dksX0_first_3 3 rfl rfl)
theorem dX0_first_77 : decode cX0_first 77 = .ok (.ldc_w 257, 3) := dk_19 1 1 (dk_at dksX0_first_3 6 rfl rfl)
theorem dX0_first_80 : decode cX0_first 80 = .ok (.ireturn, 1) := dk_172 (dk_at dksX0_first_3 9 rfl rfl)
abbrev cX0_hole : ByteArray := prog_1_method_43_code
def yX0_hole : MethodName := ⟨RX0, "hole", "(II)I"⟩
def dkwX0_hole_4 : List UInt8 := [120, 167, 0, 4, 3, 128, 62, 132, 4, 1, 167, 255, 188, 29, 172]
abbrev dktX0_hole_4 : List UInt8 := dkwX0_hole_4 ++ []
def dkwX0_hole_3 : List UInt8 := [46, 21, 5, 164, 0, 25, 4, 42, 180, 0, 43, 180, 1, 13, 42, 180, 0, 43, 180, 0, 237, 27, 46, 46]
abbrev dktX0_hole_3 : List UInt8 := dkwX0_hole_3 ++ dktX0_hole_4
def dkwX0_hole_2 : List UInt8 := [180, 0, 254, 27, 46, 54, 5, 42, 180, 0, 43, 182, 0, 196, 87, 29, 42, 180, 0, 43, 180, 0, 254, 27]
abbrev dktX0_hole_2 : List UInt8 := dkwX0_hole_2 ++ dktX0_hole_3
def dkwX0_hole_1 : List UInt8 := [180, 0, 43, 180, 0, 254, 27, 3, 79, 3, 62, 3, 54, 4, 21, 4, 28, 162, 0, 68, 42, 180, 0, 43]
abbrev dktX0_hole_1 : List UInt8 := dkwX0_hole_1 ++ dktX0_hole_2
def dkwX0_hole_0 : List UInt8 := [42, 27, 182, 0, 231, 153, 0, 10, 28, 184, 1, 16, 154, 0, 6, 18, 100, 172, 42, 182, 1, 19, 87, 42]
abbrev dktX0_hole_0 : List UInt8 := dkwX0_hole_0 ++ dktX0_hole_1
theorem dksX0_hole_0 : cX0_hole.data.toList.drop 0 = dktX0_hole_0 := by decide +kernel
theorem dksX0_hole_1 : cX0_hole.data.toList.drop 24 = dktX0_hole_1 := dk_seg dksX0_hole_0 24 rfl rfl
theorem dksX0_hole_2 : cX0_hole.data.toList.drop 48 = dktX0_hole_2 := dk_seg dksX0_hole_1 24 rfl rfl
theorem dksX0_hole_3 : cX0_hole.data.toList.drop 72 = dktX0_hole_3 := dk_seg dksX0_hole_2 24 rfl rfl
theorem dksX0_hole_4 : cX0_hole.data.toList.drop 96 = dktX0_hole_4 := dk_seg dksX0_hole_3 24 rfl rfl
theorem dX0_hole_0 : decode cX0_hole 0 = .ok (.aload_n 0, 1) := dk_42 (dk_at dksX0_hole_0 0 rfl rfl)
theorem dX0_hole_1 : decode cX0_hole 1 = .ok (.iload_n 1, 1) := dk_27 (dk_at dksX0_hole_0 1 rfl rfl)
theorem dX0_hole_2 : decode cX0_hole 2 = .ok (.invokevirtual 231, 3) := dk_182 0 231 (dk_at dksX0_hole_0 2 rfl rfl)
theorem dX0_hole_5 : decode cX0_hole 5 = .ok (.ifCond .eq 10, 3) := dk_153 0 10 (dk_at dksX0_hole_0 5 rfl rfl)
theorem dX0_hole_8 : decode cX0_hole 8 = .ok (.iload_n 2, 1) := dk_28 (dk_at dksX0_hole_0 8 rfl rfl)
theorem dX0_hole_9 : decode cX0_hole 9 = .ok (.invokestatic 272, 3) := dk_184 1 16 (dk_at dksX0_hole_0 9 rfl rfl)
theorem dX0_hole_12 : decode cX0_hole 12 = .ok (.ifCond .ne 6, 3) := dk_154 0 6 (dk_at dksX0_hole_0 12 rfl rfl)
theorem dX0_hole_15 : decode cX0_hole 15 = .ok (.ldc 100, 2) := dk_18 100 (dk_at dksX0_hole_0 15 rfl rfl)
theorem dX0_hole_17 : decode cX0_hole 17 = .ok (.ireturn, 1) := dk_172 (dk_at dksX0_hole_0 17 rfl rfl)
theorem dX0_hole_18 : decode cX0_hole 18 = .ok (.aload_n 0, 1) := dk_42 (dk_at dksX0_hole_0 18 rfl rfl)
theorem dX0_hole_19 : decode cX0_hole 19 = .ok (.invokevirtual 275, 3) := dk_182 1 19 (dk_at dksX0_hole_0 19 rfl rfl)
theorem dX0_hole_22 : decode cX0_hole 22 = .ok (.pop, 1) := dk_87 (dk_at dksX0_hole_0 22 rfl rfl)
theorem dX0_hole_23 : decode cX0_hole 23 = .ok (.aload_n 0, 1) := dk_42 (dk_at dksX0_hole_0 23 rfl rfl)
theorem dX0_hole_24 : decode cX0_hole 24 = .ok (.getfield 43, 3) := dk_180 0 43 (dk_at dksX0_hole_1 0 rfl rfl)
theorem dX0_hole_27 : decode cX0_hole 27 = .ok (.getfield 254, 3) := dk_180 0 254 (dk_at dksX0_hole_1 3 rfl rfl)
theorem dX0_hole_30 : decode cX0_hole 30 = .ok (.iload_n 1, 1) := dk_27 (dk_at dksX0_hole_1 6 rfl rfl)
theorem dX0_hole_31 : decode cX0_hole 31 = .ok (.iconst 0, 1) := dk_3 (dk_at dksX0_hole_1 7 rfl rfl)
theorem dX0_hole_32 : decode cX0_hole 32 = .ok (.iastore, 1) := dk_79 (dk_at dksX0_hole_1 8 rfl rfl)
theorem dX0_hole_33 : decode cX0_hole 33 = .ok (.iconst 0, 1) := dk_3 (dk_at dksX0_hole_1 9 rfl rfl)
theorem dX0_hole_34 : decode cX0_hole 34 = .ok (.istore_n 3, 1) := dk_62 (dk_at dksX0_hole_1 10 rfl rfl)
theorem dX0_hole_35 : decode cX0_hole 35 = .ok (.iconst 0, 1) := dk_3 (dk_at dksX0_hole_1 11 rfl rfl)
theorem dX0_hole_36 : decode cX0_hole 36 = .ok (.istore 4, 2) := dk_54 4 (dk_at dksX0_hole_1 12 rfl rfl)
theorem dX0_hole_38 : decode cX0_hole 38 = .ok (.iload 4, 2) := dk_21 4 (dk_at dksX0_hole_1 14 rfl rfl)
theorem dX0_hole_40 : decode cX0_hole 40 = .ok (.iload_n 2, 1) := dk_28 (dk_at dksX0_hole_1 16 rfl rfl)
theorem dX0_hole_41 : decode cX0_hole 41 = .ok (.if_icmp .ge 68, 3) := dk_162 0 68 (dk_at dksX0_hole_1 17 rfl rfl)
theorem dX0_hole_44 : decode cX0_hole 44 = .ok (.aload_n 0, 1) := dk_42 (dk_at dksX0_hole_1 20 rfl rfl)
theorem dX0_hole_45 : decode cX0_hole 45 = .ok (.getfield 43, 3) := dk_180 0 43 (dk_at dksX0_hole_1 21 rfl rfl)
theorem dX0_hole_48 : decode cX0_hole 48 = .ok (.getfield 254, 3) := dk_180 0 254 (dk_at dksX0_hole_2 0 rfl rfl)
theorem dX0_hole_51 : decode cX0_hole 51 = .ok (.iload_n 1, 1) := dk_27 (dk_at dksX0_hole_2 3 rfl rfl)
theorem dX0_hole_52 : decode cX0_hole 52 = .ok (.iaload, 1) := dk_46 (dk_at dksX0_hole_2 4 rfl rfl)
theorem dX0_hole_53 : decode cX0_hole 53 = .ok (.istore 5, 2) := dk_54 5 (dk_at dksX0_hole_2 5 rfl rfl)
theorem dX0_hole_55 : decode cX0_hole 55 = .ok (.aload_n 0, 1) := dk_42 (dk_at dksX0_hole_2 7 rfl rfl)
theorem dX0_hole_56 : decode cX0_hole 56 = .ok (.getfield 43, 3) := dk_180 0 43 (dk_at dksX0_hole_2 8 rfl rfl)
theorem dX0_hole_59 : decode cX0_hole 59 = .ok (.invokevirtual 196, 3) := dk_182 0 196 (dk_at dksX0_hole_2 11 rfl rfl)
theorem dX0_hole_62 : decode cX0_hole 62 = .ok (.pop, 1) := dk_87 (dk_at dksX0_hole_2 14 rfl rfl)
theorem dX0_hole_63 : decode cX0_hole 63 = .ok (.iload_n 3, 1) := dk_29 (dk_at dksX0_hole_2 15 rfl rfl)
theorem dX0_hole_64 : decode cX0_hole 64 = .ok (.aload_n 0, 1) := dk_42 (dk_at dksX0_hole_2 16 rfl rfl)
theorem dX0_hole_65 : decode cX0_hole 65 = .ok (.getfield 43, 3) := dk_180 0 43 (dk_at dksX0_hole_2 17 rfl rfl)
theorem dX0_hole_68 : decode cX0_hole 68 = .ok (.getfield 254, 3) := dk_180 0 254 (dk_at dksX0_hole_2 20 rfl rfl)
theorem dX0_hole_71 : decode cX0_hole 71 = .ok (.iload_n 1, 1) := dk_27 (dk_at dksX0_hole_2 23 rfl rfl)
theorem dX0_hole_72 : decode cX0_hole 72 = .ok (.iaload, 1) := dk_46 (dk_at dksX0_hole_3 0 rfl rfl)
theorem dX0_hole_73 : decode cX0_hole 73 = .ok (.iload 5, 2) := dk_21 5 (dk_at dksX0_hole_3 1 rfl rfl)
theorem dX0_hole_75 : decode cX0_hole 75 = .ok (.if_icmp .le 25, 3) := dk_164 0 25 (dk_at dksX0_hole_3 3 rfl rfl)
theorem dX0_hole_78 : decode cX0_hole 78 = .ok (.iconst 1, 1) := dk_4 (dk_at dksX0_hole_3 6 rfl rfl)
theorem dX0_hole_79 : decode cX0_hole 79 = .ok (.aload_n 0, 1) := dk_42 (dk_at dksX0_hole_3 7 rfl rfl)
theorem dX0_hole_80 : decode cX0_hole 80 = .ok (.getfield 43, 3) := dk_180 0 43 (dk_at dksX0_hole_3 8 rfl rfl)
theorem dX0_hole_83 : decode cX0_hole 83 = .ok (.getfield 269, 3) := dk_180 1 13 (dk_at dksX0_hole_3 11 rfl rfl)
theorem dX0_hole_86 : decode cX0_hole 86 = .ok (.aload_n 0, 1) := dk_42 (dk_at dksX0_hole_3 14 rfl rfl)
theorem dX0_hole_87 : decode cX0_hole 87 = .ok (.getfield 43, 3) := dk_180 0 43 (dk_at dksX0_hole_3 15 rfl rfl)
theorem dX0_hole_90 : decode cX0_hole 90 = .ok (.getfield 237, 3) := dk_180 0 237 (dk_at dksX0_hole_3 18 rfl rfl)
theorem dX0_hole_93 : decode cX0_hole 93 = .ok (.iload_n 1, 1) := dk_27 (dk_at dksX0_hole_3 21 rfl rfl)
theorem dX0_hole_94 : decode cX0_hole 94 = .ok (.iaload, 1) := dk_46 (dk_at dksX0_hole_3 22 rfl rfl)
theorem dX0_hole_95 : decode cX0_hole 95 = .ok (.iaload, 1) := dk_46 (dk_at dksX0_hole_3 23 rfl rfl)
theorem dX0_hole_96 : decode cX0_hole 96 = .ok (.ishl, 1) := dk_120 (dk_at dksX0_hole_4 0 rfl rfl)
theorem dX0_hole_97 : decode cX0_hole 97 = .ok (.goto 4, 3) := dk_167 0 4 (dk_at dksX0_hole_4 1 rfl rfl)
theorem dX0_hole_100 : decode cX0_hole 100 = .ok (.iconst 0, 1) := dk_3 (dk_at dksX0_hole_4 4 rfl rfl)
theorem dX0_hole_101 : decode cX0_hole 101 = .ok (.ior, 1) := dk_128 (dk_at dksX0_hole_4 5 rfl rfl)
theorem dX0_hole_102 : decode cX0_hole 102 = .ok (.istore_n 3, 1) := dk_62 (dk_at dksX0_hole_4 6 rfl rfl)
theorem dX0_hole_103 : decode cX0_hole 103 = .ok (.iinc 4 1, 3) := dk_132 4 1 (dk_at dksX0_hole_4 7 rfl rfl)
theorem dX0_hole_106 : decode cX0_hole 106 = .ok (.goto (-68), 3) := dk_167 255 188 (dk_at dksX0_hole_4 10 rfl rfl)
theorem dX0_hole_109 : decode cX0_hole 109 = .ok (.iload_n 3, 1) := dk_29 (dk_at dksX0_hole_4 13 rfl rfl)
theorem dX0_hole_110 : decode cX0_hole 110 = .ok (.ireturn, 1) := dk_172 (dk_at dksX0_hole_4 14 rfl rfl)
abbrev cX0_order : ByteArray := prog_1_method_46_code
def yX0_order : MethodName := ⟨RX0, "order", "(III)I"⟩
def dkwX0_order_3 : List UInt8 := [182, 1, 42, 29, 2, 160, 0, 10, 42, 180, 1, 32, 167, 0, 9, 42, 180, 0, 64, 29, 46, 172]
abbrev dktX0_order_3 : List UInt8 := dkwX0_order_3 ++ []
def dkwX0_order_2 : List UInt8 := [184, 0, 86, 154, 0, 6, 18, 100, 172, 42, 2, 181, 1, 32, 42, 27, 28, 3, 42, 182, 0, 200]
abbrev dktX0_order_2 : List UInt8 := dkwX0_order_2 ++ dktX0_order_3
def dkwX0_order_1 : List UInt8 := [28, 184, 1, 46, 153, 0, 24, 29, 133, 20, 1, 49, 42, 180, 0, 39, 180, 0, 177, 4, 100, 133]
abbrev dktX0_order_1 : List UInt8 := dkwX0_order_1 ++ dktX0_order_2
def dkwX0_order_0 : List UInt8 := [42, 182, 0, 184, 154, 0, 6, 18, 173, 172, 27, 133, 9, 42, 182, 0, 200, 133, 184, 0, 86, 153, 0, 31]
abbrev dktX0_order_0 : List UInt8 := dkwX0_order_0 ++ dktX0_order_1
theorem dksX0_order_0 : cX0_order.data.toList.drop 0 = dktX0_order_0 := by decide +kernel
theorem dksX0_order_1 : cX0_order.data.toList.drop 24 = dktX0_order_1 := dk_seg dksX0_order_0 24 rfl rfl
theorem dksX0_order_2 : cX0_order.data.toList.drop 46 = dktX0_order_2 := dk_seg dksX0_order_1 22 rfl rfl
theorem dksX0_order_3 : cX0_order.data.toList.drop 68 = dktX0_order_3 := dk_seg dksX0_order_2 22 rfl rfl
theorem dX0_order_0 : decode cX0_order 0 = .ok (.aload_n 0, 1) := dk_42 (dk_at dksX0_order_0 0 rfl rfl)
theorem dX0_order_1 : decode cX0_order 1 = .ok (.invokevirtual 184, 3) := dk_182 0 184 (dk_at dksX0_order_0 1 rfl rfl)
theorem dX0_order_4 : decode cX0_order 4 = .ok (.ifCond .ne 6, 3) := dk_154 0 6 (dk_at dksX0_order_0 4 rfl rfl)
theorem dX0_order_7 : decode cX0_order 7 = .ok (.ldc 173, 2) := dk_18 173 (dk_at dksX0_order_0 7 rfl rfl)
theorem dX0_order_9 : decode cX0_order 9 = .ok (.ireturn, 1) := dk_172 (dk_at dksX0_order_0 9 rfl rfl)
theorem dX0_order_10 : decode cX0_order 10 = .ok (.iload_n 1, 1) := dk_27 (dk_at dksX0_order_0 10 rfl rfl)
theorem dX0_order_11 : decode cX0_order 11 = .ok (.i2l, 1) := dk_133 (dk_at dksX0_order_0 11 rfl rfl)
theorem dX0_order_12 : decode cX0_order 12 = .ok (.lconst 0, 1) := dk_9 (dk_at dksX0_order_0 12 rfl rfl)
theorem dX0_order_13 : decode cX0_order 13 = .ok (.aload_n 0, 1) := dk_42 (dk_at dksX0_order_0 13 rfl rfl)
theorem dX0_order_14 : decode cX0_order 14 = .ok (.invokevirtual 200, 3) := dk_182 0 200 (dk_at dksX0_order_0 14 rfl rfl)
theorem dX0_order_17 : decode cX0_order 17 = .ok (.i2l, 1) := dk_133 (dk_at dksX0_order_0 17 rfl rfl)
theorem dX0_order_18 : decode cX0_order 18 = .ok (.invokestatic 86, 3) := dk_184 0 86 (dk_at dksX0_order_0 18 rfl rfl)
theorem dX0_order_21 : decode cX0_order 21 = .ok (.ifCond .eq 31, 3) := dk_153 0 31 (dk_at dksX0_order_0 21 rfl rfl)
theorem dX0_order_24 : decode cX0_order 24 = .ok (.iload_n 2, 1) := dk_28 (dk_at dksX0_order_1 0 rfl rfl)
theorem dX0_order_25 : decode cX0_order 25 = .ok (.invokestatic 302, 3) := dk_184 1 46 (dk_at dksX0_order_1 1 rfl rfl)
theorem dX0_order_28 : decode cX0_order 28 = .ok (.ifCond .eq 24, 3) := dk_153 0 24 (dk_at dksX0_order_1 4 rfl rfl)
theorem dX0_order_31 : decode cX0_order 31 = .ok (.iload_n 3, 1) := dk_29 (dk_at dksX0_order_1 7 rfl rfl)
theorem dX0_order_32 : decode cX0_order 32 = .ok (.i2l, 1) := dk_133 (dk_at dksX0_order_1 8 rfl rfl)
theorem dX0_order_33 : decode cX0_order 33 = .ok (.ldc2_w 305, 3) := dk_20 1 49 (dk_at dksX0_order_1 9 rfl rfl)
theorem dX0_order_36 : decode cX0_order 36 = .ok (.aload_n 0, 1) := dk_42 (dk_at dksX0_order_1 12 rfl rfl)
theorem dX0_order_37 : decode cX0_order 37 = .ok (.getfield 39, 3) := dk_180 0 39 (dk_at dksX0_order_1 13 rfl rfl)
theorem dX0_order_40 : decode cX0_order 40 = .ok (.getfield 177, 3) := dk_180 0 177 (dk_at dksX0_order_1 16 rfl rfl)
theorem dX0_order_43 : decode cX0_order 43 = .ok (.iconst 1, 1) := dk_4 (dk_at dksX0_order_1 19 rfl rfl)
theorem dX0_order_44 : decode cX0_order 44 = .ok (.isub, 1) := dk_100 (dk_at dksX0_order_1 20 rfl rfl)
theorem dX0_order_45 : decode cX0_order 45 = .ok (.i2l, 1) := dk_133 (dk_at dksX0_order_1 21 rfl rfl)
theorem dX0_order_46 : decode cX0_order 46 = .ok (.invokestatic 86, 3) := dk_184 0 86 (dk_at dksX0_order_2 0 rfl rfl)
theorem dX0_order_49 : decode cX0_order 49 = .ok (.ifCond .ne 6, 3) := dk_154 0 6 (dk_at dksX0_order_2 3 rfl rfl)
theorem dX0_order_52 : decode cX0_order 52 = .ok (.ldc 100, 2) := dk_18 100 (dk_at dksX0_order_2 6 rfl rfl)
theorem dX0_order_54 : decode cX0_order 54 = .ok (.ireturn, 1) := dk_172 (dk_at dksX0_order_2 8 rfl rfl)
theorem dX0_order_55 : decode cX0_order 55 = .ok (.aload_n 0, 1) := dk_42 (dk_at dksX0_order_2 9 rfl rfl)
theorem dX0_order_56 : decode cX0_order 56 = .ok (.iconst (-1), 1) := dk_2 (dk_at dksX0_order_2 10 rfl rfl)
theorem dX0_order_57 : decode cX0_order 57 = .ok (.putfield 288, 3) := dk_181 1 32 (dk_at dksX0_order_2 11 rfl rfl)
theorem dX0_order_60 : decode cX0_order 60 = .ok (.aload_n 0, 1) := dk_42 (dk_at dksX0_order_2 14 rfl rfl)
theorem dX0_order_61 : decode cX0_order 61 = .ok (.iload_n 1, 1) := dk_27 (dk_at dksX0_order_2 15 rfl rfl)
theorem dX0_order_62 : decode cX0_order 62 = .ok (.iload_n 2, 1) := dk_28 (dk_at dksX0_order_2 16 rfl rfl)
theorem dX0_order_63 : decode cX0_order 63 = .ok (.iconst 0, 1) := dk_3 (dk_at dksX0_order_2 17 rfl rfl)
theorem dX0_order_64 : decode cX0_order 64 = .ok (.aload_n 0, 1) := dk_42 (dk_at dksX0_order_2 18 rfl rfl)
theorem dX0_order_65 : decode cX0_order 65 = .ok (.invokevirtual 200, 3) := dk_182 0 200 (dk_at dksX0_order_2 19 rfl rfl)
theorem dX0_order_68 : decode cX0_order 68 = .ok (.invokevirtual 298, 3) := dk_182 1 42 (dk_at dksX0_order_3 0 rfl rfl)
theorem dX0_order_71 : decode cX0_order 71 = .ok (.iload_n 3, 1) := dk_29 (dk_at dksX0_order_3 3 rfl rfl)
theorem dX0_order_72 : decode cX0_order 72 = .ok (.iconst (-1), 1) := dk_2 (dk_at dksX0_order_3 4 rfl rfl)
theorem dX0_order_73 : decode cX0_order 73 = .ok (.if_icmp .ne 10, 3) := dk_160 0 10 (dk_at dksX0_order_3 5 rfl rfl)
theorem dX0_order_76 : decode cX0_order 76 = .ok (.aload_n 0, 1) := dk_42 (dk_at dksX0_order_3 8 rfl rfl)
theorem dX0_order_77 : decode cX0_order 77 = .ok (.getfield 288, 3) := dk_180 1 32 (dk_at dksX0_order_3 9 rfl rfl)
theorem dX0_order_80 : decode cX0_order 80 = .ok (.goto 9, 3) := dk_167 0 9 (dk_at dksX0_order_3 12 rfl rfl)
theorem dX0_order_83 : decode cX0_order 83 = .ok (.aload_n 0, 1) := dk_42 (dk_at dksX0_order_3 15 rfl rfl)
theorem dX0_order_84 : decode cX0_order 84 = .ok (.getfield 64, 3) := dk_180 0 64 (dk_at dksX0_order_3 16 rfl rfl)
theorem dX0_order_87 : decode cX0_order 87 = .ok (.iload_n 3, 1) := dk_29 (dk_at dksX0_order_3 19 rfl rfl)
theorem dX0_order_88 : decode cX0_order 88 = .ok (.iaload, 1) := dk_46 (dk_at dksX0_order_3 20 rfl rfl)
theorem dX0_order_89 : decode cX0_order 89 = .ok (.ireturn, 1) := dk_172 (dk_at dksX0_order_3 21 rfl rfl)
abbrev cX0_isShort : ByteArray := prog_1_method_26_code
def yX0_isShort : MethodName := ⟨RX0, "isShort", "(I)Z"⟩
def dkwX0_isShort_0 : List UInt8 := [26, 133, 10, 20, 0, 182, 184, 0, 86, 172]
abbrev dktX0_isShort_0 : List UInt8 := dkwX0_isShort_0 ++ []
theorem dksX0_isShort_0 : cX0_isShort.data.toList.drop 0 = dktX0_isShort_0 := by decide +kernel
theorem dX0_isShort_0 : decode cX0_isShort 0 = .ok (.iload_n 0, 1) := dk_26 (dk_at dksX0_isShort_0 0 rfl rfl)
theorem dX0_isShort_1 : decode cX0_isShort 1 = .ok (.i2l, 1) := dk_133 (dk_at dksX0_isShort_0 1 rfl rfl)
theorem dX0_isShort_2 : decode cX0_isShort 2 = .ok (.lconst 1, 1) := dk_10 (dk_at dksX0_isShort_0 2 rfl rfl)
theorem dX0_isShort_3 : decode cX0_isShort 3 = .ok (.ldc2_w 182, 3) := dk_20 0 182 (dk_at dksX0_isShort_0 3 rfl rfl)
theorem dX0_isShort_6 : decode cX0_isShort 6 = .ok (.invokestatic 86, 3) := dk_184 0 86 (dk_at dksX0_isShort_0 6 rfl rfl)
theorem dX0_isShort_9 : decode cX0_isShort 9 = .ok (.ireturn, 1) := dk_172 (dk_at dksX0_isShort_0 9 rfl rfl)
abbrev cX0_orderFrom : ByteArray := prog_1_method_45_code
def yX0_orderFrom : MethodName := ⟨RX0, "orderFrom", "(IIII)V"⟩
def dkwX0_orderFrom_3 : List UInt8 := [177]
abbrev dktX0_orderFrom_3 : List UInt8 := dkwX0_orderFrom_3 ++ []
def dkwX0_orderFrom_2 : List UInt8 := [42, 27, 28, 29, 4, 96, 21, 4, 4, 21, 5, 120, 2, 130, 126, 182, 1, 42, 132, 5, 1, 167, 255, 202]
abbrev dktX0_orderFrom_2 : List UInt8 := dkwX0_orderFrom_2 ++ dktX0_orderFrom_3
def dkwX0_orderFrom_1 : List UInt8 := [162, 0, 48, 21, 4, 21, 5, 184, 1, 38, 154, 0, 6, 167, 0, 29, 42, 180, 0, 60, 29, 21, 5, 79]
abbrev dktX0_orderFrom_1 : List UInt8 := dkwX0_orderFrom_1 ++ dktX0_orderFrom_2
def dkwX0_orderFrom_0 : List UInt8 := [21, 4, 154, 0, 9, 42, 27, 28, 182, 1, 35, 3, 54, 5, 21, 5, 42, 180, 0, 39, 180, 0, 177]
abbrev dktX0_orderFrom_0 : List UInt8 := dkwX0_orderFrom_0 ++ dktX0_orderFrom_1
theorem dksX0_orderFrom_0 : cX0_orderFrom.data.toList.drop 0 = dktX0_orderFrom_0 := by decide +kernel
theorem dksX0_orderFrom_1 : cX0_orderFrom.data.toList.drop 23 = dktX0_orderFrom_1 := dk_seg dksX0_orderFrom_0 23 rfl rfl
theorem dksX0_orderFrom_2 : cX0_orderFrom.data.toList.drop 47 = dktX0_orderFrom_2 := dk_seg dksX0_orderFrom_1 24 rfl rfl
theorem dksX0_orderFrom_3 : cX0_orderFrom.data.toList.drop 71 = dktX0_orderFrom_3 := dk_seg dksX0_orderFrom_2 24 rfl rfl
theorem dX0_orderFrom_0 : decode cX0_orderFrom 0 = .ok (.iload 4, 2) := dk_21 4 (dk_at dksX0_orderFrom_0 0 rfl rfl)
theorem dX0_orderFrom_2 : decode cX0_orderFrom 2 = .ok (.ifCond .ne 9, 3) := dk_154 0 9 (dk_at dksX0_orderFrom_0 2 rfl rfl)
theorem dX0_orderFrom_5 : decode cX0_orderFrom 5 = .ok (.aload_n 0, 1) := dk_42 (dk_at dksX0_orderFrom_0 5 rfl rfl)
theorem dX0_orderFrom_6 : decode cX0_orderFrom 6 = .ok (.iload_n 1, 1) := dk_27 (dk_at dksX0_orderFrom_0 6 rfl rfl)
theorem dX0_orderFrom_7 : decode cX0_orderFrom 7 = .ok (.iload_n 2, 1) := dk_28 (dk_at dksX0_orderFrom_0 7 rfl rfl)
theorem dX0_orderFrom_8 : decode cX0_orderFrom 8 = .ok (.invokevirtual 291, 3) := dk_182 1 35 (dk_at dksX0_orderFrom_0 8 rfl rfl)
theorem dX0_orderFrom_11 : decode cX0_orderFrom 11 = .ok (.iconst 0, 1) := dk_3 (dk_at dksX0_orderFrom_0 11 rfl rfl)
theorem dX0_orderFrom_12 : decode cX0_orderFrom 12 = .ok (.istore 5, 2) := dk_54 5 (dk_at dksX0_orderFrom_0 12 rfl rfl)
theorem dX0_orderFrom_14 : decode cX0_orderFrom 14 = .ok (.iload 5, 2) := dk_21 5 (dk_at dksX0_orderFrom_0 14 rfl rfl)
theorem dX0_orderFrom_16 : decode cX0_orderFrom 16 = .ok (.aload_n 0, 1) := dk_42 (dk_at dksX0_orderFrom_0 16 rfl rfl)
theorem dX0_orderFrom_17 : decode cX0_orderFrom 17 = .ok (.getfield 39, 3) := dk_180 0 39 (dk_at dksX0_orderFrom_0 17 rfl rfl)
theorem dX0_orderFrom_20 : decode cX0_orderFrom 20 = .ok (.getfield 177, 3) := dk_180 0 177 (dk_at dksX0_orderFrom_0 20 rfl rfl)
theorem dX0_orderFrom_23 : decode cX0_orderFrom 23 = .ok (.if_icmp .ge 48, 3) := dk_162 0 48 (dk_at dksX0_orderFrom_1 0 rfl rfl)
theorem dX0_orderFrom_26 : decode cX0_orderFrom 26 = .ok (.iload 4, 2) := dk_21 4 (dk_at dksX0_orderFrom_1 3 rfl rfl)
theorem dX0_orderFrom_28 : decode cX0_orderFrom 28 = .ok (.iload 5, 2) := dk_21 5 (dk_at dksX0_orderFrom_1 5 rfl rfl)
theorem dX0_orderFrom_30 : decode cX0_orderFrom 30 = .ok (.invokestatic 294, 3) := dk_184 1 38 (dk_at dksX0_orderFrom_1 7 rfl rfl)
theorem dX0_orderFrom_33 : decode cX0_orderFrom 33 = .ok (.ifCond .ne 6, 3) := dk_154 0 6 (dk_at dksX0_orderFrom_1 10 rfl rfl)
theorem dX0_orderFrom_36 : decode cX0_orderFrom 36 = .ok (.goto 29, 3) := dk_167 0 29 (dk_at dksX0_orderFrom_1 13 rfl rfl)
theorem dX0_orderFrom_39 : decode cX0_orderFrom 39 = .ok (.aload_n 0, 1) := dk_42 (dk_at dksX0_orderFrom_1 16 rfl rfl)
theorem dX0_orderFrom_40 : decode cX0_orderFrom 40 = .ok (.getfield 60, 3) := dk_180 0 60 (dk_at dksX0_orderFrom_1 17 rfl rfl)
theorem dX0_orderFrom_43 : decode cX0_orderFrom 43 = .ok (.iload_n 3, 1) := dk_29 (dk_at dksX0_orderFrom_1 20 rfl rfl)
theorem dX0_orderFrom_44 : decode cX0_orderFrom 44 = .ok (.iload 5, 2) := dk_21 5 (dk_at dksX0_orderFrom_1 21 rfl rfl)
theorem dX0_orderFrom_46 : decode cX0_orderFrom 46 = .ok (.iastore, 1) := dk_79 (dk_at dksX0_orderFrom_1 23 rfl rfl)
theorem dX0_orderFrom_47 : decode cX0_orderFrom 47 = .ok (.aload_n 0, 1) := dk_42 (dk_at dksX0_orderFrom_2 0 rfl rfl)
theorem dX0_orderFrom_48 : decode cX0_orderFrom 48 = .ok (.iload_n 1, 1) := dk_27 (dk_at dksX0_orderFrom_2 1 rfl rfl)
theorem dX0_orderFrom_49 : decode cX0_orderFrom 49 = .ok (.iload_n 2, 1) := dk_28 (dk_at dksX0_orderFrom_2 2 rfl rfl)
theorem dX0_orderFrom_50 : decode cX0_orderFrom 50 = .ok (.iload_n 3, 1) := dk_29 (dk_at dksX0_orderFrom_2 3 rfl rfl)
theorem dX0_orderFrom_51 : decode cX0_orderFrom 51 = .ok (.iconst 1, 1) := dk_4 (dk_at dksX0_orderFrom_2 4 rfl rfl)
theorem dX0_orderFrom_52 : decode cX0_orderFrom 52 = .ok (.iadd, 1) := dk_96 (dk_at dksX0_orderFrom_2 5 rfl rfl)
theorem dX0_orderFrom_53 : decode cX0_orderFrom 53 = .ok (.iload 4, 2) := dk_21 4 (dk_at dksX0_orderFrom_2 6 rfl rfl)
theorem dX0_orderFrom_55 : decode cX0_orderFrom 55 = .ok (.iconst 1, 1) := dk_4 (dk_at dksX0_orderFrom_2 8 rfl rfl)
theorem dX0_orderFrom_56 : decode cX0_orderFrom 56 = .ok (.iload 5, 2) := dk_21 5 (dk_at dksX0_orderFrom_2 9 rfl rfl)
theorem dX0_orderFrom_58 : decode cX0_orderFrom 58 = .ok (.ishl, 1) := dk_120 (dk_at dksX0_orderFrom_2 11 rfl rfl)
theorem dX0_orderFrom_59 : decode cX0_orderFrom 59 = .ok (.iconst (-1), 1) := dk_2 (dk_at dksX0_orderFrom_2 12 rfl rfl)
theorem dX0_orderFrom_60 : decode cX0_orderFrom 60 = .ok (.ixor, 1) := dk_130 (dk_at dksX0_orderFrom_2 13 rfl rfl)
theorem dX0_orderFrom_61 : decode cX0_orderFrom 61 = .ok (.iand, 1) := dk_126 (dk_at dksX0_orderFrom_2 14 rfl rfl)
theorem dX0_orderFrom_62 : decode cX0_orderFrom 62 = .ok (.invokevirtual 298, 3) := dk_182 1 42 (dk_at dksX0_orderFrom_2 15 rfl rfl)
theorem dX0_orderFrom_65 : decode cX0_orderFrom 65 = .ok (.iinc 5 1, 3) := dk_132 5 1 (dk_at dksX0_orderFrom_2 18 rfl rfl)
theorem dX0_orderFrom_68 : decode cX0_orderFrom 68 = .ok (.goto (-54), 3) := dk_167 255 202 (dk_at dksX0_orderFrom_2 21 rfl rfl)
theorem dX0_orderFrom_71 : decode cX0_orderFrom 71 = .ok (.return_, 1) := dk_177 (dk_at dksX0_orderFrom_3 0 rfl rfl)
abbrev cX0_look : ByteArray := prog_1_method_44_code
def yX0_look : MethodName := ⟨RX0, "look", "(II)V"⟩
def dkwX0_look_3 : List UInt8 := [3, 16, 6, 184, 0, 125, 177]
abbrev dktX0_look_3 : List UInt8 := dkwX0_look_3 ++ []
def dkwX0_look_2 : List UInt8 := [62, 29, 42, 180, 1, 32, 163, 0, 4, 177, 42, 29, 181, 1, 32, 42, 180, 0, 60, 3, 42, 180, 0, 64]
abbrev dktX0_look_2 : List UInt8 := dkwX0_look_2 ++ dktX0_look_3
def dkwX0_look_1 : List UInt8 := [180, 0, 60, 29, 46, 29, 182, 0, 228, 132, 3, 1, 167, 255, 228, 42, 28, 182, 1, 22, 27, 182, 0, 203]
abbrev dktX0_look_1 : List UInt8 := dkwX0_look_1 ++ dktX0_look_2
def dkwX0_look_0 : List UInt8 := [42, 182, 1, 19, 87, 3, 62, 29, 42, 180, 0, 39, 180, 0, 177, 162, 0, 23, 42, 180, 0, 43, 42]
abbrev dktX0_look_0 : List UInt8 := dkwX0_look_0 ++ dktX0_look_1
theorem dksX0_look_0 : cX0_look.data.toList.drop 0 = dktX0_look_0 := by decide +kernel
theorem dksX0_look_1 : cX0_look.data.toList.drop 23 = dktX0_look_1 := dk_seg dksX0_look_0 23 rfl rfl
theorem dksX0_look_2 : cX0_look.data.toList.drop 47 = dktX0_look_2 := dk_seg dksX0_look_1 24 rfl rfl
theorem dksX0_look_3 : cX0_look.data.toList.drop 71 = dktX0_look_3 := dk_seg dksX0_look_2 24 rfl rfl
theorem dX0_look_0 : decode cX0_look 0 = .ok (.aload_n 0, 1) := dk_42 (dk_at dksX0_look_0 0 rfl rfl)
theorem dX0_look_1 : decode cX0_look 1 = .ok (.invokevirtual 275, 3) := dk_182 1 19 (dk_at dksX0_look_0 1 rfl rfl)
theorem dX0_look_4 : decode cX0_look 4 = .ok (.pop, 1) := dk_87 (dk_at dksX0_look_0 4 rfl rfl)
theorem dX0_look_5 : decode cX0_look 5 = .ok (.iconst 0, 1) := dk_3 (dk_at dksX0_look_0 5 rfl rfl)
theorem dX0_look_6 : decode cX0_look 6 = .ok (.istore_n 3, 1) := dk_62 (dk_at dksX0_look_0 6 rfl rfl)
theorem dX0_look_7 : decode cX0_look 7 = .ok (.iload_n 3, 1) := dk_29 (dk_at dksX0_look_0 7 rfl rfl)
theorem dX0_look_8 : decode cX0_look 8 = .ok (.aload_n 0, 1) := dk_42 (dk_at dksX0_look_0 8 rfl rfl)
theorem dX0_look_9 : decode cX0_look 9 = .ok (.getfield 39, 3) := dk_180 0 39 (dk_at dksX0_look_0 9 rfl rfl)
theorem dX0_look_12 : decode cX0_look 12 = .ok (.getfield 177, 3) := dk_180 0 177 (dk_at dksX0_look_0 12 rfl rfl)
theorem dX0_look_15 : decode cX0_look 15 = .ok (.if_icmp .ge 23, 3) := dk_162 0 23 (dk_at dksX0_look_0 15 rfl rfl)
theorem dX0_look_18 : decode cX0_look 18 = .ok (.aload_n 0, 1) := dk_42 (dk_at dksX0_look_0 18 rfl rfl)
theorem dX0_look_19 : decode cX0_look 19 = .ok (.getfield 43, 3) := dk_180 0 43 (dk_at dksX0_look_0 19 rfl rfl)
theorem dX0_look_22 : decode cX0_look 22 = .ok (.aload_n 0, 1) := dk_42 (dk_at dksX0_look_0 22 rfl rfl)
theorem dX0_look_23 : decode cX0_look 23 = .ok (.getfield 60, 3) := dk_180 0 60 (dk_at dksX0_look_1 0 rfl rfl)
theorem dX0_look_26 : decode cX0_look 26 = .ok (.iload_n 3, 1) := dk_29 (dk_at dksX0_look_1 3 rfl rfl)
theorem dX0_look_27 : decode cX0_look 27 = .ok (.iaload, 1) := dk_46 (dk_at dksX0_look_1 4 rfl rfl)
theorem dX0_look_28 : decode cX0_look 28 = .ok (.iload_n 3, 1) := dk_29 (dk_at dksX0_look_1 5 rfl rfl)
theorem dX0_look_29 : decode cX0_look 29 = .ok (.invokevirtual 228, 3) := dk_182 0 228 (dk_at dksX0_look_1 6 rfl rfl)
theorem dX0_look_32 : decode cX0_look 32 = .ok (.iinc 3 1, 3) := dk_132 3 1 (dk_at dksX0_look_1 9 rfl rfl)
theorem dX0_look_35 : decode cX0_look 35 = .ok (.goto (-28), 3) := dk_167 255 228 (dk_at dksX0_look_1 12 rfl rfl)
theorem dX0_look_38 : decode cX0_look 38 = .ok (.aload_n 0, 1) := dk_42 (dk_at dksX0_look_1 15 rfl rfl)
theorem dX0_look_39 : decode cX0_look 39 = .ok (.iload_n 2, 1) := dk_28 (dk_at dksX0_look_1 16 rfl rfl)
theorem dX0_look_40 : decode cX0_look 40 = .ok (.invokevirtual 278, 3) := dk_182 1 22 (dk_at dksX0_look_1 17 rfl rfl)
theorem dX0_look_43 : decode cX0_look 43 = .ok (.iload_n 1, 1) := dk_27 (dk_at dksX0_look_1 20 rfl rfl)
theorem dX0_look_44 : decode cX0_look 44 = .ok (.invokevirtual 203, 3) := dk_182 0 203 (dk_at dksX0_look_1 21 rfl rfl)
theorem dX0_look_47 : decode cX0_look 47 = .ok (.istore_n 3, 1) := dk_62 (dk_at dksX0_look_2 0 rfl rfl)
theorem dX0_look_48 : decode cX0_look 48 = .ok (.iload_n 3, 1) := dk_29 (dk_at dksX0_look_2 1 rfl rfl)
theorem dX0_look_49 : decode cX0_look 49 = .ok (.aload_n 0, 1) := dk_42 (dk_at dksX0_look_2 2 rfl rfl)
theorem dX0_look_50 : decode cX0_look 50 = .ok (.getfield 288, 3) := dk_180 1 32 (dk_at dksX0_look_2 3 rfl rfl)
theorem dX0_look_53 : decode cX0_look 53 = .ok (.if_icmp .gt 4, 3) := dk_163 0 4 (dk_at dksX0_look_2 6 rfl rfl)
theorem dX0_look_56 : decode cX0_look 56 = .ok (.return_, 1) := dk_177 (dk_at dksX0_look_2 9 rfl rfl)
theorem dX0_look_57 : decode cX0_look 57 = .ok (.aload_n 0, 1) := dk_42 (dk_at dksX0_look_2 10 rfl rfl)
theorem dX0_look_58 : decode cX0_look 58 = .ok (.iload_n 3, 1) := dk_29 (dk_at dksX0_look_2 11 rfl rfl)
theorem dX0_look_59 : decode cX0_look 59 = .ok (.putfield 288, 3) := dk_181 1 32 (dk_at dksX0_look_2 12 rfl rfl)
theorem dX0_look_62 : decode cX0_look 62 = .ok (.aload_n 0, 1) := dk_42 (dk_at dksX0_look_2 15 rfl rfl)
theorem dX0_look_63 : decode cX0_look 63 = .ok (.getfield 60, 3) := dk_180 0 60 (dk_at dksX0_look_2 16 rfl rfl)
theorem dX0_look_66 : decode cX0_look 66 = .ok (.iconst 0, 1) := dk_3 (dk_at dksX0_look_2 19 rfl rfl)
theorem dX0_look_67 : decode cX0_look 67 = .ok (.aload_n 0, 1) := dk_42 (dk_at dksX0_look_2 20 rfl rfl)
theorem dX0_look_68 : decode cX0_look 68 = .ok (.getfield 64, 3) := dk_180 0 64 (dk_at dksX0_look_2 21 rfl rfl)
theorem dX0_look_71 : decode cX0_look 71 = .ok (.iconst 0, 1) := dk_3 (dk_at dksX0_look_3 0 rfl rfl)
theorem dX0_look_72 : decode cX0_look 72 = .ok (.bipush 6, 2) := dk_16 6 (dk_at dksX0_look_3 1 rfl rfl)
theorem dX0_look_74 : decode cX0_look 74 = .ok (.invokestatic 125, 3) := dk_184 0 125 (dk_at dksX0_look_3 3 rfl rfl)
theorem dX0_look_77 : decode cX0_look 77 = .ok (.return_, 1) := dk_177 (dk_at dksX0_look_3 6 rfl rfl)
abbrev cX0_has : ByteArray := prog_1_method_2_code
def yX0_has : MethodName := ⟨RX0, "has", "(II)Z"⟩
def dkwX0_has_0 : List UInt8 := [26, 27, 122, 4, 126, 4, 160, 0, 7, 4, 167, 0, 4, 3, 172]
abbrev dktX0_has_0 : List UInt8 := dkwX0_has_0 ++ []
theorem dksX0_has_0 : cX0_has.data.toList.drop 0 = dktX0_has_0 := by decide +kernel
theorem dX0_has_0 : decode cX0_has 0 = .ok (.iload_n 0, 1) := dk_26 (dk_at dksX0_has_0 0 rfl rfl)
theorem dX0_has_1 : decode cX0_has 1 = .ok (.iload_n 1, 1) := dk_27 (dk_at dksX0_has_0 1 rfl rfl)
theorem dX0_has_2 : decode cX0_has 2 = .ok (.ishr, 1) := dk_122 (dk_at dksX0_has_0 2 rfl rfl)
theorem dX0_has_3 : decode cX0_has 3 = .ok (.iconst 1, 1) := dk_4 (dk_at dksX0_has_0 3 rfl rfl)
theorem dX0_has_4 : decode cX0_has 4 = .ok (.iand, 1) := dk_126 (dk_at dksX0_has_0 4 rfl rfl)
theorem dX0_has_5 : decode cX0_has 5 = .ok (.iconst 1, 1) := dk_4 (dk_at dksX0_has_0 5 rfl rfl)
theorem dX0_has_6 : decode cX0_has 6 = .ok (.if_icmp .ne 7, 3) := dk_160 0 7 (dk_at dksX0_has_0 6 rfl rfl)
theorem dX0_has_9 : decode cX0_has 9 = .ok (.iconst 1, 1) := dk_4 (dk_at dksX0_has_0 9 rfl rfl)
theorem dX0_has_10 : decode cX0_has 10 = .ok (.goto 4, 3) := dk_167 0 4 (dk_at dksX0_has_0 10 rfl rfl)
theorem dX0_has_13 : decode cX0_has 13 = .ok (.iconst 0, 1) := dk_3 (dk_at dksX0_has_0 13 rfl rfl)
theorem dX0_has_14 : decode cX0_has 14 = .ok (.ireturn, 1) := dk_172 (dk_at dksX0_has_0 14 rfl rfl)
abbrev cX0_lamp : ByteArray := prog_1_method_47_code
def yX0_lamp : MethodName := ⟨RX0, "lamp", "(III)I"⟩
def dkwX0_lamp_5 : List UInt8 := [132, 6, 1, 167, 255, 167, 29, 154, 0, 8, 21, 5, 167, 0, 5, 21, 4, 172]
abbrev dktX0_lamp_5 : List UInt8 := dkwX0_lamp_5 ++ []
def dkwX0_lamp_4 : List UInt8 := [21, 6, 184, 0, 215, 21, 4, 184, 0, 215, 161, 0, 6, 167, 0, 11, 21, 6, 54, 4, 21, 7, 54, 5]
abbrev dktX0_lamp_4 : List UInt8 := dkwX0_lamp_4 ++ dktX0_lamp_5
def dkwX0_lamp_3 : List UInt8 := [182, 1, 22, 180, 0, 243, 27, 46, 54, 7, 21, 7, 21, 5, 161, 0, 34, 21, 7, 21, 5, 160, 0, 19]
abbrev dktX0_lamp_3 : List UInt8 := dkwX0_lamp_3 ++ dktX0_lamp_4
def dkwX0_lamp_2 : List UInt8 := [42, 180, 0, 39, 180, 0, 220, 164, 0, 6, 167, 0, 62, 42, 182, 1, 19, 21, 6, 181, 0, 212, 42, 28]
abbrev dktX0_lamp_2 : List UInt8 := dkwX0_lamp_2 ++ dktX0_lamp_3
def dkwX0_lamp_1 : List UInt8 := [172, 3, 54, 4, 2, 54, 5, 3, 54, 6, 21, 6, 42, 182, 0, 200, 163, 0, 86, 21, 6, 184, 0, 215]
abbrev dktX0_lamp_1 : List UInt8 := dkwX0_lamp_1 ++ dktX0_lamp_2
def dkwX0_lamp_0 : List UInt8 := [42, 27, 182, 0, 206, 153, 0, 17, 28, 184, 1, 51, 153, 0, 10, 29, 184, 0, 209, 154, 0, 6, 18, 100]
abbrev dktX0_lamp_0 : List UInt8 := dkwX0_lamp_0 ++ dktX0_lamp_1
theorem dksX0_lamp_0 : cX0_lamp.data.toList.drop 0 = dktX0_lamp_0 := by decide +kernel
theorem dksX0_lamp_1 : cX0_lamp.data.toList.drop 24 = dktX0_lamp_1 := dk_seg dksX0_lamp_0 24 rfl rfl
theorem dksX0_lamp_2 : cX0_lamp.data.toList.drop 48 = dktX0_lamp_2 := dk_seg dksX0_lamp_1 24 rfl rfl
theorem dksX0_lamp_3 : cX0_lamp.data.toList.drop 72 = dktX0_lamp_3 := dk_seg dksX0_lamp_2 24 rfl rfl
theorem dksX0_lamp_4 : cX0_lamp.data.toList.drop 96 = dktX0_lamp_4 := dk_seg dksX0_lamp_3 24 rfl rfl
theorem dksX0_lamp_5 : cX0_lamp.data.toList.drop 120 = dktX0_lamp_5 := dk_seg dksX0_lamp_4 24 rfl rfl
theorem dX0_lamp_0 : decode cX0_lamp 0 = .ok (.aload_n 0, 1) := dk_42 (dk_at dksX0_lamp_0 0 rfl rfl)
theorem dX0_lamp_1 : decode cX0_lamp 1 = .ok (.iload_n 1, 1) := dk_27 (dk_at dksX0_lamp_0 1 rfl rfl)
theorem dX0_lamp_2 : decode cX0_lamp 2 = .ok (.invokevirtual 206, 3) := dk_182 0 206 (dk_at dksX0_lamp_0 2 rfl rfl)
theorem dX0_lamp_5 : decode cX0_lamp 5 = .ok (.ifCond .eq 17, 3) := dk_153 0 17 (dk_at dksX0_lamp_0 5 rfl rfl)
theorem dX0_lamp_8 : decode cX0_lamp 8 = .ok (.iload_n 2, 1) := dk_28 (dk_at dksX0_lamp_0 8 rfl rfl)
theorem dX0_lamp_9 : decode cX0_lamp 9 = .ok (.invokestatic 307, 3) := dk_184 1 51 (dk_at dksX0_lamp_0 9 rfl rfl)
theorem dX0_lamp_12 : decode cX0_lamp 12 = .ok (.ifCond .eq 10, 3) := dk_153 0 10 (dk_at dksX0_lamp_0 12 rfl rfl)
theorem dX0_lamp_15 : decode cX0_lamp 15 = .ok (.iload_n 3, 1) := dk_29 (dk_at dksX0_lamp_0 15 rfl rfl)
theorem dX0_lamp_16 : decode cX0_lamp 16 = .ok (.invokestatic 209, 3) := dk_184 0 209 (dk_at dksX0_lamp_0 16 rfl rfl)
theorem dX0_lamp_19 : decode cX0_lamp 19 = .ok (.ifCond .ne 6, 3) := dk_154 0 6 (dk_at dksX0_lamp_0 19 rfl rfl)
theorem dX0_lamp_22 : decode cX0_lamp 22 = .ok (.ldc 100, 2) := dk_18 100 (dk_at dksX0_lamp_0 22 rfl rfl)
theorem dX0_lamp_24 : decode cX0_lamp 24 = .ok (.ireturn, 1) := dk_172 (dk_at dksX0_lamp_1 0 rfl rfl)
theorem dX0_lamp_25 : decode cX0_lamp 25 = .ok (.iconst 0, 1) := dk_3 (dk_at dksX0_lamp_1 1 rfl rfl)
theorem dX0_lamp_26 : decode cX0_lamp 26 = .ok (.istore 4, 2) := dk_54 4 (dk_at dksX0_lamp_1 2 rfl rfl)
theorem dX0_lamp_28 : decode cX0_lamp 28 = .ok (.iconst (-1), 1) := dk_2 (dk_at dksX0_lamp_1 4 rfl rfl)
theorem dX0_lamp_29 : decode cX0_lamp 29 = .ok (.istore 5, 2) := dk_54 5 (dk_at dksX0_lamp_1 5 rfl rfl)
theorem dX0_lamp_31 : decode cX0_lamp 31 = .ok (.iconst 0, 1) := dk_3 (dk_at dksX0_lamp_1 7 rfl rfl)
theorem dX0_lamp_32 : decode cX0_lamp 32 = .ok (.istore 6, 2) := dk_54 6 (dk_at dksX0_lamp_1 8 rfl rfl)
theorem dX0_lamp_34 : decode cX0_lamp 34 = .ok (.iload 6, 2) := dk_21 6 (dk_at dksX0_lamp_1 10 rfl rfl)
theorem dX0_lamp_36 : decode cX0_lamp 36 = .ok (.aload_n 0, 1) := dk_42 (dk_at dksX0_lamp_1 12 rfl rfl)
theorem dX0_lamp_37 : decode cX0_lamp 37 = .ok (.invokevirtual 200, 3) := dk_182 0 200 (dk_at dksX0_lamp_1 13 rfl rfl)
theorem dX0_lamp_40 : decode cX0_lamp 40 = .ok (.if_icmp .gt 86, 3) := dk_163 0 86 (dk_at dksX0_lamp_1 16 rfl rfl)
theorem dX0_lamp_43 : decode cX0_lamp 43 = .ok (.iload 6, 2) := dk_21 6 (dk_at dksX0_lamp_1 19 rfl rfl)
theorem dX0_lamp_45 : decode cX0_lamp 45 = .ok (.invokestatic 215, 3) := dk_184 0 215 (dk_at dksX0_lamp_1 21 rfl rfl)
theorem dX0_lamp_48 : decode cX0_lamp 48 = .ok (.aload_n 0, 1) := dk_42 (dk_at dksX0_lamp_2 0 rfl rfl)
theorem dX0_lamp_49 : decode cX0_lamp 49 = .ok (.getfield 39, 3) := dk_180 0 39 (dk_at dksX0_lamp_2 1 rfl rfl)
theorem dX0_lamp_52 : decode cX0_lamp 52 = .ok (.getfield 220, 3) := dk_180 0 220 (dk_at dksX0_lamp_2 4 rfl rfl)
theorem dX0_lamp_55 : decode cX0_lamp 55 = .ok (.if_icmp .le 6, 3) := dk_164 0 6 (dk_at dksX0_lamp_2 7 rfl rfl)
theorem dX0_lamp_58 : decode cX0_lamp 58 = .ok (.goto 62, 3) := dk_167 0 62 (dk_at dksX0_lamp_2 10 rfl rfl)
theorem dX0_lamp_61 : decode cX0_lamp 61 = .ok (.aload_n 0, 1) := dk_42 (dk_at dksX0_lamp_2 13 rfl rfl)
theorem dX0_lamp_62 : decode cX0_lamp 62 = .ok (.invokevirtual 275, 3) := dk_182 1 19 (dk_at dksX0_lamp_2 14 rfl rfl)
theorem dX0_lamp_65 : decode cX0_lamp 65 = .ok (.iload 6, 2) := dk_21 6 (dk_at dksX0_lamp_2 17 rfl rfl)
theorem dX0_lamp_67 : decode cX0_lamp 67 = .ok (.putfield 212, 3) := dk_181 0 212 (dk_at dksX0_lamp_2 19 rfl rfl)
theorem dX0_lamp_70 : decode cX0_lamp 70 = .ok (.aload_n 0, 1) := dk_42 (dk_at dksX0_lamp_2 22 rfl rfl)
theorem dX0_lamp_71 : decode cX0_lamp 71 = .ok (.iload_n 2, 1) := dk_28 (dk_at dksX0_lamp_2 23 rfl rfl)
theorem dX0_lamp_72 : decode cX0_lamp 72 = .ok (.invokevirtual 278, 3) := dk_182 1 22 (dk_at dksX0_lamp_3 0 rfl rfl)
theorem dX0_lamp_75 : decode cX0_lamp 75 = .ok (.getfield 243, 3) := dk_180 0 243 (dk_at dksX0_lamp_3 3 rfl rfl)
theorem dX0_lamp_78 : decode cX0_lamp 78 = .ok (.iload_n 1, 1) := dk_27 (dk_at dksX0_lamp_3 6 rfl rfl)
theorem dX0_lamp_79 : decode cX0_lamp 79 = .ok (.iaload, 1) := dk_46 (dk_at dksX0_lamp_3 7 rfl rfl)
theorem dX0_lamp_80 : decode cX0_lamp 80 = .ok (.istore 7, 2) := dk_54 7 (dk_at dksX0_lamp_3 8 rfl rfl)
theorem dX0_lamp_82 : decode cX0_lamp 82 = .ok (.iload 7, 2) := dk_21 7 (dk_at dksX0_lamp_3 10 rfl rfl)
theorem dX0_lamp_84 : decode cX0_lamp 84 = .ok (.iload 5, 2) := dk_21 5 (dk_at dksX0_lamp_3 12 rfl rfl)
theorem dX0_lamp_86 : decode cX0_lamp 86 = .ok (.if_icmp .lt 34, 3) := dk_161 0 34 (dk_at dksX0_lamp_3 14 rfl rfl)
theorem dX0_lamp_89 : decode cX0_lamp 89 = .ok (.iload 7, 2) := dk_21 7 (dk_at dksX0_lamp_3 17 rfl rfl)
theorem dX0_lamp_91 : decode cX0_lamp 91 = .ok (.iload 5, 2) := dk_21 5 (dk_at dksX0_lamp_3 19 rfl rfl)
theorem dX0_lamp_93 : decode cX0_lamp 93 = .ok (.if_icmp .ne 19, 3) := dk_160 0 19 (dk_at dksX0_lamp_3 21 rfl rfl)
theorem dX0_lamp_96 : decode cX0_lamp 96 = .ok (.iload 6, 2) := dk_21 6 (dk_at dksX0_lamp_4 0 rfl rfl)
theorem dX0_lamp_98 : decode cX0_lamp 98 = .ok (.invokestatic 215, 3) := dk_184 0 215 (dk_at dksX0_lamp_4 2 rfl rfl)
theorem dX0_lamp_101 : decode cX0_lamp 101 = .ok (.iload 4, 2) := dk_21 4 (dk_at dksX0_lamp_4 5 rfl rfl)
theorem dX0_lamp_103 : decode cX0_lamp 103 = .ok (.invokestatic 215, 3) := dk_184 0 215 (dk_at dksX0_lamp_4 7 rfl rfl)
theorem dX0_lamp_106 : decode cX0_lamp 106 = .ok (.if_icmp .lt 6, 3) := dk_161 0 6 (dk_at dksX0_lamp_4 10 rfl rfl)
theorem dX0_lamp_109 : decode cX0_lamp 109 = .ok (.goto 11, 3) := dk_167 0 11 (dk_at dksX0_lamp_4 13 rfl rfl)
theorem dX0_lamp_112 : decode cX0_lamp 112 = .ok (.iload 6, 2) := dk_21 6 (dk_at dksX0_lamp_4 16 rfl rfl)
theorem dX0_lamp_114 : decode cX0_lamp 114 = .ok (.istore 4, 2) := dk_54 4 (dk_at dksX0_lamp_4 18 rfl rfl)
theorem dX0_lamp_116 : decode cX0_lamp 116 = .ok (.iload 7, 2) := dk_21 7 (dk_at dksX0_lamp_4 20 rfl rfl)
theorem dX0_lamp_118 : decode cX0_lamp 118 = .ok (.istore 5, 2) := dk_54 5 (dk_at dksX0_lamp_4 22 rfl rfl)
theorem dX0_lamp_120 : decode cX0_lamp 120 = .ok (.iinc 6 1, 3) := dk_132 6 1 (dk_at dksX0_lamp_5 0 rfl rfl)
theorem dX0_lamp_123 : decode cX0_lamp 123 = .ok (.goto (-89), 3) := dk_167 255 167 (dk_at dksX0_lamp_5 3 rfl rfl)
theorem dX0_lamp_126 : decode cX0_lamp 126 = .ok (.iload_n 3, 1) := dk_29 (dk_at dksX0_lamp_5 6 rfl rfl)
theorem dX0_lamp_127 : decode cX0_lamp 127 = .ok (.ifCond .ne 8, 3) := dk_154 0 8 (dk_at dksX0_lamp_5 7 rfl rfl)
theorem dX0_lamp_130 : decode cX0_lamp 130 = .ok (.iload 5, 2) := dk_21 5 (dk_at dksX0_lamp_5 10 rfl rfl)
theorem dX0_lamp_132 : decode cX0_lamp 132 = .ok (.goto 5, 3) := dk_167 0 5 (dk_at dksX0_lamp_5 12 rfl rfl)
theorem dX0_lamp_135 : decode cX0_lamp 135 = .ok (.iload 4, 2) := dk_21 4 (dk_at dksX0_lamp_5 15 rfl rfl)
theorem dX0_lamp_137 : decode cX0_lamp 137 = .ok (.ireturn, 1) := dk_172 (dk_at dksX0_lamp_5 17 rfl rfl)
abbrev cX0_isLong : ByteArray := prog_1_method_25_code
def yX0_isLong : MethodName := ⟨RX0, "isLong", "(I)Z"⟩
def dkwX0_isLong_0 : List UInt8 := [26, 133, 10, 20, 0, 180, 184, 0, 86, 172]
abbrev dktX0_isLong_0 : List UInt8 := dkwX0_isLong_0 ++ []
theorem dksX0_isLong_0 : cX0_isLong.data.toList.drop 0 = dktX0_isLong_0 := by decide +kernel
theorem dX0_isLong_0 : decode cX0_isLong 0 = .ok (.iload_n 0, 1) := dk_26 (dk_at dksX0_isLong_0 0 rfl rfl)
theorem dX0_isLong_1 : decode cX0_isLong 1 = .ok (.i2l, 1) := dk_133 (dk_at dksX0_isLong_0 1 rfl rfl)
theorem dX0_isLong_2 : decode cX0_isLong 2 = .ok (.lconst 1, 1) := dk_10 (dk_at dksX0_isLong_0 2 rfl rfl)
theorem dX0_isLong_3 : decode cX0_isLong 3 = .ok (.ldc2_w 180, 3) := dk_20 0 180 (dk_at dksX0_isLong_0 3 rfl rfl)
theorem dX0_isLong_6 : decode cX0_isLong 6 = .ok (.invokestatic 86, 3) := dk_184 0 86 (dk_at dksX0_isLong_0 6 rfl rfl)
theorem dX0_isLong_9 : decode cX0_isLong 9 = .ok (.ireturn, 1) := dk_172 (dk_at dksX0_isLong_0 9 rfl rfl)
abbrev cX0_caught : ByteArray := prog_1_method_48_code
def yX0_caught : MethodName := ⟨RX0, "caught", "(III)I"⟩
def dkwX0_caught_6 : List UInt8 := [21, 4, 167, 0, 8, 21, 4, 184, 0, 215, 172]
abbrev dktX0_caught_6 : List UInt8 := dkwX0_caught_6 ++ []
def dkwX0_caught_5 : List UInt8 := [160, 0, 8, 21, 5, 167, 0, 5, 21, 4, 54, 4, 132, 5, 1, 167, 255, 157, 29, 4, 160, 0, 8]
abbrev dktX0_caught_5 : List UInt8 := dkwX0_caught_5 ++ dktX0_caught_6
def dkwX0_caught_4 : List UInt8 := [128, 181, 0, 240, 42, 28, 182, 1, 22, 180, 0, 243, 27, 46, 42, 180, 0, 39, 180, 0, 243, 27, 46]
abbrev dktX0_caught_4 : List UInt8 := dkwX0_caught_4 ++ dktX0_caught_5
def dkwX0_caught_3 : List UInt8 := [184, 0, 215, 21, 4, 184, 0, 215, 161, 0, 6, 167, 0, 48, 42, 182, 1, 19, 89, 180, 0, 240, 21, 5]
abbrev dktX0_caught_3 : List UInt8 := dkwX0_caught_3 ++ dktX0_caught_4
def dkwX0_caught_2 : List UInt8 := [21, 5, 42, 180, 0, 39, 180, 0, 240, 126, 154, 0, 72, 21, 4, 19, 1, 1, 159, 0, 19, 21, 5]
abbrev dktX0_caught_2 : List UInt8 := dkwX0_caught_2 ++ dktX0_caught_3
def dkwX0_caught_1 : List UInt8 := [172, 19, 1, 1, 54, 4, 3, 54, 5, 21, 5, 4, 42, 180, 0, 39, 182, 0, 169, 120, 162, 0, 91]
abbrev dktX0_caught_1 : List UInt8 := dkwX0_caught_1 ++ dktX0_caught_2
def dkwX0_caught_0 : List UInt8 := [42, 27, 182, 0, 206, 153, 0, 17, 28, 184, 1, 51, 153, 0, 10, 29, 184, 0, 209, 154, 0, 6, 18, 100]
abbrev dktX0_caught_0 : List UInt8 := dkwX0_caught_0 ++ dktX0_caught_1
theorem dksX0_caught_0 : cX0_caught.data.toList.drop 0 = dktX0_caught_0 := by decide +kernel
theorem dksX0_caught_1 : cX0_caught.data.toList.drop 24 = dktX0_caught_1 := dk_seg dksX0_caught_0 24 rfl rfl
theorem dksX0_caught_2 : cX0_caught.data.toList.drop 47 = dktX0_caught_2 := dk_seg dksX0_caught_1 23 rfl rfl
theorem dksX0_caught_3 : cX0_caught.data.toList.drop 70 = dktX0_caught_3 := dk_seg dksX0_caught_2 23 rfl rfl
theorem dksX0_caught_4 : cX0_caught.data.toList.drop 94 = dktX0_caught_4 := dk_seg dksX0_caught_3 24 rfl rfl
theorem dksX0_caught_5 : cX0_caught.data.toList.drop 117 = dktX0_caught_5 := dk_seg dksX0_caught_4 23 rfl rfl
theorem dksX0_caught_6 : cX0_caught.data.toList.drop 140 = dktX0_caught_6 := dk_seg dksX0_caught_5 23 rfl rfl
theorem dX0_caught_0 : decode cX0_caught 0 = .ok (.aload_n 0, 1) := dk_42 (dk_at dksX0_caught_0 0 rfl rfl)
theorem dX0_caught_1 : decode cX0_caught 1 = .ok (.iload_n 1, 1) := dk_27 (dk_at dksX0_caught_0 1 rfl rfl)
theorem dX0_caught_2 : decode cX0_caught 2 = .ok (.invokevirtual 206, 3) := dk_182 0 206 (dk_at dksX0_caught_0 2 rfl rfl)
theorem dX0_caught_5 : decode cX0_caught 5 = .ok (.ifCond .eq 17, 3) := dk_153 0 17 (dk_at dksX0_caught_0 5 rfl rfl)
theorem dX0_caught_8 : decode cX0_caught 8 = .ok (.iload_n 2, 1) := dk_28 (dk_at dksX0_caught_0 8 rfl rfl)
theorem dX0_caught_9 : decode cX0_caught 9 = .ok (.invokestatic 307, 3) := dk_184 1 51 (dk_at dksX0_caught_0 9 rfl rfl)
theorem dX0_caught_12 : decode cX0_caught 12 = .ok (.ifCond .eq 10, 3) := dk_153 0 10 (dk_at dksX0_caught_0 12 rfl rfl)
theorem dX0_caught_15 : decode cX0_caught 15 = .ok (.iload_n 3, 1) := dk_29 (dk_at dksX0_caught_0 15 rfl rfl)
theorem dX0_caught_16 : decode cX0_caught 16 = .ok (.invokestatic 209, 3) := dk_184 0 209 (dk_at dksX0_caught_0 16 rfl rfl)
theorem dX0_caught_19 : decode cX0_caught 19 = .ok (.ifCond .ne 6, 3) := dk_154 0 6 (dk_at dksX0_caught_0 19 rfl rfl)
theorem dX0_caught_22 : decode cX0_caught 22 = .ok (.ldc 100, 2) := dk_18 100 (dk_at dksX0_caught_0 22 rfl rfl)
theorem dX0_caught_24 : decode cX0_caught 24 = .ok (.ireturn, 1) := dk_172 (dk_at dksX0_caught_1 0 rfl rfl)
theorem dX0_caught_25 : decode cX0_caught 25 = .ok (.ldc_w 257, 3) := dk_19 1 1 (dk_at dksX0_caught_1 1 rfl rfl)
theorem dX0_caught_28 : decode cX0_caught 28 = .ok (.istore 4, 2) := dk_54 4 (dk_at dksX0_caught_1 4 rfl rfl)
theorem dX0_caught_30 : decode cX0_caught 30 = .ok (.iconst 0, 1) := dk_3 (dk_at dksX0_caught_1 6 rfl rfl)
theorem dX0_caught_31 : decode cX0_caught 31 = .ok (.istore 5, 2) := dk_54 5 (dk_at dksX0_caught_1 7 rfl rfl)
theorem dX0_caught_33 : decode cX0_caught 33 = .ok (.iload 5, 2) := dk_21 5 (dk_at dksX0_caught_1 9 rfl rfl)
theorem dX0_caught_35 : decode cX0_caught 35 = .ok (.iconst 1, 1) := dk_4 (dk_at dksX0_caught_1 11 rfl rfl)
theorem dX0_caught_36 : decode cX0_caught 36 = .ok (.aload_n 0, 1) := dk_42 (dk_at dksX0_caught_1 12 rfl rfl)
theorem dX0_caught_37 : decode cX0_caught 37 = .ok (.getfield 39, 3) := dk_180 0 39 (dk_at dksX0_caught_1 13 rfl rfl)
theorem dX0_caught_40 : decode cX0_caught 40 = .ok (.invokevirtual 169, 3) := dk_182 0 169 (dk_at dksX0_caught_1 16 rfl rfl)
theorem dX0_caught_43 : decode cX0_caught 43 = .ok (.ishl, 1) := dk_120 (dk_at dksX0_caught_1 19 rfl rfl)
theorem dX0_caught_44 : decode cX0_caught 44 = .ok (.if_icmp .ge 91, 3) := dk_162 0 91 (dk_at dksX0_caught_1 20 rfl rfl)
theorem dX0_caught_47 : decode cX0_caught 47 = .ok (.iload 5, 2) := dk_21 5 (dk_at dksX0_caught_2 0 rfl rfl)
theorem dX0_caught_49 : decode cX0_caught 49 = .ok (.aload_n 0, 1) := dk_42 (dk_at dksX0_caught_2 2 rfl rfl)
theorem dX0_caught_50 : decode cX0_caught 50 = .ok (.getfield 39, 3) := dk_180 0 39 (dk_at dksX0_caught_2 3 rfl rfl)
theorem dX0_caught_53 : decode cX0_caught 53 = .ok (.getfield 240, 3) := dk_180 0 240 (dk_at dksX0_caught_2 6 rfl rfl)
theorem dX0_caught_56 : decode cX0_caught 56 = .ok (.iand, 1) := dk_126 (dk_at dksX0_caught_2 9 rfl rfl)
theorem dX0_caught_57 : decode cX0_caught 57 = .ok (.ifCond .ne 72, 3) := dk_154 0 72 (dk_at dksX0_caught_2 10 rfl rfl)
theorem dX0_caught_60 : decode cX0_caught 60 = .ok (.iload 4, 2) := dk_21 4 (dk_at dksX0_caught_2 13 rfl rfl)
theorem dX0_caught_62 : decode cX0_caught 62 = .ok (.ldc_w 257, 3) := dk_19 1 1 (dk_at dksX0_caught_2 15 rfl rfl)
theorem dX0_caught_65 : decode cX0_caught 65 = .ok (.if_icmp .eq 19, 3) := dk_159 0 19 (dk_at dksX0_caught_2 18 rfl rfl)
theorem dX0_caught_68 : decode cX0_caught 68 = .ok (.iload 5, 2) := dk_21 5 (dk_at dksX0_caught_2 21 rfl rfl)
theorem dX0_caught_70 : decode cX0_caught 70 = .ok (.invokestatic 215, 3) := dk_184 0 215 (dk_at dksX0_caught_3 0 rfl rfl)
theorem dX0_caught_73 : decode cX0_caught 73 = .ok (.iload 4, 2) := dk_21 4 (dk_at dksX0_caught_3 3 rfl rfl)
theorem dX0_caught_75 : decode cX0_caught 75 = .ok (.invokestatic 215, 3) := dk_184 0 215 (dk_at dksX0_caught_3 5 rfl rfl)
theorem dX0_caught_78 : decode cX0_caught 78 = .ok (.if_icmp .lt 6, 3) := dk_161 0 6 (dk_at dksX0_caught_3 8 rfl rfl)
theorem dX0_caught_81 : decode cX0_caught 81 = .ok (.goto 48, 3) := dk_167 0 48 (dk_at dksX0_caught_3 11 rfl rfl)
theorem dX0_caught_84 : decode cX0_caught 84 = .ok (.aload_n 0, 1) := dk_42 (dk_at dksX0_caught_3 14 rfl rfl)
theorem dX0_caught_85 : decode cX0_caught 85 = .ok (.invokevirtual 275, 3) := dk_182 1 19 (dk_at dksX0_caught_3 15 rfl rfl)
theorem dX0_caught_88 : decode cX0_caught 88 = .ok (.dup, 1) := dk_89 (dk_at dksX0_caught_3 18 rfl rfl)
theorem dX0_caught_89 : decode cX0_caught 89 = .ok (.getfield 240, 3) := dk_180 0 240 (dk_at dksX0_caught_3 19 rfl rfl)
theorem dX0_caught_92 : decode cX0_caught 92 = .ok (.iload 5, 2) := dk_21 5 (dk_at dksX0_caught_3 22 rfl rfl)
theorem dX0_caught_94 : decode cX0_caught 94 = .ok (.ior, 1) := dk_128 (dk_at dksX0_caught_4 0 rfl rfl)
theorem dX0_caught_95 : decode cX0_caught 95 = .ok (.putfield 240, 3) := dk_181 0 240 (dk_at dksX0_caught_4 1 rfl rfl)
theorem dX0_caught_98 : decode cX0_caught 98 = .ok (.aload_n 0, 1) := dk_42 (dk_at dksX0_caught_4 4 rfl rfl)
theorem dX0_caught_99 : decode cX0_caught 99 = .ok (.iload_n 2, 1) := dk_28 (dk_at dksX0_caught_4 5 rfl rfl)
theorem dX0_caught_100 : decode cX0_caught 100 = .ok (.invokevirtual 278, 3) := dk_182 1 22 (dk_at dksX0_caught_4 6 rfl rfl)
theorem dX0_caught_103 : decode cX0_caught 103 = .ok (.getfield 243, 3) := dk_180 0 243 (dk_at dksX0_caught_4 9 rfl rfl)
theorem dX0_caught_106 : decode cX0_caught 106 = .ok (.iload_n 1, 1) := dk_27 (dk_at dksX0_caught_4 12 rfl rfl)
theorem dX0_caught_107 : decode cX0_caught 107 = .ok (.iaload, 1) := dk_46 (dk_at dksX0_caught_4 13 rfl rfl)
theorem dX0_caught_108 : decode cX0_caught 108 = .ok (.aload_n 0, 1) := dk_42 (dk_at dksX0_caught_4 14 rfl rfl)
theorem dX0_caught_109 : decode cX0_caught 109 = .ok (.getfield 39, 3) := dk_180 0 39 (dk_at dksX0_caught_4 15 rfl rfl)
theorem dX0_caught_112 : decode cX0_caught 112 = .ok (.getfield 243, 3) := dk_180 0 243 (dk_at dksX0_caught_4 18 rfl rfl)
theorem dX0_caught_115 : decode cX0_caught 115 = .ok (.iload_n 1, 1) := dk_27 (dk_at dksX0_caught_4 21 rfl rfl)
theorem dX0_caught_116 : decode cX0_caught 116 = .ok (.iaload, 1) := dk_46 (dk_at dksX0_caught_4 22 rfl rfl)
theorem dX0_caught_117 : decode cX0_caught 117 = .ok (.if_icmp .ne 8, 3) := dk_160 0 8 (dk_at dksX0_caught_5 0 rfl rfl)
theorem dX0_caught_120 : decode cX0_caught 120 = .ok (.iload 5, 2) := dk_21 5 (dk_at dksX0_caught_5 3 rfl rfl)
theorem dX0_caught_122 : decode cX0_caught 122 = .ok (.goto 5, 3) := dk_167 0 5 (dk_at dksX0_caught_5 5 rfl rfl)
theorem dX0_caught_125 : decode cX0_caught 125 = .ok (.iload 4, 2) := dk_21 4 (dk_at dksX0_caught_5 8 rfl rfl)
theorem dX0_caught_127 : decode cX0_caught 127 = .ok (.istore 4, 2) := dk_54 4 (dk_at dksX0_caught_5 10 rfl rfl)
theorem dX0_caught_129 : decode cX0_caught 129 = .ok (.iinc 5 1, 3) := dk_132 5 1 (dk_at dksX0_caught_5 12 rfl rfl)
theorem dX0_caught_132 : decode cX0_caught 132 = .ok (.goto (-99), 3) := dk_167 255 157 (dk_at dksX0_caught_5 15 rfl rfl)
theorem dX0_caught_135 : decode cX0_caught 135 = .ok (.iload_n 3, 1) := dk_29 (dk_at dksX0_caught_5 18 rfl rfl)
theorem dX0_caught_136 : decode cX0_caught 136 = .ok (.iconst 1, 1) := dk_4 (dk_at dksX0_caught_5 19 rfl rfl)
theorem dX0_caught_137 : decode cX0_caught 137 = .ok (.if_icmp .ne 8, 3) := dk_160 0 8 (dk_at dksX0_caught_5 20 rfl rfl)
theorem dX0_caught_140 : decode cX0_caught 140 = .ok (.iload 4, 2) := dk_21 4 (dk_at dksX0_caught_6 0 rfl rfl)
theorem dX0_caught_142 : decode cX0_caught 142 = .ok (.goto 8, 3) := dk_167 0 8 (dk_at dksX0_caught_6 2 rfl rfl)
theorem dX0_caught_145 : decode cX0_caught 145 = .ok (.iload 4, 2) := dk_21 4 (dk_at dksX0_caught_6 5 rfl rfl)
theorem dX0_caught_147 : decode cX0_caught 147 = .ok (.invokestatic 215, 3) := dk_184 0 215 (dk_at dksX0_caught_6 7 rfl rfl)
theorem dX0_caught_150 : decode cX0_caught 150 = .ok (.ireturn, 1) := dk_172 (dk_at dksX0_caught_6 10 rfl rfl)
abbrev cX0_grams : ByteArray := prog_1_method_50_code
def yX0_grams : MethodName := ⟨RX0, "grams", "(II)I"⟩
def dkwX0_grams_7 : List UInt8 := [167, 0, 4, 3, 96, 172]
abbrev dktX0_grams_7 : List UInt8 := dkwX0_grams_7 ++ []
def dkwX0_grams_6 : List UInt8 := [182, 1, 56, 104, 29, 108, 42, 27, 182, 1, 56, 158, 0, 14, 21, 5, 21, 4, 162, 0, 7, 4]
abbrev dktX0_grams_6 : List UInt8 := dkwX0_grams_6 ++ dktX0_grams_7
def dkwX0_grams_5 : List UInt8 := [182, 1, 56, 158, 0, 7, 4, 167, 0, 4, 3, 96, 54, 5, 132, 6, 1, 167, 255, 228, 28, 42, 27]
abbrev dktX0_grams_5 : List UInt8 := dkwX0_grams_5 ++ dktX0_grams_6
def dkwX0_grams_4 : List UInt8 := [132, 5, 1, 167, 255, 226, 3, 54, 5, 3, 54, 6, 21, 6, 27, 162, 0, 28, 21, 5, 42, 21, 6]
abbrev dktX0_grams_4 : List UInt8 := dkwX0_grams_4 ++ dktX0_grams_5
def dkwX0_grams_3 : List UInt8 := [180, 0, 39, 182, 0, 169, 162, 0, 24, 21, 4, 28, 42, 21, 5, 182, 1, 56, 104, 29, 108, 100, 54, 4]
abbrev dktX0_grams_3 : List UInt8 := dkwX0_grams_3 ++ dktX0_grams_4
def dkwX0_grams_2 : List UInt8 := [62, 132, 4, 1, 167, 255, 232, 29, 154, 0, 5, 3, 172, 28, 54, 4, 3, 54, 5, 21, 5, 42]
abbrev dktX0_grams_2 : List UInt8 := dkwX0_grams_2 ++ dktX0_grams_3
def dkwX0_grams_1 : List UInt8 := [62, 3, 54, 4, 21, 4, 42, 180, 0, 39, 182, 0, 169, 162, 0, 18, 29, 42, 21, 4, 182, 1, 56, 96]
abbrev dktX0_grams_1 : List UInt8 := dkwX0_grams_1 ++ dktX0_grams_2
def dkwX0_grams_0 : List UInt8 := [42, 27, 182, 0, 231, 153, 0, 15, 28, 133, 9, 20, 1, 54, 184, 0, 86, 154, 0, 6, 18, 100, 172, 3]
abbrev dktX0_grams_0 : List UInt8 := dkwX0_grams_0 ++ dktX0_grams_1
theorem dksX0_grams_0 : cX0_grams.data.toList.drop 0 = dktX0_grams_0 := by decide +kernel
theorem dksX0_grams_1 : cX0_grams.data.toList.drop 24 = dktX0_grams_1 := dk_seg dksX0_grams_0 24 rfl rfl
theorem dksX0_grams_2 : cX0_grams.data.toList.drop 48 = dktX0_grams_2 := dk_seg dksX0_grams_1 24 rfl rfl
theorem dksX0_grams_3 : cX0_grams.data.toList.drop 70 = dktX0_grams_3 := dk_seg dksX0_grams_2 22 rfl rfl
theorem dksX0_grams_4 : cX0_grams.data.toList.drop 94 = dktX0_grams_4 := dk_seg dksX0_grams_3 24 rfl rfl
theorem dksX0_grams_5 : cX0_grams.data.toList.drop 117 = dktX0_grams_5 := dk_seg dksX0_grams_4 23 rfl rfl
theorem dksX0_grams_6 : cX0_grams.data.toList.drop 140 = dktX0_grams_6 := dk_seg dksX0_grams_5 23 rfl rfl
theorem dksX0_grams_7 : cX0_grams.data.toList.drop 162 = dktX0_grams_7 := dk_seg dksX0_grams_6 22 rfl rfl
theorem dX0_grams_0 : decode cX0_grams 0 = .ok (.aload_n 0, 1) := dk_42 (dk_at dksX0_grams_0 0 rfl rfl)
theorem dX0_grams_1 : decode cX0_grams 1 = .ok (.iload_n 1, 1) := dk_27 (dk_at dksX0_grams_0 1 rfl rfl)
theorem dX0_grams_2 : decode cX0_grams 2 = .ok (.invokevirtual 231, 3) := dk_182 0 231 (dk_at dksX0_grams_0 2 rfl rfl)
theorem dX0_grams_5 : decode cX0_grams 5 = .ok (.ifCond .eq 15, 3) := dk_153 0 15 (dk_at dksX0_grams_0 5 rfl rfl)
theorem dX0_grams_8 : decode cX0_grams 8 = .ok (.iload_n 2, 1) := dk_28 (dk_at dksX0_grams_0 8 rfl rfl)
theorem dX0_grams_9 : decode cX0_grams 9 = .ok (.i2l, 1) := dk_133 (dk_at dksX0_grams_0 9 rfl rfl)
theorem dX0_grams_10 : decode cX0_grams 10 = .ok (.lconst 0, 1) := dk_9 (dk_at dksX0_grams_0 10 rfl rfl)
theorem dX0_grams_11 : decode cX0_grams 11 = .ok (.ldc2_w 310, 3) := dk_20 1 54 (dk_at dksX0_grams_0 11 rfl rfl)
theorem dX0_grams_14 : decode cX0_grams 14 = .ok (.invokestatic 86, 3) := dk_184 0 86 (dk_at dksX0_grams_0 14 rfl rfl)
theorem dX0_grams_17 : decode cX0_grams 17 = .ok (.ifCond .ne 6, 3) := dk_154 0 6 (dk_at dksX0_grams_0 17 rfl rfl)
theorem dX0_grams_20 : decode cX0_grams 20 = .ok (.ldc 100, 2) := dk_18 100 (dk_at dksX0_grams_0 20 rfl rfl)
theorem dX0_grams_22 : decode cX0_grams 22 = .ok (.ireturn, 1) := dk_172 (dk_at dksX0_grams_0 22 rfl rfl)
theorem dX0_grams_23 : decode cX0_grams 23 = .ok (.iconst 0, 1) := dk_3 (dk_at dksX0_grams_0 23 rfl rfl)
theorem dX0_grams_24 : decode cX0_grams 24 = .ok (.istore_n 3, 1) := dk_62 (dk_at dksX0_grams_1 0 rfl rfl)
theorem dX0_grams_25 : decode cX0_grams 25 = .ok (.iconst 0, 1) := dk_3 (dk_at dksX0_grams_1 1 rfl rfl)
theorem dX0_grams_26 : decode cX0_grams 26 = .ok (.istore 4, 2) := dk_54 4 (dk_at dksX0_grams_1 2 rfl rfl)
theorem dX0_grams_28 : decode cX0_grams 28 = .ok (.iload 4, 2) := dk_21 4 (dk_at dksX0_grams_1 4 rfl rfl)
theorem dX0_grams_30 : decode cX0_grams 30 = .ok (.aload_n 0, 1) := dk_42 (dk_at dksX0_grams_1 6 rfl rfl)
theorem dX0_grams_31 : decode cX0_grams 31 = .ok (.getfield 39, 3) := dk_180 0 39 (dk_at dksX0_grams_1 7 rfl rfl)
theorem dX0_grams_34 : decode cX0_grams 34 = .ok (.invokevirtual 169, 3) := dk_182 0 169 (dk_at dksX0_grams_1 10 rfl rfl)
theorem dX0_grams_37 : decode cX0_grams 37 = .ok (.if_icmp .ge 18, 3) := dk_162 0 18 (dk_at dksX0_grams_1 13 rfl rfl)
theorem dX0_grams_40 : decode cX0_grams 40 = .ok (.iload_n 3, 1) := dk_29 (dk_at dksX0_grams_1 16 rfl rfl)
theorem dX0_grams_41 : decode cX0_grams 41 = .ok (.aload_n 0, 1) := dk_42 (dk_at dksX0_grams_1 17 rfl rfl)
theorem dX0_grams_42 : decode cX0_grams 42 = .ok (.iload 4, 2) := dk_21 4 (dk_at dksX0_grams_1 18 rfl rfl)
theorem dX0_grams_44 : decode cX0_grams 44 = .ok (.invokevirtual 312, 3) := dk_182 1 56 (dk_at dksX0_grams_1 20 rfl rfl)
theorem dX0_grams_47 : decode cX0_grams 47 = .ok (.iadd, 1) := dk_96 (dk_at dksX0_grams_1 23 rfl rfl)
theorem dX0_grams_48 : decode cX0_grams 48 = .ok (.istore_n 3, 1) := dk_62 (dk_at dksX0_grams_2 0 rfl rfl)
theorem dX0_grams_49 : decode cX0_grams 49 = .ok (.iinc 4 1, 3) := dk_132 4 1 (dk_at dksX0_grams_2 1 rfl rfl)
theorem dX0_grams_52 : decode cX0_grams 52 = .ok (.goto (-24), 3) := dk_167 255 232 (dk_at dksX0_grams_2 4 rfl rfl)
theorem dX0_grams_55 : decode cX0_grams 55 = .ok (.iload_n 3, 1) := dk_29 (dk_at dksX0_grams_2 7 rfl rfl)
theorem dX0_grams_56 : decode cX0_grams 56 = .ok (.ifCond .ne 5, 3) := dk_154 0 5 (dk_at dksX0_grams_2 8 rfl rfl)
theorem dX0_grams_59 : decode cX0_grams 59 = .ok (.iconst 0, 1) := dk_3 (dk_at dksX0_grams_2 11 rfl rfl)
theorem dX0_grams_60 : decode cX0_grams 60 = .ok (.ireturn, 1) := dk_172 (dk_at dksX0_grams_2 12 rfl rfl)
theorem dX0_grams_61 : decode cX0_grams 61 = .ok (.iload_n 2, 1) := dk_28 (dk_at dksX0_grams_2 13 rfl rfl)
theorem dX0_grams_62 : decode cX0_grams 62 = .ok (.istore 4, 2) := dk_54 4 (dk_at dksX0_grams_2 14 rfl rfl)
theorem dX0_grams_64 : decode cX0_grams 64 = .ok (.iconst 0, 1) := dk_3 (dk_at dksX0_grams_2 16 rfl rfl)
theorem dX0_grams_65 : decode cX0_grams 65 = .ok (.istore 5, 2) := dk_54 5 (dk_at dksX0_grams_2 17 rfl rfl)
theorem dX0_grams_67 : decode cX0_grams 67 = .ok (.iload 5, 2) := dk_21 5 (dk_at dksX0_grams_2 19 rfl rfl)
theorem dX0_grams_69 : decode cX0_grams 69 = .ok (.aload_n 0, 1) := dk_42 (dk_at dksX0_grams_2 21 rfl rfl)
theorem dX0_grams_70 : decode cX0_grams 70 = .ok (.getfield 39, 3) := dk_180 0 39 (dk_at dksX0_grams_3 0 rfl rfl)
theorem dX0_grams_73 : decode cX0_grams 73 = .ok (.invokevirtual 169, 3) := dk_182 0 169 (dk_at dksX0_grams_3 3 rfl rfl)
theorem dX0_grams_76 : decode cX0_grams 76 = .ok (.if_icmp .ge 24, 3) := dk_162 0 24 (dk_at dksX0_grams_3 6 rfl rfl)
theorem dX0_grams_79 : decode cX0_grams 79 = .ok (.iload 4, 2) := dk_21 4 (dk_at dksX0_grams_3 9 rfl rfl)
theorem dX0_grams_81 : decode cX0_grams 81 = .ok (.iload_n 2, 1) := dk_28 (dk_at dksX0_grams_3 11 rfl rfl)
theorem dX0_grams_82 : decode cX0_grams 82 = .ok (.aload_n 0, 1) := dk_42 (dk_at dksX0_grams_3 12 rfl rfl)
theorem dX0_grams_83 : decode cX0_grams 83 = .ok (.iload 5, 2) := dk_21 5 (dk_at dksX0_grams_3 13 rfl rfl)
theorem dX0_grams_85 : decode cX0_grams 85 = .ok (.invokevirtual 312, 3) := dk_182 1 56 (dk_at dksX0_grams_3 15 rfl rfl)
theorem dX0_grams_88 : decode cX0_grams 88 = .ok (.imul, 1) := dk_104 (dk_at dksX0_grams_3 18 rfl rfl)
theorem dX0_grams_89 : decode cX0_grams 89 = .ok (.iload_n 3, 1) := dk_29 (dk_at dksX0_grams_3 19 rfl rfl)
theorem dX0_grams_90 : decode cX0_grams 90 = .ok (.idiv, 1) := dk_108 (dk_at dksX0_grams_3 20 rfl rfl)
theorem dX0_grams_91 : decode cX0_grams 91 = .ok (.isub, 1) := dk_100 (dk_at dksX0_grams_3 21 rfl rfl)
theorem dX0_grams_92 : decode cX0_grams 92 = .ok (.istore 4, 2) := dk_54 4 (dk_at dksX0_grams_3 22 rfl rfl)
theorem dX0_grams_94 : decode cX0_grams 94 = .ok (.iinc 5 1, 3) := dk_132 5 1 (dk_at dksX0_grams_4 0 rfl rfl)
theorem dX0_grams_97 : decode cX0_grams 97 = .ok (.goto (-30), 3) := dk_167 255 226 (dk_at dksX0_grams_4 3 rfl rfl)
theorem dX0_grams_100 : decode cX0_grams 100 = .ok (.iconst 0, 1) := dk_3 (dk_at dksX0_grams_4 6 rfl rfl)
theorem dX0_grams_101 : decode cX0_grams 101 = .ok (.istore 5, 2) := dk_54 5 (dk_at dksX0_grams_4 7 rfl rfl)
theorem dX0_grams_103 : decode cX0_grams 103 = .ok (.iconst 0, 1) := dk_3 (dk_at dksX0_grams_4 9 rfl rfl)
theorem dX0_grams_104 : decode cX0_grams 104 = .ok (.istore 6, 2) := dk_54 6 (dk_at dksX0_grams_4 10 rfl rfl)
theorem dX0_grams_106 : decode cX0_grams 106 = .ok (.iload 6, 2) := dk_21 6 (dk_at dksX0_grams_4 12 rfl rfl)
theorem dX0_grams_108 : decode cX0_grams 108 = .ok (.iload_n 1, 1) := dk_27 (dk_at dksX0_grams_4 14 rfl rfl)
theorem dX0_grams_109 : decode cX0_grams 109 = .ok (.if_icmp .ge 28, 3) := dk_162 0 28 (dk_at dksX0_grams_4 15 rfl rfl)
theorem dX0_grams_112 : decode cX0_grams 112 = .ok (.iload 5, 2) := dk_21 5 (dk_at dksX0_grams_4 18 rfl rfl)
theorem dX0_grams_114 : decode cX0_grams 114 = .ok (.aload_n 0, 1) := dk_42 (dk_at dksX0_grams_4 20 rfl rfl)
theorem dX0_grams_115 : decode cX0_grams 115 = .ok (.iload 6, 2) := dk_21 6 (dk_at dksX0_grams_4 21 rfl rfl)
theorem dX0_grams_117 : decode cX0_grams 117 = .ok (.invokevirtual 312, 3) := dk_182 1 56 (dk_at dksX0_grams_5 0 rfl rfl)
theorem dX0_grams_120 : decode cX0_grams 120 = .ok (.ifCond .le 7, 3) := dk_158 0 7 (dk_at dksX0_grams_5 3 rfl rfl)
theorem dX0_grams_123 : decode cX0_grams 123 = .ok (.iconst 1, 1) := dk_4 (dk_at dksX0_grams_5 6 rfl rfl)
theorem dX0_grams_124 : decode cX0_grams 124 = .ok (.goto 4, 3) := dk_167 0 4 (dk_at dksX0_grams_5 7 rfl rfl)
theorem dX0_grams_127 : decode cX0_grams 127 = .ok (.iconst 0, 1) := dk_3 (dk_at dksX0_grams_5 10 rfl rfl)
theorem dX0_grams_128 : decode cX0_grams 128 = .ok (.iadd, 1) := dk_96 (dk_at dksX0_grams_5 11 rfl rfl)
theorem dX0_grams_129 : decode cX0_grams 129 = .ok (.istore 5, 2) := dk_54 5 (dk_at dksX0_grams_5 12 rfl rfl)
theorem dX0_grams_131 : decode cX0_grams 131 = .ok (.iinc 6 1, 3) := dk_132 6 1 (dk_at dksX0_grams_5 14 rfl rfl)
theorem dX0_grams_134 : decode cX0_grams 134 = .ok (.goto (-28), 3) := dk_167 255 228 (dk_at dksX0_grams_5 17 rfl rfl)
theorem dX0_grams_137 : decode cX0_grams 137 = .ok (.iload_n 2, 1) := dk_28 (dk_at dksX0_grams_5 20 rfl rfl)
theorem dX0_grams_138 : decode cX0_grams 138 = .ok (.aload_n 0, 1) := dk_42 (dk_at dksX0_grams_5 21 rfl rfl)
theorem dX0_grams_139 : decode cX0_grams 139 = .ok (.iload_n 1, 1) := dk_27 (dk_at dksX0_grams_5 22 rfl rfl)
theorem dX0_grams_140 : decode cX0_grams 140 = .ok (.invokevirtual 312, 3) := dk_182 1 56 (dk_at dksX0_grams_6 0 rfl rfl)
theorem dX0_grams_143 : decode cX0_grams 143 = .ok (.imul, 1) := dk_104 (dk_at dksX0_grams_6 3 rfl rfl)
theorem dX0_grams_144 : decode cX0_grams 144 = .ok (.iload_n 3, 1) := dk_29 (dk_at dksX0_grams_6 4 rfl rfl)
theorem dX0_grams_145 : decode cX0_grams 145 = .ok (.idiv, 1) := dk_108 (dk_at dksX0_grams_6 5 rfl rfl)
theorem dX0_grams_146 : decode cX0_grams 146 = .ok (.aload_n 0, 1) := dk_42 (dk_at dksX0_grams_6 6 rfl rfl)
theorem dX0_grams_147 : decode cX0_grams 147 = .ok (.iload_n 1, 1) := dk_27 (dk_at dksX0_grams_6 7 rfl rfl)
theorem dX0_grams_148 : decode cX0_grams 148 = .ok (.invokevirtual 312, 3) := dk_182 1 56 (dk_at dksX0_grams_6 8 rfl rfl)
theorem dX0_grams_151 : decode cX0_grams 151 = .ok (.ifCond .le 14, 3) := dk_158 0 14 (dk_at dksX0_grams_6 11 rfl rfl)
theorem dX0_grams_154 : decode cX0_grams 154 = .ok (.iload 5, 2) := dk_21 5 (dk_at dksX0_grams_6 14 rfl rfl)
theorem dX0_grams_156 : decode cX0_grams 156 = .ok (.iload 4, 2) := dk_21 4 (dk_at dksX0_grams_6 16 rfl rfl)
theorem dX0_grams_158 : decode cX0_grams 158 = .ok (.if_icmp .ge 7, 3) := dk_162 0 7 (dk_at dksX0_grams_6 18 rfl rfl)
theorem dX0_grams_161 : decode cX0_grams 161 = .ok (.iconst 1, 1) := dk_4 (dk_at dksX0_grams_6 21 rfl rfl)
theorem dX0_grams_162 : decode cX0_grams 162 = .ok (.goto 4, 3) := dk_167 0 4 (dk_at dksX0_grams_7 0 rfl rfl)
theorem dX0_grams_165 : decode cX0_grams 165 = .ok (.iconst 0, 1) := dk_3 (dk_at dksX0_grams_7 3 rfl rfl)
theorem dX0_grams_166 : decode cX0_grams 166 = .ok (.iadd, 1) := dk_96 (dk_at dksX0_grams_7 4 rfl rfl)
theorem dX0_grams_167 : decode cX0_grams 167 = .ok (.ireturn, 1) := dk_172 (dk_at dksX0_grams_7 5 rfl rfl)
abbrev cX0_claim : ByteArray := prog_1_method_49_code
def yX0_claim : MethodName := ⟨RX0, "claim", "(I)I"⟩
def dkwX0_claim_1 : List UInt8 := [172]
abbrev dktX0_claim_1 : List UInt8 := dkwX0_claim_1 ++ []
def dkwX0_claim_0 : List UInt8 := [42, 180, 0, 39, 27, 182, 0, 234, 153, 0, 7, 3, 167, 0, 12, 42, 180, 0, 39, 180, 0, 254, 27, 46]
abbrev dktX0_claim_0 : List UInt8 := dkwX0_claim_0 ++ dktX0_claim_1
theorem dksX0_claim_0 : cX0_claim.data.toList.drop 0 = dktX0_claim_0 := by decide +kernel
theorem dksX0_claim_1 : cX0_claim.data.toList.drop 24 = dktX0_claim_1 := dk_seg dksX0_claim_0 24 rfl rfl
theorem dX0_claim_0 : decode cX0_claim 0 = .ok (.aload_n 0, 1) := dk_42 (dk_at dksX0_claim_0 0 rfl rfl)
theorem dX0_claim_1 : decode cX0_claim 1 = .ok (.getfield 39, 3) := dk_180 0 39 (dk_at dksX0_claim_0 1 rfl rfl)
theorem dX0_claim_4 : decode cX0_claim 4 = .ok (.iload_n 1, 1) := dk_27 (dk_at dksX0_claim_0 4 rfl rfl)
theorem dX0_claim_5 : decode cX0_claim 5 = .ok (.invokevirtual 234, 3) := dk_182 0 234 (dk_at dksX0_claim_0 5 rfl rfl)
theorem dX0_claim_8 : decode cX0_claim 8 = .ok (.ifCond .eq 7, 3) := dk_153 0 7 (dk_at dksX0_claim_0 8 rfl rfl)
theorem dX0_claim_11 : decode cX0_claim 11 = .ok (.iconst 0, 1) := dk_3 (dk_at dksX0_claim_0 11 rfl rfl)
theorem dX0_claim_12 : decode cX0_claim 12 = .ok (.goto 12, 3) := dk_167 0 12 (dk_at dksX0_claim_0 12 rfl rfl)
theorem dX0_claim_15 : decode cX0_claim 15 = .ok (.aload_n 0, 1) := dk_42 (dk_at dksX0_claim_0 15 rfl rfl)
theorem dX0_claim_16 : decode cX0_claim 16 = .ok (.getfield 39, 3) := dk_180 0 39 (dk_at dksX0_claim_0 16 rfl rfl)
theorem dX0_claim_19 : decode cX0_claim 19 = .ok (.getfield 254, 3) := dk_180 0 254 (dk_at dksX0_claim_0 19 rfl rfl)
theorem dX0_claim_22 : decode cX0_claim 22 = .ok (.iload_n 1, 1) := dk_27 (dk_at dksX0_claim_0 22 rfl rfl)
theorem dX0_claim_23 : decode cX0_claim 23 = .ok (.iaload, 1) := dk_46 (dk_at dksX0_claim_0 23 rfl rfl)
theorem dX0_claim_24 : decode cX0_claim 24 = .ok (.ireturn, 1) := dk_172 (dk_at dksX0_claim_1 0 rfl rfl)
abbrev cX0_who : ByteArray := prog_1_method_53_code
def yX0_who : MethodName := ⟨RX0, "who", "(IIIIII)I"⟩
def dkwX0_who_6 : List UInt8 := [167, 255, 196, 42, 21, 8, 182, 0, 104, 172, 58, 7, 42, 25, 7, 182, 0, 108, 172]
abbrev dktX0_who_6 : List UInt8 := dkwX0_who_6 ++ []
def dkwX0_who_5 : List UInt8 := [25, 7, 182, 1, 74, 153, 0, 10, 4, 21, 9, 120, 167, 0, 4, 3, 128, 54, 8, 132, 9, 1]
abbrev dktX0_who_5 : List UInt8 := dkwX0_who_5 ++ dktX0_who_6
def dkwX0_who_4 : List UInt8 := [180, 0, 39, 180, 0, 177, 4, 100, 163, 0, 40, 42, 27, 28, 21, 9, 182, 1, 70, 21, 8, 42, 29]
abbrev dktX0_who_4 : List UInt8 := dkwX0_who_4 ++ dktX0_who_5
def dkwX0_who_3 : List UInt8 := [3, 54, 8, 4, 28, 100, 54, 9, 21, 9, 28, 154, 0, 11, 42, 180, 0, 69, 190, 167, 0, 12, 42]
abbrev dktX0_who_3 : List UInt8 := dkwX0_who_3 ++ dktX0_who_4
def dkwX0_who_2 : List UInt8 := [182, 0, 234, 153, 0, 6, 18, 173, 172, 42, 21, 4, 182, 0, 112, 21, 5, 21, 6, 182, 1, 66, 58, 7]
abbrev dktX0_who_2 : List UInt8 := dkwX0_who_2 ++ dktX0_who_3
def dkwX0_who_1 : List UInt8 := [21, 4, 184, 0, 94, 153, 0, 11, 21, 6, 184, 1, 46, 154, 0, 6, 18, 100, 172, 42, 180, 0, 39, 27]
abbrev dktX0_who_1 : List UInt8 := dkwX0_who_1 ++ dktX0_who_2
def dkwX0_who_0 : List UInt8 := [42, 27, 182, 0, 231, 153, 0, 34, 28, 184, 0, 209, 153, 0, 27, 42, 29, 182, 0, 206, 153, 0, 19]
abbrev dktX0_who_0 : List UInt8 := dkwX0_who_0 ++ dktX0_who_1
theorem dksX0_who_0 : cX0_who.data.toList.drop 0 = dktX0_who_0 := by decide +kernel
theorem dksX0_who_1 : cX0_who.data.toList.drop 23 = dktX0_who_1 := dk_seg dksX0_who_0 23 rfl rfl
theorem dksX0_who_2 : cX0_who.data.toList.drop 47 = dktX0_who_2 := dk_seg dksX0_who_1 24 rfl rfl
theorem dksX0_who_3 : cX0_who.data.toList.drop 71 = dktX0_who_3 := dk_seg dksX0_who_2 24 rfl rfl
theorem dksX0_who_4 : cX0_who.data.toList.drop 94 = dktX0_who_4 := dk_seg dksX0_who_3 23 rfl rfl
theorem dksX0_who_5 : cX0_who.data.toList.drop 117 = dktX0_who_5 := dk_seg dksX0_who_4 23 rfl rfl
theorem dksX0_who_6 : cX0_who.data.toList.drop 139 = dktX0_who_6 := dk_seg dksX0_who_5 22 rfl rfl
theorem dX0_who_0 : decode cX0_who 0 = .ok (.aload_n 0, 1) := dk_42 (dk_at dksX0_who_0 0 rfl rfl)
theorem dX0_who_1 : decode cX0_who 1 = .ok (.iload_n 1, 1) := dk_27 (dk_at dksX0_who_0 1 rfl rfl)
theorem dX0_who_2 : decode cX0_who 2 = .ok (.invokevirtual 231, 3) := dk_182 0 231 (dk_at dksX0_who_0 2 rfl rfl)
theorem dX0_who_5 : decode cX0_who 5 = .ok (.ifCond .eq 34, 3) := dk_153 0 34 (dk_at dksX0_who_0 5 rfl rfl)
theorem dX0_who_8 : decode cX0_who 8 = .ok (.iload_n 2, 1) := dk_28 (dk_at dksX0_who_0 8 rfl rfl)
theorem dX0_who_9 : decode cX0_who 9 = .ok (.invokestatic 209, 3) := dk_184 0 209 (dk_at dksX0_who_0 9 rfl rfl)
theorem dX0_who_12 : decode cX0_who 12 = .ok (.ifCond .eq 27, 3) := dk_153 0 27 (dk_at dksX0_who_0 12 rfl rfl)
theorem dX0_who_15 : decode cX0_who 15 = .ok (.aload_n 0, 1) := dk_42 (dk_at dksX0_who_0 15 rfl rfl)
theorem dX0_who_16 : decode cX0_who 16 = .ok (.iload_n 3, 1) := dk_29 (dk_at dksX0_who_0 16 rfl rfl)
theorem dX0_who_17 : decode cX0_who 17 = .ok (.invokevirtual 206, 3) := dk_182 0 206 (dk_at dksX0_who_0 17 rfl rfl)
theorem dX0_who_20 : decode cX0_who 20 = .ok (.ifCond .eq 19, 3) := dk_153 0 19 (dk_at dksX0_who_0 20 rfl rfl)
theorem dX0_who_23 : decode cX0_who 23 = .ok (.iload 4, 2) := dk_21 4 (dk_at dksX0_who_1 0 rfl rfl)
theorem dX0_who_25 : decode cX0_who 25 = .ok (.invokestatic 94, 3) := dk_184 0 94 (dk_at dksX0_who_1 2 rfl rfl)
theorem dX0_who_28 : decode cX0_who 28 = .ok (.ifCond .eq 11, 3) := dk_153 0 11 (dk_at dksX0_who_1 5 rfl rfl)
theorem dX0_who_31 : decode cX0_who 31 = .ok (.iload 6, 2) := dk_21 6 (dk_at dksX0_who_1 8 rfl rfl)
theorem dX0_who_33 : decode cX0_who 33 = .ok (.invokestatic 302, 3) := dk_184 1 46 (dk_at dksX0_who_1 10 rfl rfl)
theorem dX0_who_36 : decode cX0_who 36 = .ok (.ifCond .ne 6, 3) := dk_154 0 6 (dk_at dksX0_who_1 13 rfl rfl)
theorem dX0_who_39 : decode cX0_who 39 = .ok (.ldc 100, 2) := dk_18 100 (dk_at dksX0_who_1 16 rfl rfl)
theorem dX0_who_41 : decode cX0_who 41 = .ok (.ireturn, 1) := dk_172 (dk_at dksX0_who_1 18 rfl rfl)
theorem dX0_who_42 : decode cX0_who 42 = .ok (.aload_n 0, 1) := dk_42 (dk_at dksX0_who_1 19 rfl rfl)
theorem dX0_who_43 : decode cX0_who 43 = .ok (.getfield 39, 3) := dk_180 0 39 (dk_at dksX0_who_1 20 rfl rfl)
theorem dX0_who_46 : decode cX0_who 46 = .ok (.iload_n 1, 1) := dk_27 (dk_at dksX0_who_1 23 rfl rfl)
theorem dX0_who_47 : decode cX0_who 47 = .ok (.invokevirtual 234, 3) := dk_182 0 234 (dk_at dksX0_who_2 0 rfl rfl)
theorem dX0_who_50 : decode cX0_who 50 = .ok (.ifCond .eq 6, 3) := dk_153 0 6 (dk_at dksX0_who_2 3 rfl rfl)
theorem dX0_who_53 : decode cX0_who 53 = .ok (.ldc 173, 2) := dk_18 173 (dk_at dksX0_who_2 6 rfl rfl)
theorem dX0_who_55 : decode cX0_who 55 = .ok (.ireturn, 1) := dk_172 (dk_at dksX0_who_2 8 rfl rfl)
theorem dX0_who_56 : decode cX0_who 56 = .ok (.aload_n 0, 1) := dk_42 (dk_at dksX0_who_2 9 rfl rfl)
theorem dX0_who_57 : decode cX0_who 57 = .ok (.iload 4, 2) := dk_21 4 (dk_at dksX0_who_2 10 rfl rfl)
theorem dX0_who_59 : decode cX0_who 59 = .ok (.invokevirtual 112, 3) := dk_182 0 112 (dk_at dksX0_who_2 12 rfl rfl)
theorem dX0_who_62 : decode cX0_who 62 = .ok (.iload 5, 2) := dk_21 5 (dk_at dksX0_who_2 15 rfl rfl)
theorem dX0_who_64 : decode cX0_who 64 = .ok (.iload 6, 2) := dk_21 6 (dk_at dksX0_who_2 17 rfl rfl)
theorem dX0_who_66 : decode cX0_who 66 = .ok (.invokevirtual 322, 3) := dk_182 1 66 (dk_at dksX0_who_2 19 rfl rfl)
theorem dX0_who_69 : decode cX0_who 69 = .ok (.astore 7, 2) := dk_58 7 (dk_at dksX0_who_2 22 rfl rfl)
theorem dX0_who_71 : decode cX0_who 71 = .ok (.iconst 0, 1) := dk_3 (dk_at dksX0_who_3 0 rfl rfl)
theorem dX0_who_72 : decode cX0_who 72 = .ok (.istore 8, 2) := dk_54 8 (dk_at dksX0_who_3 1 rfl rfl)
theorem dX0_who_74 : decode cX0_who 74 = .ok (.iconst 1, 1) := dk_4 (dk_at dksX0_who_3 3 rfl rfl)
theorem dX0_who_75 : decode cX0_who 75 = .ok (.iload_n 2, 1) := dk_28 (dk_at dksX0_who_3 4 rfl rfl)
theorem dX0_who_76 : decode cX0_who 76 = .ok (.isub, 1) := dk_100 (dk_at dksX0_who_3 5 rfl rfl)
theorem dX0_who_77 : decode cX0_who 77 = .ok (.istore 9, 2) := dk_54 9 (dk_at dksX0_who_3 6 rfl rfl)
theorem dX0_who_79 : decode cX0_who 79 = .ok (.iload 9, 2) := dk_21 9 (dk_at dksX0_who_3 8 rfl rfl)
theorem dX0_who_81 : decode cX0_who 81 = .ok (.iload_n 2, 1) := dk_28 (dk_at dksX0_who_3 10 rfl rfl)
theorem dX0_who_82 : decode cX0_who 82 = .ok (.ifCond .ne 11, 3) := dk_154 0 11 (dk_at dksX0_who_3 11 rfl rfl)
theorem dX0_who_85 : decode cX0_who 85 = .ok (.aload_n 0, 1) := dk_42 (dk_at dksX0_who_3 14 rfl rfl)
theorem dX0_who_86 : decode cX0_who 86 = .ok (.getfield 69, 3) := dk_180 0 69 (dk_at dksX0_who_3 15 rfl rfl)
theorem dX0_who_89 : decode cX0_who 89 = .ok (.arraylength, 1) := dk_190 (dk_at dksX0_who_3 18 rfl rfl)
theorem dX0_who_90 : decode cX0_who 90 = .ok (.goto 12, 3) := dk_167 0 12 (dk_at dksX0_who_3 19 rfl rfl)
theorem dX0_who_93 : decode cX0_who 93 = .ok (.aload_n 0, 1) := dk_42 (dk_at dksX0_who_3 22 rfl rfl)
theorem dX0_who_94 : decode cX0_who 94 = .ok (.getfield 39, 3) := dk_180 0 39 (dk_at dksX0_who_4 0 rfl rfl)
theorem dX0_who_97 : decode cX0_who 97 = .ok (.getfield 177, 3) := dk_180 0 177 (dk_at dksX0_who_4 3 rfl rfl)
theorem dX0_who_100 : decode cX0_who 100 = .ok (.iconst 1, 1) := dk_4 (dk_at dksX0_who_4 6 rfl rfl)
theorem dX0_who_101 : decode cX0_who 101 = .ok (.isub, 1) := dk_100 (dk_at dksX0_who_4 7 rfl rfl)
theorem dX0_who_102 : decode cX0_who 102 = .ok (.if_icmp .gt 40, 3) := dk_163 0 40 (dk_at dksX0_who_4 8 rfl rfl)
theorem dX0_who_105 : decode cX0_who 105 = .ok (.aload_n 0, 1) := dk_42 (dk_at dksX0_who_4 11 rfl rfl)
theorem dX0_who_106 : decode cX0_who 106 = .ok (.iload_n 1, 1) := dk_27 (dk_at dksX0_who_4 12 rfl rfl)
theorem dX0_who_107 : decode cX0_who 107 = .ok (.iload_n 2, 1) := dk_28 (dk_at dksX0_who_4 13 rfl rfl)
theorem dX0_who_108 : decode cX0_who 108 = .ok (.iload 9, 2) := dk_21 9 (dk_at dksX0_who_4 14 rfl rfl)
theorem dX0_who_110 : decode cX0_who 110 = .ok (.invokevirtual 326, 3) := dk_182 1 70 (dk_at dksX0_who_4 16 rfl rfl)
theorem dX0_who_113 : decode cX0_who 113 = .ok (.iload 8, 2) := dk_21 8 (dk_at dksX0_who_4 19 rfl rfl)
theorem dX0_who_115 : decode cX0_who 115 = .ok (.aload_n 0, 1) := dk_42 (dk_at dksX0_who_4 21 rfl rfl)
theorem dX0_who_116 : decode cX0_who 116 = .ok (.iload_n 3, 1) := dk_29 (dk_at dksX0_who_4 22 rfl rfl)
theorem dX0_who_117 : decode cX0_who 117 = .ok (.aload 7, 2) := dk_25 7 (dk_at dksX0_who_5 0 rfl rfl)
theorem dX0_who_119 : decode cX0_who 119 = .ok (.invokevirtual 330, 3) := dk_182 1 74 (dk_at dksX0_who_5 2 rfl rfl)
theorem dX0_who_122 : decode cX0_who 122 = .ok (.ifCond .eq 10, 3) := dk_153 0 10 (dk_at dksX0_who_5 5 rfl rfl)
theorem dX0_who_125 : decode cX0_who 125 = .ok (.iconst 1, 1) := dk_4 (dk_at dksX0_who_5 8 rfl rfl)
theorem dX0_who_126 : decode cX0_who 126 = .ok (.iload 9, 2) := dk_21 9 (dk_at dksX0_who_5 9 rfl rfl)
theorem dX0_who_128 : decode cX0_who 128 = .ok (.ishl, 1) := dk_120 (dk_at dksX0_who_5 11 rfl rfl)
theorem dX0_who_129 : decode cX0_who 129 = .ok (.goto 4, 3) := dk_167 0 4 (dk_at dksX0_who_5 12 rfl rfl)
theorem dX0_who_132 : decode cX0_who 132 = .ok (.iconst 0, 1) := dk_3 (dk_at dksX0_who_5 15 rfl rfl)
theorem dX0_who_133 : decode cX0_who 133 = .ok (.ior, 1) := dk_128 (dk_at dksX0_who_5 16 rfl rfl)
theorem dX0_who_134 : decode cX0_who 134 = .ok (.istore 8, 2) := dk_54 8 (dk_at dksX0_who_5 17 rfl rfl)
theorem dX0_who_136 : decode cX0_who 136 = .ok (.iinc 9 1, 3) := dk_132 9 1 (dk_at dksX0_who_5 19 rfl rfl)
theorem dX0_who_139 : decode cX0_who 139 = .ok (.goto (-60), 3) := dk_167 255 196 (dk_at dksX0_who_6 0 rfl rfl)
theorem dX0_who_142 : decode cX0_who 142 = .ok (.aload_n 0, 1) := dk_42 (dk_at dksX0_who_6 3 rfl rfl)
theorem dX0_who_143 : decode cX0_who 143 = .ok (.iload 8, 2) := dk_21 8 (dk_at dksX0_who_6 4 rfl rfl)
theorem dX0_who_145 : decode cX0_who 145 = .ok (.invokevirtual 104, 3) := dk_182 0 104 (dk_at dksX0_who_6 6 rfl rfl)
theorem dX0_who_148 : decode cX0_who 148 = .ok (.ireturn, 1) := dk_172 (dk_at dksX0_who_6 9 rfl rfl)
theorem dX0_who_149 : decode cX0_who 149 = .ok (.astore 7, 2) := dk_58 7 (dk_at dksX0_who_6 10 rfl rfl)
theorem dX0_who_151 : decode cX0_who 151 = .ok (.aload_n 0, 1) := dk_42 (dk_at dksX0_who_6 12 rfl rfl)
theorem dX0_who_152 : decode cX0_who 152 = .ok (.aload 7, 2) := dk_25 7 (dk_at dksX0_who_6 13 rfl rfl)
theorem dX0_who_154 : decode cX0_who 154 = .ok (.invokevirtual 108, 3) := dk_182 0 108 (dk_at dksX0_who_6 15 rfl rfl)
theorem dX0_who_157 : decode cX0_who 157 = .ok (.ireturn, 1) := dk_172 (dk_at dksX0_who_6 18 rfl rfl)
abbrev cX0_alters : ByteArray := prog_1_method_52_code
def yX0_alters : MethodName := ⟨RX0, "alters", "(III)V"⟩
def dkwX0_alters_1 : List UInt8 := [180, 0, 69, 29, 4, 100, 50, 181, 1, 62, 167, 0, 13, 42, 180, 0, 43, 180, 0, 237, 27, 29, 79, 177]
abbrev dktX0_alters_1 : List UInt8 := dkwX0_alters_1 ++ []
def dkwX0_alters_0 : List UInt8 := [42, 182, 1, 19, 87, 28, 154, 0, 29, 42, 180, 0, 43, 27, 181, 1, 59, 42, 180, 0, 43, 42]
abbrev dktX0_alters_0 : List UInt8 := dkwX0_alters_0 ++ dktX0_alters_1
theorem dksX0_alters_0 : cX0_alters.data.toList.drop 0 = dktX0_alters_0 := by decide +kernel
theorem dksX0_alters_1 : cX0_alters.data.toList.drop 22 = dktX0_alters_1 := dk_seg dksX0_alters_0 22 rfl rfl
theorem dX0_alters_0 : decode cX0_alters 0 = .ok (.aload_n 0, 1) := dk_42 (dk_at dksX0_alters_0 0 rfl rfl)
theorem dX0_alters_1 : decode cX0_alters 1 = .ok (.invokevirtual 275, 3) := dk_182 1 19 (dk_at dksX0_alters_0 1 rfl rfl)
theorem dX0_alters_4 : decode cX0_alters 4 = .ok (.pop, 1) := dk_87 (dk_at dksX0_alters_0 4 rfl rfl)
theorem dX0_alters_5 : decode cX0_alters 5 = .ok (.iload_n 2, 1) := dk_28 (dk_at dksX0_alters_0 5 rfl rfl)
theorem dX0_alters_6 : decode cX0_alters 6 = .ok (.ifCond .ne 29, 3) := dk_154 0 29 (dk_at dksX0_alters_0 6 rfl rfl)
theorem dX0_alters_9 : decode cX0_alters 9 = .ok (.aload_n 0, 1) := dk_42 (dk_at dksX0_alters_0 9 rfl rfl)
theorem dX0_alters_10 : decode cX0_alters 10 = .ok (.getfield 43, 3) := dk_180 0 43 (dk_at dksX0_alters_0 10 rfl rfl)
theorem dX0_alters_13 : decode cX0_alters 13 = .ok (.iload_n 1, 1) := dk_27 (dk_at dksX0_alters_0 13 rfl rfl)
theorem dX0_alters_14 : decode cX0_alters 14 = .ok (.putfield 315, 3) := dk_181 1 59 (dk_at dksX0_alters_0 14 rfl rfl)
theorem dX0_alters_17 : decode cX0_alters 17 = .ok (.aload_n 0, 1) := dk_42 (dk_at dksX0_alters_0 17 rfl rfl)
theorem dX0_alters_18 : decode cX0_alters 18 = .ok (.getfield 43, 3) := dk_180 0 43 (dk_at dksX0_alters_0 18 rfl rfl)
theorem dX0_alters_21 : decode cX0_alters 21 = .ok (.aload_n 0, 1) := dk_42 (dk_at dksX0_alters_0 21 rfl rfl)
theorem dX0_alters_22 : decode cX0_alters 22 = .ok (.getfield 69, 3) := dk_180 0 69 (dk_at dksX0_alters_1 0 rfl rfl)
theorem dX0_alters_25 : decode cX0_alters 25 = .ok (.iload_n 3, 1) := dk_29 (dk_at dksX0_alters_1 3 rfl rfl)
theorem dX0_alters_26 : decode cX0_alters 26 = .ok (.iconst 1, 1) := dk_4 (dk_at dksX0_alters_1 4 rfl rfl)
theorem dX0_alters_27 : decode cX0_alters 27 = .ok (.isub, 1) := dk_100 (dk_at dksX0_alters_1 5 rfl rfl)
theorem dX0_alters_28 : decode cX0_alters 28 = .ok (.aaload, 1) := dk_50 (dk_at dksX0_alters_1 6 rfl rfl)
theorem dX0_alters_29 : decode cX0_alters 29 = .ok (.putfield 318, 3) := dk_181 1 62 (dk_at dksX0_alters_1 7 rfl rfl)
theorem dX0_alters_32 : decode cX0_alters 32 = .ok (.goto 13, 3) := dk_167 0 13 (dk_at dksX0_alters_1 10 rfl rfl)
theorem dX0_alters_35 : decode cX0_alters 35 = .ok (.aload_n 0, 1) := dk_42 (dk_at dksX0_alters_1 13 rfl rfl)
theorem dX0_alters_36 : decode cX0_alters 36 = .ok (.getfield 43, 3) := dk_180 0 43 (dk_at dksX0_alters_1 14 rfl rfl)
theorem dX0_alters_39 : decode cX0_alters 39 = .ok (.getfield 237, 3) := dk_180 0 237 (dk_at dksX0_alters_1 17 rfl rfl)
theorem dX0_alters_42 : decode cX0_alters 42 = .ok (.iload_n 1, 1) := dk_27 (dk_at dksX0_alters_1 20 rfl rfl)
theorem dX0_alters_43 : decode cX0_alters 43 = .ok (.iload_n 3, 1) := dk_29 (dk_at dksX0_alters_1 21 rfl rfl)
theorem dX0_alters_44 : decode cX0_alters 44 = .ok (.iastore, 1) := dk_79 (dk_at dksX0_alters_1 22 rfl rfl)
theorem dX0_alters_45 : decode cX0_alters 45 = .ok (.return_, 1) := dk_177 (dk_at dksX0_alters_1 23 rfl rfl)
abbrev cX0_isSeen : ByteArray := prog_1_method_51_code
def yX0_isSeen : MethodName := ⟨RX0, "isSeen", "(I[I)Z"⟩
def dkwX0_isSeen_1 : List UInt8 := [46, 44, 21, 4, 46, 160, 0, 7, 4, 167, 0, 4, 3, 126, 62, 132, 4, 1, 167, 255, 219, 29, 172]
abbrev dktX0_isSeen_1 : List UInt8 := dkwX0_isSeen_1 ++ []
def dkwX0_isSeen_0 : List UInt8 := [4, 62, 3, 54, 4, 21, 4, 44, 190, 162, 0, 36, 29, 42, 180, 0, 43, 182, 0, 196, 180, 0, 243, 27]
abbrev dktX0_isSeen_0 : List UInt8 := dkwX0_isSeen_0 ++ dktX0_isSeen_1
theorem dksX0_isSeen_0 : cX0_isSeen.data.toList.drop 0 = dktX0_isSeen_0 := by decide +kernel
theorem dksX0_isSeen_1 : cX0_isSeen.data.toList.drop 24 = dktX0_isSeen_1 := dk_seg dksX0_isSeen_0 24 rfl rfl
theorem dX0_isSeen_0 : decode cX0_isSeen 0 = .ok (.iconst 1, 1) := dk_4 (dk_at dksX0_isSeen_0 0 rfl rfl)
theorem dX0_isSeen_1 : decode cX0_isSeen 1 = .ok (.istore_n 3, 1) := dk_62 (dk_at dksX0_isSeen_0 1 rfl rfl)
theorem dX0_isSeen_2 : decode cX0_isSeen 2 = .ok (.iconst 0, 1) := dk_3 (dk_at dksX0_isSeen_0 2 rfl rfl)
theorem dX0_isSeen_3 : decode cX0_isSeen 3 = .ok (.istore 4, 2) := dk_54 4 (dk_at dksX0_isSeen_0 3 rfl rfl)
theorem dX0_isSeen_5 : decode cX0_isSeen 5 = .ok (.iload 4, 2) := dk_21 4 (dk_at dksX0_isSeen_0 5 rfl rfl)
theorem dX0_isSeen_7 : decode cX0_isSeen 7 = .ok (.aload_n 2, 1) := dk_44 (dk_at dksX0_isSeen_0 7 rfl rfl)
theorem dX0_isSeen_8 : decode cX0_isSeen 8 = .ok (.arraylength, 1) := dk_190 (dk_at dksX0_isSeen_0 8 rfl rfl)
theorem dX0_isSeen_9 : decode cX0_isSeen 9 = .ok (.if_icmp .ge 36, 3) := dk_162 0 36 (dk_at dksX0_isSeen_0 9 rfl rfl)
theorem dX0_isSeen_12 : decode cX0_isSeen 12 = .ok (.iload_n 3, 1) := dk_29 (dk_at dksX0_isSeen_0 12 rfl rfl)
theorem dX0_isSeen_13 : decode cX0_isSeen 13 = .ok (.aload_n 0, 1) := dk_42 (dk_at dksX0_isSeen_0 13 rfl rfl)
theorem dX0_isSeen_14 : decode cX0_isSeen 14 = .ok (.getfield 43, 3) := dk_180 0 43 (dk_at dksX0_isSeen_0 14 rfl rfl)
theorem dX0_isSeen_17 : decode cX0_isSeen 17 = .ok (.invokevirtual 196, 3) := dk_182 0 196 (dk_at dksX0_isSeen_0 17 rfl rfl)
theorem dX0_isSeen_20 : decode cX0_isSeen 20 = .ok (.getfield 243, 3) := dk_180 0 243 (dk_at dksX0_isSeen_0 20 rfl rfl)
theorem dX0_isSeen_23 : decode cX0_isSeen 23 = .ok (.iload_n 1, 1) := dk_27 (dk_at dksX0_isSeen_0 23 rfl rfl)
theorem dX0_isSeen_24 : decode cX0_isSeen 24 = .ok (.iaload, 1) := dk_46 (dk_at dksX0_isSeen_1 0 rfl rfl)
theorem dX0_isSeen_25 : decode cX0_isSeen 25 = .ok (.aload_n 2, 1) := dk_44 (dk_at dksX0_isSeen_1 1 rfl rfl)
theorem dX0_isSeen_26 : decode cX0_isSeen 26 = .ok (.iload 4, 2) := dk_21 4 (dk_at dksX0_isSeen_1 2 rfl rfl)
theorem dX0_isSeen_28 : decode cX0_isSeen 28 = .ok (.iaload, 1) := dk_46 (dk_at dksX0_isSeen_1 4 rfl rfl)
theorem dX0_isSeen_29 : decode cX0_isSeen 29 = .ok (.if_icmp .ne 7, 3) := dk_160 0 7 (dk_at dksX0_isSeen_1 5 rfl rfl)
theorem dX0_isSeen_32 : decode cX0_isSeen 32 = .ok (.iconst 1, 1) := dk_4 (dk_at dksX0_isSeen_1 8 rfl rfl)
theorem dX0_isSeen_33 : decode cX0_isSeen 33 = .ok (.goto 4, 3) := dk_167 0 4 (dk_at dksX0_isSeen_1 9 rfl rfl)
theorem dX0_isSeen_36 : decode cX0_isSeen 36 = .ok (.iconst 0, 1) := dk_3 (dk_at dksX0_isSeen_1 12 rfl rfl)
theorem dX0_isSeen_37 : decode cX0_isSeen 37 = .ok (.iand, 1) := dk_126 (dk_at dksX0_isSeen_1 13 rfl rfl)
theorem dX0_isSeen_38 : decode cX0_isSeen 38 = .ok (.istore_n 3, 1) := dk_62 (dk_at dksX0_isSeen_1 14 rfl rfl)
theorem dX0_isSeen_39 : decode cX0_isSeen 39 = .ok (.iinc 4 1, 3) := dk_132 4 1 (dk_at dksX0_isSeen_1 15 rfl rfl)
theorem dX0_isSeen_42 : decode cX0_isSeen 42 = .ok (.goto (-37), 3) := dk_167 255 219 (dk_at dksX0_isSeen_1 18 rfl rfl)
theorem dX0_isSeen_45 : decode cX0_isSeen 45 = .ok (.iload_n 3, 1) := dk_29 (dk_at dksX0_isSeen_1 21 rfl rfl)
theorem dX0_isSeen_46 : decode cX0_isSeen 46 = .ok (.ireturn, 1) := dk_172 (dk_at dksX0_isSeen_1 22 rfl rfl)
abbrev cX0_paste : ByteArray := prog_1_method_54_code
def yX0_paste : MethodName := ⟨RX0, "paste", "(IIIII)I"⟩
def dkwX0_paste_4 : List UInt8 := [54, 7, 132, 8, 1, 167, 255, 212, 42, 21, 7, 182, 0, 104, 172, 58, 6, 42, 25, 6, 182, 0, 108, 172]
abbrev dktX0_paste_4 : List UInt8 := dkwX0_paste_4 ++ []
def dkwX0_paste_3 : List UInt8 := [21, 8, 79, 21, 7, 42, 28, 25, 6, 182, 1, 74, 153, 0, 10, 4, 21, 8, 120, 167, 0, 4, 3, 128]
abbrev dktX0_paste_3 : List UInt8 := dkwX0_paste_3 ++ dktX0_paste_4
def dkwX0_paste_2 : List UInt8 := [58, 6, 3, 54, 7, 3, 54, 8, 21, 8, 16, 9, 163, 0, 43, 42, 182, 1, 19, 180, 0, 246, 27]
abbrev dktX0_paste_2 : List UInt8 := dkwX0_paste_2 ++ dktX0_paste_3
def dkwX0_paste_1 : List UInt8 := [21, 5, 184, 1, 46, 154, 0, 6, 18, 100, 172, 42, 29, 182, 0, 112, 21, 4, 21, 5, 182, 1, 66]
abbrev dktX0_paste_1 : List UInt8 := dkwX0_paste_1 ++ dktX0_paste_2
def dkwX0_paste_0 : List UInt8 := [42, 27, 182, 0, 206, 153, 0, 26, 42, 28, 182, 0, 206, 153, 0, 18, 29, 184, 0, 94, 153, 0, 11]
abbrev dktX0_paste_0 : List UInt8 := dkwX0_paste_0 ++ dktX0_paste_1
theorem dksX0_paste_0 : cX0_paste.data.toList.drop 0 = dktX0_paste_0 := by decide +kernel
theorem dksX0_paste_1 : cX0_paste.data.toList.drop 23 = dktX0_paste_1 := dk_seg dksX0_paste_0 23 rfl rfl
theorem dksX0_paste_2 : cX0_paste.data.toList.drop 46 = dktX0_paste_2 := dk_seg dksX0_paste_1 23 rfl rfl
theorem dksX0_paste_3 : cX0_paste.data.toList.drop 69 = dktX0_paste_3 := dk_seg dksX0_paste_2 23 rfl rfl
theorem dksX0_paste_4 : cX0_paste.data.toList.drop 93 = dktX0_paste_4 := dk_seg dksX0_paste_3 24 rfl rfl
theorem dX0_paste_0 : decode cX0_paste 0 = .ok (.aload_n 0, 1) := dk_42 (dk_at dksX0_paste_0 0 rfl rfl)
theorem dX0_paste_1 : decode cX0_paste 1 = .ok (.iload_n 1, 1) := dk_27 (dk_at dksX0_paste_0 1 rfl rfl)
theorem dX0_paste_2 : decode cX0_paste 2 = .ok (.invokevirtual 206, 3) := dk_182 0 206 (dk_at dksX0_paste_0 2 rfl rfl)
theorem dX0_paste_5 : decode cX0_paste 5 = .ok (.ifCond .eq 26, 3) := dk_153 0 26 (dk_at dksX0_paste_0 5 rfl rfl)
theorem dX0_paste_8 : decode cX0_paste 8 = .ok (.aload_n 0, 1) := dk_42 (dk_at dksX0_paste_0 8 rfl rfl)
theorem dX0_paste_9 : decode cX0_paste 9 = .ok (.iload_n 2, 1) := dk_28 (dk_at dksX0_paste_0 9 rfl rfl)
theorem dX0_paste_10 : decode cX0_paste 10 = .ok (.invokevirtual 206, 3) := dk_182 0 206 (dk_at dksX0_paste_0 10 rfl rfl)
theorem dX0_paste_13 : decode cX0_paste 13 = .ok (.ifCond .eq 18, 3) := dk_153 0 18 (dk_at dksX0_paste_0 13 rfl rfl)
theorem dX0_paste_16 : decode cX0_paste 16 = .ok (.iload_n 3, 1) := dk_29 (dk_at dksX0_paste_0 16 rfl rfl)
theorem dX0_paste_17 : decode cX0_paste 17 = .ok (.invokestatic 94, 3) := dk_184 0 94 (dk_at dksX0_paste_0 17 rfl rfl)
theorem dX0_paste_20 : decode cX0_paste 20 = .ok (.ifCond .eq 11, 3) := dk_153 0 11 (dk_at dksX0_paste_0 20 rfl rfl)
theorem dX0_paste_23 : decode cX0_paste 23 = .ok (.iload 5, 2) := dk_21 5 (dk_at dksX0_paste_1 0 rfl rfl)
theorem dX0_paste_25 : decode cX0_paste 25 = .ok (.invokestatic 302, 3) := dk_184 1 46 (dk_at dksX0_paste_1 2 rfl rfl)
theorem dX0_paste_28 : decode cX0_paste 28 = .ok (.ifCond .ne 6, 3) := dk_154 0 6 (dk_at dksX0_paste_1 5 rfl rfl)
theorem dX0_paste_31 : decode cX0_paste 31 = .ok (.ldc 100, 2) := dk_18 100 (dk_at dksX0_paste_1 8 rfl rfl)
theorem dX0_paste_33 : decode cX0_paste 33 = .ok (.ireturn, 1) := dk_172 (dk_at dksX0_paste_1 10 rfl rfl)
theorem dX0_paste_34 : decode cX0_paste 34 = .ok (.aload_n 0, 1) := dk_42 (dk_at dksX0_paste_1 11 rfl rfl)
theorem dX0_paste_35 : decode cX0_paste 35 = .ok (.iload_n 3, 1) := dk_29 (dk_at dksX0_paste_1 12 rfl rfl)
theorem dX0_paste_36 : decode cX0_paste 36 = .ok (.invokevirtual 112, 3) := dk_182 0 112 (dk_at dksX0_paste_1 13 rfl rfl)
theorem dX0_paste_39 : decode cX0_paste 39 = .ok (.iload 4, 2) := dk_21 4 (dk_at dksX0_paste_1 16 rfl rfl)
theorem dX0_paste_41 : decode cX0_paste 41 = .ok (.iload 5, 2) := dk_21 5 (dk_at dksX0_paste_1 18 rfl rfl)
theorem dX0_paste_43 : decode cX0_paste 43 = .ok (.invokevirtual 322, 3) := dk_182 1 66 (dk_at dksX0_paste_1 20 rfl rfl)
theorem dX0_paste_46 : decode cX0_paste 46 = .ok (.astore 6, 2) := dk_58 6 (dk_at dksX0_paste_2 0 rfl rfl)
theorem dX0_paste_48 : decode cX0_paste 48 = .ok (.iconst 0, 1) := dk_3 (dk_at dksX0_paste_2 2 rfl rfl)
theorem dX0_paste_49 : decode cX0_paste 49 = .ok (.istore 7, 2) := dk_54 7 (dk_at dksX0_paste_2 3 rfl rfl)
theorem dX0_paste_51 : decode cX0_paste 51 = .ok (.iconst 0, 1) := dk_3 (dk_at dksX0_paste_2 5 rfl rfl)
theorem dX0_paste_52 : decode cX0_paste 52 = .ok (.istore 8, 2) := dk_54 8 (dk_at dksX0_paste_2 6 rfl rfl)
theorem dX0_paste_54 : decode cX0_paste 54 = .ok (.iload 8, 2) := dk_21 8 (dk_at dksX0_paste_2 8 rfl rfl)
theorem dX0_paste_56 : decode cX0_paste 56 = .ok (.bipush 9, 2) := dk_16 9 (dk_at dksX0_paste_2 10 rfl rfl)
theorem dX0_paste_58 : decode cX0_paste 58 = .ok (.if_icmp .gt 43, 3) := dk_163 0 43 (dk_at dksX0_paste_2 12 rfl rfl)
theorem dX0_paste_61 : decode cX0_paste 61 = .ok (.aload_n 0, 1) := dk_42 (dk_at dksX0_paste_2 15 rfl rfl)
theorem dX0_paste_62 : decode cX0_paste 62 = .ok (.invokevirtual 275, 3) := dk_182 1 19 (dk_at dksX0_paste_2 16 rfl rfl)
theorem dX0_paste_65 : decode cX0_paste 65 = .ok (.getfield 246, 3) := dk_180 0 246 (dk_at dksX0_paste_2 19 rfl rfl)
theorem dX0_paste_68 : decode cX0_paste 68 = .ok (.iload_n 1, 1) := dk_27 (dk_at dksX0_paste_2 22 rfl rfl)
theorem dX0_paste_69 : decode cX0_paste 69 = .ok (.iload 8, 2) := dk_21 8 (dk_at dksX0_paste_3 0 rfl rfl)
theorem dX0_paste_71 : decode cX0_paste 71 = .ok (.iastore, 1) := dk_79 (dk_at dksX0_paste_3 2 rfl rfl)
theorem dX0_paste_72 : decode cX0_paste 72 = .ok (.iload 7, 2) := dk_21 7 (dk_at dksX0_paste_3 3 rfl rfl)
theorem dX0_paste_74 : decode cX0_paste 74 = .ok (.aload_n 0, 1) := dk_42 (dk_at dksX0_paste_3 5 rfl rfl)
theorem dX0_paste_75 : decode cX0_paste 75 = .ok (.iload_n 2, 1) := dk_28 (dk_at dksX0_paste_3 6 rfl rfl)
theorem dX0_paste_76 : decode cX0_paste 76 = .ok (.aload 6, 2) := dk_25 6 (dk_at dksX0_paste_3 7 rfl rfl)
theorem dX0_paste_78 : decode cX0_paste 78 = .ok (.invokevirtual 330, 3) := dk_182 1 74 (dk_at dksX0_paste_3 9 rfl rfl)
theorem dX0_paste_81 : decode cX0_paste 81 = .ok (.ifCond .eq 10, 3) := dk_153 0 10 (dk_at dksX0_paste_3 12 rfl rfl)
theorem dX0_paste_84 : decode cX0_paste 84 = .ok (.iconst 1, 1) := dk_4 (dk_at dksX0_paste_3 15 rfl rfl)
theorem dX0_paste_85 : decode cX0_paste 85 = .ok (.iload 8, 2) := dk_21 8 (dk_at dksX0_paste_3 16 rfl rfl)
theorem dX0_paste_87 : decode cX0_paste 87 = .ok (.ishl, 1) := dk_120 (dk_at dksX0_paste_3 18 rfl rfl)
theorem dX0_paste_88 : decode cX0_paste 88 = .ok (.goto 4, 3) := dk_167 0 4 (dk_at dksX0_paste_3 19 rfl rfl)
theorem dX0_paste_91 : decode cX0_paste 91 = .ok (.iconst 0, 1) := dk_3 (dk_at dksX0_paste_3 22 rfl rfl)
theorem dX0_paste_92 : decode cX0_paste 92 = .ok (.ior, 1) := dk_128 (dk_at dksX0_paste_3 23 rfl rfl)
theorem dX0_paste_93 : decode cX0_paste 93 = .ok (.istore 7, 2) := dk_54 7 (dk_at dksX0_paste_4 0 rfl rfl)
theorem dX0_paste_95 : decode cX0_paste 95 = .ok (.iinc 8 1, 3) := dk_132 8 1 (dk_at dksX0_paste_4 2 rfl rfl)
theorem dX0_paste_98 : decode cX0_paste 98 = .ok (.goto (-44), 3) := dk_167 255 212 (dk_at dksX0_paste_4 5 rfl rfl)
theorem dX0_paste_101 : decode cX0_paste 101 = .ok (.aload_n 0, 1) := dk_42 (dk_at dksX0_paste_4 8 rfl rfl)
theorem dX0_paste_102 : decode cX0_paste 102 = .ok (.iload 7, 2) := dk_21 7 (dk_at dksX0_paste_4 9 rfl rfl)
theorem dX0_paste_104 : decode cX0_paste 104 = .ok (.invokevirtual 104, 3) := dk_182 0 104 (dk_at dksX0_paste_4 11 rfl rfl)
theorem dX0_paste_107 : decode cX0_paste 107 = .ok (.ireturn, 1) := dk_172 (dk_at dksX0_paste_4 14 rfl rfl)
theorem dX0_paste_108 : decode cX0_paste 108 = .ok (.astore 6, 2) := dk_58 6 (dk_at dksX0_paste_4 15 rfl rfl)
theorem dX0_paste_110 : decode cX0_paste 110 = .ok (.aload_n 0, 1) := dk_42 (dk_at dksX0_paste_4 17 rfl rfl)
theorem dX0_paste_111 : decode cX0_paste 111 = .ok (.aload 6, 2) := dk_25 6 (dk_at dksX0_paste_4 18 rfl rfl)
theorem dX0_paste_113 : decode cX0_paste 113 = .ok (.invokevirtual 108, 3) := dk_182 0 108 (dk_at dksX0_paste_4 20 rfl rfl)
theorem dX0_paste_116 : decode cX0_paste 116 = .ok (.ireturn, 1) := dk_172 (dk_at dksX0_paste_4 23 rfl rfl)
abbrev cX0_hungers : ByteArray := prog_1_method_55_code
def yX0_hungers : MethodName := ⟨RX0, "hungers", "(IIII)I"⟩
def dkwX0_hungers_4 : List UInt8 := [182, 0, 104, 172, 58, 5, 42, 25, 5, 182, 0, 108, 172]
abbrev dktX0_hungers_4 : List UInt8 := dkwX0_hungers_4 ++ []
def dkwX0_hungers_3 : List UInt8 := [153, 0, 10, 4, 21, 7, 120, 167, 0, 4, 3, 128, 54, 6, 132, 7, 1, 167, 255, 214, 42, 21, 6]
abbrev dktX0_hungers_3 : List UInt8 := dkwX0_hungers_3 ++ dktX0_hungers_4
def dkwX0_hungers_2 : List UInt8 := [16, 9, 163, 0, 41, 42, 182, 1, 19, 21, 7, 181, 0, 174, 21, 6, 42, 27, 25, 5, 182, 1, 74]
abbrev dktX0_hungers_2 : List UInt8 := dkwX0_hungers_2 ++ dktX0_hungers_3
def dkwX0_hungers_1 : List UInt8 := [18, 100, 172, 42, 28, 182, 0, 112, 29, 21, 4, 182, 1, 66, 58, 5, 3, 54, 6, 4, 54, 7, 21, 7]
abbrev dktX0_hungers_1 : List UInt8 := dkwX0_hungers_1 ++ dktX0_hungers_2
def dkwX0_hungers_0 : List UInt8 := [42, 27, 182, 0, 206, 153, 0, 18, 28, 184, 0, 94, 153, 0, 11, 21, 4, 184, 1, 46, 154, 0, 6]
abbrev dktX0_hungers_0 : List UInt8 := dkwX0_hungers_0 ++ dktX0_hungers_1
theorem dksX0_hungers_0 : cX0_hungers.data.toList.drop 0 = dktX0_hungers_0 := by decide +kernel
theorem dksX0_hungers_1 : cX0_hungers.data.toList.drop 23 = dktX0_hungers_1 := dk_seg dksX0_hungers_0 23 rfl rfl
theorem dksX0_hungers_2 : cX0_hungers.data.toList.drop 47 = dktX0_hungers_2 := dk_seg dksX0_hungers_1 24 rfl rfl
theorem dksX0_hungers_3 : cX0_hungers.data.toList.drop 70 = dktX0_hungers_3 := dk_seg dksX0_hungers_2 23 rfl rfl
theorem dksX0_hungers_4 : cX0_hungers.data.toList.drop 93 = dktX0_hungers_4 := dk_seg dksX0_hungers_3 23 rfl rfl
theorem dX0_hungers_0 : decode cX0_hungers 0 = .ok (.aload_n 0, 1) := dk_42 (dk_at dksX0_hungers_0 0 rfl rfl)
theorem dX0_hungers_1 : decode cX0_hungers 1 = .ok (.iload_n 1, 1) := dk_27 (dk_at dksX0_hungers_0 1 rfl rfl)
theorem dX0_hungers_2 : decode cX0_hungers 2 = .ok (.invokevirtual 206, 3) := dk_182 0 206 (dk_at dksX0_hungers_0 2 rfl rfl)
theorem dX0_hungers_5 : decode cX0_hungers 5 = .ok (.ifCond .eq 18, 3) := dk_153 0 18 (dk_at dksX0_hungers_0 5 rfl rfl)
theorem dX0_hungers_8 : decode cX0_hungers 8 = .ok (.iload_n 2, 1) := dk_28 (dk_at dksX0_hungers_0 8 rfl rfl)
theorem dX0_hungers_9 : decode cX0_hungers 9 = .ok (.invokestatic 94, 3) := dk_184 0 94 (dk_at dksX0_hungers_0 9 rfl rfl)
theorem dX0_hungers_12 : decode cX0_hungers 12 = .ok (.ifCond .eq 11, 3) := dk_153 0 11 (dk_at dksX0_hungers_0 12 rfl rfl)
theorem dX0_hungers_15 : decode cX0_hungers 15 = .ok (.iload 4, 2) := dk_21 4 (dk_at dksX0_hungers_0 15 rfl rfl)
theorem dX0_hungers_17 : decode cX0_hungers 17 = .ok (.invokestatic 302, 3) := dk_184 1 46 (dk_at dksX0_hungers_0 17 rfl rfl)
theorem dX0_hungers_20 : decode cX0_hungers 20 = .ok (.ifCond .ne 6, 3) := dk_154 0 6 (dk_at dksX0_hungers_0 20 rfl rfl)
theorem dX0_hungers_23 : decode cX0_hungers 23 = .ok (.ldc 100, 2) := dk_18 100 (dk_at dksX0_hungers_1 0 rfl rfl)
theorem dX0_hungers_25 : decode cX0_hungers 25 = .ok (.ireturn, 1) := dk_172 (dk_at dksX0_hungers_1 2 rfl rfl)
theorem dX0_hungers_26 : decode cX0_hungers 26 = .ok (.aload_n 0, 1) := dk_42 (dk_at dksX0_hungers_1 3 rfl rfl)
theorem dX0_hungers_27 : decode cX0_hungers 27 = .ok (.iload_n 2, 1) := dk_28 (dk_at dksX0_hungers_1 4 rfl rfl)
theorem dX0_hungers_28 : decode cX0_hungers 28 = .ok (.invokevirtual 112, 3) := dk_182 0 112 (dk_at dksX0_hungers_1 5 rfl rfl)
theorem dX0_hungers_31 : decode cX0_hungers 31 = .ok (.iload_n 3, 1) := dk_29 (dk_at dksX0_hungers_1 8 rfl rfl)
theorem dX0_hungers_32 : decode cX0_hungers 32 = .ok (.iload 4, 2) := dk_21 4 (dk_at dksX0_hungers_1 9 rfl rfl)
theorem dX0_hungers_34 : decode cX0_hungers 34 = .ok (.invokevirtual 322, 3) := dk_182 1 66 (dk_at dksX0_hungers_1 11 rfl rfl)
theorem dX0_hungers_37 : decode cX0_hungers 37 = .ok (.astore 5, 2) := dk_58 5 (dk_at dksX0_hungers_1 14 rfl rfl)
theorem dX0_hungers_39 : decode cX0_hungers 39 = .ok (.iconst 0, 1) := dk_3 (dk_at dksX0_hungers_1 16 rfl rfl)
theorem dX0_hungers_40 : decode cX0_hungers 40 = .ok (.istore 6, 2) := dk_54 6 (dk_at dksX0_hungers_1 17 rfl rfl)
theorem dX0_hungers_42 : decode cX0_hungers 42 = .ok (.iconst 1, 1) := dk_4 (dk_at dksX0_hungers_1 19 rfl rfl)
theorem dX0_hungers_43 : decode cX0_hungers 43 = .ok (.istore 7, 2) := dk_54 7 (dk_at dksX0_hungers_1 20 rfl rfl)
theorem dX0_hungers_45 : decode cX0_hungers 45 = .ok (.iload 7, 2) := dk_21 7 (dk_at dksX0_hungers_1 22 rfl rfl)
theorem dX0_hungers_47 : decode cX0_hungers 47 = .ok (.bipush 9, 2) := dk_16 9 (dk_at dksX0_hungers_2 0 rfl rfl)
theorem dX0_hungers_49 : decode cX0_hungers 49 = .ok (.if_icmp .gt 41, 3) := dk_163 0 41 (dk_at dksX0_hungers_2 2 rfl rfl)
theorem dX0_hungers_52 : decode cX0_hungers 52 = .ok (.aload_n 0, 1) := dk_42 (dk_at dksX0_hungers_2 5 rfl rfl)
theorem dX0_hungers_53 : decode cX0_hungers 53 = .ok (.invokevirtual 275, 3) := dk_182 1 19 (dk_at dksX0_hungers_2 6 rfl rfl)
theorem dX0_hungers_56 : decode cX0_hungers 56 = .ok (.iload 7, 2) := dk_21 7 (dk_at dksX0_hungers_2 9 rfl rfl)
theorem dX0_hungers_58 : decode cX0_hungers 58 = .ok (.putfield 174, 3) := dk_181 0 174 (dk_at dksX0_hungers_2 11 rfl rfl)
theorem dX0_hungers_61 : decode cX0_hungers 61 = .ok (.iload 6, 2) := dk_21 6 (dk_at dksX0_hungers_2 14 rfl rfl)
theorem dX0_hungers_63 : decode cX0_hungers 63 = .ok (.aload_n 0, 1) := dk_42 (dk_at dksX0_hungers_2 16 rfl rfl)
theorem dX0_hungers_64 : decode cX0_hungers 64 = .ok (.iload_n 1, 1) := dk_27 (dk_at dksX0_hungers_2 17 rfl rfl)
theorem dX0_hungers_65 : decode cX0_hungers 65 = .ok (.aload 5, 2) := dk_25 5 (dk_at dksX0_hungers_2 18 rfl rfl)
theorem dX0_hungers_67 : decode cX0_hungers 67 = .ok (.invokevirtual 330, 3) := dk_182 1 74 (dk_at dksX0_hungers_2 20 rfl rfl)
theorem dX0_hungers_70 : decode cX0_hungers 70 = .ok (.ifCond .eq 10, 3) := dk_153 0 10 (dk_at dksX0_hungers_3 0 rfl rfl)
theorem dX0_hungers_73 : decode cX0_hungers 73 = .ok (.iconst 1, 1) := dk_4 (dk_at dksX0_hungers_3 3 rfl rfl)
theorem dX0_hungers_74 : decode cX0_hungers 74 = .ok (.iload 7, 2) := dk_21 7 (dk_at dksX0_hungers_3 4 rfl rfl)
theorem dX0_hungers_76 : decode cX0_hungers 76 = .ok (.ishl, 1) := dk_120 (dk_at dksX0_hungers_3 6 rfl rfl)
theorem dX0_hungers_77 : decode cX0_hungers 77 = .ok (.goto 4, 3) := dk_167 0 4 (dk_at dksX0_hungers_3 7 rfl rfl)
theorem dX0_hungers_80 : decode cX0_hungers 80 = .ok (.iconst 0, 1) := dk_3 (dk_at dksX0_hungers_3 10 rfl rfl)
theorem dX0_hungers_81 : decode cX0_hungers 81 = .ok (.ior, 1) := dk_128 (dk_at dksX0_hungers_3 11 rfl rfl)
theorem dX0_hungers_82 : decode cX0_hungers 82 = .ok (.istore 6, 2) := dk_54 6 (dk_at dksX0_hungers_3 12 rfl rfl)
theorem dX0_hungers_84 : decode cX0_hungers 84 = .ok (.iinc 7 1, 3) := dk_132 7 1 (dk_at dksX0_hungers_3 14 rfl rfl)
theorem dX0_hungers_87 : decode cX0_hungers 87 = .ok (.goto (-42), 3) := dk_167 255 214 (dk_at dksX0_hungers_3 17 rfl rfl)
theorem dX0_hungers_90 : decode cX0_hungers 90 = .ok (.aload_n 0, 1) := dk_42 (dk_at dksX0_hungers_3 20 rfl rfl)
theorem dX0_hungers_91 : decode cX0_hungers 91 = .ok (.iload 6, 2) := dk_21 6 (dk_at dksX0_hungers_3 21 rfl rfl)
theorem dX0_hungers_93 : decode cX0_hungers 93 = .ok (.invokevirtual 104, 3) := dk_182 0 104 (dk_at dksX0_hungers_4 0 rfl rfl)
theorem dX0_hungers_96 : decode cX0_hungers 96 = .ok (.ireturn, 1) := dk_172 (dk_at dksX0_hungers_4 3 rfl rfl)
theorem dX0_hungers_97 : decode cX0_hungers 97 = .ok (.astore 5, 2) := dk_58 5 (dk_at dksX0_hungers_4 4 rfl rfl)
theorem dX0_hungers_99 : decode cX0_hungers 99 = .ok (.aload_n 0, 1) := dk_42 (dk_at dksX0_hungers_4 6 rfl rfl)
theorem dX0_hungers_100 : decode cX0_hungers 100 = .ok (.aload 5, 2) := dk_25 5 (dk_at dksX0_hungers_4 7 rfl rfl)
theorem dX0_hungers_102 : decode cX0_hungers 102 = .ok (.invokevirtual 108, 3) := dk_182 0 108 (dk_at dksX0_hungers_4 9 rfl rfl)
theorem dX0_hungers_105 : decode cX0_hungers 105 = .ok (.ireturn, 1) := dk_172 (dk_at dksX0_hungers_4 12 rfl rfl)
abbrev cX0_dark : ByteArray := prog_1_method_57_code
def yX0_dark : MethodName := ⟨RX0, "dark", "(IIII)J"⟩
def dkwX0_dark_10 : List UInt8 := [22, 6, 167, 0, 5, 22, 8, 22, 6, 22, 8, 184, 1, 82, 109, 173]
abbrev dktX0_dark_10 : List UInt8 := dkwX0_dark_10 ++ []
def dkwX0_dark_9 : List UInt8 := [158, 0, 8, 22, 11, 167, 0, 4, 9, 97, 55, 6, 132, 10, 1, 167, 255, 132, 21, 4, 154, 0, 8]
abbrev dktX0_dark_9 : List UInt8 := dkwX0_dark_9 ++ dktX0_dark_10
def dkwX0_dark_8 : List UInt8 := [21, 5, 21, 10, 2, 130, 126, 181, 0, 212, 22, 6, 42, 28, 182, 1, 22, 180, 0, 243, 27, 46]
abbrev dktX0_dark_8 : List UInt8 := dkwX0_dark_8 ++ dktX0_dark_9
def dkwX0_dark_7 : List UInt8 := [29, 133, 167, 0, 8, 16, 10, 29, 100, 133, 105, 55, 11, 132, 13, 1, 167, 255, 202, 42, 182, 1, 19]
abbrev dktX0_dark_7 : List UInt8 := dkwX0_dark_7 ++ dktX0_dark_8
def dkwX0_dark_6 : List UInt8 := [21, 5, 21, 13, 184, 1, 38, 154, 0, 7, 10, 167, 0, 23, 21, 10, 21, 13, 184, 1, 38, 153, 0, 8]
abbrev dktX0_dark_6 : List UInt8 := dkwX0_dark_6 ++ dktX0_dark_7
def dkwX0_dark_5 : List UInt8 := [167, 0, 104, 10, 55, 11, 3, 54, 13, 21, 13, 42, 180, 0, 39, 180, 0, 177, 162, 0, 48, 22, 11]
abbrev dktX0_dark_5 : List UInt8 := dkwX0_dark_5 ++ dktX0_dark_6
def dkwX0_dark_4 : List UInt8 := [167, 255, 219, 3, 54, 10, 21, 10, 21, 5, 163, 0, 123, 21, 10, 21, 5, 2, 130, 126, 153, 0, 6]
abbrev dktX0_dark_4 : List UInt8 := dkwX0_dark_4 ++ dktX0_dark_5
def dkwX0_dark_3 : List UInt8 := [21, 5, 21, 10, 184, 1, 38, 153, 0, 9, 20, 1, 78, 167, 0, 4, 10, 105, 55, 8, 132, 10, 1]
abbrev dktX0_dark_3 : List UInt8 := dkwX0_dark_3 ++ dktX0_dark_4
def dkwX0_dark_2 : List UInt8 := [9, 55, 6, 10, 55, 8, 3, 54, 10, 21, 10, 42, 180, 0, 39, 180, 0, 177, 162, 0, 31, 22, 8]
abbrev dktX0_dark_2 : List UInt8 := dkwX0_dark_2 ++ dktX0_dark_3
def dkwX0_dark_1 : List UInt8 := [153, 0, 11, 21, 4, 184, 0, 209, 154, 0, 7, 20, 1, 80, 173, 42, 180, 0, 39, 180, 0, 212, 54, 5]
abbrev dktX0_dark_1 : List UInt8 := dkwX0_dark_1 ++ dktX0_dark_2
def dkwX0_dark_0 : List UInt8 := [42, 27, 182, 0, 206, 153, 0, 30, 28, 184, 1, 16, 153, 0, 23, 29, 133, 9, 20, 1, 78, 184, 0, 86]
abbrev dktX0_dark_0 : List UInt8 := dkwX0_dark_0 ++ dktX0_dark_1
theorem dksX0_dark_0 : cX0_dark.data.toList.drop 0 = dktX0_dark_0 := by decide +kernel
theorem dksX0_dark_1 : cX0_dark.data.toList.drop 24 = dktX0_dark_1 := dk_seg dksX0_dark_0 24 rfl rfl
theorem dksX0_dark_2 : cX0_dark.data.toList.drop 48 = dktX0_dark_2 := dk_seg dksX0_dark_1 24 rfl rfl
theorem dksX0_dark_3 : cX0_dark.data.toList.drop 71 = dktX0_dark_3 := dk_seg dksX0_dark_2 23 rfl rfl
theorem dksX0_dark_4 : cX0_dark.data.toList.drop 94 = dktX0_dark_4 := dk_seg dksX0_dark_3 23 rfl rfl
theorem dksX0_dark_5 : cX0_dark.data.toList.drop 117 = dktX0_dark_5 := dk_seg dksX0_dark_4 23 rfl rfl
theorem dksX0_dark_6 : cX0_dark.data.toList.drop 140 = dktX0_dark_6 := dk_seg dksX0_dark_5 23 rfl rfl
theorem dksX0_dark_7 : cX0_dark.data.toList.drop 164 = dktX0_dark_7 := dk_seg dksX0_dark_6 24 rfl rfl
theorem dksX0_dark_8 : cX0_dark.data.toList.drop 187 = dktX0_dark_8 := dk_seg dksX0_dark_7 23 rfl rfl
theorem dksX0_dark_9 : cX0_dark.data.toList.drop 209 = dktX0_dark_9 := dk_seg dksX0_dark_8 22 rfl rfl
theorem dksX0_dark_10 : cX0_dark.data.toList.drop 232 = dktX0_dark_10 := dk_seg dksX0_dark_9 23 rfl rfl
theorem dX0_dark_0 : decode cX0_dark 0 = .ok (.aload_n 0, 1) := dk_42 (dk_at dksX0_dark_0 0 rfl rfl)
theorem dX0_dark_1 : decode cX0_dark 1 = .ok (.iload_n 1, 1) := dk_27 (dk_at dksX0_dark_0 1 rfl rfl)
theorem dX0_dark_2 : decode cX0_dark 2 = .ok (.invokevirtual 206, 3) := dk_182 0 206 (dk_at dksX0_dark_0 2 rfl rfl)
theorem dX0_dark_5 : decode cX0_dark 5 = .ok (.ifCond .eq 30, 3) := dk_153 0 30 (dk_at dksX0_dark_0 5 rfl rfl)
theorem dX0_dark_8 : decode cX0_dark 8 = .ok (.iload_n 2, 1) := dk_28 (dk_at dksX0_dark_0 8 rfl rfl)
theorem dX0_dark_9 : decode cX0_dark 9 = .ok (.invokestatic 272, 3) := dk_184 1 16 (dk_at dksX0_dark_0 9 rfl rfl)
theorem dX0_dark_12 : decode cX0_dark 12 = .ok (.ifCond .eq 23, 3) := dk_153 0 23 (dk_at dksX0_dark_0 12 rfl rfl)
theorem dX0_dark_15 : decode cX0_dark 15 = .ok (.iload_n 3, 1) := dk_29 (dk_at dksX0_dark_0 15 rfl rfl)
theorem dX0_dark_16 : decode cX0_dark 16 = .ok (.i2l, 1) := dk_133 (dk_at dksX0_dark_0 16 rfl rfl)
theorem dX0_dark_17 : decode cX0_dark 17 = .ok (.lconst 0, 1) := dk_9 (dk_at dksX0_dark_0 17 rfl rfl)
theorem dX0_dark_18 : decode cX0_dark 18 = .ok (.ldc2_w 334, 3) := dk_20 1 78 (dk_at dksX0_dark_0 18 rfl rfl)
theorem dX0_dark_21 : decode cX0_dark 21 = .ok (.invokestatic 86, 3) := dk_184 0 86 (dk_at dksX0_dark_0 21 rfl rfl)
theorem dX0_dark_24 : decode cX0_dark 24 = .ok (.ifCond .eq 11, 3) := dk_153 0 11 (dk_at dksX0_dark_1 0 rfl rfl)
theorem dX0_dark_27 : decode cX0_dark 27 = .ok (.iload 4, 2) := dk_21 4 (dk_at dksX0_dark_1 3 rfl rfl)
theorem dX0_dark_29 : decode cX0_dark 29 = .ok (.invokestatic 209, 3) := dk_184 0 209 (dk_at dksX0_dark_1 5 rfl rfl)
theorem dX0_dark_32 : decode cX0_dark 32 = .ok (.ifCond .ne 7, 3) := dk_154 0 7 (dk_at dksX0_dark_1 8 rfl rfl)
theorem dX0_dark_35 : decode cX0_dark 35 = .ok (.ldc2_w 336, 3) := dk_20 1 80 (dk_at dksX0_dark_1 11 rfl rfl)
theorem dX0_dark_38 : decode cX0_dark 38 = .ok (.lreturn, 1) := dk_173 (dk_at dksX0_dark_1 14 rfl rfl)
theorem dX0_dark_39 : decode cX0_dark 39 = .ok (.aload_n 0, 1) := dk_42 (dk_at dksX0_dark_1 15 rfl rfl)
theorem dX0_dark_40 : decode cX0_dark 40 = .ok (.getfield 39, 3) := dk_180 0 39 (dk_at dksX0_dark_1 16 rfl rfl)
theorem dX0_dark_43 : decode cX0_dark 43 = .ok (.getfield 212, 3) := dk_180 0 212 (dk_at dksX0_dark_1 19 rfl rfl)
theorem dX0_dark_46 : decode cX0_dark 46 = .ok (.istore 5, 2) := dk_54 5 (dk_at dksX0_dark_1 22 rfl rfl)
theorem dX0_dark_48 : decode cX0_dark 48 = .ok (.lconst 0, 1) := dk_9 (dk_at dksX0_dark_2 0 rfl rfl)
theorem dX0_dark_49 : decode cX0_dark 49 = .ok (.lstore 6, 2) := dk_55 6 (dk_at dksX0_dark_2 1 rfl rfl)
theorem dX0_dark_51 : decode cX0_dark 51 = .ok (.lconst 1, 1) := dk_10 (dk_at dksX0_dark_2 3 rfl rfl)
theorem dX0_dark_52 : decode cX0_dark 52 = .ok (.lstore 8, 2) := dk_55 8 (dk_at dksX0_dark_2 4 rfl rfl)
theorem dX0_dark_54 : decode cX0_dark 54 = .ok (.iconst 0, 1) := dk_3 (dk_at dksX0_dark_2 6 rfl rfl)
theorem dX0_dark_55 : decode cX0_dark 55 = .ok (.istore 10, 2) := dk_54 10 (dk_at dksX0_dark_2 7 rfl rfl)
theorem dX0_dark_57 : decode cX0_dark 57 = .ok (.iload 10, 2) := dk_21 10 (dk_at dksX0_dark_2 9 rfl rfl)
theorem dX0_dark_59 : decode cX0_dark 59 = .ok (.aload_n 0, 1) := dk_42 (dk_at dksX0_dark_2 11 rfl rfl)
theorem dX0_dark_60 : decode cX0_dark 60 = .ok (.getfield 39, 3) := dk_180 0 39 (dk_at dksX0_dark_2 12 rfl rfl)
theorem dX0_dark_63 : decode cX0_dark 63 = .ok (.getfield 177, 3) := dk_180 0 177 (dk_at dksX0_dark_2 15 rfl rfl)
theorem dX0_dark_66 : decode cX0_dark 66 = .ok (.if_icmp .ge 31, 3) := dk_162 0 31 (dk_at dksX0_dark_2 18 rfl rfl)
theorem dX0_dark_69 : decode cX0_dark 69 = .ok (.lload 8, 2) := dk_22 8 (dk_at dksX0_dark_2 21 rfl rfl)
theorem dX0_dark_71 : decode cX0_dark 71 = .ok (.iload 5, 2) := dk_21 5 (dk_at dksX0_dark_3 0 rfl rfl)
theorem dX0_dark_73 : decode cX0_dark 73 = .ok (.iload 10, 2) := dk_21 10 (dk_at dksX0_dark_3 2 rfl rfl)
theorem dX0_dark_75 : decode cX0_dark 75 = .ok (.invokestatic 294, 3) := dk_184 1 38 (dk_at dksX0_dark_3 4 rfl rfl)
theorem dX0_dark_78 : decode cX0_dark 78 = .ok (.ifCond .eq 9, 3) := dk_153 0 9 (dk_at dksX0_dark_3 7 rfl rfl)
theorem dX0_dark_81 : decode cX0_dark 81 = .ok (.ldc2_w 334, 3) := dk_20 1 78 (dk_at dksX0_dark_3 10 rfl rfl)
theorem dX0_dark_84 : decode cX0_dark 84 = .ok (.goto 4, 3) := dk_167 0 4 (dk_at dksX0_dark_3 13 rfl rfl)
theorem dX0_dark_87 : decode cX0_dark 87 = .ok (.lconst 1, 1) := dk_10 (dk_at dksX0_dark_3 16 rfl rfl)
theorem dX0_dark_88 : decode cX0_dark 88 = .ok (.lmul, 1) := dk_105 (dk_at dksX0_dark_3 17 rfl rfl)
theorem dX0_dark_89 : decode cX0_dark 89 = .ok (.lstore 8, 2) := dk_55 8 (dk_at dksX0_dark_3 18 rfl rfl)
theorem dX0_dark_91 : decode cX0_dark 91 = .ok (.iinc 10 1, 3) := dk_132 10 1 (dk_at dksX0_dark_3 20 rfl rfl)
theorem dX0_dark_94 : decode cX0_dark 94 = .ok (.goto (-37), 3) := dk_167 255 219 (dk_at dksX0_dark_4 0 rfl rfl)
theorem dX0_dark_97 : decode cX0_dark 97 = .ok (.iconst 0, 1) := dk_3 (dk_at dksX0_dark_4 3 rfl rfl)
theorem dX0_dark_98 : decode cX0_dark 98 = .ok (.istore 10, 2) := dk_54 10 (dk_at dksX0_dark_4 4 rfl rfl)
theorem dX0_dark_100 : decode cX0_dark 100 = .ok (.iload 10, 2) := dk_21 10 (dk_at dksX0_dark_4 6 rfl rfl)
theorem dX0_dark_102 : decode cX0_dark 102 = .ok (.iload 5, 2) := dk_21 5 (dk_at dksX0_dark_4 8 rfl rfl)
theorem dX0_dark_104 : decode cX0_dark 104 = .ok (.if_icmp .gt 123, 3) := dk_163 0 123 (dk_at dksX0_dark_4 10 rfl rfl)
theorem dX0_dark_107 : decode cX0_dark 107 = .ok (.iload 10, 2) := dk_21 10 (dk_at dksX0_dark_4 13 rfl rfl)
theorem dX0_dark_109 : decode cX0_dark 109 = .ok (.iload 5, 2) := dk_21 5 (dk_at dksX0_dark_4 15 rfl rfl)
theorem dX0_dark_111 : decode cX0_dark 111 = .ok (.iconst (-1), 1) := dk_2 (dk_at dksX0_dark_4 17 rfl rfl)
theorem dX0_dark_112 : decode cX0_dark 112 = .ok (.ixor, 1) := dk_130 (dk_at dksX0_dark_4 18 rfl rfl)
theorem dX0_dark_113 : decode cX0_dark 113 = .ok (.iand, 1) := dk_126 (dk_at dksX0_dark_4 19 rfl rfl)
theorem dX0_dark_114 : decode cX0_dark 114 = .ok (.ifCond .eq 6, 3) := dk_153 0 6 (dk_at dksX0_dark_4 20 rfl rfl)
theorem dX0_dark_117 : decode cX0_dark 117 = .ok (.goto 104, 3) := dk_167 0 104 (dk_at dksX0_dark_5 0 rfl rfl)
theorem dX0_dark_120 : decode cX0_dark 120 = .ok (.lconst 1, 1) := dk_10 (dk_at dksX0_dark_5 3 rfl rfl)
theorem dX0_dark_121 : decode cX0_dark 121 = .ok (.lstore 11, 2) := dk_55 11 (dk_at dksX0_dark_5 4 rfl rfl)
theorem dX0_dark_123 : decode cX0_dark 123 = .ok (.iconst 0, 1) := dk_3 (dk_at dksX0_dark_5 6 rfl rfl)
theorem dX0_dark_124 : decode cX0_dark 124 = .ok (.istore 13, 2) := dk_54 13 (dk_at dksX0_dark_5 7 rfl rfl)
theorem dX0_dark_126 : decode cX0_dark 126 = .ok (.iload 13, 2) := dk_21 13 (dk_at dksX0_dark_5 9 rfl rfl)
theorem dX0_dark_128 : decode cX0_dark 128 = .ok (.aload_n 0, 1) := dk_42 (dk_at dksX0_dark_5 11 rfl rfl)
theorem dX0_dark_129 : decode cX0_dark 129 = .ok (.getfield 39, 3) := dk_180 0 39 (dk_at dksX0_dark_5 12 rfl rfl)
theorem dX0_dark_132 : decode cX0_dark 132 = .ok (.getfield 177, 3) := dk_180 0 177 (dk_at dksX0_dark_5 15 rfl rfl)
theorem dX0_dark_135 : decode cX0_dark 135 = .ok (.if_icmp .ge 48, 3) := dk_162 0 48 (dk_at dksX0_dark_5 18 rfl rfl)
theorem dX0_dark_138 : decode cX0_dark 138 = .ok (.lload 11, 2) := dk_22 11 (dk_at dksX0_dark_5 21 rfl rfl)
theorem dX0_dark_140 : decode cX0_dark 140 = .ok (.iload 5, 2) := dk_21 5 (dk_at dksX0_dark_6 0 rfl rfl)
theorem dX0_dark_142 : decode cX0_dark 142 = .ok (.iload 13, 2) := dk_21 13 (dk_at dksX0_dark_6 2 rfl rfl)
theorem dX0_dark_144 : decode cX0_dark 144 = .ok (.invokestatic 294, 3) := dk_184 1 38 (dk_at dksX0_dark_6 4 rfl rfl)
theorem dX0_dark_147 : decode cX0_dark 147 = .ok (.ifCond .ne 7, 3) := dk_154 0 7 (dk_at dksX0_dark_6 7 rfl rfl)
theorem dX0_dark_150 : decode cX0_dark 150 = .ok (.lconst 1, 1) := dk_10 (dk_at dksX0_dark_6 10 rfl rfl)
theorem dX0_dark_151 : decode cX0_dark 151 = .ok (.goto 23, 3) := dk_167 0 23 (dk_at dksX0_dark_6 11 rfl rfl)
theorem dX0_dark_154 : decode cX0_dark 154 = .ok (.iload 10, 2) := dk_21 10 (dk_at dksX0_dark_6 14 rfl rfl)
theorem dX0_dark_156 : decode cX0_dark 156 = .ok (.iload 13, 2) := dk_21 13 (dk_at dksX0_dark_6 16 rfl rfl)
theorem dX0_dark_158 : decode cX0_dark 158 = .ok (.invokestatic 294, 3) := dk_184 1 38 (dk_at dksX0_dark_6 18 rfl rfl)
theorem dX0_dark_161 : decode cX0_dark 161 = .ok (.ifCond .eq 8, 3) := dk_153 0 8 (dk_at dksX0_dark_6 21 rfl rfl)
theorem dX0_dark_164 : decode cX0_dark 164 = .ok (.iload_n 3, 1) := dk_29 (dk_at dksX0_dark_7 0 rfl rfl)
theorem dX0_dark_165 : decode cX0_dark 165 = .ok (.i2l, 1) := dk_133 (dk_at dksX0_dark_7 1 rfl rfl)
theorem dX0_dark_166 : decode cX0_dark 166 = .ok (.goto 8, 3) := dk_167 0 8 (dk_at dksX0_dark_7 2 rfl rfl)
theorem dX0_dark_169 : decode cX0_dark 169 = .ok (.bipush 10, 2) := dk_16 10 (dk_at dksX0_dark_7 5 rfl rfl)
theorem dX0_dark_171 : decode cX0_dark 171 = .ok (.iload_n 3, 1) := dk_29 (dk_at dksX0_dark_7 7 rfl rfl)
theorem dX0_dark_172 : decode cX0_dark 172 = .ok (.isub, 1) := dk_100 (dk_at dksX0_dark_7 8 rfl rfl)
theorem dX0_dark_173 : decode cX0_dark 173 = .ok (.i2l, 1) := dk_133 (dk_at dksX0_dark_7 9 rfl rfl)
theorem dX0_dark_174 : decode cX0_dark 174 = .ok (.lmul, 1) := dk_105 (dk_at dksX0_dark_7 10 rfl rfl)
theorem dX0_dark_175 : decode cX0_dark 175 = .ok (.lstore 11, 2) := dk_55 11 (dk_at dksX0_dark_7 11 rfl rfl)
theorem dX0_dark_177 : decode cX0_dark 177 = .ok (.iinc 13 1, 3) := dk_132 13 1 (dk_at dksX0_dark_7 13 rfl rfl)
theorem dX0_dark_180 : decode cX0_dark 180 = .ok (.goto (-54), 3) := dk_167 255 202 (dk_at dksX0_dark_7 16 rfl rfl)
theorem dX0_dark_183 : decode cX0_dark 183 = .ok (.aload_n 0, 1) := dk_42 (dk_at dksX0_dark_7 19 rfl rfl)
theorem dX0_dark_184 : decode cX0_dark 184 = .ok (.invokevirtual 275, 3) := dk_182 1 19 (dk_at dksX0_dark_7 20 rfl rfl)
theorem dX0_dark_187 : decode cX0_dark 187 = .ok (.iload 5, 2) := dk_21 5 (dk_at dksX0_dark_8 0 rfl rfl)
theorem dX0_dark_189 : decode cX0_dark 189 = .ok (.iload 10, 2) := dk_21 10 (dk_at dksX0_dark_8 2 rfl rfl)
theorem dX0_dark_191 : decode cX0_dark 191 = .ok (.iconst (-1), 1) := dk_2 (dk_at dksX0_dark_8 4 rfl rfl)
theorem dX0_dark_192 : decode cX0_dark 192 = .ok (.ixor, 1) := dk_130 (dk_at dksX0_dark_8 5 rfl rfl)
theorem dX0_dark_193 : decode cX0_dark 193 = .ok (.iand, 1) := dk_126 (dk_at dksX0_dark_8 6 rfl rfl)
theorem dX0_dark_194 : decode cX0_dark 194 = .ok (.putfield 212, 3) := dk_181 0 212 (dk_at dksX0_dark_8 7 rfl rfl)
theorem dX0_dark_197 : decode cX0_dark 197 = .ok (.lload 6, 2) := dk_22 6 (dk_at dksX0_dark_8 10 rfl rfl)
theorem dX0_dark_199 : decode cX0_dark 199 = .ok (.aload_n 0, 1) := dk_42 (dk_at dksX0_dark_8 12 rfl rfl)
theorem dX0_dark_200 : decode cX0_dark 200 = .ok (.iload_n 2, 1) := dk_28 (dk_at dksX0_dark_8 13 rfl rfl)
theorem dX0_dark_201 : decode cX0_dark 201 = .ok (.invokevirtual 278, 3) := dk_182 1 22 (dk_at dksX0_dark_8 14 rfl rfl)
theorem dX0_dark_204 : decode cX0_dark 204 = .ok (.getfield 243, 3) := dk_180 0 243 (dk_at dksX0_dark_8 17 rfl rfl)
theorem dX0_dark_207 : decode cX0_dark 207 = .ok (.iload_n 1, 1) := dk_27 (dk_at dksX0_dark_8 20 rfl rfl)
theorem dX0_dark_208 : decode cX0_dark 208 = .ok (.iaload, 1) := dk_46 (dk_at dksX0_dark_8 21 rfl rfl)
theorem dX0_dark_209 : decode cX0_dark 209 = .ok (.ifCond .le 8, 3) := dk_158 0 8 (dk_at dksX0_dark_9 0 rfl rfl)
theorem dX0_dark_212 : decode cX0_dark 212 = .ok (.lload 11, 2) := dk_22 11 (dk_at dksX0_dark_9 3 rfl rfl)
theorem dX0_dark_214 : decode cX0_dark 214 = .ok (.goto 4, 3) := dk_167 0 4 (dk_at dksX0_dark_9 5 rfl rfl)
theorem dX0_dark_217 : decode cX0_dark 217 = .ok (.lconst 0, 1) := dk_9 (dk_at dksX0_dark_9 8 rfl rfl)
theorem dX0_dark_218 : decode cX0_dark 218 = .ok (.ladd, 1) := dk_97 (dk_at dksX0_dark_9 9 rfl rfl)
theorem dX0_dark_219 : decode cX0_dark 219 = .ok (.lstore 6, 2) := dk_55 6 (dk_at dksX0_dark_9 10 rfl rfl)
theorem dX0_dark_221 : decode cX0_dark 221 = .ok (.iinc 10 1, 3) := dk_132 10 1 (dk_at dksX0_dark_9 12 rfl rfl)
theorem dX0_dark_224 : decode cX0_dark 224 = .ok (.goto (-124), 3) := dk_167 255 132 (dk_at dksX0_dark_9 15 rfl rfl)
theorem dX0_dark_227 : decode cX0_dark 227 = .ok (.iload 4, 2) := dk_21 4 (dk_at dksX0_dark_9 18 rfl rfl)
theorem dX0_dark_229 : decode cX0_dark 229 = .ok (.ifCond .ne 8, 3) := dk_154 0 8 (dk_at dksX0_dark_9 20 rfl rfl)
theorem dX0_dark_232 : decode cX0_dark 232 = .ok (.lload 6, 2) := dk_22 6 (dk_at dksX0_dark_10 0 rfl rfl)
theorem dX0_dark_234 : decode cX0_dark 234 = .ok (.goto 5, 3) := dk_167 0 5 (dk_at dksX0_dark_10 2 rfl rfl)
theorem dX0_dark_237 : decode cX0_dark 237 = .ok (.lload 8, 2) := dk_22 8 (dk_at dksX0_dark_10 5 rfl rfl)
theorem dX0_dark_239 : decode cX0_dark 239 = .ok (.lload 6, 2) := dk_22 6 (dk_at dksX0_dark_10 7 rfl rfl)
theorem dX0_dark_241 : decode cX0_dark 241 = .ok (.lload 8, 2) := dk_22 8 (dk_at dksX0_dark_10 9 rfl rfl)
theorem dX0_dark_243 : decode cX0_dark 243 = .ok (.invokestatic 338, 3) := dk_184 1 82 (dk_at dksX0_dark_10 11 rfl rfl)
theorem dX0_dark_246 : decode cX0_dark 246 = .ok (.ldiv, 1) := dk_109 (dk_at dksX0_dark_10 14 rfl rfl)
theorem dX0_dark_247 : decode cX0_dark 247 = .ok (.lreturn, 1) := dk_173 (dk_at dksX0_dark_10 15 rfl rfl)
abbrev cX0_common : ByteArray := prog_1_method_56_code
def yX0_common : MethodName := ⟨RX0, "common", "(JJ)J"⟩
def dkwX0_common_1 : List UInt8 := [22, 8, 55, 6, 167, 255, 234, 22, 4, 173]
abbrev dktX0_common_1 : List UInt8 := dkwX0_common_1 ++ []
def dkwX0_common_0 : List UInt8 := [30, 55, 4, 32, 55, 6, 22, 6, 9, 148, 153, 0, 21, 22, 4, 22, 6, 113, 55, 8, 22, 6, 55, 4]
abbrev dktX0_common_0 : List UInt8 := dkwX0_common_0 ++ dktX0_common_1
theorem dksX0_common_0 : cX0_common.data.toList.drop 0 = dktX0_common_0 := by decide +kernel
theorem dksX0_common_1 : cX0_common.data.toList.drop 24 = dktX0_common_1 := dk_seg dksX0_common_0 24 rfl rfl
theorem dX0_common_0 : decode cX0_common 0 = .ok (.lload_n 0, 1) := dk_30 (dk_at dksX0_common_0 0 rfl rfl)
theorem dX0_common_1 : decode cX0_common 1 = .ok (.lstore 4, 2) := dk_55 4 (dk_at dksX0_common_0 1 rfl rfl)
theorem dX0_common_3 : decode cX0_common 3 = .ok (.lload_n 2, 1) := dk_32 (dk_at dksX0_common_0 3 rfl rfl)
theorem dX0_common_4 : decode cX0_common 4 = .ok (.lstore 6, 2) := dk_55 6 (dk_at dksX0_common_0 4 rfl rfl)
theorem dX0_common_6 : decode cX0_common 6 = .ok (.lload 6, 2) := dk_22 6 (dk_at dksX0_common_0 6 rfl rfl)
theorem dX0_common_8 : decode cX0_common 8 = .ok (.lconst 0, 1) := dk_9 (dk_at dksX0_common_0 8 rfl rfl)
theorem dX0_common_9 : decode cX0_common 9 = .ok (.lcmp, 1) := dk_148 (dk_at dksX0_common_0 9 rfl rfl)
theorem dX0_common_10 : decode cX0_common 10 = .ok (.ifCond .eq 21, 3) := dk_153 0 21 (dk_at dksX0_common_0 10 rfl rfl)
theorem dX0_common_13 : decode cX0_common 13 = .ok (.lload 4, 2) := dk_22 4 (dk_at dksX0_common_0 13 rfl rfl)
theorem dX0_common_15 : decode cX0_common 15 = .ok (.lload 6, 2) := dk_22 6 (dk_at dksX0_common_0 15 rfl rfl)
theorem dX0_common_17 : decode cX0_common 17 = .ok (.lrem, 1) := dk_113 (dk_at dksX0_common_0 17 rfl rfl)
theorem dX0_common_18 : decode cX0_common 18 = .ok (.lstore 8, 2) := dk_55 8 (dk_at dksX0_common_0 18 rfl rfl)
theorem dX0_common_20 : decode cX0_common 20 = .ok (.lload 6, 2) := dk_22 6 (dk_at dksX0_common_0 20 rfl rfl)
theorem dX0_common_22 : decode cX0_common 22 = .ok (.lstore 4, 2) := dk_55 4 (dk_at dksX0_common_0 22 rfl rfl)
theorem dX0_common_24 : decode cX0_common 24 = .ok (.lload 8, 2) := dk_22 8 (dk_at dksX0_common_1 0 rfl rfl)
theorem dX0_common_26 : decode cX0_common 26 = .ok (.lstore 6, 2) := dk_55 6 (dk_at dksX0_common_1 2 rfl rfl)
theorem dX0_common_28 : decode cX0_common 28 = .ok (.goto (-22), 3) := dk_167 255 234 (dk_at dksX0_common_1 4 rfl rfl)
theorem dX0_common_31 : decode cX0_common 31 = .ok (.lload 4, 2) := dk_22 4 (dk_at dksX0_common_1 7 rfl rfl)
theorem dX0_common_33 : decode cX0_common 33 = .ok (.lreturn, 1) := dk_173 (dk_at dksX0_common_1 9 rfl rfl)
abbrev cX0_drawn : ByteArray := prog_1_method_58_code
def yX0_drawn : MethodName := ⟨RX0, "drawn", "(III)I"⟩
def dkwX0_drawn_9 : List UInt8 := [42, 180, 0, 43, 182, 1, 26, 184, 0, 215, 172]
abbrev dktX0_drawn_9 : List UInt8 := dkwX0_drawn_9 ++ []
def dkwX0_drawn_8 : List UInt8 := [132, 6, 1, 167, 255, 120, 29, 154, 0, 17, 42, 180, 0, 43, 42, 182, 0, 200, 182, 0, 203, 167, 0, 13]
abbrev dktX0_drawn_8 : List UInt8 := dkwX0_drawn_8 ++ dktX0_drawn_9
def dkwX0_drawn_7 : List UInt8 := [180, 0, 43, 89, 180, 0, 212, 4, 21, 7, 120, 128, 181, 0, 212, 42, 180, 0, 43, 182, 0, 196, 87]
abbrev dktX0_drawn_7 : List UInt8 := dkwX0_drawn_7 ++ dktX0_drawn_8
def dkwX0_drawn_6 : List UInt8 := [154, 0, 39, 42, 180, 0, 43, 180, 0, 212, 184, 0, 215, 42, 180, 0, 43, 180, 0, 220, 162, 0, 19, 42]
abbrev dktX0_drawn_6 : List UInt8 := dkwX0_drawn_6 ++ dktX0_drawn_7
def dkwX0_drawn_5 : List UInt8 := [21, 7, 120, 167, 0, 4, 3, 130, 181, 0, 212, 167, 0, 50, 22, 4, 20, 0, 252, 113, 9, 148]
abbrev dktX0_drawn_5 : List UInt8 := dkwX0_drawn_5 ++ dktX0_drawn_6
def dkwX0_drawn_4 : List UInt8 := [153, 0, 37, 42, 180, 0, 43, 89, 180, 0, 212, 22, 4, 20, 1, 95, 113, 9, 148, 154, 0, 10, 4]
abbrev dktX0_drawn_4 : List UInt8 := dkwX0_drawn_4 ++ dktX0_drawn_5
def dkwX0_drawn_3 : List UInt8 := [22, 4, 42, 180, 0, 43, 180, 0, 177, 133, 113, 136, 54, 7, 42, 180, 0, 43, 21, 7, 182, 1, 92]
abbrev dktX0_drawn_3 : List UInt8 := dkwX0_drawn_3 ++ dktX0_drawn_4
def dkwX0_drawn_2 : List UInt8 := [55, 4, 3, 54, 6, 21, 6, 27, 162, 0, 136, 22, 4, 20, 1, 88, 105, 20, 1, 90, 113, 55, 4]
abbrev dktX0_drawn_2 : List UInt8 := dkwX0_drawn_2 ++ dktX0_drawn_3
def dkwX0_drawn_1 : List UInt8 := [184, 0, 86, 153, 0, 10, 29, 184, 0, 209, 154, 0, 6, 18, 100, 172, 42, 182, 1, 19, 87, 28, 133]
abbrev dktX0_drawn_1 : List UInt8 := dkwX0_drawn_1 ++ dktX0_drawn_2
def dkwX0_drawn_0 : List UInt8 := [42, 182, 0, 184, 154, 0, 6, 18, 173, 172, 27, 184, 1, 16, 153, 0, 22, 28, 133, 10, 20, 1, 86]
abbrev dktX0_drawn_0 : List UInt8 := dkwX0_drawn_0 ++ dktX0_drawn_1
theorem dksX0_drawn_0 : cX0_drawn.data.toList.drop 0 = dktX0_drawn_0 := by decide +kernel
theorem dksX0_drawn_1 : cX0_drawn.data.toList.drop 23 = dktX0_drawn_1 := dk_seg dksX0_drawn_0 23 rfl rfl
theorem dksX0_drawn_2 : cX0_drawn.data.toList.drop 46 = dktX0_drawn_2 := dk_seg dksX0_drawn_1 23 rfl rfl
theorem dksX0_drawn_3 : cX0_drawn.data.toList.drop 69 = dktX0_drawn_3 := dk_seg dksX0_drawn_2 23 rfl rfl
theorem dksX0_drawn_4 : cX0_drawn.data.toList.drop 92 = dktX0_drawn_4 := dk_seg dksX0_drawn_3 23 rfl rfl
theorem dksX0_drawn_5 : cX0_drawn.data.toList.drop 115 = dktX0_drawn_5 := dk_seg dksX0_drawn_4 23 rfl rfl
theorem dksX0_drawn_6 : cX0_drawn.data.toList.drop 137 = dktX0_drawn_6 := dk_seg dksX0_drawn_5 22 rfl rfl
theorem dksX0_drawn_7 : cX0_drawn.data.toList.drop 161 = dktX0_drawn_7 := dk_seg dksX0_drawn_6 24 rfl rfl
theorem dksX0_drawn_8 : cX0_drawn.data.toList.drop 184 = dktX0_drawn_8 := dk_seg dksX0_drawn_7 23 rfl rfl
theorem dksX0_drawn_9 : cX0_drawn.data.toList.drop 208 = dktX0_drawn_9 := dk_seg dksX0_drawn_8 24 rfl rfl
theorem dX0_drawn_0 : decode cX0_drawn 0 = .ok (.aload_n 0, 1) := dk_42 (dk_at dksX0_drawn_0 0 rfl rfl)
theorem dX0_drawn_1 : decode cX0_drawn 1 = .ok (.invokevirtual 184, 3) := dk_182 0 184 (dk_at dksX0_drawn_0 1 rfl rfl)
theorem dX0_drawn_4 : decode cX0_drawn 4 = .ok (.ifCond .ne 6, 3) := dk_154 0 6 (dk_at dksX0_drawn_0 4 rfl rfl)
theorem dX0_drawn_7 : decode cX0_drawn 7 = .ok (.ldc 173, 2) := dk_18 173 (dk_at dksX0_drawn_0 7 rfl rfl)
theorem dX0_drawn_9 : decode cX0_drawn 9 = .ok (.ireturn, 1) := dk_172 (dk_at dksX0_drawn_0 9 rfl rfl)
theorem dX0_drawn_10 : decode cX0_drawn 10 = .ok (.iload_n 1, 1) := dk_27 (dk_at dksX0_drawn_0 10 rfl rfl)
theorem dX0_drawn_11 : decode cX0_drawn 11 = .ok (.invokestatic 272, 3) := dk_184 1 16 (dk_at dksX0_drawn_0 11 rfl rfl)
theorem dX0_drawn_14 : decode cX0_drawn 14 = .ok (.ifCond .eq 22, 3) := dk_153 0 22 (dk_at dksX0_drawn_0 14 rfl rfl)
theorem dX0_drawn_17 : decode cX0_drawn 17 = .ok (.iload_n 2, 1) := dk_28 (dk_at dksX0_drawn_0 17 rfl rfl)
theorem dX0_drawn_18 : decode cX0_drawn 18 = .ok (.i2l, 1) := dk_133 (dk_at dksX0_drawn_0 18 rfl rfl)
theorem dX0_drawn_19 : decode cX0_drawn 19 = .ok (.lconst 1, 1) := dk_10 (dk_at dksX0_drawn_0 19 rfl rfl)
theorem dX0_drawn_20 : decode cX0_drawn 20 = .ok (.ldc2_w 342, 3) := dk_20 1 86 (dk_at dksX0_drawn_0 20 rfl rfl)
theorem dX0_drawn_23 : decode cX0_drawn 23 = .ok (.invokestatic 86, 3) := dk_184 0 86 (dk_at dksX0_drawn_1 0 rfl rfl)
theorem dX0_drawn_26 : decode cX0_drawn 26 = .ok (.ifCond .eq 10, 3) := dk_153 0 10 (dk_at dksX0_drawn_1 3 rfl rfl)
theorem dX0_drawn_29 : decode cX0_drawn 29 = .ok (.iload_n 3, 1) := dk_29 (dk_at dksX0_drawn_1 6 rfl rfl)
theorem dX0_drawn_30 : decode cX0_drawn 30 = .ok (.invokestatic 209, 3) := dk_184 0 209 (dk_at dksX0_drawn_1 7 rfl rfl)
theorem dX0_drawn_33 : decode cX0_drawn 33 = .ok (.ifCond .ne 6, 3) := dk_154 0 6 (dk_at dksX0_drawn_1 10 rfl rfl)
theorem dX0_drawn_36 : decode cX0_drawn 36 = .ok (.ldc 100, 2) := dk_18 100 (dk_at dksX0_drawn_1 13 rfl rfl)
theorem dX0_drawn_38 : decode cX0_drawn 38 = .ok (.ireturn, 1) := dk_172 (dk_at dksX0_drawn_1 15 rfl rfl)
theorem dX0_drawn_39 : decode cX0_drawn 39 = .ok (.aload_n 0, 1) := dk_42 (dk_at dksX0_drawn_1 16 rfl rfl)
theorem dX0_drawn_40 : decode cX0_drawn 40 = .ok (.invokevirtual 275, 3) := dk_182 1 19 (dk_at dksX0_drawn_1 17 rfl rfl)
theorem dX0_drawn_43 : decode cX0_drawn 43 = .ok (.pop, 1) := dk_87 (dk_at dksX0_drawn_1 20 rfl rfl)
theorem dX0_drawn_44 : decode cX0_drawn 44 = .ok (.iload_n 2, 1) := dk_28 (dk_at dksX0_drawn_1 21 rfl rfl)
theorem dX0_drawn_45 : decode cX0_drawn 45 = .ok (.i2l, 1) := dk_133 (dk_at dksX0_drawn_1 22 rfl rfl)
theorem dX0_drawn_46 : decode cX0_drawn 46 = .ok (.lstore 4, 2) := dk_55 4 (dk_at dksX0_drawn_2 0 rfl rfl)
theorem dX0_drawn_48 : decode cX0_drawn 48 = .ok (.iconst 0, 1) := dk_3 (dk_at dksX0_drawn_2 2 rfl rfl)
theorem dX0_drawn_49 : decode cX0_drawn 49 = .ok (.istore 6, 2) := dk_54 6 (dk_at dksX0_drawn_2 3 rfl rfl)
theorem dX0_drawn_51 : decode cX0_drawn 51 = .ok (.iload 6, 2) := dk_21 6 (dk_at dksX0_drawn_2 5 rfl rfl)
theorem dX0_drawn_53 : decode cX0_drawn 53 = .ok (.iload_n 1, 1) := dk_27 (dk_at dksX0_drawn_2 7 rfl rfl)
theorem dX0_drawn_54 : decode cX0_drawn 54 = .ok (.if_icmp .ge 136, 3) := dk_162 0 136 (dk_at dksX0_drawn_2 8 rfl rfl)
theorem dX0_drawn_57 : decode cX0_drawn 57 = .ok (.lload 4, 2) := dk_22 4 (dk_at dksX0_drawn_2 11 rfl rfl)
theorem dX0_drawn_59 : decode cX0_drawn 59 = .ok (.ldc2_w 344, 3) := dk_20 1 88 (dk_at dksX0_drawn_2 13 rfl rfl)
theorem dX0_drawn_62 : decode cX0_drawn 62 = .ok (.lmul, 1) := dk_105 (dk_at dksX0_drawn_2 16 rfl rfl)
theorem dX0_drawn_63 : decode cX0_drawn 63 = .ok (.ldc2_w 346, 3) := dk_20 1 90 (dk_at dksX0_drawn_2 17 rfl rfl)
theorem dX0_drawn_66 : decode cX0_drawn 66 = .ok (.lrem, 1) := dk_113 (dk_at dksX0_drawn_2 20 rfl rfl)
theorem dX0_drawn_67 : decode cX0_drawn 67 = .ok (.lstore 4, 2) := dk_55 4 (dk_at dksX0_drawn_2 21 rfl rfl)
theorem dX0_drawn_69 : decode cX0_drawn 69 = .ok (.lload 4, 2) := dk_22 4 (dk_at dksX0_drawn_3 0 rfl rfl)
theorem dX0_drawn_71 : decode cX0_drawn 71 = .ok (.aload_n 0, 1) := dk_42 (dk_at dksX0_drawn_3 2 rfl rfl)
theorem dX0_drawn_72 : decode cX0_drawn 72 = .ok (.getfield 43, 3) := dk_180 0 43 (dk_at dksX0_drawn_3 3 rfl rfl)
theorem dX0_drawn_75 : decode cX0_drawn 75 = .ok (.getfield 177, 3) := dk_180 0 177 (dk_at dksX0_drawn_3 6 rfl rfl)
theorem dX0_drawn_78 : decode cX0_drawn 78 = .ok (.i2l, 1) := dk_133 (dk_at dksX0_drawn_3 9 rfl rfl)
theorem dX0_drawn_79 : decode cX0_drawn 79 = .ok (.lrem, 1) := dk_113 (dk_at dksX0_drawn_3 10 rfl rfl)
theorem dX0_drawn_80 : decode cX0_drawn 80 = .ok (.l2i, 1) := dk_136 (dk_at dksX0_drawn_3 11 rfl rfl)
theorem dX0_drawn_81 : decode cX0_drawn 81 = .ok (.istore 7, 2) := dk_54 7 (dk_at dksX0_drawn_3 12 rfl rfl)
theorem dX0_drawn_83 : decode cX0_drawn 83 = .ok (.aload_n 0, 1) := dk_42 (dk_at dksX0_drawn_3 14 rfl rfl)
theorem dX0_drawn_84 : decode cX0_drawn 84 = .ok (.getfield 43, 3) := dk_180 0 43 (dk_at dksX0_drawn_3 15 rfl rfl)
theorem dX0_drawn_87 : decode cX0_drawn 87 = .ok (.iload 7, 2) := dk_21 7 (dk_at dksX0_drawn_3 18 rfl rfl)
theorem dX0_drawn_89 : decode cX0_drawn 89 = .ok (.invokevirtual 348, 3) := dk_182 1 92 (dk_at dksX0_drawn_3 20 rfl rfl)
theorem dX0_drawn_92 : decode cX0_drawn 92 = .ok (.ifCond .eq 37, 3) := dk_153 0 37 (dk_at dksX0_drawn_4 0 rfl rfl)
theorem dX0_drawn_95 : decode cX0_drawn 95 = .ok (.aload_n 0, 1) := dk_42 (dk_at dksX0_drawn_4 3 rfl rfl)
theorem dX0_drawn_96 : decode cX0_drawn 96 = .ok (.getfield 43, 3) := dk_180 0 43 (dk_at dksX0_drawn_4 4 rfl rfl)
theorem dX0_drawn_99 : decode cX0_drawn 99 = .ok (.dup, 1) := dk_89 (dk_at dksX0_drawn_4 7 rfl rfl)
theorem dX0_drawn_100 : decode cX0_drawn 100 = .ok (.getfield 212, 3) := dk_180 0 212 (dk_at dksX0_drawn_4 8 rfl rfl)
theorem dX0_drawn_103 : decode cX0_drawn 103 = .ok (.lload 4, 2) := dk_22 4 (dk_at dksX0_drawn_4 11 rfl rfl)
theorem dX0_drawn_105 : decode cX0_drawn 105 = .ok (.ldc2_w 351, 3) := dk_20 1 95 (dk_at dksX0_drawn_4 13 rfl rfl)
theorem dX0_drawn_108 : decode cX0_drawn 108 = .ok (.lrem, 1) := dk_113 (dk_at dksX0_drawn_4 16 rfl rfl)
theorem dX0_drawn_109 : decode cX0_drawn 109 = .ok (.lconst 0, 1) := dk_9 (dk_at dksX0_drawn_4 17 rfl rfl)
theorem dX0_drawn_110 : decode cX0_drawn 110 = .ok (.lcmp, 1) := dk_148 (dk_at dksX0_drawn_4 18 rfl rfl)
theorem dX0_drawn_111 : decode cX0_drawn 111 = .ok (.ifCond .ne 10, 3) := dk_154 0 10 (dk_at dksX0_drawn_4 19 rfl rfl)
theorem dX0_drawn_114 : decode cX0_drawn 114 = .ok (.iconst 1, 1) := dk_4 (dk_at dksX0_drawn_4 22 rfl rfl)
theorem dX0_drawn_115 : decode cX0_drawn 115 = .ok (.iload 7, 2) := dk_21 7 (dk_at dksX0_drawn_5 0 rfl rfl)
theorem dX0_drawn_117 : decode cX0_drawn 117 = .ok (.ishl, 1) := dk_120 (dk_at dksX0_drawn_5 2 rfl rfl)
theorem dX0_drawn_118 : decode cX0_drawn 118 = .ok (.goto 4, 3) := dk_167 0 4 (dk_at dksX0_drawn_5 3 rfl rfl)
theorem dX0_drawn_121 : decode cX0_drawn 121 = .ok (.iconst 0, 1) := dk_3 (dk_at dksX0_drawn_5 6 rfl rfl)
theorem dX0_drawn_122 : decode cX0_drawn 122 = .ok (.ixor, 1) := dk_130 (dk_at dksX0_drawn_5 7 rfl rfl)
theorem dX0_drawn_123 : decode cX0_drawn 123 = .ok (.putfield 212, 3) := dk_181 0 212 (dk_at dksX0_drawn_5 8 rfl rfl)
theorem dX0_drawn_126 : decode cX0_drawn 126 = .ok (.goto 50, 3) := dk_167 0 50 (dk_at dksX0_drawn_5 11 rfl rfl)
theorem dX0_drawn_129 : decode cX0_drawn 129 = .ok (.lload 4, 2) := dk_22 4 (dk_at dksX0_drawn_5 14 rfl rfl)
theorem dX0_drawn_131 : decode cX0_drawn 131 = .ok (.ldc2_w 252, 3) := dk_20 0 252 (dk_at dksX0_drawn_5 16 rfl rfl)
theorem dX0_drawn_134 : decode cX0_drawn 134 = .ok (.lrem, 1) := dk_113 (dk_at dksX0_drawn_5 19 rfl rfl)
theorem dX0_drawn_135 : decode cX0_drawn 135 = .ok (.lconst 0, 1) := dk_9 (dk_at dksX0_drawn_5 20 rfl rfl)
theorem dX0_drawn_136 : decode cX0_drawn 136 = .ok (.lcmp, 1) := dk_148 (dk_at dksX0_drawn_5 21 rfl rfl)
theorem dX0_drawn_137 : decode cX0_drawn 137 = .ok (.ifCond .ne 39, 3) := dk_154 0 39 (dk_at dksX0_drawn_6 0 rfl rfl)
theorem dX0_drawn_140 : decode cX0_drawn 140 = .ok (.aload_n 0, 1) := dk_42 (dk_at dksX0_drawn_6 3 rfl rfl)
theorem dX0_drawn_141 : decode cX0_drawn 141 = .ok (.getfield 43, 3) := dk_180 0 43 (dk_at dksX0_drawn_6 4 rfl rfl)
theorem dX0_drawn_144 : decode cX0_drawn 144 = .ok (.getfield 212, 3) := dk_180 0 212 (dk_at dksX0_drawn_6 7 rfl rfl)
theorem dX0_drawn_147 : decode cX0_drawn 147 = .ok (.invokestatic 215, 3) := dk_184 0 215 (dk_at dksX0_drawn_6 10 rfl rfl)
theorem dX0_drawn_150 : decode cX0_drawn 150 = .ok (.aload_n 0, 1) := dk_42 (dk_at dksX0_drawn_6 13 rfl rfl)
theorem dX0_drawn_151 : decode cX0_drawn 151 = .ok (.getfield 43, 3) := dk_180 0 43 (dk_at dksX0_drawn_6 14 rfl rfl)
theorem dX0_drawn_154 : decode cX0_drawn 154 = .ok (.getfield 220, 3) := dk_180 0 220 (dk_at dksX0_drawn_6 17 rfl rfl)
theorem dX0_drawn_157 : decode cX0_drawn 157 = .ok (.if_icmp .ge 19, 3) := dk_162 0 19 (dk_at dksX0_drawn_6 20 rfl rfl)
theorem dX0_drawn_160 : decode cX0_drawn 160 = .ok (.aload_n 0, 1) := dk_42 (dk_at dksX0_drawn_6 23 rfl rfl)
theorem dX0_drawn_161 : decode cX0_drawn 161 = .ok (.getfield 43, 3) := dk_180 0 43 (dk_at dksX0_drawn_7 0 rfl rfl)
theorem dX0_drawn_164 : decode cX0_drawn 164 = .ok (.dup, 1) := dk_89 (dk_at dksX0_drawn_7 3 rfl rfl)
theorem dX0_drawn_165 : decode cX0_drawn 165 = .ok (.getfield 212, 3) := dk_180 0 212 (dk_at dksX0_drawn_7 4 rfl rfl)
theorem dX0_drawn_168 : decode cX0_drawn 168 = .ok (.iconst 1, 1) := dk_4 (dk_at dksX0_drawn_7 7 rfl rfl)
theorem dX0_drawn_169 : decode cX0_drawn 169 = .ok (.iload 7, 2) := dk_21 7 (dk_at dksX0_drawn_7 8 rfl rfl)
theorem dX0_drawn_171 : decode cX0_drawn 171 = .ok (.ishl, 1) := dk_120 (dk_at dksX0_drawn_7 10 rfl rfl)
theorem dX0_drawn_172 : decode cX0_drawn 172 = .ok (.ior, 1) := dk_128 (dk_at dksX0_drawn_7 11 rfl rfl)
theorem dX0_drawn_173 : decode cX0_drawn 173 = .ok (.putfield 212, 3) := dk_181 0 212 (dk_at dksX0_drawn_7 12 rfl rfl)
theorem dX0_drawn_176 : decode cX0_drawn 176 = .ok (.aload_n 0, 1) := dk_42 (dk_at dksX0_drawn_7 15 rfl rfl)
theorem dX0_drawn_177 : decode cX0_drawn 177 = .ok (.getfield 43, 3) := dk_180 0 43 (dk_at dksX0_drawn_7 16 rfl rfl)
theorem dX0_drawn_180 : decode cX0_drawn 180 = .ok (.invokevirtual 196, 3) := dk_182 0 196 (dk_at dksX0_drawn_7 19 rfl rfl)
theorem dX0_drawn_183 : decode cX0_drawn 183 = .ok (.pop, 1) := dk_87 (dk_at dksX0_drawn_7 22 rfl rfl)
theorem dX0_drawn_184 : decode cX0_drawn 184 = .ok (.iinc 6 1, 3) := dk_132 6 1 (dk_at dksX0_drawn_8 0 rfl rfl)
theorem dX0_drawn_187 : decode cX0_drawn 187 = .ok (.goto (-136), 3) := dk_167 255 120 (dk_at dksX0_drawn_8 3 rfl rfl)
theorem dX0_drawn_190 : decode cX0_drawn 190 = .ok (.iload_n 3, 1) := dk_29 (dk_at dksX0_drawn_8 6 rfl rfl)
theorem dX0_drawn_191 : decode cX0_drawn 191 = .ok (.ifCond .ne 17, 3) := dk_154 0 17 (dk_at dksX0_drawn_8 7 rfl rfl)
theorem dX0_drawn_194 : decode cX0_drawn 194 = .ok (.aload_n 0, 1) := dk_42 (dk_at dksX0_drawn_8 10 rfl rfl)
theorem dX0_drawn_195 : decode cX0_drawn 195 = .ok (.getfield 43, 3) := dk_180 0 43 (dk_at dksX0_drawn_8 11 rfl rfl)
theorem dX0_drawn_198 : decode cX0_drawn 198 = .ok (.aload_n 0, 1) := dk_42 (dk_at dksX0_drawn_8 14 rfl rfl)
theorem dX0_drawn_199 : decode cX0_drawn 199 = .ok (.invokevirtual 200, 3) := dk_182 0 200 (dk_at dksX0_drawn_8 15 rfl rfl)
theorem dX0_drawn_202 : decode cX0_drawn 202 = .ok (.invokevirtual 203, 3) := dk_182 0 203 (dk_at dksX0_drawn_8 18 rfl rfl)
theorem dX0_drawn_205 : decode cX0_drawn 205 = .ok (.goto 13, 3) := dk_167 0 13 (dk_at dksX0_drawn_8 21 rfl rfl)
theorem dX0_drawn_208 : decode cX0_drawn 208 = .ok (.aload_n 0, 1) := dk_42 (dk_at dksX0_drawn_9 0 rfl rfl)
theorem dX0_drawn_209 : decode cX0_drawn 209 = .ok (.getfield 43, 3) := dk_180 0 43 (dk_at dksX0_drawn_9 1 rfl rfl)
theorem dX0_drawn_212 : decode cX0_drawn 212 = .ok (.invokevirtual 282, 3) := dk_182 1 26 (dk_at dksX0_drawn_9 4 rfl rfl)
theorem dX0_drawn_215 : decode cX0_drawn 215 = .ok (.invokestatic 215, 3) := dk_184 0 215 (dk_at dksX0_drawn_9 7 rfl rfl)
theorem dX0_drawn_218 : decode cX0_drawn 218 = .ok (.ireturn, 1) := dk_172 (dk_at dksX0_drawn_9 10 rfl rfl)
abbrev cX0_image : ByteArray := prog_1_method_59_code
def yX0_image : MethodName := ⟨RX0, "image", "(I)I"⟩
def dkwX0_image_2 : List UInt8 := [180, 0, 50, 27, 50, 42, 180, 0, 39, 182, 0, 162, 87, 4, 172]
abbrev dktX0_image_2 : List UInt8 := dkwX0_image_2 ++ []
def dkwX0_image_1 : List UInt8 := [180, 0, 50, 27, 50, 199, 0, 16, 42, 180, 0, 50, 27, 187, 0, 36, 89, 183, 0, 38, 83, 42]
abbrev dktX0_image_1 : List UInt8 := dkwX0_image_1 ++ dktX0_image_2
def dkwX0_image_0 : List UInt8 := [27, 133, 9, 10, 184, 0, 86, 154, 0, 6, 18, 100, 172, 42, 182, 0, 184, 154, 0, 6, 18, 173, 172, 42]
abbrev dktX0_image_0 : List UInt8 := dkwX0_image_0 ++ dktX0_image_1
theorem dksX0_image_0 : cX0_image.data.toList.drop 0 = dktX0_image_0 := by decide +kernel
theorem dksX0_image_1 : cX0_image.data.toList.drop 24 = dktX0_image_1 := dk_seg dksX0_image_0 24 rfl rfl
theorem dksX0_image_2 : cX0_image.data.toList.drop 46 = dktX0_image_2 := dk_seg dksX0_image_1 22 rfl rfl
theorem dX0_image_0 : decode cX0_image 0 = .ok (.iload_n 1, 1) := dk_27 (dk_at dksX0_image_0 0 rfl rfl)
theorem dX0_image_1 : decode cX0_image 1 = .ok (.i2l, 1) := dk_133 (dk_at dksX0_image_0 1 rfl rfl)
theorem dX0_image_2 : decode cX0_image 2 = .ok (.lconst 0, 1) := dk_9 (dk_at dksX0_image_0 2 rfl rfl)
theorem dX0_image_3 : decode cX0_image 3 = .ok (.lconst 1, 1) := dk_10 (dk_at dksX0_image_0 3 rfl rfl)
theorem dX0_image_4 : decode cX0_image 4 = .ok (.invokestatic 86, 3) := dk_184 0 86 (dk_at dksX0_image_0 4 rfl rfl)
theorem dX0_image_7 : decode cX0_image 7 = .ok (.ifCond .ne 6, 3) := dk_154 0 6 (dk_at dksX0_image_0 7 rfl rfl)
theorem dX0_image_10 : decode cX0_image 10 = .ok (.ldc 100, 2) := dk_18 100 (dk_at dksX0_image_0 10 rfl rfl)
theorem dX0_image_12 : decode cX0_image 12 = .ok (.ireturn, 1) := dk_172 (dk_at dksX0_image_0 12 rfl rfl)
theorem dX0_image_13 : decode cX0_image 13 = .ok (.aload_n 0, 1) := dk_42 (dk_at dksX0_image_0 13 rfl rfl)
theorem dX0_image_14 : decode cX0_image 14 = .ok (.invokevirtual 184, 3) := dk_182 0 184 (dk_at dksX0_image_0 14 rfl rfl)
theorem dX0_image_17 : decode cX0_image 17 = .ok (.ifCond .ne 6, 3) := dk_154 0 6 (dk_at dksX0_image_0 17 rfl rfl)
theorem dX0_image_20 : decode cX0_image 20 = .ok (.ldc 173, 2) := dk_18 173 (dk_at dksX0_image_0 20 rfl rfl)
theorem dX0_image_22 : decode cX0_image 22 = .ok (.ireturn, 1) := dk_172 (dk_at dksX0_image_0 22 rfl rfl)
theorem dX0_image_23 : decode cX0_image 23 = .ok (.aload_n 0, 1) := dk_42 (dk_at dksX0_image_0 23 rfl rfl)
theorem dX0_image_24 : decode cX0_image 24 = .ok (.getfield 50, 3) := dk_180 0 50 (dk_at dksX0_image_1 0 rfl rfl)
theorem dX0_image_27 : decode cX0_image 27 = .ok (.iload_n 1, 1) := dk_27 (dk_at dksX0_image_1 3 rfl rfl)
theorem dX0_image_28 : decode cX0_image 28 = .ok (.aaload, 1) := dk_50 (dk_at dksX0_image_1 4 rfl rfl)
theorem dX0_image_29 : decode cX0_image 29 = .ok (.ifnonnull 16, 3) := dk_199 0 16 (dk_at dksX0_image_1 5 rfl rfl)
theorem dX0_image_32 : decode cX0_image 32 = .ok (.aload_n 0, 1) := dk_42 (dk_at dksX0_image_1 8 rfl rfl)
theorem dX0_image_33 : decode cX0_image 33 = .ok (.getfield 50, 3) := dk_180 0 50 (dk_at dksX0_image_1 9 rfl rfl)
theorem dX0_image_36 : decode cX0_image 36 = .ok (.iload_n 1, 1) := dk_27 (dk_at dksX0_image_1 12 rfl rfl)
theorem dX0_image_37 : decode cX0_image 37 = .ok (.new 36, 3) := dk_187 0 36 (dk_at dksX0_image_1 13 rfl rfl)
theorem dX0_image_40 : decode cX0_image 40 = .ok (.dup, 1) := dk_89 (dk_at dksX0_image_1 16 rfl rfl)
theorem dX0_image_41 : decode cX0_image 41 = .ok (.invokespecial 38, 3) := dk_183 0 38 (dk_at dksX0_image_1 17 rfl rfl)
theorem dX0_image_44 : decode cX0_image 44 = .ok (.aastore, 1) := dk_83 (dk_at dksX0_image_1 20 rfl rfl)
theorem dX0_image_45 : decode cX0_image 45 = .ok (.aload_n 0, 1) := dk_42 (dk_at dksX0_image_1 21 rfl rfl)
theorem dX0_image_46 : decode cX0_image 46 = .ok (.getfield 50, 3) := dk_180 0 50 (dk_at dksX0_image_2 0 rfl rfl)
theorem dX0_image_49 : decode cX0_image 49 = .ok (.iload_n 1, 1) := dk_27 (dk_at dksX0_image_2 3 rfl rfl)
theorem dX0_image_50 : decode cX0_image 50 = .ok (.aaload, 1) := dk_50 (dk_at dksX0_image_2 4 rfl rfl)
theorem dX0_image_51 : decode cX0_image 51 = .ok (.aload_n 0, 1) := dk_42 (dk_at dksX0_image_2 5 rfl rfl)
theorem dX0_image_52 : decode cX0_image 52 = .ok (.getfield 39, 3) := dk_180 0 39 (dk_at dksX0_image_2 6 rfl rfl)
theorem dX0_image_55 : decode cX0_image 55 = .ok (.invokevirtual 162, 3) := dk_182 0 162 (dk_at dksX0_image_2 9 rfl rfl)
theorem dX0_image_58 : decode cX0_image 58 = .ok (.pop, 1) := dk_87 (dk_at dksX0_image_2 12 rfl rfl)
theorem dX0_image_59 : decode cX0_image 59 = .ok (.iconst 1, 1) := dk_4 (dk_at dksX0_image_2 13 rfl rfl)
theorem dX0_image_60 : decode cX0_image 60 = .ok (.ireturn, 1) := dk_172 (dk_at dksX0_image_2 14 rfl rfl)
abbrev cX0_restore : ByteArray := prog_1_method_60_code
def yX0_restore : MethodName := ⟨RX0, "restore", "(I)I"⟩
def dkwX0_restore_1 : List UInt8 := [172, 42, 180, 0, 39, 42, 180, 0, 50, 27, 50, 182, 0, 162, 87, 42, 3, 181, 0, 166, 4, 172]
abbrev dktX0_restore_1 : List UInt8 := dkwX0_restore_1 ++ []
def dkwX0_restore_0 : List UInt8 := [27, 133, 9, 10, 184, 0, 86, 154, 0, 6, 18, 100, 172, 42, 180, 0, 50, 27, 50, 199, 0, 6, 18, 173]
abbrev dktX0_restore_0 : List UInt8 := dkwX0_restore_0 ++ dktX0_restore_1
theorem dksX0_restore_0 : cX0_restore.data.toList.drop 0 = dktX0_restore_0 := by decide +kernel
theorem dksX0_restore_1 : cX0_restore.data.toList.drop 24 = dktX0_restore_1 := dk_seg dksX0_restore_0 24 rfl rfl
theorem dX0_restore_0 : decode cX0_restore 0 = .ok (.iload_n 1, 1) := dk_27 (dk_at dksX0_restore_0 0 rfl rfl)
theorem dX0_restore_1 : decode cX0_restore 1 = .ok (.i2l, 1) := dk_133 (dk_at dksX0_restore_0 1 rfl rfl)
theorem dX0_restore_2 : decode cX0_restore 2 = .ok (.lconst 0, 1) := dk_9 (dk_at dksX0_restore_0 2 rfl rfl)
theorem dX0_restore_3 : decode cX0_restore 3 = .ok (.lconst 1, 1) := dk_10 (dk_at dksX0_restore_0 3 rfl rfl)
theorem dX0_restore_4 : decode cX0_restore 4 = .ok (.invokestatic 86, 3) := dk_184 0 86 (dk_at dksX0_restore_0 4 rfl rfl)
theorem dX0_restore_7 : decode cX0_restore 7 = .ok (.ifCond .ne 6, 3) := dk_154 0 6 (dk_at dksX0_restore_0 7 rfl rfl)
theorem dX0_restore_10 : decode cX0_restore 10 = .ok (.ldc 100, 2) := dk_18 100 (dk_at dksX0_restore_0 10 rfl rfl)
theorem dX0_restore_12 : decode cX0_restore 12 = .ok (.ireturn, 1) := dk_172 (dk_at dksX0_restore_0 12 rfl rfl)
theorem dX0_restore_13 : decode cX0_restore 13 = .ok (.aload_n 0, 1) := dk_42 (dk_at dksX0_restore_0 13 rfl rfl)
theorem dX0_restore_14 : decode cX0_restore 14 = .ok (.getfield 50, 3) := dk_180 0 50 (dk_at dksX0_restore_0 14 rfl rfl)
theorem dX0_restore_17 : decode cX0_restore 17 = .ok (.iload_n 1, 1) := dk_27 (dk_at dksX0_restore_0 17 rfl rfl)
theorem dX0_restore_18 : decode cX0_restore 18 = .ok (.aaload, 1) := dk_50 (dk_at dksX0_restore_0 18 rfl rfl)
theorem dX0_restore_19 : decode cX0_restore 19 = .ok (.ifnonnull 6, 3) := dk_199 0 6 (dk_at dksX0_restore_0 19 rfl rfl)
theorem dX0_restore_22 : decode cX0_restore 22 = .ok (.ldc 173, 2) := dk_18 173 (dk_at dksX0_restore_0 22 rfl rfl)
theorem dX0_restore_24 : decode cX0_restore 24 = .ok (.ireturn, 1) := dk_172 (dk_at dksX0_restore_1 0 rfl rfl)
theorem dX0_restore_25 : decode cX0_restore 25 = .ok (.aload_n 0, 1) := dk_42 (dk_at dksX0_restore_1 1 rfl rfl)
theorem dX0_restore_26 : decode cX0_restore 26 = .ok (.getfield 39, 3) := dk_180 0 39 (dk_at dksX0_restore_1 2 rfl rfl)
theorem dX0_restore_29 : decode cX0_restore 29 = .ok (.aload_n 0, 1) := dk_42 (dk_at dksX0_restore_1 5 rfl rfl)
theorem dX0_restore_30 : decode cX0_restore 30 = .ok (.getfield 50, 3) := dk_180 0 50 (dk_at dksX0_restore_1 6 rfl rfl)
theorem dX0_restore_33 : decode cX0_restore 33 = .ok (.iload_n 1, 1) := dk_27 (dk_at dksX0_restore_1 9 rfl rfl)
theorem dX0_restore_34 : decode cX0_restore 34 = .ok (.aaload, 1) := dk_50 (dk_at dksX0_restore_1 10 rfl rfl)
theorem dX0_restore_35 : decode cX0_restore 35 = .ok (.invokevirtual 162, 3) := dk_182 0 162 (dk_at dksX0_restore_1 11 rfl rfl)
theorem dX0_restore_38 : decode cX0_restore 38 = .ok (.pop, 1) := dk_87 (dk_at dksX0_restore_1 14 rfl rfl)
theorem dX0_restore_39 : decode cX0_restore 39 = .ok (.aload_n 0, 1) := dk_42 (dk_at dksX0_restore_1 15 rfl rfl)
theorem dX0_restore_40 : decode cX0_restore 40 = .ok (.iconst 0, 1) := dk_3 (dk_at dksX0_restore_1 16 rfl rfl)
theorem dX0_restore_41 : decode cX0_restore 41 = .ok (.putfield 166, 3) := dk_181 0 166 (dk_at dksX0_restore_1 17 rfl rfl)
theorem dX0_restore_44 : decode cX0_restore 44 = .ok (.iconst 1, 1) := dk_4 (dk_at dksX0_restore_1 20 rfl rfl)
theorem dX0_restore_45 : decode cX0_restore 45 = .ok (.ireturn, 1) := dk_172 (dk_at dksX0_restore_1 21 rfl rfl)
abbrev cX0_kind : ByteArray := prog_1_method_61_code
def yX0_kind : MethodName := ⟨RX0, "kind", "(I)I"⟩
def dkwX0_kind_1 : List UInt8 := [182, 1, 107, 167, 0, 5, 18, 100, 172]
abbrev dktX0_kind_1 : List UInt8 := dkwX0_kind_1 ++ []
def dkwX0_kind_0 : List UInt8 := [42, 27, 182, 0, 231, 153, 0, 25, 42, 180, 0, 39, 180, 1, 97, 27, 185, 1, 101, 2, 0, 192, 0, 67]
abbrev dktX0_kind_0 : List UInt8 := dkwX0_kind_0 ++ dktX0_kind_1
theorem dksX0_kind_0 : cX0_kind.data.toList.drop 0 = dktX0_kind_0 := by decide +kernel
theorem dksX0_kind_1 : cX0_kind.data.toList.drop 24 = dktX0_kind_1 := dk_seg dksX0_kind_0 24 rfl rfl
theorem dX0_kind_0 : decode cX0_kind 0 = .ok (.aload_n 0, 1) := dk_42 (dk_at dksX0_kind_0 0 rfl rfl)
theorem dX0_kind_1 : decode cX0_kind 1 = .ok (.iload_n 1, 1) := dk_27 (dk_at dksX0_kind_0 1 rfl rfl)
theorem dX0_kind_2 : decode cX0_kind 2 = .ok (.invokevirtual 231, 3) := dk_182 0 231 (dk_at dksX0_kind_0 2 rfl rfl)
theorem dX0_kind_5 : decode cX0_kind 5 = .ok (.ifCond .eq 25, 3) := dk_153 0 25 (dk_at dksX0_kind_0 5 rfl rfl)
theorem dX0_kind_8 : decode cX0_kind 8 = .ok (.aload_n 0, 1) := dk_42 (dk_at dksX0_kind_0 8 rfl rfl)
theorem dX0_kind_9 : decode cX0_kind 9 = .ok (.getfield 39, 3) := dk_180 0 39 (dk_at dksX0_kind_0 9 rfl rfl)
theorem dX0_kind_12 : decode cX0_kind 12 = .ok (.getfield 353, 3) := dk_180 1 97 (dk_at dksX0_kind_0 12 rfl rfl)
theorem dX0_kind_15 : decode cX0_kind 15 = .ok (.iload_n 1, 1) := dk_27 (dk_at dksX0_kind_0 15 rfl rfl)
theorem dX0_kind_16 : decode cX0_kind 16 = .ok (.invokeinterface 357 2, 5) := by decide +kernel
theorem dX0_kind_21 : decode cX0_kind 21 = .ok (.checkcast 67, 3) := dk_192 0 67 (dk_at dksX0_kind_0 21 rfl rfl)
theorem dX0_kind_24 : decode cX0_kind 24 = .ok (.invokevirtual 363, 3) := dk_182 1 107 (dk_at dksX0_kind_1 0 rfl rfl)
theorem dX0_kind_27 : decode cX0_kind 27 = .ok (.goto 5, 3) := dk_167 0 5 (dk_at dksX0_kind_1 3 rfl rfl)
theorem dX0_kind_30 : decode cX0_kind 30 = .ok (.ldc 100, 2) := dk_18 100 (dk_at dksX0_kind_1 6 rfl rfl)
theorem dX0_kind_32 : decode cX0_kind 32 = .ok (.ireturn, 1) := dk_172 (dk_at dksX0_kind_1 8 rfl rfl)
abbrev cX0_as : ByteArray := prog_1_method_62_code
def yX0_as : MethodName := ⟨RX0, "as", "(II)I"⟩
def dkwX0_as_5 : List UInt8 := [183, 0, 83, 191, 78, 42, 45, 182, 0, 108, 172]
abbrev dktX0_as_5 : List UInt8 := dkwX0_as_5 ++ []
def dkwX0_as_4 : List UInt8 := [45, 192, 0, 16, 58, 4, 42, 25, 4, 182, 1, 109, 182, 0, 104, 172, 58, 4, 187, 0, 74, 89, 6]
abbrev dktX0_as_4 : List UInt8 := dkwX0_as_4 ++ dktX0_as_5
def dkwX0_as_3 : List UInt8 := [28, 6, 160, 0, 10, 45, 192, 0, 10, 167, 0, 19, 28, 7, 160, 0, 10, 45, 192, 0, 13, 167, 0, 7]
abbrev dktX0_as_3 : List UInt8 := dkwX0_as_3 ++ dktX0_as_4
def dkwX0_as_2 : List UInt8 := [28, 4, 160, 0, 10, 45, 192, 0, 1, 167, 0, 43, 28, 5, 160, 0, 10, 45, 192, 0, 7, 167, 0, 31]
abbrev dktX0_as_2 : List UInt8 := dkwX0_as_2 ++ dktX0_as_3
def dkwX0_as_1 : List UInt8 := [180, 0, 39, 180, 1, 97, 27, 185, 1, 101, 2, 0, 192, 0, 67, 78, 28, 154, 0, 7, 45, 167, 0, 55]
abbrev dktX0_as_1 : List UInt8 := dkwX0_as_1 ++ dktX0_as_2
def dkwX0_as_0 : List UInt8 := [42, 27, 182, 0, 231, 153, 0, 15, 28, 133, 9, 20, 1, 95, 184, 0, 86, 154, 0, 6, 18, 100, 172, 42]
abbrev dktX0_as_0 : List UInt8 := dkwX0_as_0 ++ dktX0_as_1
theorem dksX0_as_0 : cX0_as.data.toList.drop 0 = dktX0_as_0 := by decide +kernel
theorem dksX0_as_1 : cX0_as.data.toList.drop 24 = dktX0_as_1 := dk_seg dksX0_as_0 24 rfl rfl
theorem dksX0_as_2 : cX0_as.data.toList.drop 48 = dktX0_as_2 := dk_seg dksX0_as_1 24 rfl rfl
theorem dksX0_as_3 : cX0_as.data.toList.drop 72 = dktX0_as_3 := dk_seg dksX0_as_2 24 rfl rfl
theorem dksX0_as_4 : cX0_as.data.toList.drop 96 = dktX0_as_4 := dk_seg dksX0_as_3 24 rfl rfl
theorem dksX0_as_5 : cX0_as.data.toList.drop 119 = dktX0_as_5 := dk_seg dksX0_as_4 23 rfl rfl
theorem dX0_as_0 : decode cX0_as 0 = .ok (.aload_n 0, 1) := dk_42 (dk_at dksX0_as_0 0 rfl rfl)
theorem dX0_as_1 : decode cX0_as 1 = .ok (.iload_n 1, 1) := dk_27 (dk_at dksX0_as_0 1 rfl rfl)
theorem dX0_as_2 : decode cX0_as 2 = .ok (.invokevirtual 231, 3) := dk_182 0 231 (dk_at dksX0_as_0 2 rfl rfl)
theorem dX0_as_5 : decode cX0_as 5 = .ok (.ifCond .eq 15, 3) := dk_153 0 15 (dk_at dksX0_as_0 5 rfl rfl)
theorem dX0_as_8 : decode cX0_as 8 = .ok (.iload_n 2, 1) := dk_28 (dk_at dksX0_as_0 8 rfl rfl)
theorem dX0_as_9 : decode cX0_as 9 = .ok (.i2l, 1) := dk_133 (dk_at dksX0_as_0 9 rfl rfl)
theorem dX0_as_10 : decode cX0_as 10 = .ok (.lconst 0, 1) := dk_9 (dk_at dksX0_as_0 10 rfl rfl)
theorem dX0_as_11 : decode cX0_as 11 = .ok (.ldc2_w 351, 3) := dk_20 1 95 (dk_at dksX0_as_0 11 rfl rfl)
theorem dX0_as_14 : decode cX0_as 14 = .ok (.invokestatic 86, 3) := dk_184 0 86 (dk_at dksX0_as_0 14 rfl rfl)
theorem dX0_as_17 : decode cX0_as 17 = .ok (.ifCond .ne 6, 3) := dk_154 0 6 (dk_at dksX0_as_0 17 rfl rfl)
theorem dX0_as_20 : decode cX0_as 20 = .ok (.ldc 100, 2) := dk_18 100 (dk_at dksX0_as_0 20 rfl rfl)
theorem dX0_as_22 : decode cX0_as 22 = .ok (.ireturn, 1) := dk_172 (dk_at dksX0_as_0 22 rfl rfl)
theorem dX0_as_23 : decode cX0_as 23 = .ok (.aload_n 0, 1) := dk_42 (dk_at dksX0_as_0 23 rfl rfl)
theorem dX0_as_24 : decode cX0_as 24 = .ok (.getfield 39, 3) := dk_180 0 39 (dk_at dksX0_as_1 0 rfl rfl)
theorem dX0_as_27 : decode cX0_as 27 = .ok (.getfield 353, 3) := dk_180 1 97 (dk_at dksX0_as_1 3 rfl rfl)
theorem dX0_as_30 : decode cX0_as 30 = .ok (.iload_n 1, 1) := dk_27 (dk_at dksX0_as_1 6 rfl rfl)
theorem dX0_as_31 : decode cX0_as 31 = .ok (.invokeinterface 357 2, 5) := by decide +kernel
theorem dX0_as_36 : decode cX0_as 36 = .ok (.checkcast 67, 3) := dk_192 0 67 (dk_at dksX0_as_1 12 rfl rfl)
theorem dX0_as_39 : decode cX0_as 39 = .ok (.astore_n 3, 1) := dk_78 (dk_at dksX0_as_1 15 rfl rfl)
theorem dX0_as_40 : decode cX0_as 40 = .ok (.iload_n 2, 1) := dk_28 (dk_at dksX0_as_1 16 rfl rfl)
theorem dX0_as_41 : decode cX0_as 41 = .ok (.ifCond .ne 7, 3) := dk_154 0 7 (dk_at dksX0_as_1 17 rfl rfl)
theorem dX0_as_44 : decode cX0_as 44 = .ok (.aload_n 3, 1) := dk_45 (dk_at dksX0_as_1 20 rfl rfl)
theorem dX0_as_45 : decode cX0_as 45 = .ok (.goto 55, 3) := dk_167 0 55 (dk_at dksX0_as_1 21 rfl rfl)
theorem dX0_as_48 : decode cX0_as 48 = .ok (.iload_n 2, 1) := dk_28 (dk_at dksX0_as_2 0 rfl rfl)
theorem dX0_as_49 : decode cX0_as 49 = .ok (.iconst 1, 1) := dk_4 (dk_at dksX0_as_2 1 rfl rfl)
theorem dX0_as_50 : decode cX0_as 50 = .ok (.if_icmp .ne 10, 3) := dk_160 0 10 (dk_at dksX0_as_2 2 rfl rfl)
theorem dX0_as_53 : decode cX0_as 53 = .ok (.aload_n 3, 1) := dk_45 (dk_at dksX0_as_2 5 rfl rfl)
theorem dX0_as_54 : decode cX0_as 54 = .ok (.checkcast 1, 3) := dk_192 0 1 (dk_at dksX0_as_2 6 rfl rfl)
theorem dX0_as_57 : decode cX0_as 57 = .ok (.goto 43, 3) := dk_167 0 43 (dk_at dksX0_as_2 9 rfl rfl)
theorem dX0_as_60 : decode cX0_as 60 = .ok (.iload_n 2, 1) := dk_28 (dk_at dksX0_as_2 12 rfl rfl)
theorem dX0_as_61 : decode cX0_as 61 = .ok (.iconst 2, 1) := dk_5 (dk_at dksX0_as_2 13 rfl rfl)
theorem dX0_as_62 : decode cX0_as 62 = .ok (.if_icmp .ne 10, 3) := dk_160 0 10 (dk_at dksX0_as_2 14 rfl rfl)
theorem dX0_as_65 : decode cX0_as 65 = .ok (.aload_n 3, 1) := dk_45 (dk_at dksX0_as_2 17 rfl rfl)
theorem dX0_as_66 : decode cX0_as 66 = .ok (.checkcast 7, 3) := dk_192 0 7 (dk_at dksX0_as_2 18 rfl rfl)
theorem dX0_as_69 : decode cX0_as 69 = .ok (.goto 31, 3) := dk_167 0 31 (dk_at dksX0_as_2 21 rfl rfl)
theorem dX0_as_72 : decode cX0_as 72 = .ok (.iload_n 2, 1) := dk_28 (dk_at dksX0_as_3 0 rfl rfl)
theorem dX0_as_73 : decode cX0_as 73 = .ok (.iconst 3, 1) := dk_6 (dk_at dksX0_as_3 1 rfl rfl)
theorem dX0_as_74 : decode cX0_as 74 = .ok (.if_icmp .ne 10, 3) := dk_160 0 10 (dk_at dksX0_as_3 2 rfl rfl)
theorem dX0_as_77 : decode cX0_as 77 = .ok (.aload_n 3, 1) := dk_45 (dk_at dksX0_as_3 5 rfl rfl)
theorem dX0_as_78 : decode cX0_as 78 = .ok (.checkcast 10, 3) := dk_192 0 10 (dk_at dksX0_as_3 6 rfl rfl)
theorem dX0_as_81 : decode cX0_as 81 = .ok (.goto 19, 3) := dk_167 0 19 (dk_at dksX0_as_3 9 rfl rfl)
theorem dX0_as_84 : decode cX0_as 84 = .ok (.iload_n 2, 1) := dk_28 (dk_at dksX0_as_3 12 rfl rfl)
theorem dX0_as_85 : decode cX0_as 85 = .ok (.iconst 4, 1) := dk_7 (dk_at dksX0_as_3 13 rfl rfl)
theorem dX0_as_86 : decode cX0_as 86 = .ok (.if_icmp .ne 10, 3) := dk_160 0 10 (dk_at dksX0_as_3 14 rfl rfl)
theorem dX0_as_89 : decode cX0_as 89 = .ok (.aload_n 3, 1) := dk_45 (dk_at dksX0_as_3 17 rfl rfl)
theorem dX0_as_90 : decode cX0_as 90 = .ok (.checkcast 13, 3) := dk_192 0 13 (dk_at dksX0_as_3 18 rfl rfl)
theorem dX0_as_93 : decode cX0_as 93 = .ok (.goto 7, 3) := dk_167 0 7 (dk_at dksX0_as_3 21 rfl rfl)
theorem dX0_as_96 : decode cX0_as 96 = .ok (.aload_n 3, 1) := dk_45 (dk_at dksX0_as_4 0 rfl rfl)
theorem dX0_as_97 : decode cX0_as 97 = .ok (.checkcast 16, 3) := dk_192 0 16 (dk_at dksX0_as_4 1 rfl rfl)
theorem dX0_as_100 : decode cX0_as 100 = .ok (.astore 4, 2) := dk_58 4 (dk_at dksX0_as_4 4 rfl rfl)
theorem dX0_as_102 : decode cX0_as 102 = .ok (.aload_n 0, 1) := dk_42 (dk_at dksX0_as_4 6 rfl rfl)
theorem dX0_as_103 : decode cX0_as 103 = .ok (.aload 4, 2) := dk_25 4 (dk_at dksX0_as_4 7 rfl rfl)
theorem dX0_as_105 : decode cX0_as 105 = .ok (.invokevirtual 365, 3) := dk_182 1 109 (dk_at dksX0_as_4 9 rfl rfl)
theorem dX0_as_108 : decode cX0_as 108 = .ok (.invokevirtual 104, 3) := dk_182 0 104 (dk_at dksX0_as_4 12 rfl rfl)
theorem dX0_as_111 : decode cX0_as 111 = .ok (.ireturn, 1) := dk_172 (dk_at dksX0_as_4 15 rfl rfl)
theorem dX0_as_112 : decode cX0_as 112 = .ok (.astore 4, 2) := dk_58 4 (dk_at dksX0_as_4 16 rfl rfl)
theorem dX0_as_114 : decode cX0_as 114 = .ok (.new 74, 3) := dk_187 0 74 (dk_at dksX0_as_4 18 rfl rfl)
theorem dX0_as_117 : decode cX0_as 117 = .ok (.dup, 1) := dk_89 (dk_at dksX0_as_4 21 rfl rfl)
theorem dX0_as_118 : decode cX0_as 118 = .ok (.iconst 3, 1) := dk_6 (dk_at dksX0_as_4 22 rfl rfl)
theorem dX0_as_119 : decode cX0_as 119 = .ok (.invokespecial 83, 3) := dk_183 0 83 (dk_at dksX0_as_5 0 rfl rfl)
theorem dX0_as_122 : decode cX0_as 122 = .ok (.athrow, 1) := dk_191 (dk_at dksX0_as_5 3 rfl rfl)
theorem dX0_as_123 : decode cX0_as 123 = .ok (.astore_n 3, 1) := dk_78 (dk_at dksX0_as_5 4 rfl rfl)
theorem dX0_as_124 : decode cX0_as 124 = .ok (.aload_n 0, 1) := dk_42 (dk_at dksX0_as_5 5 rfl rfl)
theorem dX0_as_125 : decode cX0_as 125 = .ok (.aload_n 3, 1) := dk_45 (dk_at dksX0_as_5 6 rfl rfl)
theorem dX0_as_126 : decode cX0_as 126 = .ok (.invokevirtual 108, 3) := dk_182 0 108 (dk_at dksX0_as_5 7 rfl rfl)
theorem dX0_as_129 : decode cX0_as 129 = .ok (.ireturn, 1) := dk_172 (dk_at dksX0_as_5 10 rfl rfl)
abbrev cX0_ask : ByteArray := prog_1_method_63_code
def yX0_ask : MethodName := ⟨RX0, "ask", "(II)I"⟩
def dkwX0_ask_3 : List UInt8 := [180, 0, 39, 182, 1, 117, 172]
abbrev dktX0_ask_3 : List UInt8 := dkwX0_ask_3 ++ []
def dkwX0_ask_2 : List UInt8 := [154, 0, 18, 45, 42, 180, 0, 56, 42, 180, 0, 39, 182, 1, 113, 167, 0, 15, 45, 42, 180, 0, 56, 42]
abbrev dktX0_ask_2 : List UInt8 := dkwX0_ask_2 ++ dktX0_ask_3
def dkwX0_ask_1 : List UInt8 := [183, 0, 55, 181, 0, 56, 42, 180, 0, 39, 180, 1, 97, 27, 185, 1, 101, 2, 0, 192, 0, 67, 78, 28]
abbrev dktX0_ask_1 : List UInt8 := dkwX0_ask_1 ++ dktX0_ask_2
def dkwX0_ask_0 : List UInt8 := [42, 27, 182, 0, 231, 153, 0, 10, 28, 184, 0, 209, 154, 0, 6, 18, 100, 172, 42, 187, 0, 53, 89]
abbrev dktX0_ask_0 : List UInt8 := dkwX0_ask_0 ++ dktX0_ask_1
theorem dksX0_ask_0 : cX0_ask.data.toList.drop 0 = dktX0_ask_0 := by decide +kernel
theorem dksX0_ask_1 : cX0_ask.data.toList.drop 23 = dktX0_ask_1 := dk_seg dksX0_ask_0 23 rfl rfl
theorem dksX0_ask_2 : cX0_ask.data.toList.drop 47 = dktX0_ask_2 := dk_seg dksX0_ask_1 24 rfl rfl
theorem dksX0_ask_3 : cX0_ask.data.toList.drop 71 = dktX0_ask_3 := dk_seg dksX0_ask_2 24 rfl rfl
theorem dX0_ask_0 : decode cX0_ask 0 = .ok (.aload_n 0, 1) := dk_42 (dk_at dksX0_ask_0 0 rfl rfl)
theorem dX0_ask_1 : decode cX0_ask 1 = .ok (.iload_n 1, 1) := dk_27 (dk_at dksX0_ask_0 1 rfl rfl)
theorem dX0_ask_2 : decode cX0_ask 2 = .ok (.invokevirtual 231, 3) := dk_182 0 231 (dk_at dksX0_ask_0 2 rfl rfl)
theorem dX0_ask_5 : decode cX0_ask 5 = .ok (.ifCond .eq 10, 3) := dk_153 0 10 (dk_at dksX0_ask_0 5 rfl rfl)
theorem dX0_ask_8 : decode cX0_ask 8 = .ok (.iload_n 2, 1) := dk_28 (dk_at dksX0_ask_0 8 rfl rfl)
theorem dX0_ask_9 : decode cX0_ask 9 = .ok (.invokestatic 209, 3) := dk_184 0 209 (dk_at dksX0_ask_0 9 rfl rfl)
theorem dX0_ask_12 : decode cX0_ask 12 = .ok (.ifCond .ne 6, 3) := dk_154 0 6 (dk_at dksX0_ask_0 12 rfl rfl)
theorem dX0_ask_15 : decode cX0_ask 15 = .ok (.ldc 100, 2) := dk_18 100 (dk_at dksX0_ask_0 15 rfl rfl)
theorem dX0_ask_17 : decode cX0_ask 17 = .ok (.ireturn, 1) := dk_172 (dk_at dksX0_ask_0 17 rfl rfl)
theorem dX0_ask_18 : decode cX0_ask 18 = .ok (.aload_n 0, 1) := dk_42 (dk_at dksX0_ask_0 18 rfl rfl)
theorem dX0_ask_19 : decode cX0_ask 19 = .ok (.new 53, 3) := dk_187 0 53 (dk_at dksX0_ask_0 19 rfl rfl)
theorem dX0_ask_22 : decode cX0_ask 22 = .ok (.dup, 1) := dk_89 (dk_at dksX0_ask_0 22 rfl rfl)
theorem dX0_ask_23 : decode cX0_ask 23 = .ok (.invokespecial 55, 3) := dk_183 0 55 (dk_at dksX0_ask_1 0 rfl rfl)
theorem dX0_ask_26 : decode cX0_ask 26 = .ok (.putfield 56, 3) := dk_181 0 56 (dk_at dksX0_ask_1 3 rfl rfl)
theorem dX0_ask_29 : decode cX0_ask 29 = .ok (.aload_n 0, 1) := dk_42 (dk_at dksX0_ask_1 6 rfl rfl)
theorem dX0_ask_30 : decode cX0_ask 30 = .ok (.getfield 39, 3) := dk_180 0 39 (dk_at dksX0_ask_1 7 rfl rfl)
theorem dX0_ask_33 : decode cX0_ask 33 = .ok (.getfield 353, 3) := dk_180 1 97 (dk_at dksX0_ask_1 10 rfl rfl)
theorem dX0_ask_36 : decode cX0_ask 36 = .ok (.iload_n 1, 1) := dk_27 (dk_at dksX0_ask_1 13 rfl rfl)
theorem dX0_ask_37 : decode cX0_ask 37 = .ok (.invokeinterface 357 2, 5) := by decide +kernel
theorem dX0_ask_42 : decode cX0_ask 42 = .ok (.checkcast 67, 3) := dk_192 0 67 (dk_at dksX0_ask_1 19 rfl rfl)
theorem dX0_ask_45 : decode cX0_ask 45 = .ok (.astore_n 3, 1) := dk_78 (dk_at dksX0_ask_1 22 rfl rfl)
theorem dX0_ask_46 : decode cX0_ask 46 = .ok (.iload_n 2, 1) := dk_28 (dk_at dksX0_ask_1 23 rfl rfl)
theorem dX0_ask_47 : decode cX0_ask 47 = .ok (.ifCond .ne 18, 3) := dk_154 0 18 (dk_at dksX0_ask_2 0 rfl rfl)
theorem dX0_ask_50 : decode cX0_ask 50 = .ok (.aload_n 3, 1) := dk_45 (dk_at dksX0_ask_2 3 rfl rfl)
theorem dX0_ask_51 : decode cX0_ask 51 = .ok (.aload_n 0, 1) := dk_42 (dk_at dksX0_ask_2 4 rfl rfl)
theorem dX0_ask_52 : decode cX0_ask 52 = .ok (.getfield 56, 3) := dk_180 0 56 (dk_at dksX0_ask_2 5 rfl rfl)
theorem dX0_ask_55 : decode cX0_ask 55 = .ok (.aload_n 0, 1) := dk_42 (dk_at dksX0_ask_2 8 rfl rfl)
theorem dX0_ask_56 : decode cX0_ask 56 = .ok (.getfield 39, 3) := dk_180 0 39 (dk_at dksX0_ask_2 9 rfl rfl)
theorem dX0_ask_59 : decode cX0_ask 59 = .ok (.invokevirtual 369, 3) := dk_182 1 113 (dk_at dksX0_ask_2 12 rfl rfl)
theorem dX0_ask_62 : decode cX0_ask 62 = .ok (.goto 15, 3) := dk_167 0 15 (dk_at dksX0_ask_2 15 rfl rfl)
theorem dX0_ask_65 : decode cX0_ask 65 = .ok (.aload_n 3, 1) := dk_45 (dk_at dksX0_ask_2 18 rfl rfl)
theorem dX0_ask_66 : decode cX0_ask 66 = .ok (.aload_n 0, 1) := dk_42 (dk_at dksX0_ask_2 19 rfl rfl)
theorem dX0_ask_67 : decode cX0_ask 67 = .ok (.getfield 56, 3) := dk_180 0 56 (dk_at dksX0_ask_2 20 rfl rfl)
theorem dX0_ask_70 : decode cX0_ask 70 = .ok (.aload_n 0, 1) := dk_42 (dk_at dksX0_ask_2 23 rfl rfl)
theorem dX0_ask_71 : decode cX0_ask 71 = .ok (.getfield 39, 3) := dk_180 0 39 (dk_at dksX0_ask_3 0 rfl rfl)
theorem dX0_ask_74 : decode cX0_ask 74 = .ok (.invokevirtual 373, 3) := dk_182 1 117 (dk_at dksX0_ask_3 3 rfl rfl)
theorem dX0_ask_77 : decode cX0_ask 77 = .ok (.ireturn, 1) := dk_172 (dk_at dksX0_ask_3 6 rfl rfl)
abbrev cX0_trace : ByteArray := prog_1_method_64_code
def yX0_trace : MethodName := ⟨RX0, "trace", "(I)I"⟩
def dkwX0_trace_1 : List UInt8 := [180, 1, 122, 27, 46, 167, 0, 6, 19, 1, 1, 172]
abbrev dktX0_trace_1 : List UInt8 := dkwX0_trace_1 ++ []
def dkwX0_trace_0 : List UInt8 := [27, 133, 9, 42, 180, 0, 56, 180, 1, 120, 4, 100, 133, 184, 0, 86, 153, 0, 15, 42, 180, 0, 56]
abbrev dktX0_trace_0 : List UInt8 := dkwX0_trace_0 ++ dktX0_trace_1
theorem dksX0_trace_0 : cX0_trace.data.toList.drop 0 = dktX0_trace_0 := by decide +kernel
theorem dksX0_trace_1 : cX0_trace.data.toList.drop 23 = dktX0_trace_1 := dk_seg dksX0_trace_0 23 rfl rfl
theorem dX0_trace_0 : decode cX0_trace 0 = .ok (.iload_n 1, 1) := dk_27 (dk_at dksX0_trace_0 0 rfl rfl)
theorem dX0_trace_1 : decode cX0_trace 1 = .ok (.i2l, 1) := dk_133 (dk_at dksX0_trace_0 1 rfl rfl)
theorem dX0_trace_2 : decode cX0_trace 2 = .ok (.lconst 0, 1) := dk_9 (dk_at dksX0_trace_0 2 rfl rfl)
theorem dX0_trace_3 : decode cX0_trace 3 = .ok (.aload_n 0, 1) := dk_42 (dk_at dksX0_trace_0 3 rfl rfl)
theorem dX0_trace_4 : decode cX0_trace 4 = .ok (.getfield 56, 3) := dk_180 0 56 (dk_at dksX0_trace_0 4 rfl rfl)
theorem dX0_trace_7 : decode cX0_trace 7 = .ok (.getfield 376, 3) := dk_180 1 120 (dk_at dksX0_trace_0 7 rfl rfl)
theorem dX0_trace_10 : decode cX0_trace 10 = .ok (.iconst 1, 1) := dk_4 (dk_at dksX0_trace_0 10 rfl rfl)
theorem dX0_trace_11 : decode cX0_trace 11 = .ok (.isub, 1) := dk_100 (dk_at dksX0_trace_0 11 rfl rfl)
theorem dX0_trace_12 : decode cX0_trace 12 = .ok (.i2l, 1) := dk_133 (dk_at dksX0_trace_0 12 rfl rfl)
theorem dX0_trace_13 : decode cX0_trace 13 = .ok (.invokestatic 86, 3) := dk_184 0 86 (dk_at dksX0_trace_0 13 rfl rfl)
theorem dX0_trace_16 : decode cX0_trace 16 = .ok (.ifCond .eq 15, 3) := dk_153 0 15 (dk_at dksX0_trace_0 16 rfl rfl)
theorem dX0_trace_19 : decode cX0_trace 19 = .ok (.aload_n 0, 1) := dk_42 (dk_at dksX0_trace_0 19 rfl rfl)
theorem dX0_trace_20 : decode cX0_trace 20 = .ok (.getfield 56, 3) := dk_180 0 56 (dk_at dksX0_trace_0 20 rfl rfl)
theorem dX0_trace_23 : decode cX0_trace 23 = .ok (.getfield 378, 3) := dk_180 1 122 (dk_at dksX0_trace_1 0 rfl rfl)
theorem dX0_trace_26 : decode cX0_trace 26 = .ok (.iload_n 1, 1) := dk_27 (dk_at dksX0_trace_1 3 rfl rfl)
theorem dX0_trace_27 : decode cX0_trace 27 = .ok (.iaload, 1) := dk_46 (dk_at dksX0_trace_1 4 rfl rfl)
theorem dX0_trace_28 : decode cX0_trace 28 = .ok (.goto 6, 3) := dk_167 0 6 (dk_at dksX0_trace_1 5 rfl rfl)
theorem dX0_trace_31 : decode cX0_trace 31 = .ok (.ldc_w 257, 3) := dk_19 1 1 (dk_at dksX0_trace_1 8 rfl rfl)
theorem dX0_trace_34 : decode cX0_trace 34 = .ok (.ireturn, 1) := dk_172 (dk_at dksX0_trace_1 11 rfl rfl)
abbrev cX0_count : ByteArray := prog_1_method_65_code
def yX0_count : MethodName := ⟨RX0, "count", "(I)I"⟩
def dkwX0_count_5 : List UInt8 := [180, 0, 39, 182, 1, 125, 172, 42, 180, 0, 166, 172, 42, 180, 0, 135, 172, 18, 100, 172]
abbrev dktX0_count_5 : List UInt8 := dkwX0_count_5 ++ []
def dkwX0_count_4 : List UInt8 := [172, 42, 180, 0, 39, 180, 0, 190, 172, 42, 180, 0, 39, 42, 182, 0, 200, 182, 0, 203, 172, 42]
abbrev dktX0_count_4 : List UInt8 := dkwX0_count_4 ++ dktX0_count_5
def dkwX0_count_3 : List UInt8 := [61, 132, 3, 1, 167, 255, 230, 28, 172, 42, 180, 0, 39, 180, 0, 177, 172, 42, 180, 0, 39, 182, 0, 169]
abbrev dktX0_count_3 : List UInt8 := dkwX0_count_3 ++ dktX0_count_4
def dkwX0_count_2 : List UInt8 := [3, 62, 29, 16, 8, 162, 0, 26, 28, 42, 180, 0, 28, 29, 50, 199, 0, 7, 3, 167, 0, 4, 4, 96]
abbrev dktX0_count_2 : List UInt8 := dkwX0_count_2 ++ dktX0_count_3
def dkwX0_count_1 : List UInt8 := [170, 0, 0, 0, 132, 0, 0, 0, 0, 0, 0, 0, 7, 0, 0, 0, 45, 0, 0, 0, 78, 0, 0, 0, 86, 0, 0, 0, 94, 0, 0, 0, 102, 0, 0, 0, 114, 0, 0, 0, 122, 0, 0, 0, 127]
abbrev dktX0_count_1 : List UInt8 := dkwX0_count_1 ++ dktX0_count_2
def dkwX0_count_0 : List UInt8 := [3, 61, 27]
abbrev dktX0_count_0 : List UInt8 := dkwX0_count_0 ++ dktX0_count_1
theorem dksX0_count_0 : cX0_count.data.toList.drop 0 = dktX0_count_0 := by decide +kernel
theorem dksX0_count_1 : cX0_count.data.toList.drop 3 = dktX0_count_1 := dk_seg dksX0_count_0 3 rfl rfl
theorem dksX0_count_2 : cX0_count.data.toList.drop 48 = dktX0_count_2 := dk_seg dksX0_count_1 45 rfl rfl
theorem dksX0_count_3 : cX0_count.data.toList.drop 72 = dktX0_count_3 := dk_seg dksX0_count_2 24 rfl rfl
theorem dksX0_count_4 : cX0_count.data.toList.drop 96 = dktX0_count_4 := dk_seg dksX0_count_3 24 rfl rfl
theorem dksX0_count_5 : cX0_count.data.toList.drop 118 = dktX0_count_5 := dk_seg dksX0_count_4 22 rfl rfl
theorem dX0_count_0 : decode cX0_count 0 = .ok (.iconst 0, 1) := dk_3 (dk_at dksX0_count_0 0 rfl rfl)
theorem dX0_count_1 : decode cX0_count 1 = .ok (.istore_n 2, 1) := dk_61 (dk_at dksX0_count_0 1 rfl rfl)
theorem dX0_count_2 : decode cX0_count 2 = .ok (.iload_n 1, 1) := dk_27 (dk_at dksX0_count_0 2 rfl rfl)
theorem dX0_count_3 : decode cX0_count 3 = .ok (.tableswitch 132 0 7 #[45, 78, 86, 94, 102, 114, 122, 127], 45) := by decide +kernel
theorem dX0_count_48 : decode cX0_count 48 = .ok (.iconst 0, 1) := dk_3 (dk_at dksX0_count_2 0 rfl rfl)
theorem dX0_count_49 : decode cX0_count 49 = .ok (.istore_n 3, 1) := dk_62 (dk_at dksX0_count_2 1 rfl rfl)
theorem dX0_count_50 : decode cX0_count 50 = .ok (.iload_n 3, 1) := dk_29 (dk_at dksX0_count_2 2 rfl rfl)
theorem dX0_count_51 : decode cX0_count 51 = .ok (.bipush 8, 2) := dk_16 8 (dk_at dksX0_count_2 3 rfl rfl)
theorem dX0_count_53 : decode cX0_count 53 = .ok (.if_icmp .ge 26, 3) := dk_162 0 26 (dk_at dksX0_count_2 5 rfl rfl)
theorem dX0_count_56 : decode cX0_count 56 = .ok (.iload_n 2, 1) := dk_28 (dk_at dksX0_count_2 8 rfl rfl)
theorem dX0_count_57 : decode cX0_count 57 = .ok (.aload_n 0, 1) := dk_42 (dk_at dksX0_count_2 9 rfl rfl)
theorem dX0_count_58 : decode cX0_count 58 = .ok (.getfield 28, 3) := dk_180 0 28 (dk_at dksX0_count_2 10 rfl rfl)
theorem dX0_count_61 : decode cX0_count 61 = .ok (.iload_n 3, 1) := dk_29 (dk_at dksX0_count_2 13 rfl rfl)
theorem dX0_count_62 : decode cX0_count 62 = .ok (.aaload, 1) := dk_50 (dk_at dksX0_count_2 14 rfl rfl)
theorem dX0_count_63 : decode cX0_count 63 = .ok (.ifnonnull 7, 3) := dk_199 0 7 (dk_at dksX0_count_2 15 rfl rfl)
theorem dX0_count_66 : decode cX0_count 66 = .ok (.iconst 0, 1) := dk_3 (dk_at dksX0_count_2 18 rfl rfl)
theorem dX0_count_67 : decode cX0_count 67 = .ok (.goto 4, 3) := dk_167 0 4 (dk_at dksX0_count_2 19 rfl rfl)
theorem dX0_count_70 : decode cX0_count 70 = .ok (.iconst 1, 1) := dk_4 (dk_at dksX0_count_2 22 rfl rfl)
theorem dX0_count_71 : decode cX0_count 71 = .ok (.iadd, 1) := dk_96 (dk_at dksX0_count_2 23 rfl rfl)
theorem dX0_count_72 : decode cX0_count 72 = .ok (.istore_n 2, 1) := dk_61 (dk_at dksX0_count_3 0 rfl rfl)
theorem dX0_count_73 : decode cX0_count 73 = .ok (.iinc 3 1, 3) := dk_132 3 1 (dk_at dksX0_count_3 1 rfl rfl)
theorem dX0_count_76 : decode cX0_count 76 = .ok (.goto (-26), 3) := dk_167 255 230 (dk_at dksX0_count_3 4 rfl rfl)
theorem dX0_count_79 : decode cX0_count 79 = .ok (.iload_n 2, 1) := dk_28 (dk_at dksX0_count_3 7 rfl rfl)
theorem dX0_count_80 : decode cX0_count 80 = .ok (.ireturn, 1) := dk_172 (dk_at dksX0_count_3 8 rfl rfl)
theorem dX0_count_81 : decode cX0_count 81 = .ok (.aload_n 0, 1) := dk_42 (dk_at dksX0_count_3 9 rfl rfl)
theorem dX0_count_82 : decode cX0_count 82 = .ok (.getfield 39, 3) := dk_180 0 39 (dk_at dksX0_count_3 10 rfl rfl)
theorem dX0_count_85 : decode cX0_count 85 = .ok (.getfield 177, 3) := dk_180 0 177 (dk_at dksX0_count_3 13 rfl rfl)
theorem dX0_count_88 : decode cX0_count 88 = .ok (.ireturn, 1) := dk_172 (dk_at dksX0_count_3 16 rfl rfl)
theorem dX0_count_89 : decode cX0_count 89 = .ok (.aload_n 0, 1) := dk_42 (dk_at dksX0_count_3 17 rfl rfl)
theorem dX0_count_90 : decode cX0_count 90 = .ok (.getfield 39, 3) := dk_180 0 39 (dk_at dksX0_count_3 18 rfl rfl)
theorem dX0_count_93 : decode cX0_count 93 = .ok (.invokevirtual 169, 3) := dk_182 0 169 (dk_at dksX0_count_3 21 rfl rfl)
theorem dX0_count_96 : decode cX0_count 96 = .ok (.ireturn, 1) := dk_172 (dk_at dksX0_count_4 0 rfl rfl)
theorem dX0_count_97 : decode cX0_count 97 = .ok (.aload_n 0, 1) := dk_42 (dk_at dksX0_count_4 1 rfl rfl)
theorem dX0_count_98 : decode cX0_count 98 = .ok (.getfield 39, 3) := dk_180 0 39 (dk_at dksX0_count_4 2 rfl rfl)
theorem dX0_count_101 : decode cX0_count 101 = .ok (.getfield 190, 3) := dk_180 0 190 (dk_at dksX0_count_4 5 rfl rfl)
theorem dX0_count_104 : decode cX0_count 104 = .ok (.ireturn, 1) := dk_172 (dk_at dksX0_count_4 8 rfl rfl)
theorem dX0_count_105 : decode cX0_count 105 = .ok (.aload_n 0, 1) := dk_42 (dk_at dksX0_count_4 9 rfl rfl)
theorem dX0_count_106 : decode cX0_count 106 = .ok (.getfield 39, 3) := dk_180 0 39 (dk_at dksX0_count_4 10 rfl rfl)
theorem dX0_count_109 : decode cX0_count 109 = .ok (.aload_n 0, 1) := dk_42 (dk_at dksX0_count_4 13 rfl rfl)
theorem dX0_count_110 : decode cX0_count 110 = .ok (.invokevirtual 200, 3) := dk_182 0 200 (dk_at dksX0_count_4 14 rfl rfl)
theorem dX0_count_113 : decode cX0_count 113 = .ok (.invokevirtual 203, 3) := dk_182 0 203 (dk_at dksX0_count_4 17 rfl rfl)
theorem dX0_count_116 : decode cX0_count 116 = .ok (.ireturn, 1) := dk_172 (dk_at dksX0_count_4 20 rfl rfl)
theorem dX0_count_117 : decode cX0_count 117 = .ok (.aload_n 0, 1) := dk_42 (dk_at dksX0_count_4 21 rfl rfl)
theorem dX0_count_118 : decode cX0_count 118 = .ok (.getfield 39, 3) := dk_180 0 39 (dk_at dksX0_count_5 0 rfl rfl)
theorem dX0_count_121 : decode cX0_count 121 = .ok (.invokevirtual 381, 3) := dk_182 1 125 (dk_at dksX0_count_5 3 rfl rfl)
theorem dX0_count_124 : decode cX0_count 124 = .ok (.ireturn, 1) := dk_172 (dk_at dksX0_count_5 6 rfl rfl)
theorem dX0_count_125 : decode cX0_count 125 = .ok (.aload_n 0, 1) := dk_42 (dk_at dksX0_count_5 7 rfl rfl)
theorem dX0_count_126 : decode cX0_count 126 = .ok (.getfield 166, 3) := dk_180 0 166 (dk_at dksX0_count_5 8 rfl rfl)
theorem dX0_count_129 : decode cX0_count 129 = .ok (.ireturn, 1) := dk_172 (dk_at dksX0_count_5 11 rfl rfl)
theorem dX0_count_130 : decode cX0_count 130 = .ok (.aload_n 0, 1) := dk_42 (dk_at dksX0_count_5 12 rfl rfl)
theorem dX0_count_131 : decode cX0_count 131 = .ok (.getfield 135, 3) := dk_180 0 135 (dk_at dksX0_count_5 13 rfl rfl)
theorem dX0_count_134 : decode cX0_count 134 = .ok (.ireturn, 1) := dk_172 (dk_at dksX0_count_5 16 rfl rfl)
theorem dX0_count_135 : decode cX0_count 135 = .ok (.ldc 100, 2) := dk_18 100 (dk_at dksX0_count_5 17 rfl rfl)
theorem dX0_count_137 : decode cX0_count 137 = .ok (.ireturn, 1) := dk_172 (dk_at dksX0_count_5 19 rfl rfl)
abbrev cX0_status : ByteArray := prog_1_method_66_code
def yX0_status : MethodName := ⟨RX0, "status", "()I"⟩
theorem dX0_status_0 : decode cX0_status 0 = .ok (.aload_n 0, 1) := by decide +kernel
theorem dX0_status_1 : decode cX0_status 1 = .ok (.getfield 79, 3) := by decide +kernel
theorem dX0_status_4 : decode cX0_status 4 = .ok (.ireturn, 1) := by decide +kernel
theorem q77 : (Jvm.Cond.initialized "FishReaders") ∈ lw_all := lw_g (lw_at lw_m1 1 rfl) rfl
theorem q111 : (Jvm.Cond.instantiable "FishReaders" (15 : Nat)) ∈ lw_all := lw_g (lw_at lw_m1 35 rfl) rfl
theorem q113 : (Jvm.Cond.instanceMethod ({ cls := "FishReaders", name := "<init>", desc := "()V" } : Jvm.MethodName)) ∈ lw_all := lw_g (lw_at lw_m1 37 rfl) rfl
theorem q114 : (Jvm.Cond.code ({ cls := "FishReaders", name := "<init>", desc := "()V" } : Jvm.MethodName) prog_1_method_4_code (1 : Nat) (Option.none : Option Jvm.ClassFile.FieldType)) ∈ lw_all := lw_g (lw_at lw_m1 38 rfl) rfl
theorem q115 : (Jvm.Cond.methodLink "FishReaders" (19 : Nat) ({ cls := "java/lang/Object", name := "<init>", desc := "()V" } : Jvm.MethodName)) ∈ lw_all := lw_g (lw_at lw_m1 39 rfl) rfl
theorem q118 : (Jvm.Cond.classLink "FishReaders" (26 : Nat) "FishReaders$Row") ∈ lw_all := lw_g (lw_at lw_m1 42 rfl) rfl
theorem q120 : (Jvm.Cond.classLink "FishReaders" (36 : Nat) "FishReaders$Library") ∈ lw_all := lw_g (lw_at lw_m1 44 rfl) rfl
theorem q122 : (Jvm.Cond.methodLinkNest "FishReaders" (38 : Nat) ({ cls := "FishReaders$Library", name := "<init>", desc := "()V" } : Jvm.MethodName) "FishReaders") ∈ lw_tbl := lw_at lw_m1 46 rfl
theorem q157 : (Jvm.Cond.fieldLink "FishReaders" (174 : Nat) "FishReaders$Library" "hunger" "I") ∈ lw_all := lw_g (lw_at lw_m1 81 rfl) rfl
theorem q160 : (Jvm.Cond.fieldLink "FishReaders" (220 : Nat) "FishReaders$Library" "lamps" "I") ∈ lw_all := lw_g (lw_at lw_m1 84 rfl) rfl
theorem q165 : (Jvm.Cond.fieldLink "FishReaders" (177 : Nat) "FishReaders$Library" "books" "I") ∈ lw_all := lw_g (lw_at lw_m1 89 rfl) rfl
theorem q168 : (Jvm.Cond.fieldLink "FishReaders" (243 : Nat) "FishReaders$Library" "pages" "[I") ∈ lw_all := lw_g (lw_at lw_m1 92 rfl) rfl
theorem q171 : (Jvm.Cond.fieldLink "FishReaders" (246 : Nat) "FishReaders$Library" "paste" "[I") ∈ lw_all := lw_g (lw_at lw_m1 95 rfl) rfl
theorem q175 : (Jvm.Cond.fieldLink "FishReaders" (269 : Nat) "FishReaders$Library" "in" "[I") ∈ lw_all := lw_g (lw_at lw_m1 99 rfl) rfl
theorem q177 : (Jvm.Cond.fieldLink "FishReaders" (226 : Nat) "FishReaders$Library" "place" "[I") ∈ lw_all := lw_g (lw_at lw_m1 101 rfl) rfl
theorem q179 : (Jvm.Cond.fieldLink "FishReaders" (212 : Nat) "FishReaders$Library" "lit" "I") ∈ lw_all := lw_g (lw_at lw_m1 103 rfl) rfl
theorem q181 : (Jvm.Cond.fieldLink "FishReaders" (223 : Nat) "FishReaders$Library" "kept" "I") ∈ lw_all := lw_g (lw_at lw_m1 105 rfl) rfl
theorem q184 : (Jvm.Cond.fieldLink "FishReaders" (353 : Nat) "FishReaders$Library" "fishes" "Ljava/util/List;") ∈ lw_all := lw_g (lw_at lw_m1 108 rfl) rfl
theorem q188 : (Jvm.Cond.fieldLink "FishReaders" (237 : Nat) "FishReaders$Library" "at" "[I") ∈ lw_all := lw_g (lw_at lw_m1 112 rfl) rfl
theorem q191 : (Jvm.Cond.fieldLink "FishReaders" (254 : Nat) "FishReaders$Library" "dust" "[I") ∈ lw_all := lw_g (lw_at lw_m1 115 rfl) rfl
theorem q193 : (Jvm.Cond.fieldLink "FishReaders" (240 : Nat) "FishReaders$Library" "caught" "I") ∈ lw_all := lw_g (lw_at lw_m1 117 rfl) rfl
theorem q195 : (Jvm.Cond.fieldLink "FishReaders" (190 : Nat) "FishReaders$Library" "night" "I") ∈ lw_all := lw_g (lw_at lw_m1 119 rfl) rfl
theorem q197 : (Jvm.Cond.fieldLink "FishReaders" (315 : Nat) "FishReaders$Library" "takenFor" "I") ∈ lw_all := lw_g (lw_at lw_m1 121 rfl) rfl
theorem q199 : (Jvm.Cond.fieldLink "FishReaders" (318 : Nat) "FishReaders$Library" "taken" "LFishReaders$Fish;") ∈ lw_all := lw_g (lw_at lw_m1 123 rfl) rfl
theorem q234 : (Jvm.Cond.classLink "FishReaders" (53 : Nat) "FishReaders$Trail") ∈ lw_all := lw_g (lw_at lw_m1 158 rfl) rfl
theorem q236 : (Jvm.Cond.methodLinkNest "FishReaders" (55 : Nat) ({ cls := "FishReaders$Trail", name := "<init>", desc := "()V" } : Jvm.MethodName) "FishReaders") ∈ lw_tbl := lw_at lw_m1 160 rfl
theorem q241 : (Jvm.Cond.fieldLinkNest "FishReaders" (378 : Nat) "FishReaders$Trail" "body" "[I" "FishReaders") ∈ lw_tbl := lw_at lw_m1 165 rfl
theorem q243 : (Jvm.Cond.fieldLinkNest "FishReaders" (376 : Nat) "FishReaders$Trail" "many" "I" "FishReaders") ∈ lw_tbl := lw_at lw_m1 167 rfl
theorem q249 : (Jvm.Cond.classLink "FishReaders" (67 : Nat) "FishReaders$Fish") ∈ lw_all := lw_g (lw_at lw_m1 173 rfl) rfl
theorem q251 : (Jvm.Cond.classLink "FishReaders" (1 : Nat) "FishReaders$Browser") ∈ lw_all := lw_g (lw_at lw_m1 175 rfl) rfl
theorem q253 : (Jvm.Cond.methodLink "FishReaders" (3 : Nat) ({ cls := "FishReaders$Browser", name := "<init>", desc := "(I)V" } : Jvm.MethodName)) ∈ lw_all := lw_g (lw_at lw_m1 177 rfl) rfl
theorem q264 : (Jvm.Cond.classLink "FishReaders" (7 : Nat) "FishReaders$Poet") ∈ lw_all := lw_g (lw_at lw_m1 188 rfl) rfl
theorem q266 : (Jvm.Cond.methodLink "FishReaders" (9 : Nat) ({ cls := "FishReaders$Poet", name := "<init>", desc := "(I)V" } : Jvm.MethodName)) ∈ lw_all := lw_g (lw_at lw_m1 190 rfl) rfl
theorem q272 : (Jvm.Cond.classLink "FishReaders" (10 : Nat) "FishReaders$Critic") ∈ lw_all := lw_g (lw_at lw_m1 196 rfl) rfl
theorem q274 : (Jvm.Cond.methodLink "FishReaders" (12 : Nat) ({ cls := "FishReaders$Critic", name := "<init>", desc := "(I)V" } : Jvm.MethodName)) ∈ lw_all := lw_g (lw_at lw_m1 198 rfl) rfl
theorem q280 : (Jvm.Cond.classLink "FishReaders" (13 : Nat) "FishReaders$Wanderer") ∈ lw_all := lw_g (lw_at lw_m1 204 rfl) rfl
theorem q282 : (Jvm.Cond.methodLink "FishReaders" (15 : Nat) ({ cls := "FishReaders$Wanderer", name := "<init>", desc := "(I)V" } : Jvm.MethodName)) ∈ lw_all := lw_g (lw_at lw_m1 206 rfl) rfl
theorem q288 : (Jvm.Cond.classLink "FishReaders" (16 : Nat) "FishReaders$Scholar") ∈ lw_all := lw_g (lw_at lw_m1 212 rfl) rfl
theorem q290 : (Jvm.Cond.methodLink "FishReaders" (18 : Nat) ({ cls := "FishReaders$Scholar", name := "<init>", desc := "(I)V" } : Jvm.MethodName)) ∈ lw_all := lw_g (lw_at lw_m1 214 rfl) rfl
theorem q296 : (Jvm.Cond.fieldLink "FishReaders" (28 : Nat) "FishReaders" "rows" "[LFishReaders$Row;") ∈ lw_all := lw_g (lw_at lw_m1 220 rfl) rfl
theorem q297 : (Jvm.Cond.fieldLink "FishReaders" (32 : Nat) "FishReaders" "tape" "[B") ∈ lw_all := lw_g (lw_at lw_m1 221 rfl) rfl
theorem q298 : (Jvm.Cond.fieldLink "FishReaders" (135 : Nat) "FishReaders" "taped" "I") ∈ lw_all := lw_g (lw_at lw_m1 222 rfl) rfl
theorem q299 : (Jvm.Cond.fieldLink "FishReaders" (152 : Nat) "FishReaders" "faultKind" "I") ∈ lw_all := lw_g (lw_at lw_m1 223 rfl) rfl
theorem q300 : (Jvm.Cond.fieldLink "FishReaders" (39 : Nat) "FishReaders" "library" "LFishReaders$Library;") ∈ lw_all := lw_g (lw_at lw_m1 224 rfl) rfl
theorem q301 : (Jvm.Cond.fieldLink "FishReaders" (43 : Nat) "FishReaders" "trial" "LFishReaders$Library;") ∈ lw_all := lw_g (lw_at lw_m1 225 rfl) rfl
theorem q302 : (Jvm.Cond.fieldLink "FishReaders" (46 : Nat) "FishReaders" "past" "[LFishReaders$Library;") ∈ lw_all := lw_g (lw_at lw_m1 226 rfl) rfl
theorem q303 : (Jvm.Cond.fieldLink "FishReaders" (166 : Nat) "FishReaders" "acts" "I") ∈ lw_all := lw_g (lw_at lw_m1 227 rfl) rfl
theorem q304 : (Jvm.Cond.fieldLink "FishReaders" (50 : Nat) "FishReaders" "images" "[LFishReaders$Library;") ∈ lw_all := lw_g (lw_at lw_m1 228 rfl) rfl
theorem q305 : (Jvm.Cond.fieldLink "FishReaders" (56 : Nat) "FishReaders" "trail" "LFishReaders$Trail;") ∈ lw_all := lw_g (lw_at lw_m1 229 rfl) rfl
theorem q306 : (Jvm.Cond.fieldLink "FishReaders" (79 : Nat) "FishReaders" "status" "I") ∈ lw_all := lw_g (lw_at lw_m1 230 rfl) rfl
theorem q307 : (Jvm.Cond.fieldLink "FishReaders" (60 : Nat) "FishReaders" "line" "[I") ∈ lw_all := lw_g (lw_at lw_m1 231 rfl) rfl
theorem q308 : (Jvm.Cond.fieldLink "FishReaders" (64 : Nat) "FishReaders" "best" "[I") ∈ lw_all := lw_g (lw_at lw_m1 232 rfl) rfl
theorem q309 : (Jvm.Cond.fieldLink "FishReaders" (288 : Nat) "FishReaders" "most" "I") ∈ lw_all := lw_g (lw_at lw_m1 233 rfl) rfl
theorem q310 : (Jvm.Cond.fieldLink "FishReaders" (69 : Nat) "FishReaders" "takens" "[LFishReaders$Fish;") ∈ lw_all := lw_g (lw_at lw_m1 234 rfl) rfl
theorem q311 : (Jvm.Cond.laysFinal "FishReaders" "FishReaders" "rows" "[LFishReaders$Row;") ∈ lw_all := lw_g (lw_at lw_m1 235 rfl) rfl
theorem q312 : (Jvm.Cond.soleField "FishReaders" "rows") ∈ lw_all := lw_g (lw_at lw_m1 236 rfl) rfl
theorem q313 : (Jvm.Cond.laysFinal "FishReaders" "FishReaders" "tape" "[B") ∈ lw_all := lw_g (lw_at lw_m1 237 rfl) rfl
theorem q314 : (Jvm.Cond.soleField "FishReaders" "tape") ∈ lw_all := lw_g (lw_at lw_m1 238 rfl) rfl
theorem q315 : (Jvm.Cond.lays "FishReaders" "FishReaders" "taped" "I") ∈ lw_all := lw_g (lw_at lw_m1 239 rfl) rfl
theorem q316 : (Jvm.Cond.soleField "FishReaders" "taped") ∈ lw_all := lw_g (lw_at lw_m2 0 rfl) rfl
theorem q317 : (Jvm.Cond.lays "FishReaders" "FishReaders" "faultKind" "I") ∈ lw_all := lw_g (lw_at lw_m2 1 rfl) rfl
theorem q318 : (Jvm.Cond.soleField "FishReaders" "faultKind") ∈ lw_all := lw_g (lw_at lw_m2 2 rfl) rfl
theorem q319 : (Jvm.Cond.laysFinal "FishReaders" "FishReaders" "library" "LFishReaders$Library;") ∈ lw_all := lw_g (lw_at lw_m2 3 rfl) rfl
theorem q320 : (Jvm.Cond.soleField "FishReaders" "library") ∈ lw_all := lw_g (lw_at lw_m2 4 rfl) rfl
theorem q321 : (Jvm.Cond.laysFinal "FishReaders" "FishReaders" "trial" "LFishReaders$Library;") ∈ lw_all := lw_g (lw_at lw_m2 5 rfl) rfl
theorem q322 : (Jvm.Cond.soleField "FishReaders" "trial") ∈ lw_all := lw_g (lw_at lw_m2 6 rfl) rfl
theorem q323 : (Jvm.Cond.laysFinal "FishReaders" "FishReaders" "past" "[LFishReaders$Library;") ∈ lw_all := lw_g (lw_at lw_m2 7 rfl) rfl
theorem q324 : (Jvm.Cond.soleField "FishReaders" "past") ∈ lw_all := lw_g (lw_at lw_m2 8 rfl) rfl
theorem q325 : (Jvm.Cond.lays "FishReaders" "FishReaders" "acts" "I") ∈ lw_all := lw_g (lw_at lw_m2 9 rfl) rfl
theorem q326 : (Jvm.Cond.soleField "FishReaders" "acts") ∈ lw_all := lw_g (lw_at lw_m2 10 rfl) rfl
theorem q327 : (Jvm.Cond.laysFinal "FishReaders" "FishReaders" "images" "[LFishReaders$Library;") ∈ lw_all := lw_g (lw_at lw_m2 11 rfl) rfl
theorem q328 : (Jvm.Cond.soleField "FishReaders" "images") ∈ lw_all := lw_g (lw_at lw_m2 12 rfl) rfl
theorem q329 : (Jvm.Cond.lays "FishReaders" "FishReaders" "trail" "LFishReaders$Trail;") ∈ lw_all := lw_g (lw_at lw_m2 13 rfl) rfl
theorem q330 : (Jvm.Cond.soleField "FishReaders" "trail") ∈ lw_all := lw_g (lw_at lw_m2 14 rfl) rfl
theorem q331 : (Jvm.Cond.lays "FishReaders" "FishReaders" "status" "I") ∈ lw_all := lw_g (lw_at lw_m2 15 rfl) rfl
theorem q332 : (Jvm.Cond.soleField "FishReaders" "status") ∈ lw_all := lw_g (lw_at lw_m2 16 rfl) rfl
theorem q333 : (Jvm.Cond.laysFinal "FishReaders" "FishReaders" "line" "[I") ∈ lw_all := lw_g (lw_at lw_m2 17 rfl) rfl
theorem q334 : (Jvm.Cond.soleField "FishReaders" "line") ∈ lw_all := lw_g (lw_at lw_m2 18 rfl) rfl
theorem q335 : (Jvm.Cond.laysFinal "FishReaders" "FishReaders" "best" "[I") ∈ lw_all := lw_g (lw_at lw_m2 19 rfl) rfl
theorem q336 : (Jvm.Cond.soleField "FishReaders" "best") ∈ lw_all := lw_g (lw_at lw_m2 20 rfl) rfl
theorem q337 : (Jvm.Cond.lays "FishReaders" "FishReaders" "most" "I") ∈ lw_all := lw_g (lw_at lw_m2 21 rfl) rfl
theorem q338 : (Jvm.Cond.soleField "FishReaders" "most") ∈ lw_all := lw_g (lw_at lw_m2 22 rfl) rfl
theorem q339 : (Jvm.Cond.laysFinal "FishReaders" "FishReaders" "takens" "[LFishReaders$Fish;") ∈ lw_all := lw_g (lw_at lw_m2 23 rfl) rfl
theorem q340 : (Jvm.Cond.soleField "FishReaders" "takens") ∈ lw_all := lw_g (lw_at lw_m2 24 rfl) rfl
theorem q341 : (Jvm.Cond.superclass "FishReaders" "java/lang/Object") ∈ lw_all := lw_g (lw_at lw_m2 25 rfl) rfl
theorem q343 : (Jvm.Cond.instanceMethod ({ cls := "FishReaders", name := "row", desc := "(III)I" } : Jvm.MethodName)) ∈ lw_all := lw_g (lw_at lw_m2 27 rfl) rfl
theorem q344 : (Jvm.Cond.selects "FishReaders" ({ cls := "FishReaders", name := "row", desc := "(III)I" } : Jvm.MethodName) ({ cls := "FishReaders", name := "row", desc := "(III)I" } : Jvm.MethodName)) ∈ lw_all := lw_g (lw_at lw_m2 28 rfl) rfl
theorem q345 : (Jvm.Cond.codeWith ({ cls := "FishReaders", name := "row", desc := "(III)I" } : Jvm.MethodName) prog_1_method_10_code (5 : Nat) (Option.some Jvm.ClassFile.FieldType.int) [((28 : Nat), (61 : Nat), (62 : Nat), (74 : Nat))]) ∈ lw_all := lw_g (lw_at lw_m2 29 rfl) rfl
theorem q346 : (Jvm.Cond.classLink "FishReaders" (74 : Nat) "FishReaders$Finding") ∈ lw_all := lw_g (lw_at lw_m2 30 rfl) rfl
theorem q347 : (Jvm.Cond.methodLink "FishReaders" (94 : Nat) ({ cls := "FishReaders", name := "isRow", desc := "(I)Z" } : Jvm.MethodName)) ∈ lw_all := lw_g (lw_at lw_m2 31 rfl) rfl
theorem q348 : (Jvm.Cond.static ({ cls := "FishReaders", name := "isRow", desc := "(I)Z" } : Jvm.MethodName)) ∈ lw_all := lw_g (lw_at lw_m2 32 rfl) rfl
theorem q349 : (Jvm.Cond.code ({ cls := "FishReaders", name := "isRow", desc := "(I)Z" } : Jvm.MethodName) prog_1_method_8_code (1 : Nat) (Option.some Jvm.ClassFile.FieldType.boolean)) ∈ lw_all := lw_g (lw_at lw_m2 33 rfl) rfl
theorem q350 : (Jvm.Cond.constantLong "FishReaders" (84 : Nat) (7 : Int64)) ∈ lw_all := lw_g (lw_at lw_m2 34 rfl) rfl
theorem q351 : (Jvm.Cond.methodLink "FishReaders" (86 : Nat) ({ cls := "FishReaders", name := "isIn", desc := "(JJJ)Z" } : Jvm.MethodName)) ∈ lw_all := lw_g (lw_at lw_m2 35 rfl) rfl
theorem q352 : (Jvm.Cond.static ({ cls := "FishReaders", name := "isIn", desc := "(JJJ)Z" } : Jvm.MethodName)) ∈ lw_all := lw_g (lw_at lw_m2 36 rfl) rfl
theorem q353 : (Jvm.Cond.code ({ cls := "FishReaders", name := "isIn", desc := "(JJJ)Z" } : Jvm.MethodName) prog_1_method_1_code (6 : Nat) (Option.some Jvm.ClassFile.FieldType.boolean)) ∈ lw_all := lw_g (lw_at lw_m2 37 rfl) rfl
theorem q354 : (Jvm.Cond.constantLong "FishReaders" (98 : Nat) (2 : Int64)) ∈ lw_all := lw_g (lw_at lw_m2 38 rfl) rfl
theorem q355 : (Jvm.Cond.constant "FishReaders" (100 : Nat) (-1000001 : Int32)) ∈ lw_all := lw_g (lw_at lw_m2 39 rfl) rfl
theorem q356 : (Jvm.Cond.methodLink "FishReaders" (90 : Nat) ({ cls := "FishReaders", name := "must", desc := "(ZI)V" } : Jvm.MethodName)) ∈ lw_all := lw_g (lw_at lw_m2 40 rfl) rfl
theorem q357 : (Jvm.Cond.static ({ cls := "FishReaders", name := "must", desc := "(ZI)V" } : Jvm.MethodName)) ∈ lw_all := lw_g (lw_at lw_m2 41 rfl) rfl
theorem q358 : (Jvm.Cond.code ({ cls := "FishReaders", name := "must", desc := "(ZI)V" } : Jvm.MethodName) prog_1_method_7_code (2 : Nat) (Option.none : Option Jvm.ClassFile.FieldType)) ∈ lw_all := lw_g (lw_at lw_m2 42 rfl) rfl
theorem q398 : (Jvm.Cond.methodLink "FishReaders" (83 : Nat) ({ cls := "FishReaders$Finding", name := "<init>", desc := "(I)V" } : Jvm.MethodName)) ∈ lw_all := lw_g (lw_at lw_m2 82 rfl) rfl
theorem q408 : (Jvm.Cond.fieldLink "FishReaders" (73 : Nat) "FishReaders$Finding" "number" "I") ∈ lw_all := lw_g (lw_at lw_m2 92 rfl) rfl
theorem q425 : (Jvm.Cond.methodLink "FishReaders" (101 : Nat) ({ cls := "FishReaders$Row", name := "<init>", desc := "(II)V" } : Jvm.MethodName)) ∈ lw_all := lw_g (lw_at lw_m2 109 rfl) rfl
theorem q430 : (Jvm.Cond.fieldLink "FishReaders" (122 : Nat) "FishReaders$Row" "lane" "I") ∈ lw_all := lw_g (lw_at lw_m2 114 rfl) rfl
theorem q432 : (Jvm.Cond.fieldLink "FishReaders" (116 : Nat) "FishReaders$Row" "items" "[I") ∈ lw_all := lw_g (lw_at lw_m2 116 rfl) rfl
theorem q438 : (Jvm.Cond.methodLink "FishReaders" (104 : Nat) ({ cls := "FishReaders", name := "well", desc := "(I)I" } : Jvm.MethodName)) ∈ lw_all := lw_g (lw_at lw_m2 122 rfl) rfl
theorem q439 : (Jvm.Cond.privateMethod ({ cls := "FishReaders", name := "well", desc := "(I)I" } : Jvm.MethodName)) ∈ lw_tbl := lw_at lw_m2 123 rfl
theorem q440 : (Jvm.Cond.instanceMethod ({ cls := "FishReaders", name := "well", desc := "(I)I" } : Jvm.MethodName)) ∈ lw_all := lw_g (lw_at lw_m2 124 rfl) rfl
theorem q441 : (Jvm.Cond.code ({ cls := "FishReaders", name := "well", desc := "(I)I" } : Jvm.MethodName) prog_1_method_6_code (2 : Nat) (Option.some Jvm.ClassFile.FieldType.int)) ∈ lw_all := lw_g (lw_at lw_m2 125 rfl) rfl
theorem q442 : (Jvm.Cond.methodLink "FishReaders" (108 : Nat) ({ cls := "FishReaders", name := "found", desc := "(LFishReaders$Finding;)I" } : Jvm.MethodName)) ∈ lw_all := lw_g (lw_at lw_m2 126 rfl) rfl
theorem q443 : (Jvm.Cond.privateMethod ({ cls := "FishReaders", name := "found", desc := "(LFishReaders$Finding;)I" } : Jvm.MethodName)) ∈ lw_tbl := lw_at lw_m2 127 rfl
theorem q444 : (Jvm.Cond.instanceMethod ({ cls := "FishReaders", name := "found", desc := "(LFishReaders$Finding;)I" } : Jvm.MethodName)) ∈ lw_all := lw_g (lw_at lw_m2 128 rfl) rfl
theorem q445 : (Jvm.Cond.code ({ cls := "FishReaders", name := "found", desc := "(LFishReaders$Finding;)I" } : Jvm.MethodName) prog_1_method_5_code (2 : Nat) (Option.some Jvm.ClassFile.FieldType.int)) ∈ lw_all := lw_g (lw_at lw_m2 129 rfl) rfl
theorem q446 : (Jvm.Cond.constant "FishReaders" (82 : Nat) (-1000010 : Int32)) ∈ lw_all := lw_g (lw_at lw_m2 130 rfl) rfl
theorem q448 : (Jvm.Cond.instanceMethod ({ cls := "FishReaders", name := "set", desc := "(III)I" } : Jvm.MethodName)) ∈ lw_all := lw_g (lw_at lw_m2 132 rfl) rfl
theorem q449 : (Jvm.Cond.selects "FishReaders" ({ cls := "FishReaders", name := "set", desc := "(III)I" } : Jvm.MethodName) ({ cls := "FishReaders", name := "set", desc := "(III)I" } : Jvm.MethodName)) ∈ lw_all := lw_g (lw_at lw_m2 133 rfl) rfl
theorem q450 : (Jvm.Cond.codeWith ({ cls := "FishReaders", name := "set", desc := "(III)I" } : Jvm.MethodName) prog_1_method_11_code (5 : Nat) (Option.some Jvm.ClassFile.FieldType.int) [((10 : Nat), (60 : Nat), (61 : Nat), (74 : Nat))]) ∈ lw_all := lw_g (lw_at lw_m2 134 rfl) rfl
theorem q451 : (Jvm.Cond.methodLink "FishReaders" (112 : Nat) ({ cls := "FishReaders", name := "rowAt", desc := "(I)LFishReaders$Row;" } : Jvm.MethodName)) ∈ lw_all := lw_g (lw_at lw_m2 135 rfl) rfl
theorem q452 : (Jvm.Cond.privateMethod ({ cls := "FishReaders", name := "rowAt", desc := "(I)LFishReaders$Row;" } : Jvm.MethodName)) ∈ lw_tbl := lw_at lw_m2 136 rfl
theorem q453 : (Jvm.Cond.instanceMethod ({ cls := "FishReaders", name := "rowAt", desc := "(I)LFishReaders$Row;" } : Jvm.MethodName)) ∈ lw_all := lw_g (lw_at lw_m2 137 rfl) rfl
theorem q454 : (Jvm.Cond.code ({ cls := "FishReaders", name := "rowAt", desc := "(I)LFishReaders$Row;" } : Jvm.MethodName) prog_1_method_9_code (2 : Nat) (Option.some (Jvm.ClassFile.FieldType.object "FishReaders$Row"))) ∈ lw_all := lw_g (lw_at lw_m2 138 rfl) rfl
theorem q455 : (Jvm.Cond.methodLink "FishReaders" (119 : Nat) ({ cls := "FishReaders$Row", name := "cut", desc := "(I)I" } : Jvm.MethodName)) ∈ lw_all := lw_g (lw_at lw_m2 139 rfl) rfl
theorem q460 : (Jvm.Cond.instanceMethod ({ cls := "FishReaders", name := "copy", desc := "(IIIII)I" } : Jvm.MethodName)) ∈ lw_all := lw_g (lw_at lw_m2 144 rfl) rfl
theorem q461 : (Jvm.Cond.selects "FishReaders" ({ cls := "FishReaders", name := "copy", desc := "(IIIII)I" } : Jvm.MethodName) ({ cls := "FishReaders", name := "copy", desc := "(IIIII)I" } : Jvm.MethodName)) ∈ lw_all := lw_g (lw_at lw_m2 145 rfl) rfl
theorem q462 : (Jvm.Cond.codeWith ({ cls := "FishReaders", name := "copy", desc := "(IIIII)I" } : Jvm.MethodName) prog_1_method_12_code (9 : Nat) (Option.some Jvm.ClassFile.FieldType.int) [((53 : Nat), (71 : Nat), (74 : Nat), (131 : Nat)), ((17 : Nat), (91 : Nat), (92 : Nat), (74 : Nat))]) ∈ lw_all := lw_g (lw_at lw_m2 146 rfl) rfl
theorem q463 : (Jvm.Cond.classLink "FishReaders" (131 : Nat) "java/lang/IndexOutOfBoundsException") ∈ lw_all := lw_g (lw_at lw_m2 147 rfl) rfl
theorem q497 : (Jvm.Cond.methodLink "FishReaders" (125 : Nat) ({ cls := "java/lang/System", name := "arraycopy", desc := "(Ljava/lang/Object;ILjava/lang/Object;II)V" } : Jvm.MethodName)) ∈ lw_all := lw_g (lw_at lw_m2 181 rfl) rfl
theorem q501 : (Jvm.Cond.instanceMethod ({ cls := "FishReaders", name := "drop", desc := "(I)I" } : Jvm.MethodName)) ∈ lw_all := lw_g (lw_at lw_m2 185 rfl) rfl
theorem q502 : (Jvm.Cond.selects "FishReaders" ({ cls := "FishReaders", name := "drop", desc := "(I)I" } : Jvm.MethodName) ({ cls := "FishReaders", name := "drop", desc := "(I)I" } : Jvm.MethodName)) ∈ lw_all := lw_g (lw_at lw_m2 186 rfl) rfl
theorem q503 : (Jvm.Cond.codeWith ({ cls := "FishReaders", name := "drop", desc := "(I)I" } : Jvm.MethodName) prog_1_method_13_code (3 : Nat) (Option.some Jvm.ClassFile.FieldType.int) [((10 : Nat), (32 : Nat), (33 : Nat), (74 : Nat))]) ∈ lw_all := lw_g (lw_at lw_m2 187 rfl) rfl
theorem q505 : (Jvm.Cond.instanceMethod ({ cls := "FishReaders", name := "feed", desc := "(I)I" } : Jvm.MethodName)) ∈ lw_all := lw_g (lw_at lw_m2 189 rfl) rfl
theorem q506 : (Jvm.Cond.selects "FishReaders" ({ cls := "FishReaders", name := "feed", desc := "(I)I" } : Jvm.MethodName) ({ cls := "FishReaders", name := "feed", desc := "(I)I" } : Jvm.MethodName)) ∈ lw_all := lw_g (lw_at lw_m2 190 rfl) rfl
theorem q507 : (Jvm.Cond.code ({ cls := "FishReaders", name := "feed", desc := "(I)I" } : Jvm.MethodName) prog_1_method_14_code (2 : Nat) (Option.some Jvm.ClassFile.FieldType.int)) ∈ lw_all := lw_g (lw_at lw_m2 191 rfl) rfl
theorem q508 : (Jvm.Cond.constantLong "FishReaders" (133 : Nat) (255 : Int64)) ∈ lw_all := lw_g (lw_at lw_m2 192 rfl) rfl
theorem q509 : (Jvm.Cond.constant "FishReaders" (138 : Nat) (-1000003 : Int32)) ∈ lw_all := lw_g (lw_at lw_m2 193 rfl) rfl
theorem q511 : (Jvm.Cond.instanceMethod ({ cls := "FishReaders", name := "library", desc := "()I" } : Jvm.MethodName)) ∈ lw_all := lw_g (lw_at lw_m2 195 rfl) rfl
theorem q512 : (Jvm.Cond.selects "FishReaders" ({ cls := "FishReaders", name := "library", desc := "()I" } : Jvm.MethodName) ({ cls := "FishReaders", name := "library", desc := "()I" } : Jvm.MethodName)) ∈ lw_all := lw_g (lw_at lw_m2 196 rfl) rfl
theorem q513 : (Jvm.Cond.codeWith ({ cls := "FishReaders", name := "library", desc := "()I" } : Jvm.MethodName) prog_1_method_15_code (3 : Nat) (Option.some Jvm.ClassFile.FieldType.int) [((21 : Nat), (25 : Nat), (28 : Nat), (147 : Nat))]) ∈ lw_all := lw_g (lw_at lw_m2 197 rfl) rfl
theorem q514 : (Jvm.Cond.classLink "FishReaders" (147 : Nat) "FishReaders$Fault") ∈ lw_all := lw_g (lw_at lw_m2 198 rfl) rfl
theorem q515 : (Jvm.Cond.classLink "FishReaders" (139 : Nat) "FishReaders$Reader") ∈ lw_all := lw_g (lw_at lw_m2 199 rfl) rfl
theorem q517 : (Jvm.Cond.methodLink "FishReaders" (141 : Nat) ({ cls := "FishReaders$Reader", name := "<init>", desc := "([BI)V" } : Jvm.MethodName)) ∈ lw_all := lw_g (lw_at lw_m2 201 rfl) rfl
theorem q530 : (Jvm.Cond.fieldLink "FishReaders" (159 : Nat) "FishReaders$Reader" "made" "LFishReaders$Library;") ∈ lw_all := lw_g (lw_at lw_m2 214 rfl) rfl
theorem q546 : (Jvm.Cond.methodLink "FishReaders" (144 : Nat) ({ cls := "FishReaders$Reader", name := "all", desc := "()V" } : Jvm.MethodName)) ∈ lw_all := lw_g (lw_at lw_m2 230 rfl) rfl
theorem q586 : (Jvm.Cond.fieldLink "FishReaders" (149 : Nat) "FishReaders$Fault" "kind" "I") ∈ lw_all := lw_g (lw_at lw_m3 30 rfl) rfl
theorem q588 : (Jvm.Cond.fieldLink "FishReaders" (156 : Nat) "FishReaders$Fault" "place" "I") ∈ lw_all := lw_g (lw_at lw_m3 32 rfl) rfl
theorem q694 : (Jvm.Cond.static ({ cls := "FishReaders", name := "fishBy", desc := "(II)LFishReaders$Fish;" } : Jvm.MethodName)) ∈ lw_all := lw_g (lw_at lw_m3 138 rfl) rfl
theorem q695 : (Jvm.Cond.code ({ cls := "FishReaders", name := "fishBy", desc := "(II)LFishReaders$Fish;" } : Jvm.MethodName) prog_1_method_3_code (2 : Nat) (Option.some (Jvm.ClassFile.FieldType.object "FishReaders$Fish"))) ∈ lw_all := lw_g (lw_at lw_m3 139 rfl) rfl
theorem q733 : (Jvm.Cond.selects "FishReaders" ({ cls := "java/lang/Object", name := "getClass", desc := "()Ljava/lang/Class;" } : Jvm.MethodName) ({ cls := "java/lang/Object", name := "getClass", desc := "()Ljava/lang/Class;" } : Jvm.MethodName)) ∈ lw_all := lw_g (lw_at lw_m3 177 rfl) rfl
theorem q762 : (Jvm.Cond.constant "FishReaders" (155 : Nat) (-1000100 : Int32)) ∈ lw_all := lw_g (lw_at lw_m3 206 rfl) rfl
theorem q763 : (Jvm.Cond.methodLink "FishReaders" (162 : Nat) ({ cls := "FishReaders$Library", name := "become", desc := "(LFishReaders$Library;)LFishReaders$Library;" } : Jvm.MethodName)) ∈ lw_all := lw_g (lw_at lw_m3 207 rfl) rfl
theorem q768 : (Jvm.Cond.methodLink "FishReaders" (169 : Nat) ({ cls := "FishReaders$Library", name := "many", desc := "()I" } : Jvm.MethodName)) ∈ lw_all := lw_g (lw_at lw_m3 212 rfl) rfl
theorem q770 : (Jvm.Cond.instanceMethod ({ cls := "FishReaders", name := "fault", desc := "()I" } : Jvm.MethodName)) ∈ lw_all := lw_g (lw_at lw_m3 214 rfl) rfl
theorem q771 : (Jvm.Cond.selects "FishReaders" ({ cls := "FishReaders", name := "fault", desc := "()I" } : Jvm.MethodName) ({ cls := "FishReaders", name := "fault", desc := "()I" } : Jvm.MethodName)) ∈ lw_all := lw_g (lw_at lw_m3 215 rfl) rfl
theorem q772 : (Jvm.Cond.code ({ cls := "FishReaders", name := "fault", desc := "()I" } : Jvm.MethodName) prog_1_method_16_code (1 : Nat) (Option.some Jvm.ClassFile.FieldType.int)) ∈ lw_all := lw_g (lw_at lw_m3 216 rfl) rfl
theorem q774 : (Jvm.Cond.instanceMethod ({ cls := "FishReaders", name := "undo", desc := "()I" } : Jvm.MethodName)) ∈ lw_all := lw_g (lw_at lw_m3 218 rfl) rfl
theorem q775 : (Jvm.Cond.selects "FishReaders" ({ cls := "FishReaders", name := "undo", desc := "()I" } : Jvm.MethodName) ({ cls := "FishReaders", name := "undo", desc := "()I" } : Jvm.MethodName)) ∈ lw_all := lw_g (lw_at lw_m3 219 rfl) rfl
theorem q776 : (Jvm.Cond.code ({ cls := "FishReaders", name := "undo", desc := "()I" } : Jvm.MethodName) prog_1_method_19_code (1 : Nat) (Option.some Jvm.ClassFile.FieldType.int)) ∈ lw_all := lw_g (lw_at lw_m3 220 rfl) rfl
theorem q777 : (Jvm.Cond.constant "FishReaders" (173 : Nat) (-1000002 : Int32)) ∈ lw_all := lw_g (lw_at lw_m3 221 rfl) rfl
theorem q779 : (Jvm.Cond.instanceMethod ({ cls := "FishReaders", name := "nights", desc := "(I)I" } : Jvm.MethodName)) ∈ lw_all := lw_g (lw_at lw_m3 223 rfl) rfl
theorem q780 : (Jvm.Cond.selects "FishReaders" ({ cls := "FishReaders", name := "nights", desc := "(I)I" } : Jvm.MethodName) ({ cls := "FishReaders", name := "nights", desc := "(I)I" } : Jvm.MethodName)) ∈ lw_all := lw_g (lw_at lw_m3 224 rfl) rfl
theorem q781 : (Jvm.Cond.code ({ cls := "FishReaders", name := "nights", desc := "(I)I" } : Jvm.MethodName) prog_1_method_27_code (3 : Nat) (Option.some Jvm.ClassFile.FieldType.int)) ∈ lw_all := lw_g (lw_at lw_m3 225 rfl) rfl
theorem q782 : (Jvm.Cond.methodLink "FishReaders" (184 : Nat) ({ cls := "FishReaders", name := "isLibrary", desc := "()Z" } : Jvm.MethodName)) ∈ lw_all := lw_g (lw_at lw_m3 226 rfl) rfl
theorem q783 : (Jvm.Cond.privateMethod ({ cls := "FishReaders", name := "isLibrary", desc := "()Z" } : Jvm.MethodName)) ∈ lw_tbl := lw_at lw_m3 227 rfl
theorem q784 : (Jvm.Cond.instanceMethod ({ cls := "FishReaders", name := "isLibrary", desc := "()Z" } : Jvm.MethodName)) ∈ lw_all := lw_g (lw_at lw_m3 228 rfl) rfl
theorem q785 : (Jvm.Cond.code ({ cls := "FishReaders", name := "isLibrary", desc := "()Z" } : Jvm.MethodName) prog_1_method_20_code (1 : Nat) (Option.some Jvm.ClassFile.FieldType.boolean)) ∈ lw_all := lw_g (lw_at lw_m3 229 rfl) rfl
theorem q786 : (Jvm.Cond.constantLong "FishReaders" (188 : Nat) (24 : Int64)) ∈ lw_all := lw_g (lw_at lw_m3 230 rfl) rfl
theorem q787 : (Jvm.Cond.methodLink "FishReaders" (193 : Nat) ({ cls := "FishReaders", name := "keep", desc := "()V" } : Jvm.MethodName)) ∈ lw_all := lw_g (lw_at lw_m3 231 rfl) rfl
theorem q788 : (Jvm.Cond.privateMethod ({ cls := "FishReaders", name := "keep", desc := "()V" } : Jvm.MethodName)) ∈ lw_tbl := lw_at lw_m3 232 rfl
theorem q789 : (Jvm.Cond.instanceMethod ({ cls := "FishReaders", name := "keep", desc := "()V" } : Jvm.MethodName)) ∈ lw_all := lw_g (lw_at lw_m3 233 rfl) rfl
theorem q790 : (Jvm.Cond.code ({ cls := "FishReaders", name := "keep", desc := "()V" } : Jvm.MethodName) prog_1_method_18_code (3 : Nat) (Option.none : Option Jvm.ClassFile.FieldType)) ∈ lw_all := lw_g (lw_at lw_m3 234 rfl) rfl
theorem q791 : (Jvm.Cond.methodLink "FishReaders" (196 : Nat) ({ cls := "FishReaders$Library", name := "pass", desc := "()LFishReaders$Library;" } : Jvm.MethodName)) ∈ lw_all := lw_g (lw_at lw_m3 235 rfl) rfl
theorem q880 : (Jvm.Cond.methodLink "FishReaders" (200 : Nat) ({ cls := "FishReaders", name := "allBooks", desc := "()I" } : Jvm.MethodName)) ∈ lw_all := lw_g (lw_at lw_m4 84 rfl) rfl
theorem q881 : (Jvm.Cond.privateMethod ({ cls := "FishReaders", name := "allBooks", desc := "()I" } : Jvm.MethodName)) ∈ lw_tbl := lw_at lw_m4 85 rfl
theorem q882 : (Jvm.Cond.instanceMethod ({ cls := "FishReaders", name := "allBooks", desc := "()I" } : Jvm.MethodName)) ∈ lw_all := lw_g (lw_at lw_m4 86 rfl) rfl
theorem q883 : (Jvm.Cond.code ({ cls := "FishReaders", name := "allBooks", desc := "()I" } : Jvm.MethodName) prog_1_method_23_code (1 : Nat) (Option.some Jvm.ClassFile.FieldType.int)) ∈ lw_all := lw_g (lw_at lw_m4 87 rfl) rfl
theorem q884 : (Jvm.Cond.methodLink "FishReaders" (203 : Nat) ({ cls := "FishReaders$Library", name := "left", desc := "(I)I" } : Jvm.MethodName)) ∈ lw_all := lw_g (lw_at lw_m4 88 rfl) rfl
theorem q889 : (Jvm.Cond.instanceMethod ({ cls := "FishReaders", name := "light", desc := "(II)I" } : Jvm.MethodName)) ∈ lw_all := lw_g (lw_at lw_m4 93 rfl) rfl
theorem q890 : (Jvm.Cond.selects "FishReaders" ({ cls := "FishReaders", name := "light", desc := "(II)I" } : Jvm.MethodName) ({ cls := "FishReaders", name := "light", desc := "(II)I" } : Jvm.MethodName)) ∈ lw_all := lw_g (lw_at lw_m4 94 rfl) rfl
theorem q891 : (Jvm.Cond.code ({ cls := "FishReaders", name := "light", desc := "(II)I" } : Jvm.MethodName) prog_1_method_28_code (3 : Nat) (Option.some Jvm.ClassFile.FieldType.int)) ∈ lw_all := lw_g (lw_at lw_m4 95 rfl) rfl
theorem q892 : (Jvm.Cond.methodLink "FishReaders" (206 : Nat) ({ cls := "FishReaders", name := "isBook", desc := "(I)Z" } : Jvm.MethodName)) ∈ lw_all := lw_g (lw_at lw_m4 96 rfl) rfl
theorem q893 : (Jvm.Cond.privateMethod ({ cls := "FishReaders", name := "isBook", desc := "(I)Z" } : Jvm.MethodName)) ∈ lw_tbl := lw_at lw_m4 97 rfl
theorem q894 : (Jvm.Cond.instanceMethod ({ cls := "FishReaders", name := "isBook", desc := "(I)Z" } : Jvm.MethodName)) ∈ lw_all := lw_g (lw_at lw_m4 98 rfl) rfl
theorem q895 : (Jvm.Cond.code ({ cls := "FishReaders", name := "isBook", desc := "(I)Z" } : Jvm.MethodName) prog_1_method_21_code (2 : Nat) (Option.some Jvm.ClassFile.FieldType.boolean)) ∈ lw_all := lw_g (lw_at lw_m4 99 rfl) rfl
theorem q896 : (Jvm.Cond.methodLink "FishReaders" (209 : Nat) ({ cls := "FishReaders", name := "isHalf", desc := "(I)Z" } : Jvm.MethodName)) ∈ lw_all := lw_g (lw_at lw_m4 100 rfl) rfl
theorem q897 : (Jvm.Cond.static ({ cls := "FishReaders", name := "isHalf", desc := "(I)Z" } : Jvm.MethodName)) ∈ lw_all := lw_g (lw_at lw_m4 101 rfl) rfl
theorem q898 : (Jvm.Cond.code ({ cls := "FishReaders", name := "isHalf", desc := "(I)Z" } : Jvm.MethodName) prog_1_method_17_code (1 : Nat) (Option.some Jvm.ClassFile.FieldType.boolean)) ∈ lw_all := lw_g (lw_at lw_m4 102 rfl) rfl
theorem q899 : (Jvm.Cond.methodLink "FishReaders" (215 : Nat) ({ cls := "java/lang/Integer", name := "bitCount", desc := "(I)I" } : Jvm.MethodName)) ∈ lw_all := lw_g (lw_at lw_m4 103 rfl) rfl
theorem q906 : (Jvm.Cond.instanceMethod ({ cls := "FishReaders", name := "keepIt", desc := "(II)I" } : Jvm.MethodName)) ∈ lw_all := lw_g (lw_at lw_m4 110 rfl) rfl
theorem q907 : (Jvm.Cond.selects "FishReaders" ({ cls := "FishReaders", name := "keepIt", desc := "(II)I" } : Jvm.MethodName) ({ cls := "FishReaders", name := "keepIt", desc := "(II)I" } : Jvm.MethodName)) ∈ lw_all := lw_g (lw_at lw_m4 111 rfl) rfl
theorem q908 : (Jvm.Cond.code ({ cls := "FishReaders", name := "keepIt", desc := "(II)I" } : Jvm.MethodName) prog_1_method_29_code (3 : Nat) (Option.some Jvm.ClassFile.FieldType.int)) ∈ lw_all := lw_g (lw_at lw_m4 112 rfl) rfl
theorem q910 : (Jvm.Cond.instanceMethod ({ cls := "FishReaders", name := "change", desc := "(II)I" } : Jvm.MethodName)) ∈ lw_all := lw_g (lw_at lw_m4 114 rfl) rfl
theorem q911 : (Jvm.Cond.selects "FishReaders" ({ cls := "FishReaders", name := "change", desc := "(II)I" } : Jvm.MethodName) ({ cls := "FishReaders", name := "change", desc := "(II)I" } : Jvm.MethodName)) ∈ lw_all := lw_g (lw_at lw_m4 115 rfl) rfl
theorem q912 : (Jvm.Cond.code ({ cls := "FishReaders", name := "change", desc := "(II)I" } : Jvm.MethodName) prog_1_method_30_code (4 : Nat) (Option.some Jvm.ClassFile.FieldType.int)) ∈ lw_all := lw_g (lw_at lw_m4 116 rfl) rfl
theorem q913 : (Jvm.Cond.methodLink "FishReaders" (228 : Nat) ({ cls := "FishReaders$Library", name := "puts", desc := "(II)V" } : Jvm.MethodName)) ∈ lw_all := lw_g (lw_at lw_m4 117 rfl) rfl
theorem q915 : (Jvm.Cond.instanceMethod ({ cls := "FishReaders", name := "move", desc := "(II)I" } : Jvm.MethodName)) ∈ lw_all := lw_g (lw_at lw_m4 119 rfl) rfl
theorem q916 : (Jvm.Cond.selects "FishReaders" ({ cls := "FishReaders", name := "move", desc := "(II)I" } : Jvm.MethodName) ({ cls := "FishReaders", name := "move", desc := "(II)I" } : Jvm.MethodName)) ∈ lw_all := lw_g (lw_at lw_m4 120 rfl) rfl
theorem q917 : (Jvm.Cond.code ({ cls := "FishReaders", name := "move", desc := "(II)I" } : Jvm.MethodName) prog_1_method_31_code (4 : Nat) (Option.some Jvm.ClassFile.FieldType.int)) ∈ lw_all := lw_g (lw_at lw_m4 121 rfl) rfl
theorem q918 : (Jvm.Cond.methodLink "FishReaders" (231 : Nat) ({ cls := "FishReaders", name := "isFish", desc := "(I)Z" } : Jvm.MethodName)) ∈ lw_all := lw_g (lw_at lw_m4 122 rfl) rfl
theorem q919 : (Jvm.Cond.privateMethod ({ cls := "FishReaders", name := "isFish", desc := "(I)Z" } : Jvm.MethodName)) ∈ lw_tbl := lw_at lw_m4 123 rfl
theorem q920 : (Jvm.Cond.instanceMethod ({ cls := "FishReaders", name := "isFish", desc := "(I)Z" } : Jvm.MethodName)) ∈ lw_all := lw_g (lw_at lw_m4 124 rfl) rfl
theorem q921 : (Jvm.Cond.code ({ cls := "FishReaders", name := "isFish", desc := "(I)Z" } : Jvm.MethodName) prog_1_method_22_code (2 : Nat) (Option.some Jvm.ClassFile.FieldType.boolean)) ∈ lw_all := lw_g (lw_at lw_m4 125 rfl) rfl
theorem q922 : (Jvm.Cond.methodLink "FishReaders" (234 : Nat) ({ cls := "FishReaders$Library", name := "isCaught", desc := "(I)Z" } : Jvm.MethodName)) ∈ lw_all := lw_g (lw_at lw_m4 126 rfl) rfl
theorem q924 : (Jvm.Cond.instanceMethod ({ cls := "FishReaders", name := "catchIt", desc := "(I)I" } : Jvm.MethodName)) ∈ lw_all := lw_g (lw_at lw_m4 128 rfl) rfl
theorem q925 : (Jvm.Cond.selects "FishReaders" ({ cls := "FishReaders", name := "catchIt", desc := "(I)I" } : Jvm.MethodName) ({ cls := "FishReaders", name := "catchIt", desc := "(I)I" } : Jvm.MethodName)) ∈ lw_all := lw_g (lw_at lw_m4 129 rfl) rfl
theorem q926 : (Jvm.Cond.code ({ cls := "FishReaders", name := "catchIt", desc := "(I)I" } : Jvm.MethodName) prog_1_method_32_code (2 : Nat) (Option.some Jvm.ClassFile.FieldType.int)) ∈ lw_all := lw_g (lw_at lw_m4 130 rfl) rfl
theorem q928 : (Jvm.Cond.instanceMethod ({ cls := "FishReaders", name := "book", desc := "(II)I" } : Jvm.MethodName)) ∈ lw_all := lw_g (lw_at lw_m4 132 rfl) rfl
theorem q929 : (Jvm.Cond.selects "FishReaders" ({ cls := "FishReaders", name := "book", desc := "(II)I" } : Jvm.MethodName) ({ cls := "FishReaders", name := "book", desc := "(II)I" } : Jvm.MethodName)) ∈ lw_all := lw_g (lw_at lw_m4 133 rfl) rfl
theorem q930 : (Jvm.Cond.code ({ cls := "FishReaders", name := "book", desc := "(II)I" } : Jvm.MethodName) prog_1_method_34_code (3 : Nat) (Option.some Jvm.ClassFile.FieldType.int)) ∈ lw_all := lw_g (lw_at lw_m4 134 rfl) rfl
theorem q931 : (Jvm.Cond.methodLink "FishReaders" (249 : Nat) ({ cls := "FishReaders", name := "fishAt", desc := "(I)I" } : Jvm.MethodName)) ∈ lw_all := lw_g (lw_at lw_m4 135 rfl) rfl
theorem q932 : (Jvm.Cond.privateMethod ({ cls := "FishReaders", name := "fishAt", desc := "(I)I" } : Jvm.MethodName)) ∈ lw_tbl := lw_at lw_m4 136 rfl
theorem q933 : (Jvm.Cond.instanceMethod ({ cls := "FishReaders", name := "fishAt", desc := "(I)I" } : Jvm.MethodName)) ∈ lw_all := lw_g (lw_at lw_m4 137 rfl) rfl
theorem q934 : (Jvm.Cond.code ({ cls := "FishReaders", name := "fishAt", desc := "(I)I" } : Jvm.MethodName) prog_1_method_33_code (4 : Nat) (Option.some Jvm.ClassFile.FieldType.int)) ∈ lw_all := lw_g (lw_at lw_m4 138 rfl) rfl
theorem q936 : (Jvm.Cond.instanceMethod ({ cls := "FishReaders", name := "fish", desc := "(II)I" } : Jvm.MethodName)) ∈ lw_all := lw_g (lw_at lw_m4 140 rfl) rfl
theorem q937 : (Jvm.Cond.selects "FishReaders" ({ cls := "FishReaders", name := "fish", desc := "(II)I" } : Jvm.MethodName) ({ cls := "FishReaders", name := "fish", desc := "(II)I" } : Jvm.MethodName)) ∈ lw_all := lw_g (lw_at lw_m4 141 rfl) rfl
theorem q938 : (Jvm.Cond.code ({ cls := "FishReaders", name := "fish", desc := "(II)I" } : Jvm.MethodName) prog_1_method_35_code (4 : Nat) (Option.some Jvm.ClassFile.FieldType.int)) ∈ lw_all := lw_g (lw_at lw_m4 142 rfl) rfl
theorem q939 : (Jvm.Cond.constantLong "FishReaders" (252 : Nat) (3 : Int64)) ∈ lw_all := lw_g (lw_at lw_m4 143 rfl) rfl
theorem q940 : (Jvm.Cond.constant "FishReaders" (257 : Nat) (-1000000 : Int32)) ∈ lw_all := lw_g (lw_at lw_m4 144 rfl) rfl
theorem q941 : (Jvm.Cond.methodLink "FishReaders" (258 : Nat) ({ cls := "FishReaders$Library", name := "fish", desc := "(I)LFishReaders$Fish;" } : Jvm.MethodName)) ∈ lw_all := lw_g (lw_at lw_m4 145 rfl) rfl
theorem q942 : (Jvm.Cond.methodLink "FishReaders" (262 : Nat) ({ cls := "FishReaders$Fish", name := "taste", desc := "()I" } : Jvm.MethodName)) ∈ lw_all := lw_g (lw_at lw_m4 146 rfl) rfl
theorem q951 : (Jvm.Cond.methodLink "FishReaders" (265 : Nat) ({ cls := "FishReaders$Library", name := "liked", desc := "(II)I" } : Jvm.MethodName)) ∈ lw_all := lw_g (lw_at lw_m4 155 rfl) rfl
theorem q953 : (Jvm.Cond.instanceMethod ({ cls := "FishReaders", name := "stand", desc := "(I)I" } : Jvm.MethodName)) ∈ lw_all := lw_g (lw_at lw_m4 157 rfl) rfl
theorem q954 : (Jvm.Cond.selects "FishReaders" ({ cls := "FishReaders", name := "stand", desc := "(I)I" } : Jvm.MethodName) ({ cls := "FishReaders", name := "stand", desc := "(I)I" } : Jvm.MethodName)) ∈ lw_all := lw_g (lw_at lw_m4 158 rfl) rfl
theorem q955 : (Jvm.Cond.code ({ cls := "FishReaders", name := "stand", desc := "(I)I" } : Jvm.MethodName) prog_1_method_36_code (2 : Nat) (Option.some Jvm.ClassFile.FieldType.int)) ∈ lw_all := lw_g (lw_at lw_m4 159 rfl) rfl
theorem q957 : (Jvm.Cond.instanceMethod ({ cls := "FishReaders", name := "ahead", desc := "(III)I" } : Jvm.MethodName)) ∈ lw_all := lw_g (lw_at lw_m4 161 rfl) rfl
theorem q958 : (Jvm.Cond.selects "FishReaders" ({ cls := "FishReaders", name := "ahead", desc := "(III)I" } : Jvm.MethodName) ({ cls := "FishReaders", name := "ahead", desc := "(III)I" } : Jvm.MethodName)) ∈ lw_all := lw_g (lw_at lw_m4 162 rfl) rfl
theorem q959 : (Jvm.Cond.code ({ cls := "FishReaders", name := "ahead", desc := "(III)I" } : Jvm.MethodName) prog_1_method_39_code (4 : Nat) (Option.some Jvm.ClassFile.FieldType.int)) ∈ lw_all := lw_g (lw_at lw_m4 163 rfl) rfl
theorem q960 : (Jvm.Cond.methodLink "FishReaders" (272 : Nat) ({ cls := "FishReaders", name := "isFar", desc := "(I)Z" } : Jvm.MethodName)) ∈ lw_all := lw_g (lw_at lw_m4 164 rfl) rfl
theorem q961 : (Jvm.Cond.static ({ cls := "FishReaders", name := "isFar", desc := "(I)Z" } : Jvm.MethodName)) ∈ lw_all := lw_g (lw_at lw_m4 165 rfl) rfl
theorem q962 : (Jvm.Cond.code ({ cls := "FishReaders", name := "isFar", desc := "(I)Z" } : Jvm.MethodName) prog_1_method_24_code (1 : Nat) (Option.some Jvm.ClassFile.FieldType.boolean)) ∈ lw_all := lw_g (lw_at lw_m4 166 rfl) rfl
theorem q963 : (Jvm.Cond.constantLong "FishReaders" (180 : Nat) (60 : Int64)) ∈ lw_all := lw_g (lw_at lw_m4 167 rfl) rfl
theorem q964 : (Jvm.Cond.methodLink "FishReaders" (275 : Nat) ({ cls := "FishReaders", name := "tried", desc := "()LFishReaders$Library;" } : Jvm.MethodName)) ∈ lw_all := lw_g (lw_at lw_m4 168 rfl) rfl
theorem q965 : (Jvm.Cond.privateMethod ({ cls := "FishReaders", name := "tried", desc := "()LFishReaders$Library;" } : Jvm.MethodName)) ∈ lw_tbl := lw_at lw_m4 169 rfl
theorem q966 : (Jvm.Cond.instanceMethod ({ cls := "FishReaders", name := "tried", desc := "()LFishReaders$Library;" } : Jvm.MethodName)) ∈ lw_all := lw_g (lw_at lw_m4 170 rfl) rfl
theorem q967 : (Jvm.Cond.code ({ cls := "FishReaders", name := "tried", desc := "()LFishReaders$Library;" } : Jvm.MethodName) prog_1_method_37_code (1 : Nat) (Option.some (Jvm.ClassFile.FieldType.object "FishReaders$Library"))) ∈ lw_all := lw_g (lw_at lw_m4 171 rfl) rfl
theorem q968 : (Jvm.Cond.methodLink "FishReaders" (278 : Nat) ({ cls := "FishReaders", name := "goOn", desc := "(I)LFishReaders$Library;" } : Jvm.MethodName)) ∈ lw_all := lw_g (lw_at lw_m4 172 rfl) rfl
theorem q969 : (Jvm.Cond.privateMethod ({ cls := "FishReaders", name := "goOn", desc := "(I)LFishReaders$Library;" } : Jvm.MethodName)) ∈ lw_tbl := lw_at lw_m4 173 rfl
theorem q970 : (Jvm.Cond.instanceMethod ({ cls := "FishReaders", name := "goOn", desc := "(I)LFishReaders$Library;" } : Jvm.MethodName)) ∈ lw_all := lw_g (lw_at lw_m4 174 rfl) rfl
theorem q971 : (Jvm.Cond.code ({ cls := "FishReaders", name := "goOn", desc := "(I)LFishReaders$Library;" } : Jvm.MethodName) prog_1_method_38_code (3 : Nat) (Option.some (Jvm.ClassFile.FieldType.object "FishReaders$Library"))) ∈ lw_all := lw_g (lw_at lw_m4 175 rfl) rfl
theorem q973 : (Jvm.Cond.instanceMethod ({ cls := "FishReaders", name := "later", desc := "(III)I" } : Jvm.MethodName)) ∈ lw_all := lw_g (lw_at lw_m4 177 rfl) rfl
theorem q974 : (Jvm.Cond.selects "FishReaders" ({ cls := "FishReaders", name := "later", desc := "(III)I" } : Jvm.MethodName) ({ cls := "FishReaders", name := "later", desc := "(III)I" } : Jvm.MethodName)) ∈ lw_all := lw_g (lw_at lw_m4 178 rfl) rfl
theorem q975 : (Jvm.Cond.code ({ cls := "FishReaders", name := "later", desc := "(III)I" } : Jvm.MethodName) prog_1_method_40_code (4 : Nat) (Option.some Jvm.ClassFile.FieldType.int)) ∈ lw_all := lw_g (lw_at lw_m4 179 rfl) rfl
theorem q977 : (Jvm.Cond.instanceMethod ({ cls := "FishReaders", name := "when", desc := "(I)I" } : Jvm.MethodName)) ∈ lw_all := lw_g (lw_at lw_m4 181 rfl) rfl
theorem q978 : (Jvm.Cond.selects "FishReaders" ({ cls := "FishReaders", name := "when", desc := "(I)I" } : Jvm.MethodName) ({ cls := "FishReaders", name := "when", desc := "(I)I" } : Jvm.MethodName)) ∈ lw_all := lw_g (lw_at lw_m4 182 rfl) rfl
theorem q979 : (Jvm.Cond.code ({ cls := "FishReaders", name := "when", desc := "(I)I" } : Jvm.MethodName) prog_1_method_41_code (3 : Nat) (Option.some Jvm.ClassFile.FieldType.int)) ∈ lw_all := lw_g (lw_at lw_m4 183 rfl) rfl
theorem q981 : (Jvm.Cond.instanceMethod ({ cls := "FishReaders", name := "first", desc := "(I)I" } : Jvm.MethodName)) ∈ lw_all := lw_g (lw_at lw_m4 185 rfl) rfl
theorem q982 : (Jvm.Cond.selects "FishReaders" ({ cls := "FishReaders", name := "first", desc := "(I)I" } : Jvm.MethodName) ({ cls := "FishReaders", name := "first", desc := "(I)I" } : Jvm.MethodName)) ∈ lw_all := lw_g (lw_at lw_m4 186 rfl) rfl
theorem q983 : (Jvm.Cond.code ({ cls := "FishReaders", name := "first", desc := "(I)I" } : Jvm.MethodName) prog_1_method_42_code (4 : Nat) (Option.some Jvm.ClassFile.FieldType.int)) ∈ lw_all := lw_g (lw_at lw_m4 187 rfl) rfl
theorem q984 : (Jvm.Cond.methodLink "FishReaders" (282 : Nat) ({ cls := "FishReaders$Library", name := "gone", desc := "()I" } : Jvm.MethodName)) ∈ lw_all := lw_g (lw_at lw_m4 188 rfl) rfl
theorem q988 : (Jvm.Cond.methodLink "FishReaders" (285 : Nat) ({ cls := "java/lang/Integer", name := "numberOfTrailingZeros", desc := "(I)I" } : Jvm.MethodName)) ∈ lw_all := lw_g (lw_at lw_m4 192 rfl) rfl
theorem q993 : (Jvm.Cond.instanceMethod ({ cls := "FishReaders", name := "hole", desc := "(II)I" } : Jvm.MethodName)) ∈ lw_all := lw_g (lw_at lw_m4 197 rfl) rfl
theorem q994 : (Jvm.Cond.selects "FishReaders" ({ cls := "FishReaders", name := "hole", desc := "(II)I" } : Jvm.MethodName) ({ cls := "FishReaders", name := "hole", desc := "(II)I" } : Jvm.MethodName)) ∈ lw_all := lw_g (lw_at lw_m4 198 rfl) rfl
theorem q995 : (Jvm.Cond.code ({ cls := "FishReaders", name := "hole", desc := "(II)I" } : Jvm.MethodName) prog_1_method_43_code (6 : Nat) (Option.some Jvm.ClassFile.FieldType.int)) ∈ lw_all := lw_g (lw_at lw_m4 199 rfl) rfl
theorem q997 : (Jvm.Cond.instanceMethod ({ cls := "FishReaders", name := "order", desc := "(III)I" } : Jvm.MethodName)) ∈ lw_all := lw_g (lw_at lw_m4 201 rfl) rfl
theorem q998 : (Jvm.Cond.selects "FishReaders" ({ cls := "FishReaders", name := "order", desc := "(III)I" } : Jvm.MethodName) ({ cls := "FishReaders", name := "order", desc := "(III)I" } : Jvm.MethodName)) ∈ lw_all := lw_g (lw_at lw_m4 202 rfl) rfl
theorem q999 : (Jvm.Cond.code ({ cls := "FishReaders", name := "order", desc := "(III)I" } : Jvm.MethodName) prog_1_method_46_code (4 : Nat) (Option.some Jvm.ClassFile.FieldType.int)) ∈ lw_all := lw_g (lw_at lw_m4 203 rfl) rfl
theorem q1000 : (Jvm.Cond.methodLink "FishReaders" (302 : Nat) ({ cls := "FishReaders", name := "isShort", desc := "(I)Z" } : Jvm.MethodName)) ∈ lw_all := lw_g (lw_at lw_m4 204 rfl) rfl
theorem q1001 : (Jvm.Cond.static ({ cls := "FishReaders", name := "isShort", desc := "(I)Z" } : Jvm.MethodName)) ∈ lw_all := lw_g (lw_at lw_m4 205 rfl) rfl
theorem q1002 : (Jvm.Cond.code ({ cls := "FishReaders", name := "isShort", desc := "(I)Z" } : Jvm.MethodName) prog_1_method_26_code (1 : Nat) (Option.some Jvm.ClassFile.FieldType.boolean)) ∈ lw_all := lw_g (lw_at lw_m4 206 rfl) rfl
theorem q1003 : (Jvm.Cond.constantLong "FishReaders" (182 : Nat) (12 : Int64)) ∈ lw_all := lw_g (lw_at lw_m4 207 rfl) rfl
theorem q1004 : (Jvm.Cond.constantLong "FishReaders" (305 : Nat) (-1 : Int64)) ∈ lw_all := lw_g (lw_at lw_m4 208 rfl) rfl
theorem q1005 : (Jvm.Cond.methodLink "FishReaders" (298 : Nat) ({ cls := "FishReaders", name := "orderFrom", desc := "(IIII)V" } : Jvm.MethodName)) ∈ lw_all := lw_g (lw_at lw_m4 209 rfl) rfl
theorem q1006 : (Jvm.Cond.privateMethod ({ cls := "FishReaders", name := "orderFrom", desc := "(IIII)V" } : Jvm.MethodName)) ∈ lw_tbl := lw_at lw_m4 210 rfl
theorem q1007 : (Jvm.Cond.instanceMethod ({ cls := "FishReaders", name := "orderFrom", desc := "(IIII)V" } : Jvm.MethodName)) ∈ lw_all := lw_g (lw_at lw_m4 211 rfl) rfl
theorem q1008 : (Jvm.Cond.code ({ cls := "FishReaders", name := "orderFrom", desc := "(IIII)V" } : Jvm.MethodName) prog_1_method_45_code (6 : Nat) (Option.none : Option Jvm.ClassFile.FieldType)) ∈ lw_all := lw_g (lw_at lw_m4 212 rfl) rfl
theorem q1009 : (Jvm.Cond.methodLink "FishReaders" (291 : Nat) ({ cls := "FishReaders", name := "look", desc := "(II)V" } : Jvm.MethodName)) ∈ lw_all := lw_g (lw_at lw_m4 213 rfl) rfl
theorem q1010 : (Jvm.Cond.privateMethod ({ cls := "FishReaders", name := "look", desc := "(II)V" } : Jvm.MethodName)) ∈ lw_tbl := lw_at lw_m4 214 rfl
theorem q1011 : (Jvm.Cond.instanceMethod ({ cls := "FishReaders", name := "look", desc := "(II)V" } : Jvm.MethodName)) ∈ lw_all := lw_g (lw_at lw_m4 215 rfl) rfl
theorem q1012 : (Jvm.Cond.code ({ cls := "FishReaders", name := "look", desc := "(II)V" } : Jvm.MethodName) prog_1_method_44_code (4 : Nat) (Option.none : Option Jvm.ClassFile.FieldType)) ∈ lw_all := lw_g (lw_at lw_m4 216 rfl) rfl
theorem q1013 : (Jvm.Cond.methodLink "FishReaders" (294 : Nat) ({ cls := "FishReaders", name := "has", desc := "(II)Z" } : Jvm.MethodName)) ∈ lw_all := lw_g (lw_at lw_m4 217 rfl) rfl
theorem q1014 : (Jvm.Cond.static ({ cls := "FishReaders", name := "has", desc := "(II)Z" } : Jvm.MethodName)) ∈ lw_all := lw_g (lw_at lw_m4 218 rfl) rfl
theorem q1015 : (Jvm.Cond.code ({ cls := "FishReaders", name := "has", desc := "(II)Z" } : Jvm.MethodName) prog_1_method_2_code (2 : Nat) (Option.some Jvm.ClassFile.FieldType.boolean)) ∈ lw_all := lw_g (lw_at lw_m4 219 rfl) rfl
theorem q1017 : (Jvm.Cond.instanceMethod ({ cls := "FishReaders", name := "lamp", desc := "(III)I" } : Jvm.MethodName)) ∈ lw_all := lw_g (lw_at lw_m4 221 rfl) rfl
theorem q1018 : (Jvm.Cond.selects "FishReaders" ({ cls := "FishReaders", name := "lamp", desc := "(III)I" } : Jvm.MethodName) ({ cls := "FishReaders", name := "lamp", desc := "(III)I" } : Jvm.MethodName)) ∈ lw_all := lw_g (lw_at lw_m4 222 rfl) rfl
theorem q1019 : (Jvm.Cond.code ({ cls := "FishReaders", name := "lamp", desc := "(III)I" } : Jvm.MethodName) prog_1_method_47_code (8 : Nat) (Option.some Jvm.ClassFile.FieldType.int)) ∈ lw_all := lw_g (lw_at lw_m4 223 rfl) rfl
theorem q1020 : (Jvm.Cond.methodLink "FishReaders" (307 : Nat) ({ cls := "FishReaders", name := "isLong", desc := "(I)Z" } : Jvm.MethodName)) ∈ lw_all := lw_g (lw_at lw_m4 224 rfl) rfl
theorem q1021 : (Jvm.Cond.static ({ cls := "FishReaders", name := "isLong", desc := "(I)Z" } : Jvm.MethodName)) ∈ lw_all := lw_g (lw_at lw_m4 225 rfl) rfl
theorem q1022 : (Jvm.Cond.code ({ cls := "FishReaders", name := "isLong", desc := "(I)Z" } : Jvm.MethodName) prog_1_method_25_code (1 : Nat) (Option.some Jvm.ClassFile.FieldType.boolean)) ∈ lw_all := lw_g (lw_at lw_m4 226 rfl) rfl
theorem q1024 : (Jvm.Cond.instanceMethod ({ cls := "FishReaders", name := "caught", desc := "(III)I" } : Jvm.MethodName)) ∈ lw_all := lw_g (lw_at lw_m4 228 rfl) rfl
theorem q1025 : (Jvm.Cond.selects "FishReaders" ({ cls := "FishReaders", name := "caught", desc := "(III)I" } : Jvm.MethodName) ({ cls := "FishReaders", name := "caught", desc := "(III)I" } : Jvm.MethodName)) ∈ lw_all := lw_g (lw_at lw_m4 229 rfl) rfl
theorem q1026 : (Jvm.Cond.code ({ cls := "FishReaders", name := "caught", desc := "(III)I" } : Jvm.MethodName) prog_1_method_48_code (6 : Nat) (Option.some Jvm.ClassFile.FieldType.int)) ∈ lw_all := lw_g (lw_at lw_m4 230 rfl) rfl
theorem q1028 : (Jvm.Cond.instanceMethod ({ cls := "FishReaders", name := "grams", desc := "(II)I" } : Jvm.MethodName)) ∈ lw_all := lw_g (lw_at lw_m4 232 rfl) rfl
theorem q1029 : (Jvm.Cond.selects "FishReaders" ({ cls := "FishReaders", name := "grams", desc := "(II)I" } : Jvm.MethodName) ({ cls := "FishReaders", name := "grams", desc := "(II)I" } : Jvm.MethodName)) ∈ lw_all := lw_g (lw_at lw_m4 233 rfl) rfl
theorem q1030 : (Jvm.Cond.code ({ cls := "FishReaders", name := "grams", desc := "(II)I" } : Jvm.MethodName) prog_1_method_50_code (7 : Nat) (Option.some Jvm.ClassFile.FieldType.int)) ∈ lw_all := lw_g (lw_at lw_m4 234 rfl) rfl
theorem q1031 : (Jvm.Cond.constantLong "FishReaders" (310 : Nat) (999 : Int64)) ∈ lw_all := lw_g (lw_at lw_m4 235 rfl) rfl
theorem q1032 : (Jvm.Cond.methodLink "FishReaders" (312 : Nat) ({ cls := "FishReaders", name := "claim", desc := "(I)I" } : Jvm.MethodName)) ∈ lw_all := lw_g (lw_at lw_m4 236 rfl) rfl
theorem q1033 : (Jvm.Cond.privateMethod ({ cls := "FishReaders", name := "claim", desc := "(I)I" } : Jvm.MethodName)) ∈ lw_tbl := lw_at lw_m4 237 rfl
theorem q1034 : (Jvm.Cond.instanceMethod ({ cls := "FishReaders", name := "claim", desc := "(I)I" } : Jvm.MethodName)) ∈ lw_all := lw_g (lw_at lw_m4 238 rfl) rfl
theorem q1035 : (Jvm.Cond.code ({ cls := "FishReaders", name := "claim", desc := "(I)I" } : Jvm.MethodName) prog_1_method_49_code (2 : Nat) (Option.some Jvm.ClassFile.FieldType.int)) ∈ lw_all := lw_g (lw_at lw_m4 239 rfl) rfl
theorem q1037 : (Jvm.Cond.instanceMethod ({ cls := "FishReaders", name := "who", desc := "(IIIIII)I" } : Jvm.MethodName)) ∈ lw_all := lw_g (lw_at lw_m5 1 rfl) rfl
theorem q1038 : (Jvm.Cond.selects "FishReaders" ({ cls := "FishReaders", name := "who", desc := "(IIIIII)I" } : Jvm.MethodName) ({ cls := "FishReaders", name := "who", desc := "(IIIIII)I" } : Jvm.MethodName)) ∈ lw_all := lw_g (lw_at lw_m5 2 rfl) rfl
theorem q1039 : (Jvm.Cond.codeWith ({ cls := "FishReaders", name := "who", desc := "(IIIIII)I" } : Jvm.MethodName) prog_1_method_53_code (10 : Nat) (Option.some Jvm.ClassFile.FieldType.int) [((56 : Nat), (148 : Nat), (149 : Nat), (74 : Nat))]) ∈ lw_all := lw_g (lw_at lw_m5 3 rfl) rfl
theorem q1040 : (Jvm.Cond.methodLink "FishReaders" (322 : Nat) ({ cls := "FishReaders$Row", name := "row", desc := "(II)[I" } : Jvm.MethodName)) ∈ lw_all := lw_g (lw_at lw_m5 4 rfl) rfl
theorem q1046 : (Jvm.Cond.methodLink "FishReaders" (326 : Nat) ({ cls := "FishReaders", name := "alters", desc := "(III)V" } : Jvm.MethodName)) ∈ lw_all := lw_g (lw_at lw_m5 10 rfl) rfl
theorem q1047 : (Jvm.Cond.privateMethod ({ cls := "FishReaders", name := "alters", desc := "(III)V" } : Jvm.MethodName)) ∈ lw_tbl := lw_at lw_m5 11 rfl
theorem q1048 : (Jvm.Cond.instanceMethod ({ cls := "FishReaders", name := "alters", desc := "(III)V" } : Jvm.MethodName)) ∈ lw_all := lw_g (lw_at lw_m5 12 rfl) rfl
theorem q1049 : (Jvm.Cond.code ({ cls := "FishReaders", name := "alters", desc := "(III)V" } : Jvm.MethodName) prog_1_method_52_code (4 : Nat) (Option.none : Option Jvm.ClassFile.FieldType)) ∈ lw_all := lw_g (lw_at lw_m5 13 rfl) rfl
theorem q1050 : (Jvm.Cond.methodLink "FishReaders" (330 : Nat) ({ cls := "FishReaders", name := "isSeen", desc := "(I[I)Z" } : Jvm.MethodName)) ∈ lw_all := lw_g (lw_at lw_m5 14 rfl) rfl
theorem q1051 : (Jvm.Cond.privateMethod ({ cls := "FishReaders", name := "isSeen", desc := "(I[I)Z" } : Jvm.MethodName)) ∈ lw_tbl := lw_at lw_m5 15 rfl
theorem q1052 : (Jvm.Cond.instanceMethod ({ cls := "FishReaders", name := "isSeen", desc := "(I[I)Z" } : Jvm.MethodName)) ∈ lw_all := lw_g (lw_at lw_m5 16 rfl) rfl
theorem q1053 : (Jvm.Cond.code ({ cls := "FishReaders", name := "isSeen", desc := "(I[I)Z" } : Jvm.MethodName) prog_1_method_51_code (5 : Nat) (Option.some Jvm.ClassFile.FieldType.boolean)) ∈ lw_all := lw_g (lw_at lw_m5 17 rfl) rfl
theorem q1055 : (Jvm.Cond.instanceMethod ({ cls := "FishReaders", name := "paste", desc := "(IIIII)I" } : Jvm.MethodName)) ∈ lw_all := lw_g (lw_at lw_m5 19 rfl) rfl
theorem q1056 : (Jvm.Cond.selects "FishReaders" ({ cls := "FishReaders", name := "paste", desc := "(IIIII)I" } : Jvm.MethodName) ({ cls := "FishReaders", name := "paste", desc := "(IIIII)I" } : Jvm.MethodName)) ∈ lw_all := lw_g (lw_at lw_m5 20 rfl) rfl
theorem q1057 : (Jvm.Cond.codeWith ({ cls := "FishReaders", name := "paste", desc := "(IIIII)I" } : Jvm.MethodName) prog_1_method_54_code (9 : Nat) (Option.some Jvm.ClassFile.FieldType.int) [((34 : Nat), (107 : Nat), (108 : Nat), (74 : Nat))]) ∈ lw_all := lw_g (lw_at lw_m5 21 rfl) rfl
theorem q1059 : (Jvm.Cond.instanceMethod ({ cls := "FishReaders", name := "hungers", desc := "(IIII)I" } : Jvm.MethodName)) ∈ lw_all := lw_g (lw_at lw_m5 23 rfl) rfl
theorem q1060 : (Jvm.Cond.selects "FishReaders" ({ cls := "FishReaders", name := "hungers", desc := "(IIII)I" } : Jvm.MethodName) ({ cls := "FishReaders", name := "hungers", desc := "(IIII)I" } : Jvm.MethodName)) ∈ lw_all := lw_g (lw_at lw_m5 24 rfl) rfl
theorem q1061 : (Jvm.Cond.codeWith ({ cls := "FishReaders", name := "hungers", desc := "(IIII)I" } : Jvm.MethodName) prog_1_method_55_code (8 : Nat) (Option.some Jvm.ClassFile.FieldType.int) [((26 : Nat), (96 : Nat), (97 : Nat), (74 : Nat))]) ∈ lw_all := lw_g (lw_at lw_m5 25 rfl) rfl
theorem q1063 : (Jvm.Cond.instanceMethod ({ cls := "FishReaders", name := "dark", desc := "(IIII)J" } : Jvm.MethodName)) ∈ lw_all := lw_g (lw_at lw_m5 27 rfl) rfl
theorem q1064 : (Jvm.Cond.selects "FishReaders" ({ cls := "FishReaders", name := "dark", desc := "(IIII)J" } : Jvm.MethodName) ({ cls := "FishReaders", name := "dark", desc := "(IIII)J" } : Jvm.MethodName)) ∈ lw_all := lw_g (lw_at lw_m5 28 rfl) rfl
theorem q1065 : (Jvm.Cond.code ({ cls := "FishReaders", name := "dark", desc := "(IIII)J" } : Jvm.MethodName) prog_1_method_57_code (14 : Nat) (Option.some Jvm.ClassFile.FieldType.long)) ∈ lw_all := lw_g (lw_at lw_m5 29 rfl) rfl
theorem q1066 : (Jvm.Cond.constantLong "FishReaders" (334 : Nat) (10 : Int64)) ∈ lw_all := lw_g (lw_at lw_m5 30 rfl) rfl
theorem q1067 : (Jvm.Cond.constantLong "FishReaders" (336 : Nat) (-1000001 : Int64)) ∈ lw_all := lw_g (lw_at lw_m5 31 rfl) rfl
theorem q1068 : (Jvm.Cond.methodLink "FishReaders" (338 : Nat) ({ cls := "FishReaders", name := "common", desc := "(JJ)J" } : Jvm.MethodName)) ∈ lw_all := lw_g (lw_at lw_m5 32 rfl) rfl
theorem q1069 : (Jvm.Cond.static ({ cls := "FishReaders", name := "common", desc := "(JJ)J" } : Jvm.MethodName)) ∈ lw_all := lw_g (lw_at lw_m5 33 rfl) rfl
theorem q1070 : (Jvm.Cond.code ({ cls := "FishReaders", name := "common", desc := "(JJ)J" } : Jvm.MethodName) prog_1_method_56_code (10 : Nat) (Option.some Jvm.ClassFile.FieldType.long)) ∈ lw_all := lw_g (lw_at lw_m5 34 rfl) rfl
theorem q1072 : (Jvm.Cond.instanceMethod ({ cls := "FishReaders", name := "drawn", desc := "(III)I" } : Jvm.MethodName)) ∈ lw_all := lw_g (lw_at lw_m5 36 rfl) rfl
theorem q1073 : (Jvm.Cond.selects "FishReaders" ({ cls := "FishReaders", name := "drawn", desc := "(III)I" } : Jvm.MethodName) ({ cls := "FishReaders", name := "drawn", desc := "(III)I" } : Jvm.MethodName)) ∈ lw_all := lw_g (lw_at lw_m5 37 rfl) rfl
theorem q1074 : (Jvm.Cond.code ({ cls := "FishReaders", name := "drawn", desc := "(III)I" } : Jvm.MethodName) prog_1_method_58_code (8 : Nat) (Option.some Jvm.ClassFile.FieldType.int)) ∈ lw_all := lw_g (lw_at lw_m5 38 rfl) rfl
theorem q1075 : (Jvm.Cond.constantLong "FishReaders" (342 : Nat) (999999 : Int64)) ∈ lw_all := lw_g (lw_at lw_m5 39 rfl) rfl
theorem q1076 : (Jvm.Cond.constantLong "FishReaders" (344 : Nat) (16807 : Int64)) ∈ lw_all := lw_g (lw_at lw_m5 40 rfl) rfl
theorem q1077 : (Jvm.Cond.constantLong "FishReaders" (346 : Nat) (2147483647 : Int64)) ∈ lw_all := lw_g (lw_at lw_m5 41 rfl) rfl
theorem q1078 : (Jvm.Cond.methodLink "FishReaders" (348 : Nat) ({ cls := "FishReaders$Library", name := "isLit", desc := "(I)Z" } : Jvm.MethodName)) ∈ lw_all := lw_g (lw_at lw_m5 42 rfl) rfl
theorem q1079 : (Jvm.Cond.constantLong "FishReaders" (351 : Nat) (5 : Int64)) ∈ lw_all := lw_g (lw_at lw_m5 43 rfl) rfl
theorem q1081 : (Jvm.Cond.instanceMethod ({ cls := "FishReaders", name := "image", desc := "(I)I" } : Jvm.MethodName)) ∈ lw_all := lw_g (lw_at lw_m5 45 rfl) rfl
theorem q1082 : (Jvm.Cond.selects "FishReaders" ({ cls := "FishReaders", name := "image", desc := "(I)I" } : Jvm.MethodName) ({ cls := "FishReaders", name := "image", desc := "(I)I" } : Jvm.MethodName)) ∈ lw_all := lw_g (lw_at lw_m5 46 rfl) rfl
theorem q1083 : (Jvm.Cond.code ({ cls := "FishReaders", name := "image", desc := "(I)I" } : Jvm.MethodName) prog_1_method_59_code (2 : Nat) (Option.some Jvm.ClassFile.FieldType.int)) ∈ lw_all := lw_g (lw_at lw_m5 47 rfl) rfl
theorem q1085 : (Jvm.Cond.instanceMethod ({ cls := "FishReaders", name := "restore", desc := "(I)I" } : Jvm.MethodName)) ∈ lw_all := lw_g (lw_at lw_m5 49 rfl) rfl
theorem q1086 : (Jvm.Cond.selects "FishReaders" ({ cls := "FishReaders", name := "restore", desc := "(I)I" } : Jvm.MethodName) ({ cls := "FishReaders", name := "restore", desc := "(I)I" } : Jvm.MethodName)) ∈ lw_all := lw_g (lw_at lw_m5 50 rfl) rfl
theorem q1087 : (Jvm.Cond.code ({ cls := "FishReaders", name := "restore", desc := "(I)I" } : Jvm.MethodName) prog_1_method_60_code (2 : Nat) (Option.some Jvm.ClassFile.FieldType.int)) ∈ lw_all := lw_g (lw_at lw_m5 51 rfl) rfl
theorem q1089 : (Jvm.Cond.instanceMethod ({ cls := "FishReaders", name := "kind", desc := "(I)I" } : Jvm.MethodName)) ∈ lw_all := lw_g (lw_at lw_m5 53 rfl) rfl
theorem q1090 : (Jvm.Cond.selects "FishReaders" ({ cls := "FishReaders", name := "kind", desc := "(I)I" } : Jvm.MethodName) ({ cls := "FishReaders", name := "kind", desc := "(I)I" } : Jvm.MethodName)) ∈ lw_all := lw_g (lw_at lw_m5 54 rfl) rfl
theorem q1091 : (Jvm.Cond.code ({ cls := "FishReaders", name := "kind", desc := "(I)I" } : Jvm.MethodName) prog_1_method_61_code (2 : Nat) (Option.some Jvm.ClassFile.FieldType.int)) ∈ lw_all := lw_g (lw_at lw_m5 55 rfl) rfl
theorem q1092 : (Jvm.Cond.interfaceEntry "FishReaders" (357 : Nat)) ∈ lw_tbl := lw_at lw_m5 56 rfl
theorem q1093 : (Jvm.Cond.methodLink "FishReaders" (357 : Nat) ({ cls := "java/util/List", name := "get", desc := "(I)Ljava/lang/Object;" } : Jvm.MethodName)) ∈ lw_all := lw_g (lw_at lw_m5 57 rfl) rfl
theorem q1094 : (Jvm.Cond.methodLink "FishReaders" (363 : Nat) ({ cls := "FishReaders$Fish", name := "kind", desc := "()I" } : Jvm.MethodName)) ∈ lw_all := lw_g (lw_at lw_m5 58 rfl) rfl
theorem q1113 : (Jvm.Cond.instanceMethod ({ cls := "FishReaders", name := "as", desc := "(II)I" } : Jvm.MethodName)) ∈ lw_all := lw_g (lw_at lw_m5 77 rfl) rfl
theorem q1114 : (Jvm.Cond.selects "FishReaders" ({ cls := "FishReaders", name := "as", desc := "(II)I" } : Jvm.MethodName) ({ cls := "FishReaders", name := "as", desc := "(II)I" } : Jvm.MethodName)) ∈ lw_all := lw_g (lw_at lw_m5 78 rfl) rfl
theorem q1115 : (Jvm.Cond.codeWith ({ cls := "FishReaders", name := "as", desc := "(II)I" } : Jvm.MethodName) prog_1_method_62_code (5 : Nat) (Option.some Jvm.ClassFile.FieldType.int) [((40 : Nat), (111 : Nat), (112 : Nat), (367 : Nat)), ((23 : Nat), (111 : Nat), (123 : Nat), (74 : Nat)), ((112 : Nat), (123 : Nat), (123 : Nat), (74 : Nat))]) ∈ lw_all := lw_g (lw_at lw_m5 79 rfl) rfl
theorem q1116 : (Jvm.Cond.classLink "FishReaders" (367 : Nat) "java/lang/ClassCastException") ∈ lw_all := lw_g (lw_at lw_m5 80 rfl) rfl
theorem q1130 : (Jvm.Cond.methodLink "FishReaders" (365 : Nat) ({ cls := "FishReaders$Fish", name := "number", desc := "()I" } : Jvm.MethodName)) ∈ lw_all := lw_g (lw_at lw_m5 94 rfl) rfl
theorem q1140 : (Jvm.Cond.instanceMethod ({ cls := "FishReaders", name := "ask", desc := "(II)I" } : Jvm.MethodName)) ∈ lw_all := lw_g (lw_at lw_m5 104 rfl) rfl
theorem q1141 : (Jvm.Cond.selects "FishReaders" ({ cls := "FishReaders", name := "ask", desc := "(II)I" } : Jvm.MethodName) ({ cls := "FishReaders", name := "ask", desc := "(II)I" } : Jvm.MethodName)) ∈ lw_all := lw_g (lw_at lw_m5 105 rfl) rfl
theorem q1142 : (Jvm.Cond.code ({ cls := "FishReaders", name := "ask", desc := "(II)I" } : Jvm.MethodName) prog_1_method_63_code (4 : Nat) (Option.some Jvm.ClassFile.FieldType.int)) ∈ lw_all := lw_g (lw_at lw_m5 106 rfl) rfl
theorem q1143 : (Jvm.Cond.methodLink "FishReaders" (369 : Nat) ({ cls := "FishReaders$Fish", name := "size", desc := "(LFishReaders$Trail;LFishReaders$Library;)I" } : Jvm.MethodName)) ∈ lw_all := lw_g (lw_at lw_m5 107 rfl) rfl
theorem q1226 : (Jvm.Cond.instanceMethod ({ cls := "FishReaders", name := "trace", desc := "(I)I" } : Jvm.MethodName)) ∈ lw_all := lw_g (lw_at lw_m5 190 rfl) rfl
theorem q1227 : (Jvm.Cond.selects "FishReaders" ({ cls := "FishReaders", name := "trace", desc := "(I)I" } : Jvm.MethodName) ({ cls := "FishReaders", name := "trace", desc := "(I)I" } : Jvm.MethodName)) ∈ lw_all := lw_g (lw_at lw_m5 191 rfl) rfl
theorem q1228 : (Jvm.Cond.code ({ cls := "FishReaders", name := "trace", desc := "(I)I" } : Jvm.MethodName) prog_1_method_64_code (2 : Nat) (Option.some Jvm.ClassFile.FieldType.int)) ∈ lw_all := lw_g (lw_at lw_m5 192 rfl) rfl
theorem q1230 : (Jvm.Cond.instanceMethod ({ cls := "FishReaders", name := "count", desc := "(I)I" } : Jvm.MethodName)) ∈ lw_all := lw_g (lw_at lw_m5 194 rfl) rfl
theorem q1231 : (Jvm.Cond.selects "FishReaders" ({ cls := "FishReaders", name := "count", desc := "(I)I" } : Jvm.MethodName) ({ cls := "FishReaders", name := "count", desc := "(I)I" } : Jvm.MethodName)) ∈ lw_all := lw_g (lw_at lw_m5 195 rfl) rfl
theorem q1232 : (Jvm.Cond.code ({ cls := "FishReaders", name := "count", desc := "(I)I" } : Jvm.MethodName) prog_1_method_65_code (4 : Nat) (Option.some Jvm.ClassFile.FieldType.int)) ∈ lw_all := lw_g (lw_at lw_m5 196 rfl) rfl
theorem q1233 : (Jvm.Cond.methodLink "FishReaders" (381 : Nat) ({ cls := "FishReaders$Library", name := "dusts", desc := "()I" } : Jvm.MethodName)) ∈ lw_all := lw_g (lw_at lw_m5 197 rfl) rfl
theorem q1238 : (Jvm.Cond.instanceMethod ({ cls := "FishReaders", name := "status", desc := "()I" } : Jvm.MethodName)) ∈ lw_all := lw_g (lw_at lw_m5 202 rfl) rfl
theorem q1239 : (Jvm.Cond.selects "FishReaders" ({ cls := "FishReaders", name := "status", desc := "()I" } : Jvm.MethodName) ({ cls := "FishReaders", name := "status", desc := "()I" } : Jvm.MethodName)) ∈ lw_all := lw_g (lw_at lw_m5 203 rfl) rfl
theorem q1240 : (Jvm.Cond.code ({ cls := "FishReaders", name := "status", desc := "()I" } : Jvm.MethodName) prog_1_method_66_code (1 : Nat) (Option.some Jvm.ClassFile.FieldType.int)) ∈ lw_all := lw_g (lw_at lw_m5 204 rfl) rfl
theorem q1726 : (Jvm.Cond.castable "FishReaders" "java/lang/Object") ∈ lw_tbl := lw_at lw_m7 210 rfl
theorem in_X0 : ∀ w ∈ wsX00, w ∈ lw_all := lw_in wsX00 [311, 313, 315, 317, 319, 321, 323, 325, 327, 329, 331, 333, 335, 337, 339] (by decide +kernel) (by decide +kernel)
