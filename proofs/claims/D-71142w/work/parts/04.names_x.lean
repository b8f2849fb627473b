/-! FishReaders$Library -/
set_option maxRecDepth 100000
def RX1 : String := "FishReaders$Library"
def TX1 : u_T := fun k => match k with
  | 0 => ("FishReaders$Library", "hunger", "I", false)
  | 1 => ("FishReaders$Library", "lamps", "I", false)
  | 2 => ("FishReaders$Library", "books", "I", false)
  | 3 => ("FishReaders$Library", "pages", "[I", true)
  | 4 => ("FishReaders$Library", "paste", "[I", true)
  | 5 => ("FishReaders$Library", "in", "[I", true)
  | 6 => ("FishReaders$Library", "place", "[I", true)
  | 7 => ("FishReaders$Library", "lit", "I", false)
  | 8 => ("FishReaders$Library", "kept", "I", false)
  | 9 => ("FishReaders$Library", "fishes", "Ljava/util/List;", false)
  | 10 => ("FishReaders$Library", "at", "[I", true)
  | 11 => ("FishReaders$Library", "dust", "[I", true)
  | 12 => ("FishReaders$Library", "caught", "I", false)
  | 13 => ("FishReaders$Library", "night", "I", false)
  | 14 => ("FishReaders$Library", "takenFor", "I", false)
  | _ => ("FishReaders$Library", "taken", "LFishReaders$Fish;", false)
def tyX1 : Nat → FieldType := fun k => match k with
  | 0 => .int
  | 1 => .int
  | 2 => .int
  | 3 => .array .int
  | 4 => .array .int
  | 5 => .array .int
  | 6 => .array .int
  | 7 => .int
  | 8 => .int
  | 9 => .object "java/util/List"
  | 10 => .array .int
  | 11 => .array .int
  | 12 => .int
  | 13 => .int
  | 14 => .int
  | _ => .object "FishReaders$Fish"
abbrev wsX10 : List Cond := u_ws RX1 TX1 16
set_option maxRecDepth 100000 in
theorem nmX1 : ∀ a, a < 16 → ∀ b, b < 16 → a ≠ b → (TX1 a).2.1 ≠ (TX1 b).2.1 := by decide +kernel
set_option maxRecDepth 100000 in
theorem tyX1_ok : ∀ k, k < 16 → parseFieldDescriptor (TX1 k).2.2.1 = some (tyX1 k) := by decide +kernel
abbrev cX1_init : ByteArray := prog_7_method_1_code
def yX1_init : MethodName := ⟨RX1, "<init>", "()V"⟩
def dkwX1_init_2 : List UInt8 := [42, 8, 188, 10, 181, 0, 31, 42, 8, 188, 10, 181, 0, 34, 42, 18, 37, 181, 0, 38, 177]
abbrev dktX1_init_2 : List UInt8 := dkwX1_init_2 ++ []
def dkwX1_init_1 : List UInt8 := [188, 10, 181, 0, 18, 42, 16, 6, 188, 10, 181, 0, 21, 42, 187, 0, 24, 89, 183, 0, 26, 181, 0, 27]
abbrev dktX1_init_1 : List UInt8 := dkwX1_init_1 ++ dktX1_init_2
def dkwX1_init_0 : List UInt8 := [42, 183, 0, 3, 42, 16, 6, 188, 10, 181, 0, 9, 42, 16, 6, 188, 10, 181, 0, 15, 42, 16, 6]
abbrev dktX1_init_0 : List UInt8 := dkwX1_init_0 ++ dktX1_init_1
theorem dksX1_init_0 : cX1_init.data.toList.drop 0 = dktX1_init_0 := by decide +kernel
theorem dksX1_init_1 : cX1_init.data.toList.drop 23 = dktX1_init_1 := dk_seg dksX1_init_0 23 rfl rfl
theorem dksX1_init_2 : cX1_init.data.toList.drop 47 = dktX1_init_2 := dk_seg dksX1_init_1 24 rfl rfl
theorem dX1_init_0 : decode cX1_init 0 = .ok (.aload_n 0, 1) := dk_42 (dk_at dksX1_init_0 0 rfl rfl)
theorem dX1_init_1 : decode cX1_init 1 = .ok (.invokespecial 3, 3) := dk_183 0 3 (dk_at dksX1_init_0 1 rfl rfl)
theorem dX1_init_4 : decode cX1_init 4 = .ok (.aload_n 0, 1) := dk_42 (dk_at dksX1_init_0 4 rfl rfl)
theorem dX1_init_5 : decode cX1_init 5 = .ok (.bipush 6, 2) := dk_16 6 (dk_at dksX1_init_0 5 rfl rfl)
theorem dX1_init_7 : decode cX1_init 7 = .ok (.newarray .int, 2) := dk_188_10 (dk_at dksX1_init_0 7 rfl rfl)
theorem dX1_init_9 : decode cX1_init 9 = .ok (.putfield 9, 3) := dk_181 0 9 (dk_at dksX1_init_0 9 rfl rfl)
theorem dX1_init_12 : decode cX1_init 12 = .ok (.aload_n 0, 1) := dk_42 (dk_at dksX1_init_0 12 rfl rfl)
theorem dX1_init_13 : decode cX1_init 13 = .ok (.bipush 6, 2) := dk_16 6 (dk_at dksX1_init_0 13 rfl rfl)
theorem dX1_init_15 : decode cX1_init 15 = .ok (.newarray .int, 2) := dk_188_10 (dk_at dksX1_init_0 15 rfl rfl)
theorem dX1_init_17 : decode cX1_init 17 = .ok (.putfield 15, 3) := dk_181 0 15 (dk_at dksX1_init_0 17 rfl rfl)
theorem dX1_init_20 : decode cX1_init 20 = .ok (.aload_n 0, 1) := dk_42 (dk_at dksX1_init_0 20 rfl rfl)
theorem dX1_init_21 : decode cX1_init 21 = .ok (.bipush 6, 2) := dk_16 6 (dk_at dksX1_init_0 21 rfl rfl)
theorem dX1_init_23 : decode cX1_init 23 = .ok (.newarray .int, 2) := dk_188_10 (dk_at dksX1_init_1 0 rfl rfl)
theorem dX1_init_25 : decode cX1_init 25 = .ok (.putfield 18, 3) := dk_181 0 18 (dk_at dksX1_init_1 2 rfl rfl)
theorem dX1_init_28 : decode cX1_init 28 = .ok (.aload_n 0, 1) := dk_42 (dk_at dksX1_init_1 5 rfl rfl)
theorem dX1_init_29 : decode cX1_init 29 = .ok (.bipush 6, 2) := dk_16 6 (dk_at dksX1_init_1 6 rfl rfl)
theorem dX1_init_31 : decode cX1_init 31 = .ok (.newarray .int, 2) := dk_188_10 (dk_at dksX1_init_1 8 rfl rfl)
theorem dX1_init_33 : decode cX1_init 33 = .ok (.putfield 21, 3) := dk_181 0 21 (dk_at dksX1_init_1 10 rfl rfl)
theorem dX1_init_36 : decode cX1_init 36 = .ok (.aload_n 0, 1) := dk_42 (dk_at dksX1_init_1 13 rfl rfl)
theorem dX1_init_37 : decode cX1_init 37 = .ok (.new 24, 3) := dk_187 0 24 (dk_at dksX1_init_1 14 rfl rfl)
theorem dX1_init_40 : decode cX1_init 40 = .ok (.dup, 1) := dk_89 (dk_at dksX1_init_1 17 rfl rfl)
theorem dX1_init_41 : decode cX1_init 41 = .ok (.invokespecial 26, 3) := dk_183 0 26 (dk_at dksX1_init_1 18 rfl rfl)
theorem dX1_init_44 : decode cX1_init 44 = .ok (.putfield 27, 3) := dk_181 0 27 (dk_at dksX1_init_1 21 rfl rfl)
theorem dX1_init_47 : decode cX1_init 47 = .ok (.aload_n 0, 1) := dk_42 (dk_at dksX1_init_2 0 rfl rfl)
theorem dX1_init_48 : decode cX1_init 48 = .ok (.iconst 5, 1) := dk_8 (dk_at dksX1_init_2 1 rfl rfl)
theorem dX1_init_49 : decode cX1_init 49 = .ok (.newarray .int, 2) := dk_188_10 (dk_at dksX1_init_2 2 rfl rfl)
theorem dX1_init_51 : decode cX1_init 51 = .ok (.putfield 31, 3) := dk_181 0 31 (dk_at dksX1_init_2 4 rfl rfl)
theorem dX1_init_54 : decode cX1_init 54 = .ok (.aload_n 0, 1) := dk_42 (dk_at dksX1_init_2 7 rfl rfl)
theorem dX1_init_55 : decode cX1_init 55 = .ok (.iconst 5, 1) := dk_8 (dk_at dksX1_init_2 8 rfl rfl)
theorem dX1_init_56 : decode cX1_init 56 = .ok (.newarray .int, 2) := dk_188_10 (dk_at dksX1_init_2 9 rfl rfl)
theorem dX1_init_58 : decode cX1_init 58 = .ok (.putfield 34, 3) := dk_181 0 34 (dk_at dksX1_init_2 11 rfl rfl)
theorem dX1_init_61 : decode cX1_init 61 = .ok (.aload_n 0, 1) := dk_42 (dk_at dksX1_init_2 14 rfl rfl)
theorem dX1_init_62 : decode cX1_init 62 = .ok (.ldc 37, 2) := dk_18 37 (dk_at dksX1_init_2 15 rfl rfl)
theorem dX1_init_64 : decode cX1_init 64 = .ok (.putfield 38, 3) := dk_181 0 38 (dk_at dksX1_init_2 17 rfl rfl)
theorem dX1_init_67 : decode cX1_init 67 = .ok (.return_, 1) := dk_177 (dk_at dksX1_init_2 20 rfl rfl)
abbrev cX1_puts : ByteArray := prog_7_method_13_code
def yX1_puts : MethodName := ⟨RX1, "puts", "(II)V"⟩
def dkwX1_puts_0 : List UInt8 := [42, 180, 0, 21, 27, 28, 79, 42, 180, 0, 18, 28, 27, 79, 177]
abbrev dktX1_puts_0 : List UInt8 := dkwX1_puts_0 ++ []
theorem dksX1_puts_0 : cX1_puts.data.toList.drop 0 = dktX1_puts_0 := by decide +kernel
theorem dX1_puts_0 : decode cX1_puts 0 = .ok (.aload_n 0, 1) := dk_42 (dk_at dksX1_puts_0 0 rfl rfl)
theorem dX1_puts_1 : decode cX1_puts 1 = .ok (.getfield 21, 3) := dk_180 0 21 (dk_at dksX1_puts_0 1 rfl rfl)
theorem dX1_puts_4 : decode cX1_puts 4 = .ok (.iload_n 1, 1) := dk_27 (dk_at dksX1_puts_0 4 rfl rfl)
theorem dX1_puts_5 : decode cX1_puts 5 = .ok (.iload_n 2, 1) := dk_28 (dk_at dksX1_puts_0 5 rfl rfl)
theorem dX1_puts_6 : decode cX1_puts 6 = .ok (.iastore, 1) := dk_79 (dk_at dksX1_puts_0 6 rfl rfl)
theorem dX1_puts_7 : decode cX1_puts 7 = .ok (.aload_n 0, 1) := dk_42 (dk_at dksX1_puts_0 7 rfl rfl)
theorem dX1_puts_8 : decode cX1_puts 8 = .ok (.getfield 18, 3) := dk_180 0 18 (dk_at dksX1_puts_0 8 rfl rfl)
theorem dX1_puts_11 : decode cX1_puts 11 = .ok (.iload_n 2, 1) := dk_28 (dk_at dksX1_puts_0 11 rfl rfl)
theorem dX1_puts_12 : decode cX1_puts 12 = .ok (.iload_n 1, 1) := dk_27 (dk_at dksX1_puts_0 12 rfl rfl)
theorem dX1_puts_13 : decode cX1_puts 13 = .ok (.iastore, 1) := dk_79 (dk_at dksX1_puts_0 13 rfl rfl)
theorem dX1_puts_14 : decode cX1_puts 14 = .ok (.return_, 1) := dk_177 (dk_at dksX1_puts_0 14 rfl rfl)
abbrev cX1_many : ByteArray := prog_7_method_3_code
def yX1_many : MethodName := ⟨RX1, "many", "()I"⟩
def dkwX1_many_0 : List UInt8 := [42, 180, 0, 27, 185, 0, 69, 1, 0, 172]
abbrev dktX1_many_0 : List UInt8 := dkwX1_many_0 ++ []
theorem dksX1_many_0 : cX1_many.data.toList.drop 0 = dktX1_many_0 := by decide +kernel
theorem dX1_many_0 : decode cX1_many 0 = .ok (.aload_n 0, 1) := dk_42 (dk_at dksX1_many_0 0 rfl rfl)
theorem dX1_many_1 : decode cX1_many 1 = .ok (.getfield 27, 3) := dk_180 0 27 (dk_at dksX1_many_0 1 rfl rfl)
theorem dX1_many_4 : decode cX1_many 4 = .ok (.invokeinterface 69 1, 5) := by decide +kernel
theorem dX1_many_9 : decode cX1_many 9 = .ok (.ireturn, 1) := dk_172 (dk_at dksX1_many_0 9 rfl rfl)
abbrev cX1_become : ByteArray := prog_7_method_2_code
def yX1_become : MethodName := ⟨RX1, "become", "(LFishReaders$Library;)LFishReaders$Library;"⟩
def dkwX1_become_6 : List UInt8 := [181, 0, 63, 42, 43, 180, 0, 66, 181, 0, 66, 42, 18, 37, 181, 0, 38, 42, 176]
abbrev dktX1_become_6 : List UInt8 := dkwX1_become_6 ++ []
def dkwX1_become_5 : List UInt8 := [8, 184, 0, 51, 43, 180, 0, 34, 3, 42, 180, 0, 34, 3, 8, 184, 0, 51, 42, 43, 180, 0, 63]
abbrev dktX1_become_5 : List UInt8 := dkwX1_become_5 ++ dktX1_become_6
def dkwX1_become_4 : List UInt8 := [180, 0, 60, 181, 0, 60, 42, 43, 180, 0, 27, 181, 0, 27, 43, 180, 0, 31, 3, 42, 180, 0, 31, 3]
abbrev dktX1_become_4 : List UInt8 := dkwX1_become_4 ++ dktX1_become_5
def dkwX1_become_3 : List UInt8 := [180, 0, 21, 3, 42, 180, 0, 21, 3, 16, 6, 184, 0, 51, 42, 43, 180, 0, 57, 181, 0, 57, 42, 43]
abbrev dktX1_become_3 : List UInt8 := dkwX1_become_3 ++ dktX1_become_4
def dkwX1_become_2 : List UInt8 := [3, 16, 6, 184, 0, 51, 43, 180, 0, 18, 3, 42, 180, 0, 18, 3, 16, 6, 184, 0, 51, 43]
abbrev dktX1_become_2 : List UInt8 := dkwX1_become_2 ++ dktX1_become_3
def dkwX1_become_1 : List UInt8 := [43, 180, 0, 9, 3, 42, 180, 0, 9, 3, 16, 6, 184, 0, 51, 43, 180, 0, 15, 3, 42, 180, 0, 15]
abbrev dktX1_become_1 : List UInt8 := dkwX1_become_1 ++ dktX1_become_2
def dkwX1_become_0 : List UInt8 := [42, 43, 180, 0, 42, 181, 0, 42, 42, 43, 180, 0, 45, 181, 0, 45, 42, 43, 180, 0, 48, 181, 0, 48]
abbrev dktX1_become_0 : List UInt8 := dkwX1_become_0 ++ dktX1_become_1
theorem dksX1_become_0 : cX1_become.data.toList.drop 0 = dktX1_become_0 := by decide +kernel
theorem dksX1_become_1 : cX1_become.data.toList.drop 24 = dktX1_become_1 := dk_seg dksX1_become_0 24 rfl rfl
theorem dksX1_become_2 : cX1_become.data.toList.drop 48 = dktX1_become_2 := dk_seg dksX1_become_1 24 rfl rfl
theorem dksX1_become_3 : cX1_become.data.toList.drop 70 = dktX1_become_3 := dk_seg dksX1_become_2 22 rfl rfl
theorem dksX1_become_4 : cX1_become.data.toList.drop 94 = dktX1_become_4 := dk_seg dksX1_become_3 24 rfl rfl
theorem dksX1_become_5 : cX1_become.data.toList.drop 118 = dktX1_become_5 := dk_seg dksX1_become_4 24 rfl rfl
theorem dksX1_become_6 : cX1_become.data.toList.drop 141 = dktX1_become_6 := dk_seg dksX1_become_5 23 rfl rfl
theorem dX1_become_0 : decode cX1_become 0 = .ok (.aload_n 0, 1) := dk_42 (dk_at dksX1_become_0 0 rfl rfl)
theorem dX1_become_1 : decode cX1_become 1 = .ok (.aload_n 1, 1) := dk_43 (dk_at dksX1_become_0 1 rfl rfl)
theorem dX1_become_2 : decode cX1_become 2 = .ok (.getfield 42, 3) := dk_180 0 42 (dk_at dksX1_become_0 2 rfl rfl)
theorem dX1_become_5 : decode cX1_become 5 = .ok (.putfield 42, 3) := dk_181 0 42 (dk_at dksX1_become_0 5 rfl rfl)
theorem dX1_become_8 : decode cX1_become 8 = .ok (.aload_n 0, 1) := dk_42 (dk_at dksX1_become_0 8 rfl rfl)
theorem dX1_become_9 : decode cX1_become 9 = .ok (.aload_n 1, 1) := dk_43 (dk_at dksX1_become_0 9 rfl rfl)
theorem dX1_become_10 : decode cX1_become 10 = .ok (.getfield 45, 3) := dk_180 0 45 (dk_at dksX1_become_0 10 rfl rfl)
theorem dX1_become_13 : decode cX1_become 13 = .ok (.putfield 45, 3) := dk_181 0 45 (dk_at dksX1_become_0 13 rfl rfl)
theorem dX1_become_16 : decode cX1_become 16 = .ok (.aload_n 0, 1) := dk_42 (dk_at dksX1_become_0 16 rfl rfl)
theorem dX1_become_17 : decode cX1_become 17 = .ok (.aload_n 1, 1) := dk_43 (dk_at dksX1_become_0 17 rfl rfl)
theorem dX1_become_18 : decode cX1_become 18 = .ok (.getfield 48, 3) := dk_180 0 48 (dk_at dksX1_become_0 18 rfl rfl)
theorem dX1_become_21 : decode cX1_become 21 = .ok (.putfield 48, 3) := dk_181 0 48 (dk_at dksX1_become_0 21 rfl rfl)
theorem dX1_become_24 : decode cX1_become 24 = .ok (.aload_n 1, 1) := dk_43 (dk_at dksX1_become_1 0 rfl rfl)
theorem dX1_become_25 : decode cX1_become 25 = .ok (.getfield 9, 3) := dk_180 0 9 (dk_at dksX1_become_1 1 rfl rfl)
theorem dX1_become_28 : decode cX1_become 28 = .ok (.iconst 0, 1) := dk_3 (dk_at dksX1_become_1 4 rfl rfl)
theorem dX1_become_29 : decode cX1_become 29 = .ok (.aload_n 0, 1) := dk_42 (dk_at dksX1_become_1 5 rfl rfl)
theorem dX1_become_30 : decode cX1_become 30 = .ok (.getfield 9, 3) := dk_180 0 9 (dk_at dksX1_become_1 6 rfl rfl)
theorem dX1_become_33 : decode cX1_become 33 = .ok (.iconst 0, 1) := dk_3 (dk_at dksX1_become_1 9 rfl rfl)
theorem dX1_become_34 : decode cX1_become 34 = .ok (.bipush 6, 2) := dk_16 6 (dk_at dksX1_become_1 10 rfl rfl)
theorem dX1_become_36 : decode cX1_become 36 = .ok (.invokestatic 51, 3) := dk_184 0 51 (dk_at dksX1_become_1 12 rfl rfl)
theorem dX1_become_39 : decode cX1_become 39 = .ok (.aload_n 1, 1) := dk_43 (dk_at dksX1_become_1 15 rfl rfl)
theorem dX1_become_40 : decode cX1_become 40 = .ok (.getfield 15, 3) := dk_180 0 15 (dk_at dksX1_become_1 16 rfl rfl)
theorem dX1_become_43 : decode cX1_become 43 = .ok (.iconst 0, 1) := dk_3 (dk_at dksX1_become_1 19 rfl rfl)
theorem dX1_become_44 : decode cX1_become 44 = .ok (.aload_n 0, 1) := dk_42 (dk_at dksX1_become_1 20 rfl rfl)
theorem dX1_become_45 : decode cX1_become 45 = .ok (.getfield 15, 3) := dk_180 0 15 (dk_at dksX1_become_1 21 rfl rfl)
theorem dX1_become_48 : decode cX1_become 48 = .ok (.iconst 0, 1) := dk_3 (dk_at dksX1_become_2 0 rfl rfl)
theorem dX1_become_49 : decode cX1_become 49 = .ok (.bipush 6, 2) := dk_16 6 (dk_at dksX1_become_2 1 rfl rfl)
theorem dX1_become_51 : decode cX1_become 51 = .ok (.invokestatic 51, 3) := dk_184 0 51 (dk_at dksX1_become_2 3 rfl rfl)
theorem dX1_become_54 : decode cX1_become 54 = .ok (.aload_n 1, 1) := dk_43 (dk_at dksX1_become_2 6 rfl rfl)
theorem dX1_become_55 : decode cX1_become 55 = .ok (.getfield 18, 3) := dk_180 0 18 (dk_at dksX1_become_2 7 rfl rfl)
theorem dX1_become_58 : decode cX1_become 58 = .ok (.iconst 0, 1) := dk_3 (dk_at dksX1_become_2 10 rfl rfl)
theorem dX1_become_59 : decode cX1_become 59 = .ok (.aload_n 0, 1) := dk_42 (dk_at dksX1_become_2 11 rfl rfl)
theorem dX1_become_60 : decode cX1_become 60 = .ok (.getfield 18, 3) := dk_180 0 18 (dk_at dksX1_become_2 12 rfl rfl)
theorem dX1_become_63 : decode cX1_become 63 = .ok (.iconst 0, 1) := dk_3 (dk_at dksX1_become_2 15 rfl rfl)
theorem dX1_become_64 : decode cX1_become 64 = .ok (.bipush 6, 2) := dk_16 6 (dk_at dksX1_become_2 16 rfl rfl)
theorem dX1_become_66 : decode cX1_become 66 = .ok (.invokestatic 51, 3) := dk_184 0 51 (dk_at dksX1_become_2 18 rfl rfl)
theorem dX1_become_69 : decode cX1_become 69 = .ok (.aload_n 1, 1) := dk_43 (dk_at dksX1_become_2 21 rfl rfl)
theorem dX1_become_70 : decode cX1_become 70 = .ok (.getfield 21, 3) := dk_180 0 21 (dk_at dksX1_become_3 0 rfl rfl)
theorem dX1_become_73 : decode cX1_become 73 = .ok (.iconst 0, 1) := dk_3 (dk_at dksX1_become_3 3 rfl rfl)
theorem dX1_become_74 : decode cX1_become 74 = .ok (.aload_n 0, 1) := dk_42 (dk_at dksX1_become_3 4 rfl rfl)
theorem dX1_become_75 : decode cX1_become 75 = .ok (.getfield 21, 3) := dk_180 0 21 (dk_at dksX1_become_3 5 rfl rfl)
theorem dX1_become_78 : decode cX1_become 78 = .ok (.iconst 0, 1) := dk_3 (dk_at dksX1_become_3 8 rfl rfl)
theorem dX1_become_79 : decode cX1_become 79 = .ok (.bipush 6, 2) := dk_16 6 (dk_at dksX1_become_3 9 rfl rfl)
theorem dX1_become_81 : decode cX1_become 81 = .ok (.invokestatic 51, 3) := dk_184 0 51 (dk_at dksX1_become_3 11 rfl rfl)
theorem dX1_become_84 : decode cX1_become 84 = .ok (.aload_n 0, 1) := dk_42 (dk_at dksX1_become_3 14 rfl rfl)
theorem dX1_become_85 : decode cX1_become 85 = .ok (.aload_n 1, 1) := dk_43 (dk_at dksX1_become_3 15 rfl rfl)
theorem dX1_become_86 : decode cX1_become 86 = .ok (.getfield 57, 3) := dk_180 0 57 (dk_at dksX1_become_3 16 rfl rfl)
theorem dX1_become_89 : decode cX1_become 89 = .ok (.putfield 57, 3) := dk_181 0 57 (dk_at dksX1_become_3 19 rfl rfl)
theorem dX1_become_92 : decode cX1_become 92 = .ok (.aload_n 0, 1) := dk_42 (dk_at dksX1_become_3 22 rfl rfl)
theorem dX1_become_93 : decode cX1_become 93 = .ok (.aload_n 1, 1) := dk_43 (dk_at dksX1_become_3 23 rfl rfl)
theorem dX1_become_94 : decode cX1_become 94 = .ok (.getfield 60, 3) := dk_180 0 60 (dk_at dksX1_become_4 0 rfl rfl)
theorem dX1_become_97 : decode cX1_become 97 = .ok (.putfield 60, 3) := dk_181 0 60 (dk_at dksX1_become_4 3 rfl rfl)
theorem dX1_become_100 : decode cX1_become 100 = .ok (.aload_n 0, 1) := dk_42 (dk_at dksX1_become_4 6 rfl rfl)
theorem dX1_become_101 : decode cX1_become 101 = .ok (.aload_n 1, 1) := dk_43 (dk_at dksX1_become_4 7 rfl rfl)
theorem dX1_become_102 : decode cX1_become 102 = .ok (.getfield 27, 3) := dk_180 0 27 (dk_at dksX1_become_4 8 rfl rfl)
theorem dX1_become_105 : decode cX1_become 105 = .ok (.putfield 27, 3) := dk_181 0 27 (dk_at dksX1_become_4 11 rfl rfl)
theorem dX1_become_108 : decode cX1_become 108 = .ok (.aload_n 1, 1) := dk_43 (dk_at dksX1_become_4 14 rfl rfl)
theorem dX1_become_109 : decode cX1_become 109 = .ok (.getfield 31, 3) := dk_180 0 31 (dk_at dksX1_become_4 15 rfl rfl)
theorem dX1_become_112 : decode cX1_become 112 = .ok (.iconst 0, 1) := dk_3 (dk_at dksX1_become_4 18 rfl rfl)
theorem dX1_become_113 : decode cX1_become 113 = .ok (.aload_n 0, 1) := dk_42 (dk_at dksX1_become_4 19 rfl rfl)
theorem dX1_become_114 : decode cX1_become 114 = .ok (.getfield 31, 3) := dk_180 0 31 (dk_at dksX1_become_4 20 rfl rfl)
theorem dX1_become_117 : decode cX1_become 117 = .ok (.iconst 0, 1) := dk_3 (dk_at dksX1_become_4 23 rfl rfl)
theorem dX1_become_118 : decode cX1_become 118 = .ok (.iconst 5, 1) := dk_8 (dk_at dksX1_become_5 0 rfl rfl)
theorem dX1_become_119 : decode cX1_become 119 = .ok (.invokestatic 51, 3) := dk_184 0 51 (dk_at dksX1_become_5 1 rfl rfl)
theorem dX1_become_122 : decode cX1_become 122 = .ok (.aload_n 1, 1) := dk_43 (dk_at dksX1_become_5 4 rfl rfl)
theorem dX1_become_123 : decode cX1_become 123 = .ok (.getfield 34, 3) := dk_180 0 34 (dk_at dksX1_become_5 5 rfl rfl)
theorem dX1_become_126 : decode cX1_become 126 = .ok (.iconst 0, 1) := dk_3 (dk_at dksX1_become_5 8 rfl rfl)
theorem dX1_become_127 : decode cX1_become 127 = .ok (.aload_n 0, 1) := dk_42 (dk_at dksX1_become_5 9 rfl rfl)
theorem dX1_become_128 : decode cX1_become 128 = .ok (.getfield 34, 3) := dk_180 0 34 (dk_at dksX1_become_5 10 rfl rfl)
theorem dX1_become_131 : decode cX1_become 131 = .ok (.iconst 0, 1) := dk_3 (dk_at dksX1_become_5 13 rfl rfl)
theorem dX1_become_132 : decode cX1_become 132 = .ok (.iconst 5, 1) := dk_8 (dk_at dksX1_become_5 14 rfl rfl)
theorem dX1_become_133 : decode cX1_become 133 = .ok (.invokestatic 51, 3) := dk_184 0 51 (dk_at dksX1_become_5 15 rfl rfl)
theorem dX1_become_136 : decode cX1_become 136 = .ok (.aload_n 0, 1) := dk_42 (dk_at dksX1_become_5 18 rfl rfl)
theorem dX1_become_137 : decode cX1_become 137 = .ok (.aload_n 1, 1) := dk_43 (dk_at dksX1_become_5 19 rfl rfl)
theorem dX1_become_138 : decode cX1_become 138 = .ok (.getfield 63, 3) := dk_180 0 63 (dk_at dksX1_become_5 20 rfl rfl)
theorem dX1_become_141 : decode cX1_become 141 = .ok (.putfield 63, 3) := dk_181 0 63 (dk_at dksX1_become_6 0 rfl rfl)
theorem dX1_become_144 : decode cX1_become 144 = .ok (.aload_n 0, 1) := dk_42 (dk_at dksX1_become_6 3 rfl rfl)
theorem dX1_become_145 : decode cX1_become 145 = .ok (.aload_n 1, 1) := dk_43 (dk_at dksX1_become_6 4 rfl rfl)
theorem dX1_become_146 : decode cX1_become 146 = .ok (.getfield 66, 3) := dk_180 0 66 (dk_at dksX1_become_6 5 rfl rfl)
theorem dX1_become_149 : decode cX1_become 149 = .ok (.putfield 66, 3) := dk_181 0 66 (dk_at dksX1_become_6 8 rfl rfl)
theorem dX1_become_152 : decode cX1_become 152 = .ok (.aload_n 0, 1) := dk_42 (dk_at dksX1_become_6 11 rfl rfl)
theorem dX1_become_153 : decode cX1_become 153 = .ok (.ldc 37, 2) := dk_18 37 (dk_at dksX1_become_6 12 rfl rfl)
theorem dX1_become_155 : decode cX1_become 155 = .ok (.putfield 38, 3) := dk_181 0 38 (dk_at dksX1_become_6 14 rfl rfl)
theorem dX1_become_158 : decode cX1_become 158 = .ok (.aload_n 0, 1) := dk_42 (dk_at dksX1_become_6 17 rfl rfl)
theorem dX1_become_159 : decode cX1_become 159 = .ok (.areturn, 1) := dk_176 (dk_at dksX1_become_6 18 rfl rfl)
abbrev cX1_pass : ByteArray := prog_7_method_12_code
def yX1_pass : MethodName := ⟨RX1, "pass", "()LFishReaders$Library;"⟩
def dkwX1_pass_5 : List UInt8 := [42, 176]
abbrev dktX1_pass_5 : List UInt8 := dkwX1_pass_5 ++ []
def dkwX1_pass_4 : List UInt8 := [27, 46, 4, 96, 184, 0, 101, 79, 132, 1, 1, 167, 255, 208, 42, 89, 180, 0, 66, 4, 96, 181, 0, 66]
abbrev dktX1_pass_4 : List UInt8 := dkwX1_pass_4 ++ dktX1_pass_5
def dkwX1_pass_3 : List UInt8 := [112, 6, 160, 0, 30, 42, 27, 182, 0, 89, 154, 0, 22, 42, 180, 0, 15, 27, 16, 9, 42, 180, 0, 15]
abbrev dktX1_pass_3 : List UInt8 := dkwX1_pass_3 ++ dktX1_pass_4
def dkwX1_pass_2 : List UInt8 := [182, 0, 119, 132, 1, 1, 167, 255, 208, 3, 60, 27, 42, 180, 0, 48, 162, 0, 46, 42, 180, 0, 66, 7]
abbrev dktX1_pass_2 : List UInt8 := dkwX1_pass_2 ++ dktX1_pass_3
def dkwX1_pass_1 : List UInt8 := [180, 0, 31, 27, 42, 27, 182, 0, 111, 42, 180, 0, 31, 27, 46, 42, 182, 0, 115, 79, 42, 27]
abbrev dktX1_pass_1 : List UInt8 := dkwX1_pass_1 ++ dktX1_pass_2
def dkwX1_pass_0 : List UInt8 := [3, 60, 27, 42, 182, 0, 105, 162, 0, 46, 42, 27, 182, 0, 108, 153, 0, 6, 167, 0, 29, 42]
abbrev dktX1_pass_0 : List UInt8 := dkwX1_pass_0 ++ dktX1_pass_1
theorem dksX1_pass_0 : cX1_pass.data.toList.drop 0 = dktX1_pass_0 := by decide +kernel
theorem dksX1_pass_1 : cX1_pass.data.toList.drop 22 = dktX1_pass_1 := dk_seg dksX1_pass_0 22 rfl rfl
theorem dksX1_pass_2 : cX1_pass.data.toList.drop 44 = dktX1_pass_2 := dk_seg dksX1_pass_1 22 rfl rfl
theorem dksX1_pass_3 : cX1_pass.data.toList.drop 68 = dktX1_pass_3 := dk_seg dksX1_pass_2 24 rfl rfl
theorem dksX1_pass_4 : cX1_pass.data.toList.drop 92 = dktX1_pass_4 := dk_seg dksX1_pass_3 24 rfl rfl
theorem dksX1_pass_5 : cX1_pass.data.toList.drop 116 = dktX1_pass_5 := dk_seg dksX1_pass_4 24 rfl rfl
theorem dX1_pass_0 : decode cX1_pass 0 = .ok (.iconst 0, 1) := dk_3 (dk_at dksX1_pass_0 0 rfl rfl)
theorem dX1_pass_1 : decode cX1_pass 1 = .ok (.istore_n 1, 1) := dk_60 (dk_at dksX1_pass_0 1 rfl rfl)
theorem dX1_pass_2 : decode cX1_pass 2 = .ok (.iload_n 1, 1) := dk_27 (dk_at dksX1_pass_0 2 rfl rfl)
theorem dX1_pass_3 : decode cX1_pass 3 = .ok (.aload_n 0, 1) := dk_42 (dk_at dksX1_pass_0 3 rfl rfl)
theorem dX1_pass_4 : decode cX1_pass 4 = .ok (.invokevirtual 105, 3) := dk_182 0 105 (dk_at dksX1_pass_0 4 rfl rfl)
theorem dX1_pass_7 : decode cX1_pass 7 = .ok (.if_icmp .ge 46, 3) := dk_162 0 46 (dk_at dksX1_pass_0 7 rfl rfl)
theorem dX1_pass_10 : decode cX1_pass 10 = .ok (.aload_n 0, 1) := dk_42 (dk_at dksX1_pass_0 10 rfl rfl)
theorem dX1_pass_11 : decode cX1_pass 11 = .ok (.iload_n 1, 1) := dk_27 (dk_at dksX1_pass_0 11 rfl rfl)
theorem dX1_pass_12 : decode cX1_pass 12 = .ok (.invokevirtual 108, 3) := dk_182 0 108 (dk_at dksX1_pass_0 12 rfl rfl)
theorem dX1_pass_15 : decode cX1_pass 15 = .ok (.ifCond .eq 6, 3) := dk_153 0 6 (dk_at dksX1_pass_0 15 rfl rfl)
theorem dX1_pass_18 : decode cX1_pass 18 = .ok (.goto 29, 3) := dk_167 0 29 (dk_at dksX1_pass_0 18 rfl rfl)
theorem dX1_pass_21 : decode cX1_pass 21 = .ok (.aload_n 0, 1) := dk_42 (dk_at dksX1_pass_0 21 rfl rfl)
theorem dX1_pass_22 : decode cX1_pass 22 = .ok (.getfield 31, 3) := dk_180 0 31 (dk_at dksX1_pass_1 0 rfl rfl)
theorem dX1_pass_25 : decode cX1_pass 25 = .ok (.iload_n 1, 1) := dk_27 (dk_at dksX1_pass_1 3 rfl rfl)
theorem dX1_pass_26 : decode cX1_pass 26 = .ok (.aload_n 0, 1) := dk_42 (dk_at dksX1_pass_1 4 rfl rfl)
theorem dX1_pass_27 : decode cX1_pass 27 = .ok (.iload_n 1, 1) := dk_27 (dk_at dksX1_pass_1 5 rfl rfl)
theorem dX1_pass_28 : decode cX1_pass 28 = .ok (.invokevirtual 111, 3) := dk_182 0 111 (dk_at dksX1_pass_1 6 rfl rfl)
theorem dX1_pass_31 : decode cX1_pass 31 = .ok (.aload_n 0, 1) := dk_42 (dk_at dksX1_pass_1 9 rfl rfl)
theorem dX1_pass_32 : decode cX1_pass 32 = .ok (.getfield 31, 3) := dk_180 0 31 (dk_at dksX1_pass_1 10 rfl rfl)
theorem dX1_pass_35 : decode cX1_pass 35 = .ok (.iload_n 1, 1) := dk_27 (dk_at dksX1_pass_1 13 rfl rfl)
theorem dX1_pass_36 : decode cX1_pass 36 = .ok (.iaload, 1) := dk_46 (dk_at dksX1_pass_1 14 rfl rfl)
theorem dX1_pass_37 : decode cX1_pass 37 = .ok (.aload_n 0, 1) := dk_42 (dk_at dksX1_pass_1 15 rfl rfl)
theorem dX1_pass_38 : decode cX1_pass 38 = .ok (.invokevirtual 115, 3) := dk_182 0 115 (dk_at dksX1_pass_1 16 rfl rfl)
theorem dX1_pass_41 : decode cX1_pass 41 = .ok (.iastore, 1) := dk_79 (dk_at dksX1_pass_1 19 rfl rfl)
theorem dX1_pass_42 : decode cX1_pass 42 = .ok (.aload_n 0, 1) := dk_42 (dk_at dksX1_pass_1 20 rfl rfl)
theorem dX1_pass_43 : decode cX1_pass 43 = .ok (.iload_n 1, 1) := dk_27 (dk_at dksX1_pass_1 21 rfl rfl)
theorem dX1_pass_44 : decode cX1_pass 44 = .ok (.invokevirtual 119, 3) := dk_182 0 119 (dk_at dksX1_pass_2 0 rfl rfl)
theorem dX1_pass_47 : decode cX1_pass 47 = .ok (.iinc 1 1, 3) := dk_132 1 1 (dk_at dksX1_pass_2 3 rfl rfl)
theorem dX1_pass_50 : decode cX1_pass 50 = .ok (.goto (-48), 3) := dk_167 255 208 (dk_at dksX1_pass_2 6 rfl rfl)
theorem dX1_pass_53 : decode cX1_pass 53 = .ok (.iconst 0, 1) := dk_3 (dk_at dksX1_pass_2 9 rfl rfl)
theorem dX1_pass_54 : decode cX1_pass 54 = .ok (.istore_n 1, 1) := dk_60 (dk_at dksX1_pass_2 10 rfl rfl)
theorem dX1_pass_55 : decode cX1_pass 55 = .ok (.iload_n 1, 1) := dk_27 (dk_at dksX1_pass_2 11 rfl rfl)
theorem dX1_pass_56 : decode cX1_pass 56 = .ok (.aload_n 0, 1) := dk_42 (dk_at dksX1_pass_2 12 rfl rfl)
theorem dX1_pass_57 : decode cX1_pass 57 = .ok (.getfield 48, 3) := dk_180 0 48 (dk_at dksX1_pass_2 13 rfl rfl)
theorem dX1_pass_60 : decode cX1_pass 60 = .ok (.if_icmp .ge 46, 3) := dk_162 0 46 (dk_at dksX1_pass_2 16 rfl rfl)
theorem dX1_pass_63 : decode cX1_pass 63 = .ok (.aload_n 0, 1) := dk_42 (dk_at dksX1_pass_2 19 rfl rfl)
theorem dX1_pass_64 : decode cX1_pass 64 = .ok (.getfield 66, 3) := dk_180 0 66 (dk_at dksX1_pass_2 20 rfl rfl)
theorem dX1_pass_67 : decode cX1_pass 67 = .ok (.iconst 4, 1) := dk_7 (dk_at dksX1_pass_2 23 rfl rfl)
theorem dX1_pass_68 : decode cX1_pass 68 = .ok (.irem, 1) := dk_112 (dk_at dksX1_pass_3 0 rfl rfl)
theorem dX1_pass_69 : decode cX1_pass 69 = .ok (.iconst 3, 1) := dk_6 (dk_at dksX1_pass_3 1 rfl rfl)
theorem dX1_pass_70 : decode cX1_pass 70 = .ok (.if_icmp .ne 30, 3) := dk_160 0 30 (dk_at dksX1_pass_3 2 rfl rfl)
theorem dX1_pass_73 : decode cX1_pass 73 = .ok (.aload_n 0, 1) := dk_42 (dk_at dksX1_pass_3 5 rfl rfl)
theorem dX1_pass_74 : decode cX1_pass 74 = .ok (.iload_n 1, 1) := dk_27 (dk_at dksX1_pass_3 6 rfl rfl)
theorem dX1_pass_75 : decode cX1_pass 75 = .ok (.invokevirtual 89, 3) := dk_182 0 89 (dk_at dksX1_pass_3 7 rfl rfl)
theorem dX1_pass_78 : decode cX1_pass 78 = .ok (.ifCond .ne 22, 3) := dk_154 0 22 (dk_at dksX1_pass_3 10 rfl rfl)
theorem dX1_pass_81 : decode cX1_pass 81 = .ok (.aload_n 0, 1) := dk_42 (dk_at dksX1_pass_3 13 rfl rfl)
theorem dX1_pass_82 : decode cX1_pass 82 = .ok (.getfield 15, 3) := dk_180 0 15 (dk_at dksX1_pass_3 14 rfl rfl)
theorem dX1_pass_85 : decode cX1_pass 85 = .ok (.iload_n 1, 1) := dk_27 (dk_at dksX1_pass_3 17 rfl rfl)
theorem dX1_pass_86 : decode cX1_pass 86 = .ok (.bipush 9, 2) := dk_16 9 (dk_at dksX1_pass_3 18 rfl rfl)
theorem dX1_pass_88 : decode cX1_pass 88 = .ok (.aload_n 0, 1) := dk_42 (dk_at dksX1_pass_3 20 rfl rfl)
theorem dX1_pass_89 : decode cX1_pass 89 = .ok (.getfield 15, 3) := dk_180 0 15 (dk_at dksX1_pass_3 21 rfl rfl)
theorem dX1_pass_92 : decode cX1_pass 92 = .ok (.iload_n 1, 1) := dk_27 (dk_at dksX1_pass_4 0 rfl rfl)
theorem dX1_pass_93 : decode cX1_pass 93 = .ok (.iaload, 1) := dk_46 (dk_at dksX1_pass_4 1 rfl rfl)
theorem dX1_pass_94 : decode cX1_pass 94 = .ok (.iconst 1, 1) := dk_4 (dk_at dksX1_pass_4 2 rfl rfl)
theorem dX1_pass_95 : decode cX1_pass 95 = .ok (.iadd, 1) := dk_96 (dk_at dksX1_pass_4 3 rfl rfl)
theorem dX1_pass_96 : decode cX1_pass 96 = .ok (.invokestatic 101, 3) := dk_184 0 101 (dk_at dksX1_pass_4 4 rfl rfl)
theorem dX1_pass_99 : decode cX1_pass 99 = .ok (.iastore, 1) := dk_79 (dk_at dksX1_pass_4 7 rfl rfl)
theorem dX1_pass_100 : decode cX1_pass 100 = .ok (.iinc 1 1, 3) := dk_132 1 1 (dk_at dksX1_pass_4 8 rfl rfl)
theorem dX1_pass_103 : decode cX1_pass 103 = .ok (.goto (-48), 3) := dk_167 255 208 (dk_at dksX1_pass_4 11 rfl rfl)
theorem dX1_pass_106 : decode cX1_pass 106 = .ok (.aload_n 0, 1) := dk_42 (dk_at dksX1_pass_4 14 rfl rfl)
theorem dX1_pass_107 : decode cX1_pass 107 = .ok (.dup, 1) := dk_89 (dk_at dksX1_pass_4 15 rfl rfl)
theorem dX1_pass_108 : decode cX1_pass 108 = .ok (.getfield 66, 3) := dk_180 0 66 (dk_at dksX1_pass_4 16 rfl rfl)
theorem dX1_pass_111 : decode cX1_pass 111 = .ok (.iconst 1, 1) := dk_4 (dk_at dksX1_pass_4 19 rfl rfl)
theorem dX1_pass_112 : decode cX1_pass 112 = .ok (.iadd, 1) := dk_96 (dk_at dksX1_pass_4 20 rfl rfl)
theorem dX1_pass_113 : decode cX1_pass 113 = .ok (.putfield 66, 3) := dk_181 0 66 (dk_at dksX1_pass_4 21 rfl rfl)
theorem dX1_pass_116 : decode cX1_pass 116 = .ok (.aload_n 0, 1) := dk_42 (dk_at dksX1_pass_5 0 rfl rfl)
theorem dX1_pass_117 : decode cX1_pass 117 = .ok (.areturn, 1) := dk_176 (dk_at dksX1_pass_5 1 rfl rfl)
abbrev cX1_isCaught : ByteArray := prog_7_method_7_code
def yX1_isCaught : MethodName := ⟨RX1, "isCaught", "(I)Z"⟩
def dkwX1_isCaught_0 : List UInt8 := [42, 180, 0, 63, 27, 122, 4, 126, 4, 160, 0, 7, 4, 167, 0, 4, 3, 172]
abbrev dktX1_isCaught_0 : List UInt8 := dkwX1_isCaught_0 ++ []
theorem dksX1_isCaught_0 : cX1_isCaught.data.toList.drop 0 = dktX1_isCaught_0 := by decide +kernel
theorem dX1_isCaught_0 : decode cX1_isCaught 0 = .ok (.aload_n 0, 1) := dk_42 (dk_at dksX1_isCaught_0 0 rfl rfl)
theorem dX1_isCaught_1 : decode cX1_isCaught 1 = .ok (.getfield 63, 3) := dk_180 0 63 (dk_at dksX1_isCaught_0 1 rfl rfl)
theorem dX1_isCaught_4 : decode cX1_isCaught 4 = .ok (.iload_n 1, 1) := dk_27 (dk_at dksX1_isCaught_0 4 rfl rfl)
theorem dX1_isCaught_5 : decode cX1_isCaught 5 = .ok (.ishr, 1) := dk_122 (dk_at dksX1_isCaught_0 5 rfl rfl)
theorem dX1_isCaught_6 : decode cX1_isCaught 6 = .ok (.iconst 1, 1) := dk_4 (dk_at dksX1_isCaught_0 6 rfl rfl)
theorem dX1_isCaught_7 : decode cX1_isCaught 7 = .ok (.iand, 1) := dk_126 (dk_at dksX1_isCaught_0 7 rfl rfl)
theorem dX1_isCaught_8 : decode cX1_isCaught 8 = .ok (.iconst 1, 1) := dk_4 (dk_at dksX1_isCaught_0 8 rfl rfl)
theorem dX1_isCaught_9 : decode cX1_isCaught 9 = .ok (.if_icmp .ne 7, 3) := dk_160 0 7 (dk_at dksX1_isCaught_0 9 rfl rfl)
theorem dX1_isCaught_12 : decode cX1_isCaught 12 = .ok (.iconst 1, 1) := dk_4 (dk_at dksX1_isCaught_0 12 rfl rfl)
theorem dX1_isCaught_13 : decode cX1_isCaught 13 = .ok (.goto 4, 3) := dk_167 0 4 (dk_at dksX1_isCaught_0 13 rfl rfl)
theorem dX1_isCaught_16 : decode cX1_isCaught 16 = .ok (.iconst 0, 1) := dk_3 (dk_at dksX1_isCaught_0 16 rfl rfl)
theorem dX1_isCaught_17 : decode cX1_isCaught 17 = .ok (.ireturn, 1) := dk_172 (dk_at dksX1_isCaught_0 17 rfl rfl)
abbrev cX1_fish : ByteArray := prog_7_method_4_code
def yX1_fish : MethodName := ⟨RX1, "fish", "(I)LFishReaders$Fish;"⟩
def dkwX1_fish_1 : List UInt8 := [185, 0, 79, 2, 0, 192, 0, 83, 176]
abbrev dktX1_fish_1 : List UInt8 := dkwX1_fish_1 ++ []
def dkwX1_fish_0 : List UInt8 := [27, 42, 180, 0, 38, 160, 0, 10, 42, 180, 0, 75, 167, 0, 16, 42, 180, 0, 27, 27]
abbrev dktX1_fish_0 : List UInt8 := dkwX1_fish_0 ++ dktX1_fish_1
theorem dksX1_fish_0 : cX1_fish.data.toList.drop 0 = dktX1_fish_0 := by decide +kernel
theorem dksX1_fish_1 : cX1_fish.data.toList.drop 20 = dktX1_fish_1 := dk_seg dksX1_fish_0 20 rfl rfl
theorem dX1_fish_0 : decode cX1_fish 0 = .ok (.iload_n 1, 1) := dk_27 (dk_at dksX1_fish_0 0 rfl rfl)
theorem dX1_fish_1 : decode cX1_fish 1 = .ok (.aload_n 0, 1) := dk_42 (dk_at dksX1_fish_0 1 rfl rfl)
theorem dX1_fish_2 : decode cX1_fish 2 = .ok (.getfield 38, 3) := dk_180 0 38 (dk_at dksX1_fish_0 2 rfl rfl)
theorem dX1_fish_5 : decode cX1_fish 5 = .ok (.if_icmp .ne 10, 3) := dk_160 0 10 (dk_at dksX1_fish_0 5 rfl rfl)
theorem dX1_fish_8 : decode cX1_fish 8 = .ok (.aload_n 0, 1) := dk_42 (dk_at dksX1_fish_0 8 rfl rfl)
theorem dX1_fish_9 : decode cX1_fish 9 = .ok (.getfield 75, 3) := dk_180 0 75 (dk_at dksX1_fish_0 9 rfl rfl)
theorem dX1_fish_12 : decode cX1_fish 12 = .ok (.goto 16, 3) := dk_167 0 16 (dk_at dksX1_fish_0 12 rfl rfl)
theorem dX1_fish_15 : decode cX1_fish 15 = .ok (.aload_n 0, 1) := dk_42 (dk_at dksX1_fish_0 15 rfl rfl)
theorem dX1_fish_16 : decode cX1_fish 16 = .ok (.getfield 27, 3) := dk_180 0 27 (dk_at dksX1_fish_0 16 rfl rfl)
theorem dX1_fish_19 : decode cX1_fish 19 = .ok (.iload_n 1, 1) := dk_27 (dk_at dksX1_fish_0 19 rfl rfl)
theorem dX1_fish_20 : decode cX1_fish 20 = .ok (.invokeinterface 79 2, 5) := by decide +kernel
theorem dX1_fish_25 : decode cX1_fish 25 = .ok (.checkcast 83, 3) := dk_192 0 83 (dk_at dksX1_fish_1 5 rfl rfl)
theorem dX1_fish_28 : decode cX1_fish 28 = .ok (.areturn, 1) := dk_176 (dk_at dksX1_fish_1 8 rfl rfl)
abbrev cX1_liked : ByteArray := prog_7_method_9_code
def yX1_liked : MethodName := ⟨RX1, "liked", "(II)I"⟩
def dkwX1_liked_4 : List UInt8 := [132, 5, 1, 167, 255, 169, 29, 172]
abbrev dktX1_liked_4 : List UInt8 := dkwX1_liked_4 ++ []
def dkwX1_liked_3 : List UInt8 := [18, 37, 159, 0, 13, 21, 7, 21, 4, 163, 0, 6, 167, 0, 10, 21, 5, 62, 21, 7, 54, 4]
abbrev dktX1_liked_3 : List UInt8 := dkwX1_liked_3 ++ dktX1_liked_4
def dkwX1_liked_2 : List UInt8 := [16, 10, 108, 96, 21, 5, 27, 100, 184, 0, 92, 100, 54, 7, 42, 21, 6, 182, 0, 98, 153, 0, 26, 29]
abbrev dktX1_liked_2 : List UInt8 := dkwX1_liked_2 ++ dktX1_liked_3
def dkwX1_liked_1 : List UInt8 := [180, 0, 18, 21, 5, 46, 54, 6, 28, 42, 180, 0, 15, 21, 6, 46, 104, 42, 180, 0, 9, 21, 6, 46]
abbrev dktX1_liked_1 : List UInt8 := dkwX1_liked_1 ++ dktX1_liked_2
def dkwX1_liked_0 : List UInt8 := [18, 37, 62, 18, 37, 54, 4, 3, 54, 5, 21, 5, 42, 180, 0, 48, 162, 0, 84, 28, 158, 0, 80, 42]
abbrev dktX1_liked_0 : List UInt8 := dkwX1_liked_0 ++ dktX1_liked_1
theorem dksX1_liked_0 : cX1_liked.data.toList.drop 0 = dktX1_liked_0 := by decide +kernel
theorem dksX1_liked_1 : cX1_liked.data.toList.drop 24 = dktX1_liked_1 := dk_seg dksX1_liked_0 24 rfl rfl
theorem dksX1_liked_2 : cX1_liked.data.toList.drop 48 = dktX1_liked_2 := dk_seg dksX1_liked_1 24 rfl rfl
theorem dksX1_liked_3 : cX1_liked.data.toList.drop 72 = dktX1_liked_3 := dk_seg dksX1_liked_2 24 rfl rfl
theorem dksX1_liked_4 : cX1_liked.data.toList.drop 94 = dktX1_liked_4 := dk_seg dksX1_liked_3 22 rfl rfl
theorem dX1_liked_0 : decode cX1_liked 0 = .ok (.ldc 37, 2) := dk_18 37 (dk_at dksX1_liked_0 0 rfl rfl)
theorem dX1_liked_2 : decode cX1_liked 2 = .ok (.istore_n 3, 1) := dk_62 (dk_at dksX1_liked_0 2 rfl rfl)
theorem dX1_liked_3 : decode cX1_liked 3 = .ok (.ldc 37, 2) := dk_18 37 (dk_at dksX1_liked_0 3 rfl rfl)
theorem dX1_liked_5 : decode cX1_liked 5 = .ok (.istore 4, 2) := dk_54 4 (dk_at dksX1_liked_0 5 rfl rfl)
theorem dX1_liked_7 : decode cX1_liked 7 = .ok (.iconst 0, 1) := dk_3 (dk_at dksX1_liked_0 7 rfl rfl)
theorem dX1_liked_8 : decode cX1_liked 8 = .ok (.istore 5, 2) := dk_54 5 (dk_at dksX1_liked_0 8 rfl rfl)
theorem dX1_liked_10 : decode cX1_liked 10 = .ok (.iload 5, 2) := dk_21 5 (dk_at dksX1_liked_0 10 rfl rfl)
theorem dX1_liked_12 : decode cX1_liked 12 = .ok (.aload_n 0, 1) := dk_42 (dk_at dksX1_liked_0 12 rfl rfl)
theorem dX1_liked_13 : decode cX1_liked 13 = .ok (.getfield 48, 3) := dk_180 0 48 (dk_at dksX1_liked_0 13 rfl rfl)
theorem dX1_liked_16 : decode cX1_liked 16 = .ok (.if_icmp .ge 84, 3) := dk_162 0 84 (dk_at dksX1_liked_0 16 rfl rfl)
theorem dX1_liked_19 : decode cX1_liked 19 = .ok (.iload_n 2, 1) := dk_28 (dk_at dksX1_liked_0 19 rfl rfl)
theorem dX1_liked_20 : decode cX1_liked 20 = .ok (.ifCond .le 80, 3) := dk_158 0 80 (dk_at dksX1_liked_0 20 rfl rfl)
theorem dX1_liked_23 : decode cX1_liked 23 = .ok (.aload_n 0, 1) := dk_42 (dk_at dksX1_liked_0 23 rfl rfl)
theorem dX1_liked_24 : decode cX1_liked 24 = .ok (.getfield 18, 3) := dk_180 0 18 (dk_at dksX1_liked_1 0 rfl rfl)
theorem dX1_liked_27 : decode cX1_liked 27 = .ok (.iload 5, 2) := dk_21 5 (dk_at dksX1_liked_1 3 rfl rfl)
theorem dX1_liked_29 : decode cX1_liked 29 = .ok (.iaload, 1) := dk_46 (dk_at dksX1_liked_1 5 rfl rfl)
theorem dX1_liked_30 : decode cX1_liked 30 = .ok (.istore 6, 2) := dk_54 6 (dk_at dksX1_liked_1 6 rfl rfl)
theorem dX1_liked_32 : decode cX1_liked 32 = .ok (.iload_n 2, 1) := dk_28 (dk_at dksX1_liked_1 8 rfl rfl)
theorem dX1_liked_33 : decode cX1_liked 33 = .ok (.aload_n 0, 1) := dk_42 (dk_at dksX1_liked_1 9 rfl rfl)
theorem dX1_liked_34 : decode cX1_liked 34 = .ok (.getfield 15, 3) := dk_180 0 15 (dk_at dksX1_liked_1 10 rfl rfl)
theorem dX1_liked_37 : decode cX1_liked 37 = .ok (.iload 6, 2) := dk_21 6 (dk_at dksX1_liked_1 13 rfl rfl)
theorem dX1_liked_39 : decode cX1_liked 39 = .ok (.iaload, 1) := dk_46 (dk_at dksX1_liked_1 15 rfl rfl)
theorem dX1_liked_40 : decode cX1_liked 40 = .ok (.imul, 1) := dk_104 (dk_at dksX1_liked_1 16 rfl rfl)
theorem dX1_liked_41 : decode cX1_liked 41 = .ok (.aload_n 0, 1) := dk_42 (dk_at dksX1_liked_1 17 rfl rfl)
theorem dX1_liked_42 : decode cX1_liked 42 = .ok (.getfield 9, 3) := dk_180 0 9 (dk_at dksX1_liked_1 18 rfl rfl)
theorem dX1_liked_45 : decode cX1_liked 45 = .ok (.iload 6, 2) := dk_21 6 (dk_at dksX1_liked_1 21 rfl rfl)
theorem dX1_liked_47 : decode cX1_liked 47 = .ok (.iaload, 1) := dk_46 (dk_at dksX1_liked_1 23 rfl rfl)
theorem dX1_liked_48 : decode cX1_liked 48 = .ok (.bipush 10, 2) := dk_16 10 (dk_at dksX1_liked_2 0 rfl rfl)
theorem dX1_liked_50 : decode cX1_liked 50 = .ok (.idiv, 1) := dk_108 (dk_at dksX1_liked_2 2 rfl rfl)
theorem dX1_liked_51 : decode cX1_liked 51 = .ok (.iadd, 1) := dk_96 (dk_at dksX1_liked_2 3 rfl rfl)
theorem dX1_liked_52 : decode cX1_liked 52 = .ok (.iload 5, 2) := dk_21 5 (dk_at dksX1_liked_2 4 rfl rfl)
theorem dX1_liked_54 : decode cX1_liked 54 = .ok (.iload_n 1, 1) := dk_27 (dk_at dksX1_liked_2 6 rfl rfl)
theorem dX1_liked_55 : decode cX1_liked 55 = .ok (.isub, 1) := dk_100 (dk_at dksX1_liked_2 7 rfl rfl)
theorem dX1_liked_56 : decode cX1_liked 56 = .ok (.invokestatic 92, 3) := dk_184 0 92 (dk_at dksX1_liked_2 8 rfl rfl)
theorem dX1_liked_59 : decode cX1_liked 59 = .ok (.isub, 1) := dk_100 (dk_at dksX1_liked_2 11 rfl rfl)
theorem dX1_liked_60 : decode cX1_liked 60 = .ok (.istore 7, 2) := dk_54 7 (dk_at dksX1_liked_2 12 rfl rfl)
theorem dX1_liked_62 : decode cX1_liked 62 = .ok (.aload_n 0, 1) := dk_42 (dk_at dksX1_liked_2 14 rfl rfl)
theorem dX1_liked_63 : decode cX1_liked 63 = .ok (.iload 6, 2) := dk_21 6 (dk_at dksX1_liked_2 15 rfl rfl)
theorem dX1_liked_65 : decode cX1_liked 65 = .ok (.invokevirtual 98, 3) := dk_182 0 98 (dk_at dksX1_liked_2 17 rfl rfl)
theorem dX1_liked_68 : decode cX1_liked 68 = .ok (.ifCond .eq 26, 3) := dk_153 0 26 (dk_at dksX1_liked_2 20 rfl rfl)
theorem dX1_liked_71 : decode cX1_liked 71 = .ok (.iload_n 3, 1) := dk_29 (dk_at dksX1_liked_2 23 rfl rfl)
theorem dX1_liked_72 : decode cX1_liked 72 = .ok (.ldc 37, 2) := dk_18 37 (dk_at dksX1_liked_3 0 rfl rfl)
theorem dX1_liked_74 : decode cX1_liked 74 = .ok (.if_icmp .eq 13, 3) := dk_159 0 13 (dk_at dksX1_liked_3 2 rfl rfl)
theorem dX1_liked_77 : decode cX1_liked 77 = .ok (.iload 7, 2) := dk_21 7 (dk_at dksX1_liked_3 5 rfl rfl)
theorem dX1_liked_79 : decode cX1_liked 79 = .ok (.iload 4, 2) := dk_21 4 (dk_at dksX1_liked_3 7 rfl rfl)
theorem dX1_liked_81 : decode cX1_liked 81 = .ok (.if_icmp .gt 6, 3) := dk_163 0 6 (dk_at dksX1_liked_3 9 rfl rfl)
theorem dX1_liked_84 : decode cX1_liked 84 = .ok (.goto 10, 3) := dk_167 0 10 (dk_at dksX1_liked_3 12 rfl rfl)
theorem dX1_liked_87 : decode cX1_liked 87 = .ok (.iload 5, 2) := dk_21 5 (dk_at dksX1_liked_3 15 rfl rfl)
theorem dX1_liked_89 : decode cX1_liked 89 = .ok (.istore_n 3, 1) := dk_62 (dk_at dksX1_liked_3 17 rfl rfl)
theorem dX1_liked_90 : decode cX1_liked 90 = .ok (.iload 7, 2) := dk_21 7 (dk_at dksX1_liked_3 18 rfl rfl)
theorem dX1_liked_92 : decode cX1_liked 92 = .ok (.istore 4, 2) := dk_54 4 (dk_at dksX1_liked_3 20 rfl rfl)
theorem dX1_liked_94 : decode cX1_liked 94 = .ok (.iinc 5 1, 3) := dk_132 5 1 (dk_at dksX1_liked_4 0 rfl rfl)
theorem dX1_liked_97 : decode cX1_liked 97 = .ok (.goto (-87), 3) := dk_167 255 169 (dk_at dksX1_liked_4 3 rfl rfl)
theorem dX1_liked_100 : decode cX1_liked 100 = .ok (.iload_n 3, 1) := dk_29 (dk_at dksX1_liked_4 6 rfl rfl)
theorem dX1_liked_101 : decode cX1_liked 101 = .ok (.ireturn, 1) := dk_172 (dk_at dksX1_liked_4 7 rfl rfl)
abbrev cX1_isOpen : ByteArray := prog_7_method_8_code
def yX1_isOpen : MethodName := ⟨RX1, "isOpen", "(I)Z"⟩
def dkwX1_isOpen_1 : List UInt8 := [154, 0, 7, 4, 167, 0, 4, 3, 172]
abbrev dktX1_isOpen_1 : List UInt8 := dkwX1_isOpen_1 ++ []
def dkwX1_isOpen_0 : List UInt8 := [42, 180, 0, 9, 27, 46, 158, 0, 23, 42, 27, 182, 0, 85, 154, 0, 15, 42, 27, 182, 0, 89]
abbrev dktX1_isOpen_0 : List UInt8 := dkwX1_isOpen_0 ++ dktX1_isOpen_1
theorem dksX1_isOpen_0 : cX1_isOpen.data.toList.drop 0 = dktX1_isOpen_0 := by decide +kernel
theorem dksX1_isOpen_1 : cX1_isOpen.data.toList.drop 22 = dktX1_isOpen_1 := dk_seg dksX1_isOpen_0 22 rfl rfl
theorem dX1_isOpen_0 : decode cX1_isOpen 0 = .ok (.aload_n 0, 1) := dk_42 (dk_at dksX1_isOpen_0 0 rfl rfl)
theorem dX1_isOpen_1 : decode cX1_isOpen 1 = .ok (.getfield 9, 3) := dk_180 0 9 (dk_at dksX1_isOpen_0 1 rfl rfl)
theorem dX1_isOpen_4 : decode cX1_isOpen 4 = .ok (.iload_n 1, 1) := dk_27 (dk_at dksX1_isOpen_0 4 rfl rfl)
theorem dX1_isOpen_5 : decode cX1_isOpen 5 = .ok (.iaload, 1) := dk_46 (dk_at dksX1_isOpen_0 5 rfl rfl)
theorem dX1_isOpen_6 : decode cX1_isOpen 6 = .ok (.ifCond .le 23, 3) := dk_158 0 23 (dk_at dksX1_isOpen_0 6 rfl rfl)
theorem dX1_isOpen_9 : decode cX1_isOpen 9 = .ok (.aload_n 0, 1) := dk_42 (dk_at dksX1_isOpen_0 9 rfl rfl)
theorem dX1_isOpen_10 : decode cX1_isOpen 10 = .ok (.iload_n 1, 1) := dk_27 (dk_at dksX1_isOpen_0 10 rfl rfl)
theorem dX1_isOpen_11 : decode cX1_isOpen 11 = .ok (.invokevirtual 85, 3) := dk_182 0 85 (dk_at dksX1_isOpen_0 11 rfl rfl)
theorem dX1_isOpen_14 : decode cX1_isOpen 14 = .ok (.ifCond .ne 15, 3) := dk_154 0 15 (dk_at dksX1_isOpen_0 14 rfl rfl)
theorem dX1_isOpen_17 : decode cX1_isOpen 17 = .ok (.aload_n 0, 1) := dk_42 (dk_at dksX1_isOpen_0 17 rfl rfl)
theorem dX1_isOpen_18 : decode cX1_isOpen 18 = .ok (.iload_n 1, 1) := dk_27 (dk_at dksX1_isOpen_0 18 rfl rfl)
theorem dX1_isOpen_19 : decode cX1_isOpen 19 = .ok (.invokevirtual 89, 3) := dk_182 0 89 (dk_at dksX1_isOpen_0 19 rfl rfl)
theorem dX1_isOpen_22 : decode cX1_isOpen 22 = .ok (.ifCond .ne 7, 3) := dk_154 0 7 (dk_at dksX1_isOpen_1 0 rfl rfl)
theorem dX1_isOpen_25 : decode cX1_isOpen 25 = .ok (.iconst 1, 1) := dk_4 (dk_at dksX1_isOpen_1 3 rfl rfl)
theorem dX1_isOpen_26 : decode cX1_isOpen 26 = .ok (.goto 4, 3) := dk_167 0 4 (dk_at dksX1_isOpen_1 4 rfl rfl)
theorem dX1_isOpen_29 : decode cX1_isOpen 29 = .ok (.iconst 0, 1) := dk_3 (dk_at dksX1_isOpen_1 7 rfl rfl)
theorem dX1_isOpen_30 : decode cX1_isOpen 30 = .ok (.ireturn, 1) := dk_172 (dk_at dksX1_isOpen_1 8 rfl rfl)
abbrev cX1_isLit : ByteArray := prog_7_method_5_code
def yX1_isLit : MethodName := ⟨RX1, "isLit", "(I)Z"⟩
def dkwX1_isLit_0 : List UInt8 := [42, 180, 0, 57, 27, 122, 4, 126, 4, 160, 0, 7, 4, 167, 0, 4, 3, 172]
abbrev dktX1_isLit_0 : List UInt8 := dkwX1_isLit_0 ++ []
theorem dksX1_isLit_0 : cX1_isLit.data.toList.drop 0 = dktX1_isLit_0 := by decide +kernel
theorem dX1_isLit_0 : decode cX1_isLit 0 = .ok (.aload_n 0, 1) := dk_42 (dk_at dksX1_isLit_0 0 rfl rfl)
theorem dX1_isLit_1 : decode cX1_isLit 1 = .ok (.getfield 57, 3) := dk_180 0 57 (dk_at dksX1_isLit_0 1 rfl rfl)
theorem dX1_isLit_4 : decode cX1_isLit 4 = .ok (.iload_n 1, 1) := dk_27 (dk_at dksX1_isLit_0 4 rfl rfl)
theorem dX1_isLit_5 : decode cX1_isLit 5 = .ok (.ishr, 1) := dk_122 (dk_at dksX1_isLit_0 5 rfl rfl)
theorem dX1_isLit_6 : decode cX1_isLit 6 = .ok (.iconst 1, 1) := dk_4 (dk_at dksX1_isLit_0 6 rfl rfl)
theorem dX1_isLit_7 : decode cX1_isLit 7 = .ok (.iand, 1) := dk_126 (dk_at dksX1_isLit_0 7 rfl rfl)
theorem dX1_isLit_8 : decode cX1_isLit 8 = .ok (.iconst 1, 1) := dk_4 (dk_at dksX1_isLit_0 8 rfl rfl)
theorem dX1_isLit_9 : decode cX1_isLit 9 = .ok (.if_icmp .ne 7, 3) := dk_160 0 7 (dk_at dksX1_isLit_0 9 rfl rfl)
theorem dX1_isLit_12 : decode cX1_isLit 12 = .ok (.iconst 1, 1) := dk_4 (dk_at dksX1_isLit_0 12 rfl rfl)
theorem dX1_isLit_13 : decode cX1_isLit 13 = .ok (.goto 4, 3) := dk_167 0 4 (dk_at dksX1_isLit_0 13 rfl rfl)
theorem dX1_isLit_16 : decode cX1_isLit 16 = .ok (.iconst 0, 1) := dk_3 (dk_at dksX1_isLit_0 16 rfl rfl)
theorem dX1_isLit_17 : decode cX1_isLit 17 = .ok (.ireturn, 1) := dk_172 (dk_at dksX1_isLit_0 17 rfl rfl)
abbrev cX1_isKept : ByteArray := prog_7_method_6_code
def yX1_isKept : MethodName := ⟨RX1, "isKept", "(I)Z"⟩
def dkwX1_isKept_0 : List UInt8 := [42, 180, 0, 60, 27, 122, 4, 126, 4, 160, 0, 7, 4, 167, 0, 4, 3, 172]
abbrev dktX1_isKept_0 : List UInt8 := dkwX1_isKept_0 ++ []
theorem dksX1_isKept_0 : cX1_isKept.data.toList.drop 0 = dktX1_isKept_0 := by decide +kernel
theorem dX1_isKept_0 : decode cX1_isKept 0 = .ok (.aload_n 0, 1) := dk_42 (dk_at dksX1_isKept_0 0 rfl rfl)
theorem dX1_isKept_1 : decode cX1_isKept 1 = .ok (.getfield 60, 3) := dk_180 0 60 (dk_at dksX1_isKept_0 1 rfl rfl)
theorem dX1_isKept_4 : decode cX1_isKept 4 = .ok (.iload_n 1, 1) := dk_27 (dk_at dksX1_isKept_0 4 rfl rfl)
theorem dX1_isKept_5 : decode cX1_isKept 5 = .ok (.ishr, 1) := dk_122 (dk_at dksX1_isKept_0 5 rfl rfl)
theorem dX1_isKept_6 : decode cX1_isKept 6 = .ok (.iconst 1, 1) := dk_4 (dk_at dksX1_isKept_0 6 rfl rfl)
theorem dX1_isKept_7 : decode cX1_isKept 7 = .ok (.iand, 1) := dk_126 (dk_at dksX1_isKept_0 7 rfl rfl)
theorem dX1_isKept_8 : decode cX1_isKept 8 = .ok (.iconst 1, 1) := dk_4 (dk_at dksX1_isKept_0 8 rfl rfl)
theorem dX1_isKept_9 : decode cX1_isKept 9 = .ok (.if_icmp .ne 7, 3) := dk_160 0 7 (dk_at dksX1_isKept_0 9 rfl rfl)
theorem dX1_isKept_12 : decode cX1_isKept 12 = .ok (.iconst 1, 1) := dk_4 (dk_at dksX1_isKept_0 12 rfl rfl)
theorem dX1_isKept_13 : decode cX1_isKept 13 = .ok (.goto 4, 3) := dk_167 0 4 (dk_at dksX1_isKept_0 13 rfl rfl)
theorem dX1_isKept_16 : decode cX1_isKept 16 = .ok (.iconst 0, 1) := dk_3 (dk_at dksX1_isKept_0 16 rfl rfl)
theorem dX1_isKept_17 : decode cX1_isKept 17 = .ok (.ireturn, 1) := dk_172 (dk_at dksX1_isKept_0 17 rfl rfl)
abbrev cX1_nearer : ByteArray := prog_7_method_10_code
def yX1_nearer : MethodName := ⟨RX1, "nearer", "(II)I"⟩
def dkwX1_nearer_1 : List UInt8 := [167, 0, 6, 27, 4, 100, 172]
abbrev dktX1_nearer_1 : List UInt8 := dkwX1_nearer_1 ++ []
def dkwX1_nearer_0 : List UInt8 := [28, 18, 37, 159, 0, 8, 28, 27, 160, 0, 7, 27, 167, 0, 17, 28, 27, 164, 0, 9, 27, 4, 96]
abbrev dktX1_nearer_0 : List UInt8 := dkwX1_nearer_0 ++ dktX1_nearer_1
theorem dksX1_nearer_0 : cX1_nearer.data.toList.drop 0 = dktX1_nearer_0 := by decide +kernel
theorem dksX1_nearer_1 : cX1_nearer.data.toList.drop 23 = dktX1_nearer_1 := dk_seg dksX1_nearer_0 23 rfl rfl
theorem dX1_nearer_0 : decode cX1_nearer 0 = .ok (.iload_n 2, 1) := dk_28 (dk_at dksX1_nearer_0 0 rfl rfl)
theorem dX1_nearer_1 : decode cX1_nearer 1 = .ok (.ldc 37, 2) := dk_18 37 (dk_at dksX1_nearer_0 1 rfl rfl)
theorem dX1_nearer_3 : decode cX1_nearer 3 = .ok (.if_icmp .eq 8, 3) := dk_159 0 8 (dk_at dksX1_nearer_0 3 rfl rfl)
theorem dX1_nearer_6 : decode cX1_nearer 6 = .ok (.iload_n 2, 1) := dk_28 (dk_at dksX1_nearer_0 6 rfl rfl)
theorem dX1_nearer_7 : decode cX1_nearer 7 = .ok (.iload_n 1, 1) := dk_27 (dk_at dksX1_nearer_0 7 rfl rfl)
theorem dX1_nearer_8 : decode cX1_nearer 8 = .ok (.if_icmp .ne 7, 3) := dk_160 0 7 (dk_at dksX1_nearer_0 8 rfl rfl)
theorem dX1_nearer_11 : decode cX1_nearer 11 = .ok (.iload_n 1, 1) := dk_27 (dk_at dksX1_nearer_0 11 rfl rfl)
theorem dX1_nearer_12 : decode cX1_nearer 12 = .ok (.goto 17, 3) := dk_167 0 17 (dk_at dksX1_nearer_0 12 rfl rfl)
theorem dX1_nearer_15 : decode cX1_nearer 15 = .ok (.iload_n 2, 1) := dk_28 (dk_at dksX1_nearer_0 15 rfl rfl)
theorem dX1_nearer_16 : decode cX1_nearer 16 = .ok (.iload_n 1, 1) := dk_27 (dk_at dksX1_nearer_0 16 rfl rfl)
theorem dX1_nearer_17 : decode cX1_nearer 17 = .ok (.if_icmp .le 9, 3) := dk_164 0 9 (dk_at dksX1_nearer_0 17 rfl rfl)
theorem dX1_nearer_20 : decode cX1_nearer 20 = .ok (.iload_n 1, 1) := dk_27 (dk_at dksX1_nearer_0 20 rfl rfl)
theorem dX1_nearer_21 : decode cX1_nearer 21 = .ok (.iconst 1, 1) := dk_4 (dk_at dksX1_nearer_0 21 rfl rfl)
theorem dX1_nearer_22 : decode cX1_nearer 22 = .ok (.iadd, 1) := dk_96 (dk_at dksX1_nearer_0 22 rfl rfl)
theorem dX1_nearer_23 : decode cX1_nearer 23 = .ok (.goto 6, 3) := dk_167 0 6 (dk_at dksX1_nearer_1 0 rfl rfl)
theorem dX1_nearer_26 : decode cX1_nearer 26 = .ok (.iload_n 1, 1) := dk_27 (dk_at dksX1_nearer_1 3 rfl rfl)
theorem dX1_nearer_27 : decode cX1_nearer 27 = .ok (.iconst 1, 1) := dk_4 (dk_at dksX1_nearer_1 4 rfl rfl)
theorem dX1_nearer_28 : decode cX1_nearer 28 = .ok (.isub, 1) := dk_100 (dk_at dksX1_nearer_1 5 rfl rfl)
theorem dX1_nearer_29 : decode cX1_nearer 29 = .ok (.ireturn, 1) := dk_172 (dk_at dksX1_nearer_1 6 rfl rfl)
abbrev cX1_eats : ByteArray := prog_7_method_11_code
def yX1_eats : MethodName := ⟨RX1, "eats", "(I)V"⟩
def dkwX1_eats_2 : List UInt8 := [180, 0, 34, 27, 17, 3, 231, 42, 180, 0, 34, 27, 46, 29, 96, 184, 0, 101, 79, 177]
abbrev dktX1_eats_2 : List UInt8 := dkwX1_eats_2 ++ []
def dkwX1_eats_1 : List UInt8 := [180, 0, 42, 42, 180, 0, 9, 28, 46, 184, 0, 101, 62, 42, 180, 0, 9, 28, 92, 46, 29, 100, 79, 42]
abbrev dktX1_eats_1 : List UInt8 := dkwX1_eats_1 ++ dktX1_eats_2
def dkwX1_eats_0 : List UInt8 := [42, 180, 0, 18, 42, 180, 0, 31, 27, 46, 46, 61, 42, 28, 182, 0, 98, 154, 0, 4, 177, 42]
abbrev dktX1_eats_0 : List UInt8 := dkwX1_eats_0 ++ dktX1_eats_1
theorem dksX1_eats_0 : cX1_eats.data.toList.drop 0 = dktX1_eats_0 := by decide +kernel
theorem dksX1_eats_1 : cX1_eats.data.toList.drop 22 = dktX1_eats_1 := dk_seg dksX1_eats_0 22 rfl rfl
theorem dksX1_eats_2 : cX1_eats.data.toList.drop 46 = dktX1_eats_2 := dk_seg dksX1_eats_1 24 rfl rfl
theorem dX1_eats_0 : decode cX1_eats 0 = .ok (.aload_n 0, 1) := dk_42 (dk_at dksX1_eats_0 0 rfl rfl)
theorem dX1_eats_1 : decode cX1_eats 1 = .ok (.getfield 18, 3) := dk_180 0 18 (dk_at dksX1_eats_0 1 rfl rfl)
theorem dX1_eats_4 : decode cX1_eats 4 = .ok (.aload_n 0, 1) := dk_42 (dk_at dksX1_eats_0 4 rfl rfl)
theorem dX1_eats_5 : decode cX1_eats 5 = .ok (.getfield 31, 3) := dk_180 0 31 (dk_at dksX1_eats_0 5 rfl rfl)
theorem dX1_eats_8 : decode cX1_eats 8 = .ok (.iload_n 1, 1) := dk_27 (dk_at dksX1_eats_0 8 rfl rfl)
theorem dX1_eats_9 : decode cX1_eats 9 = .ok (.iaload, 1) := dk_46 (dk_at dksX1_eats_0 9 rfl rfl)
theorem dX1_eats_10 : decode cX1_eats 10 = .ok (.iaload, 1) := dk_46 (dk_at dksX1_eats_0 10 rfl rfl)
theorem dX1_eats_11 : decode cX1_eats 11 = .ok (.istore_n 2, 1) := dk_61 (dk_at dksX1_eats_0 11 rfl rfl)
theorem dX1_eats_12 : decode cX1_eats 12 = .ok (.aload_n 0, 1) := dk_42 (dk_at dksX1_eats_0 12 rfl rfl)
theorem dX1_eats_13 : decode cX1_eats 13 = .ok (.iload_n 2, 1) := dk_28 (dk_at dksX1_eats_0 13 rfl rfl)
theorem dX1_eats_14 : decode cX1_eats 14 = .ok (.invokevirtual 98, 3) := dk_182 0 98 (dk_at dksX1_eats_0 14 rfl rfl)
theorem dX1_eats_17 : decode cX1_eats 17 = .ok (.ifCond .ne 4, 3) := dk_154 0 4 (dk_at dksX1_eats_0 17 rfl rfl)
theorem dX1_eats_20 : decode cX1_eats 20 = .ok (.return_, 1) := dk_177 (dk_at dksX1_eats_0 20 rfl rfl)
theorem dX1_eats_21 : decode cX1_eats 21 = .ok (.aload_n 0, 1) := dk_42 (dk_at dksX1_eats_0 21 rfl rfl)
theorem dX1_eats_22 : decode cX1_eats 22 = .ok (.getfield 42, 3) := dk_180 0 42 (dk_at dksX1_eats_1 0 rfl rfl)
theorem dX1_eats_25 : decode cX1_eats 25 = .ok (.aload_n 0, 1) := dk_42 (dk_at dksX1_eats_1 3 rfl rfl)
theorem dX1_eats_26 : decode cX1_eats 26 = .ok (.getfield 9, 3) := dk_180 0 9 (dk_at dksX1_eats_1 4 rfl rfl)
theorem dX1_eats_29 : decode cX1_eats 29 = .ok (.iload_n 2, 1) := dk_28 (dk_at dksX1_eats_1 7 rfl rfl)
theorem dX1_eats_30 : decode cX1_eats 30 = .ok (.iaload, 1) := dk_46 (dk_at dksX1_eats_1 8 rfl rfl)
theorem dX1_eats_31 : decode cX1_eats 31 = .ok (.invokestatic 101, 3) := dk_184 0 101 (dk_at dksX1_eats_1 9 rfl rfl)
theorem dX1_eats_34 : decode cX1_eats 34 = .ok (.istore_n 3, 1) := dk_62 (dk_at dksX1_eats_1 12 rfl rfl)
theorem dX1_eats_35 : decode cX1_eats 35 = .ok (.aload_n 0, 1) := dk_42 (dk_at dksX1_eats_1 13 rfl rfl)
theorem dX1_eats_36 : decode cX1_eats 36 = .ok (.getfield 9, 3) := dk_180 0 9 (dk_at dksX1_eats_1 14 rfl rfl)
theorem dX1_eats_39 : decode cX1_eats 39 = .ok (.iload_n 2, 1) := dk_28 (dk_at dksX1_eats_1 17 rfl rfl)
theorem dX1_eats_40 : decode cX1_eats 40 = .ok (.dup2, 1) := dk_92 (dk_at dksX1_eats_1 18 rfl rfl)
theorem dX1_eats_41 : decode cX1_eats 41 = .ok (.iaload, 1) := dk_46 (dk_at dksX1_eats_1 19 rfl rfl)
theorem dX1_eats_42 : decode cX1_eats 42 = .ok (.iload_n 3, 1) := dk_29 (dk_at dksX1_eats_1 20 rfl rfl)
theorem dX1_eats_43 : decode cX1_eats 43 = .ok (.isub, 1) := dk_100 (dk_at dksX1_eats_1 21 rfl rfl)
theorem dX1_eats_44 : decode cX1_eats 44 = .ok (.iastore, 1) := dk_79 (dk_at dksX1_eats_1 22 rfl rfl)
theorem dX1_eats_45 : decode cX1_eats 45 = .ok (.aload_n 0, 1) := dk_42 (dk_at dksX1_eats_1 23 rfl rfl)
theorem dX1_eats_46 : decode cX1_eats 46 = .ok (.getfield 34, 3) := dk_180 0 34 (dk_at dksX1_eats_2 0 rfl rfl)
theorem dX1_eats_49 : decode cX1_eats 49 = .ok (.iload_n 1, 1) := dk_27 (dk_at dksX1_eats_2 3 rfl rfl)
theorem dX1_eats_50 : decode cX1_eats 50 = .ok (.sipush 999, 3) := dk_17 3 231 (dk_at dksX1_eats_2 4 rfl rfl)
theorem dX1_eats_53 : decode cX1_eats 53 = .ok (.aload_n 0, 1) := dk_42 (dk_at dksX1_eats_2 7 rfl rfl)
theorem dX1_eats_54 : decode cX1_eats 54 = .ok (.getfield 34, 3) := dk_180 0 34 (dk_at dksX1_eats_2 8 rfl rfl)
theorem dX1_eats_57 : decode cX1_eats 57 = .ok (.iload_n 1, 1) := dk_27 (dk_at dksX1_eats_2 11 rfl rfl)
theorem dX1_eats_58 : decode cX1_eats 58 = .ok (.iaload, 1) := dk_46 (dk_at dksX1_eats_2 12 rfl rfl)
theorem dX1_eats_59 : decode cX1_eats 59 = .ok (.iload_n 3, 1) := dk_29 (dk_at dksX1_eats_2 13 rfl rfl)
theorem dX1_eats_60 : decode cX1_eats 60 = .ok (.iadd, 1) := dk_96 (dk_at dksX1_eats_2 14 rfl rfl)
theorem dX1_eats_61 : decode cX1_eats 61 = .ok (.invokestatic 101, 3) := dk_184 0 101 (dk_at dksX1_eats_2 15 rfl rfl)
theorem dX1_eats_64 : decode cX1_eats 64 = .ok (.iastore, 1) := dk_79 (dk_at dksX1_eats_2 18 rfl rfl)
theorem dX1_eats_65 : decode cX1_eats 65 = .ok (.return_, 1) := dk_177 (dk_at dksX1_eats_2 19 rfl rfl)
abbrev cX1_left : ByteArray := prog_7_method_14_code
def yX1_left : MethodName := ⟨RX1, "left", "(I)I"⟩
def dkwX1_left_1 : List UInt8 := [180, 0, 9, 29, 46, 167, 0, 4, 3, 96, 61, 132, 3, 1, 167, 255, 223, 28, 172]
abbrev dktX1_left_1 : List UInt8 := dkwX1_left_1 ++ []
def dkwX1_left_0 : List UInt8 := [3, 61, 3, 62, 29, 42, 180, 0, 48, 162, 0, 31, 28, 27, 29, 122, 4, 126, 4, 160, 0, 12, 42]
abbrev dktX1_left_0 : List UInt8 := dkwX1_left_0 ++ dktX1_left_1
theorem dksX1_left_0 : cX1_left.data.toList.drop 0 = dktX1_left_0 := by decide +kernel
theorem dksX1_left_1 : cX1_left.data.toList.drop 23 = dktX1_left_1 := dk_seg dksX1_left_0 23 rfl rfl
theorem dX1_left_0 : decode cX1_left 0 = .ok (.iconst 0, 1) := dk_3 (dk_at dksX1_left_0 0 rfl rfl)
theorem dX1_left_1 : decode cX1_left 1 = .ok (.istore_n 2, 1) := dk_61 (dk_at dksX1_left_0 1 rfl rfl)
theorem dX1_left_2 : decode cX1_left 2 = .ok (.iconst 0, 1) := dk_3 (dk_at dksX1_left_0 2 rfl rfl)
theorem dX1_left_3 : decode cX1_left 3 = .ok (.istore_n 3, 1) := dk_62 (dk_at dksX1_left_0 3 rfl rfl)
theorem dX1_left_4 : decode cX1_left 4 = .ok (.iload_n 3, 1) := dk_29 (dk_at dksX1_left_0 4 rfl rfl)
theorem dX1_left_5 : decode cX1_left 5 = .ok (.aload_n 0, 1) := dk_42 (dk_at dksX1_left_0 5 rfl rfl)
theorem dX1_left_6 : decode cX1_left 6 = .ok (.getfield 48, 3) := dk_180 0 48 (dk_at dksX1_left_0 6 rfl rfl)
theorem dX1_left_9 : decode cX1_left 9 = .ok (.if_icmp .ge 31, 3) := dk_162 0 31 (dk_at dksX1_left_0 9 rfl rfl)
theorem dX1_left_12 : decode cX1_left 12 = .ok (.iload_n 2, 1) := dk_28 (dk_at dksX1_left_0 12 rfl rfl)
theorem dX1_left_13 : decode cX1_left 13 = .ok (.iload_n 1, 1) := dk_27 (dk_at dksX1_left_0 13 rfl rfl)
theorem dX1_left_14 : decode cX1_left 14 = .ok (.iload_n 3, 1) := dk_29 (dk_at dksX1_left_0 14 rfl rfl)
theorem dX1_left_15 : decode cX1_left 15 = .ok (.ishr, 1) := dk_122 (dk_at dksX1_left_0 15 rfl rfl)
theorem dX1_left_16 : decode cX1_left 16 = .ok (.iconst 1, 1) := dk_4 (dk_at dksX1_left_0 16 rfl rfl)
theorem dX1_left_17 : decode cX1_left 17 = .ok (.iand, 1) := dk_126 (dk_at dksX1_left_0 17 rfl rfl)
theorem dX1_left_18 : decode cX1_left 18 = .ok (.iconst 1, 1) := dk_4 (dk_at dksX1_left_0 18 rfl rfl)
theorem dX1_left_19 : decode cX1_left 19 = .ok (.if_icmp .ne 12, 3) := dk_160 0 12 (dk_at dksX1_left_0 19 rfl rfl)
theorem dX1_left_22 : decode cX1_left 22 = .ok (.aload_n 0, 1) := dk_42 (dk_at dksX1_left_0 22 rfl rfl)
theorem dX1_left_23 : decode cX1_left 23 = .ok (.getfield 9, 3) := dk_180 0 9 (dk_at dksX1_left_1 0 rfl rfl)
theorem dX1_left_26 : decode cX1_left 26 = .ok (.iload_n 3, 1) := dk_29 (dk_at dksX1_left_1 3 rfl rfl)
theorem dX1_left_27 : decode cX1_left 27 = .ok (.iaload, 1) := dk_46 (dk_at dksX1_left_1 4 rfl rfl)
theorem dX1_left_28 : decode cX1_left 28 = .ok (.goto 4, 3) := dk_167 0 4 (dk_at dksX1_left_1 5 rfl rfl)
theorem dX1_left_31 : decode cX1_left 31 = .ok (.iconst 0, 1) := dk_3 (dk_at dksX1_left_1 8 rfl rfl)
theorem dX1_left_32 : decode cX1_left 32 = .ok (.iadd, 1) := dk_96 (dk_at dksX1_left_1 9 rfl rfl)
theorem dX1_left_33 : decode cX1_left 33 = .ok (.istore_n 2, 1) := dk_61 (dk_at dksX1_left_1 10 rfl rfl)
theorem dX1_left_34 : decode cX1_left 34 = .ok (.iinc 3 1, 3) := dk_132 3 1 (dk_at dksX1_left_1 11 rfl rfl)
theorem dX1_left_37 : decode cX1_left 37 = .ok (.goto (-33), 3) := dk_167 255 223 (dk_at dksX1_left_1 14 rfl rfl)
theorem dX1_left_40 : decode cX1_left 40 = .ok (.iload_n 2, 1) := dk_28 (dk_at dksX1_left_1 17 rfl rfl)
theorem dX1_left_41 : decode cX1_left 41 = .ok (.ireturn, 1) := dk_172 (dk_at dksX1_left_1 18 rfl rfl)
abbrev cX1_gone : ByteArray := prog_7_method_15_code
def yX1_gone : MethodName := ⟨RX1, "gone", "()I"⟩
def dkwX1_gone_1 : List UInt8 := [120, 167, 0, 4, 3, 128, 60, 132, 2, 1, 167, 255, 226, 27, 172]
abbrev dktX1_gone_1 : List UInt8 := dkwX1_gone_1 ++ []
def dkwX1_gone_0 : List UInt8 := [3, 60, 3, 61, 28, 42, 180, 0, 48, 162, 0, 28, 27, 42, 180, 0, 9, 28, 46, 154, 0, 9, 4, 28]
abbrev dktX1_gone_0 : List UInt8 := dkwX1_gone_0 ++ dktX1_gone_1
theorem dksX1_gone_0 : cX1_gone.data.toList.drop 0 = dktX1_gone_0 := by decide +kernel
theorem dksX1_gone_1 : cX1_gone.data.toList.drop 24 = dktX1_gone_1 := dk_seg dksX1_gone_0 24 rfl rfl
theorem dX1_gone_0 : decode cX1_gone 0 = .ok (.iconst 0, 1) := dk_3 (dk_at dksX1_gone_0 0 rfl rfl)
theorem dX1_gone_1 : decode cX1_gone 1 = .ok (.istore_n 1, 1) := dk_60 (dk_at dksX1_gone_0 1 rfl rfl)
theorem dX1_gone_2 : decode cX1_gone 2 = .ok (.iconst 0, 1) := dk_3 (dk_at dksX1_gone_0 2 rfl rfl)
theorem dX1_gone_3 : decode cX1_gone 3 = .ok (.istore_n 2, 1) := dk_61 (dk_at dksX1_gone_0 3 rfl rfl)
theorem dX1_gone_4 : decode cX1_gone 4 = .ok (.iload_n 2, 1) := dk_28 (dk_at dksX1_gone_0 4 rfl rfl)
theorem dX1_gone_5 : decode cX1_gone 5 = .ok (.aload_n 0, 1) := dk_42 (dk_at dksX1_gone_0 5 rfl rfl)
theorem dX1_gone_6 : decode cX1_gone 6 = .ok (.getfield 48, 3) := dk_180 0 48 (dk_at dksX1_gone_0 6 rfl rfl)
theorem dX1_gone_9 : decode cX1_gone 9 = .ok (.if_icmp .ge 28, 3) := dk_162 0 28 (dk_at dksX1_gone_0 9 rfl rfl)
theorem dX1_gone_12 : decode cX1_gone 12 = .ok (.iload_n 1, 1) := dk_27 (dk_at dksX1_gone_0 12 rfl rfl)
theorem dX1_gone_13 : decode cX1_gone 13 = .ok (.aload_n 0, 1) := dk_42 (dk_at dksX1_gone_0 13 rfl rfl)
theorem dX1_gone_14 : decode cX1_gone 14 = .ok (.getfield 9, 3) := dk_180 0 9 (dk_at dksX1_gone_0 14 rfl rfl)
theorem dX1_gone_17 : decode cX1_gone 17 = .ok (.iload_n 2, 1) := dk_28 (dk_at dksX1_gone_0 17 rfl rfl)
theorem dX1_gone_18 : decode cX1_gone 18 = .ok (.iaload, 1) := dk_46 (dk_at dksX1_gone_0 18 rfl rfl)
theorem dX1_gone_19 : decode cX1_gone 19 = .ok (.ifCond .ne 9, 3) := dk_154 0 9 (dk_at dksX1_gone_0 19 rfl rfl)
theorem dX1_gone_22 : decode cX1_gone 22 = .ok (.iconst 1, 1) := dk_4 (dk_at dksX1_gone_0 22 rfl rfl)
theorem dX1_gone_23 : decode cX1_gone 23 = .ok (.iload_n 2, 1) := dk_28 (dk_at dksX1_gone_0 23 rfl rfl)
theorem dX1_gone_24 : decode cX1_gone 24 = .ok (.ishl, 1) := dk_120 (dk_at dksX1_gone_1 0 rfl rfl)
theorem dX1_gone_25 : decode cX1_gone 25 = .ok (.goto 4, 3) := dk_167 0 4 (dk_at dksX1_gone_1 1 rfl rfl)
theorem dX1_gone_28 : decode cX1_gone 28 = .ok (.iconst 0, 1) := dk_3 (dk_at dksX1_gone_1 4 rfl rfl)
theorem dX1_gone_29 : decode cX1_gone 29 = .ok (.ior, 1) := dk_128 (dk_at dksX1_gone_1 5 rfl rfl)
theorem dX1_gone_30 : decode cX1_gone 30 = .ok (.istore_n 1, 1) := dk_60 (dk_at dksX1_gone_1 6 rfl rfl)
theorem dX1_gone_31 : decode cX1_gone 31 = .ok (.iinc 2 1, 3) := dk_132 2 1 (dk_at dksX1_gone_1 7 rfl rfl)
theorem dX1_gone_34 : decode cX1_gone 34 = .ok (.goto (-30), 3) := dk_167 255 226 (dk_at dksX1_gone_1 10 rfl rfl)
theorem dX1_gone_37 : decode cX1_gone 37 = .ok (.iload_n 1, 1) := dk_27 (dk_at dksX1_gone_1 13 rfl rfl)
theorem dX1_gone_38 : decode cX1_gone 38 = .ok (.ireturn, 1) := dk_172 (dk_at dksX1_gone_1 14 rfl rfl)
abbrev cX1_dusts : ByteArray := prog_7_method_16_code
def yX1_dusts : MethodName := ⟨RX1, "dusts", "()I"⟩
def dkwX1_dusts_1 : List UInt8 := [167, 255, 236, 27, 172]
abbrev dktX1_dusts_1 : List UInt8 := dkwX1_dusts_1 ++ []
def dkwX1_dusts_0 : List UInt8 := [3, 60, 3, 61, 28, 42, 182, 0, 105, 162, 0, 18, 27, 42, 180, 0, 34, 28, 46, 96, 60, 132, 2, 1]
abbrev dktX1_dusts_0 : List UInt8 := dkwX1_dusts_0 ++ dktX1_dusts_1
theorem dksX1_dusts_0 : cX1_dusts.data.toList.drop 0 = dktX1_dusts_0 := by decide +kernel
theorem dksX1_dusts_1 : cX1_dusts.data.toList.drop 24 = dktX1_dusts_1 := dk_seg dksX1_dusts_0 24 rfl rfl
theorem dX1_dusts_0 : decode cX1_dusts 0 = .ok (.iconst 0, 1) := dk_3 (dk_at dksX1_dusts_0 0 rfl rfl)
theorem dX1_dusts_1 : decode cX1_dusts 1 = .ok (.istore_n 1, 1) := dk_60 (dk_at dksX1_dusts_0 1 rfl rfl)
theorem dX1_dusts_2 : decode cX1_dusts 2 = .ok (.iconst 0, 1) := dk_3 (dk_at dksX1_dusts_0 2 rfl rfl)
theorem dX1_dusts_3 : decode cX1_dusts 3 = .ok (.istore_n 2, 1) := dk_61 (dk_at dksX1_dusts_0 3 rfl rfl)
theorem dX1_dusts_4 : decode cX1_dusts 4 = .ok (.iload_n 2, 1) := dk_28 (dk_at dksX1_dusts_0 4 rfl rfl)
theorem dX1_dusts_5 : decode cX1_dusts 5 = .ok (.aload_n 0, 1) := dk_42 (dk_at dksX1_dusts_0 5 rfl rfl)
theorem dX1_dusts_6 : decode cX1_dusts 6 = .ok (.invokevirtual 105, 3) := dk_182 0 105 (dk_at dksX1_dusts_0 6 rfl rfl)
theorem dX1_dusts_9 : decode cX1_dusts 9 = .ok (.if_icmp .ge 18, 3) := dk_162 0 18 (dk_at dksX1_dusts_0 9 rfl rfl)
theorem dX1_dusts_12 : decode cX1_dusts 12 = .ok (.iload_n 1, 1) := dk_27 (dk_at dksX1_dusts_0 12 rfl rfl)
theorem dX1_dusts_13 : decode cX1_dusts 13 = .ok (.aload_n 0, 1) := dk_42 (dk_at dksX1_dusts_0 13 rfl rfl)
theorem dX1_dusts_14 : decode cX1_dusts 14 = .ok (.getfield 34, 3) := dk_180 0 34 (dk_at dksX1_dusts_0 14 rfl rfl)
theorem dX1_dusts_17 : decode cX1_dusts 17 = .ok (.iload_n 2, 1) := dk_28 (dk_at dksX1_dusts_0 17 rfl rfl)
theorem dX1_dusts_18 : decode cX1_dusts 18 = .ok (.iaload, 1) := dk_46 (dk_at dksX1_dusts_0 18 rfl rfl)
theorem dX1_dusts_19 : decode cX1_dusts 19 = .ok (.iadd, 1) := dk_96 (dk_at dksX1_dusts_0 19 rfl rfl)
theorem dX1_dusts_20 : decode cX1_dusts 20 = .ok (.istore_n 1, 1) := dk_60 (dk_at dksX1_dusts_0 20 rfl rfl)
theorem dX1_dusts_21 : decode cX1_dusts 21 = .ok (.iinc 2 1, 3) := dk_132 2 1 (dk_at dksX1_dusts_0 21 rfl rfl)
theorem dX1_dusts_24 : decode cX1_dusts 24 = .ok (.goto (-20), 3) := dk_167 255 236 (dk_at dksX1_dusts_1 0 rfl rfl)
theorem dX1_dusts_27 : decode cX1_dusts 27 = .ok (.iload_n 1, 1) := dk_27 (dk_at dksX1_dusts_1 3 rfl rfl)
theorem dX1_dusts_28 : decode cX1_dusts 28 = .ok (.ireturn, 1) := dk_172 (dk_at dksX1_dusts_1 4 rfl rfl)
theorem q78 : (Jvm.Cond.initialized "FishReaders$Library") ∈ lw_all := lw_g (lw_at lw_m1 2 rfl) rfl
theorem q121 : (Jvm.Cond.instantiable "FishReaders$Library" (16 : Nat)) ∈ lw_all := lw_g (lw_at lw_m1 45 rfl) rfl
theorem q123 : (Jvm.Cond.instanceMethod ({ cls := "FishReaders$Library", name := "<init>", desc := "()V" } : Jvm.MethodName)) ∈ lw_all := lw_g (lw_at lw_m1 47 rfl) rfl
theorem q124 : (Jvm.Cond.code ({ cls := "FishReaders$Library", name := "<init>", desc := "()V" } : Jvm.MethodName) prog_7_method_1_code (1 : Nat) (Option.none : Option Jvm.ClassFile.FieldType)) ∈ lw_all := lw_g (lw_at lw_m1 48 rfl) rfl
theorem q125 : (Jvm.Cond.methodLink "FishReaders$Library" (3 : Nat) ({ cls := "java/lang/Object", name := "<init>", desc := "()V" } : Jvm.MethodName)) ∈ lw_all := lw_g (lw_at lw_m1 49 rfl) rfl
theorem q126 : (Jvm.Cond.classLink "FishReaders$Library" (24 : Nat) "java/util/ArrayList") ∈ lw_all := lw_g (lw_at lw_m1 50 rfl) rfl
theorem q128 : (Jvm.Cond.methodLink "FishReaders$Library" (26 : Nat) ({ cls := "java/util/ArrayList", name := "<init>", desc := "()V" } : Jvm.MethodName)) ∈ lw_all := lw_g (lw_at lw_m1 52 rfl) rfl
theorem q154 : (Jvm.Cond.constant "FishReaders$Library" (37 : Nat) (-1000000 : Int32)) ∈ lw_all := lw_g (lw_at lw_m1 78 rfl) rfl
theorem q155 : (Jvm.Cond.fieldLink "FishReaders$Library" (42 : Nat) "FishReaders$Library" "hunger" "I") ∈ lw_all := lw_g (lw_at lw_m1 79 rfl) rfl
theorem q158 : (Jvm.Cond.fieldLink "FishReaders$Library" (45 : Nat) "FishReaders$Library" "lamps" "I") ∈ lw_all := lw_g (lw_at lw_m1 82 rfl) rfl
theorem q161 : (Jvm.Cond.fieldLink "FishReaders$Library" (48 : Nat) "FishReaders$Library" "books" "I") ∈ lw_all := lw_g (lw_at lw_m1 85 rfl) rfl
theorem q166 : (Jvm.Cond.fieldLink "FishReaders$Library" (9 : Nat) "FishReaders$Library" "pages" "[I") ∈ lw_all := lw_g (lw_at lw_m1 90 rfl) rfl
theorem q169 : (Jvm.Cond.fieldLink "FishReaders$Library" (15 : Nat) "FishReaders$Library" "paste" "[I") ∈ lw_all := lw_g (lw_at lw_m1 93 rfl) rfl
theorem q172 : (Jvm.Cond.fieldLink "FishReaders$Library" (18 : Nat) "FishReaders$Library" "in" "[I") ∈ lw_all := lw_g (lw_at lw_m1 96 rfl) rfl
theorem q176 : (Jvm.Cond.fieldLink "FishReaders$Library" (21 : Nat) "FishReaders$Library" "place" "[I") ∈ lw_all := lw_g (lw_at lw_m1 100 rfl) rfl
theorem q178 : (Jvm.Cond.fieldLink "FishReaders$Library" (57 : Nat) "FishReaders$Library" "lit" "I") ∈ lw_all := lw_g (lw_at lw_m1 102 rfl) rfl
theorem q180 : (Jvm.Cond.fieldLink "FishReaders$Library" (60 : Nat) "FishReaders$Library" "kept" "I") ∈ lw_all := lw_g (lw_at lw_m1 104 rfl) rfl
theorem q182 : (Jvm.Cond.fieldLink "FishReaders$Library" (27 : Nat) "FishReaders$Library" "fishes" "Ljava/util/List;") ∈ lw_all := lw_g (lw_at lw_m1 106 rfl) rfl
theorem q185 : (Jvm.Cond.fieldLink "FishReaders$Library" (31 : Nat) "FishReaders$Library" "at" "[I") ∈ lw_all := lw_g (lw_at lw_m1 109 rfl) rfl
theorem q189 : (Jvm.Cond.fieldLink "FishReaders$Library" (34 : Nat) "FishReaders$Library" "dust" "[I") ∈ lw_all := lw_g (lw_at lw_m1 113 rfl) rfl
theorem q192 : (Jvm.Cond.fieldLink "FishReaders$Library" (63 : Nat) "FishReaders$Library" "caught" "I") ∈ lw_all := lw_g (lw_at lw_m1 116 rfl) rfl
theorem q194 : (Jvm.Cond.fieldLink "FishReaders$Library" (66 : Nat) "FishReaders$Library" "night" "I") ∈ lw_all := lw_g (lw_at lw_m1 118 rfl) rfl
theorem q196 : (Jvm.Cond.fieldLink "FishReaders$Library" (38 : Nat) "FishReaders$Library" "takenFor" "I") ∈ lw_all := lw_g (lw_at lw_m1 120 rfl) rfl
theorem q198 : (Jvm.Cond.fieldLink "FishReaders$Library" (75 : Nat) "FishReaders$Library" "taken" "LFishReaders$Fish;") ∈ lw_all := lw_g (lw_at lw_m1 122 rfl) rfl
theorem q200 : (Jvm.Cond.lays "FishReaders$Library" "FishReaders$Library" "hunger" "I") ∈ lw_all := lw_g (lw_at lw_m1 124 rfl) rfl
theorem q201 : (Jvm.Cond.soleField "FishReaders$Library" "hunger") ∈ lw_all := lw_g (lw_at lw_m1 125 rfl) rfl
theorem q202 : (Jvm.Cond.lays "FishReaders$Library" "FishReaders$Library" "lamps" "I") ∈ lw_all := lw_g (lw_at lw_m1 126 rfl) rfl
theorem q203 : (Jvm.Cond.soleField "FishReaders$Library" "lamps") ∈ lw_all := lw_g (lw_at lw_m1 127 rfl) rfl
theorem q204 : (Jvm.Cond.lays "FishReaders$Library" "FishReaders$Library" "books" "I") ∈ lw_all := lw_g (lw_at lw_m1 128 rfl) rfl
theorem q205 : (Jvm.Cond.soleField "FishReaders$Library" "books") ∈ lw_all := lw_g (lw_at lw_m1 129 rfl) rfl
theorem q206 : (Jvm.Cond.laysFinal "FishReaders$Library" "FishReaders$Library" "pages" "[I") ∈ lw_all := lw_g (lw_at lw_m1 130 rfl) rfl
theorem q207 : (Jvm.Cond.soleField "FishReaders$Library" "pages") ∈ lw_all := lw_g (lw_at lw_m1 131 rfl) rfl
theorem q208 : (Jvm.Cond.laysFinal "FishReaders$Library" "FishReaders$Library" "paste" "[I") ∈ lw_all := lw_g (lw_at lw_m1 132 rfl) rfl
theorem q209 : (Jvm.Cond.soleField "FishReaders$Library" "paste") ∈ lw_all := lw_g (lw_at lw_m1 133 rfl) rfl
theorem q210 : (Jvm.Cond.laysFinal "FishReaders$Library" "FishReaders$Library" "in" "[I") ∈ lw_all := lw_g (lw_at lw_m1 134 rfl) rfl
theorem q211 : (Jvm.Cond.soleField "FishReaders$Library" "in") ∈ lw_all := lw_g (lw_at lw_m1 135 rfl) rfl
theorem q212 : (Jvm.Cond.laysFinal "FishReaders$Library" "FishReaders$Library" "place" "[I") ∈ lw_all := lw_g (lw_at lw_m1 136 rfl) rfl
theorem q213 : (Jvm.Cond.soleField "FishReaders$Library" "place") ∈ lw_all := lw_g (lw_at lw_m1 137 rfl) rfl
theorem q214 : (Jvm.Cond.lays "FishReaders$Library" "FishReaders$Library" "lit" "I") ∈ lw_all := lw_g (lw_at lw_m1 138 rfl) rfl
theorem q215 : (Jvm.Cond.soleField "FishReaders$Library" "lit") ∈ lw_all := lw_g (lw_at lw_m1 139 rfl) rfl
theorem q216 : (Jvm.Cond.lays "FishReaders$Library" "FishReaders$Library" "kept" "I") ∈ lw_all := lw_g (lw_at lw_m1 140 rfl) rfl
theorem q217 : (Jvm.Cond.soleField "FishReaders$Library" "kept") ∈ lw_all := lw_g (lw_at lw_m1 141 rfl) rfl
theorem q218 : (Jvm.Cond.lays "FishReaders$Library" "FishReaders$Library" "fishes" "Ljava/util/List;") ∈ lw_all := lw_g (lw_at lw_m1 142 rfl) rfl
theorem q219 : (Jvm.Cond.soleField "FishReaders$Library" "fishes") ∈ lw_all := lw_g (lw_at lw_m1 143 rfl) rfl
theorem q220 : (Jvm.Cond.laysFinal "FishReaders$Library" "FishReaders$Library" "at" "[I") ∈ lw_all := lw_g (lw_at lw_m1 144 rfl) rfl
theorem q221 : (Jvm.Cond.soleField "FishReaders$Library" "at") ∈ lw_all := lw_g (lw_at lw_m1 145 rfl) rfl
theorem q222 : (Jvm.Cond.laysFinal "FishReaders$Library" "FishReaders$Library" "dust" "[I") ∈ lw_all := lw_g (lw_at lw_m1 146 rfl) rfl
theorem q223 : (Jvm.Cond.soleField "FishReaders$Library" "dust") ∈ lw_all := lw_g (lw_at lw_m1 147 rfl) rfl
theorem q224 : (Jvm.Cond.lays "FishReaders$Library" "FishReaders$Library" "caught" "I") ∈ lw_all := lw_g (lw_at lw_m1 148 rfl) rfl
theorem q225 : (Jvm.Cond.soleField "FishReaders$Library" "caught") ∈ lw_all := lw_g (lw_at lw_m1 149 rfl) rfl
theorem q226 : (Jvm.Cond.lays "FishReaders$Library" "FishReaders$Library" "night" "I") ∈ lw_all := lw_g (lw_at lw_m1 150 rfl) rfl
theorem q227 : (Jvm.Cond.soleField "FishReaders$Library" "night") ∈ lw_all := lw_g (lw_at lw_m1 151 rfl) rfl
theorem q228 : (Jvm.Cond.lays "FishReaders$Library" "FishReaders$Library" "takenFor" "I") ∈ lw_all := lw_g (lw_at lw_m1 152 rfl) rfl
theorem q229 : (Jvm.Cond.soleField "FishReaders$Library" "takenFor") ∈ lw_all := lw_g (lw_at lw_m1 153 rfl) rfl
theorem q230 : (Jvm.Cond.lays "FishReaders$Library" "FishReaders$Library" "taken" "LFishReaders$Fish;") ∈ lw_all := lw_g (lw_at lw_m1 154 rfl) rfl
theorem q231 : (Jvm.Cond.soleField "FishReaders$Library" "taken") ∈ lw_all := lw_g (lw_at lw_m1 155 rfl) rfl
theorem q232 : (Jvm.Cond.superclass "FishReaders$Library" "java/lang/Object") ∈ lw_all := lw_g (lw_at lw_m1 156 rfl) rfl
theorem q616 : (Jvm.Cond.instanceMethod ({ cls := "FishReaders$Library", name := "puts", desc := "(II)V" } : Jvm.MethodName)) ∈ lw_all := lw_g (lw_at lw_m3 60 rfl) rfl
theorem q617 : (Jvm.Cond.selects "FishReaders$Library" ({ cls := "FishReaders$Library", name := "puts", desc := "(II)V" } : Jvm.MethodName) ({ cls := "FishReaders$Library", name := "puts", desc := "(II)V" } : Jvm.MethodName)) ∈ lw_all := lw_g (lw_at lw_m3 61 rfl) rfl
theorem q618 : (Jvm.Cond.code ({ cls := "FishReaders$Library", name := "puts", desc := "(II)V" } : Jvm.MethodName) prog_7_method_13_code (3 : Nat) (Option.none : Option Jvm.ClassFile.FieldType)) ∈ lw_all := lw_g (lw_at lw_m3 62 rfl) rfl
theorem q680 : (Jvm.Cond.instanceMethod ({ cls := "FishReaders$Library", name := "many", desc := "()I" } : Jvm.MethodName)) ∈ lw_all := lw_g (lw_at lw_m3 124 rfl) rfl
theorem q681 : (Jvm.Cond.selects "FishReaders$Library" ({ cls := "FishReaders$Library", name := "many", desc := "()I" } : Jvm.MethodName) ({ cls := "FishReaders$Library", name := "many", desc := "()I" } : Jvm.MethodName)) ∈ lw_all := lw_g (lw_at lw_m3 125 rfl) rfl
theorem q682 : (Jvm.Cond.code ({ cls := "FishReaders$Library", name := "many", desc := "()I" } : Jvm.MethodName) prog_7_method_3_code (1 : Nat) (Option.some Jvm.ClassFile.FieldType.int)) ∈ lw_all := lw_g (lw_at lw_m3 126 rfl) rfl
theorem q683 : (Jvm.Cond.interfaceEntry "FishReaders$Library" (69 : Nat)) ∈ lw_tbl := lw_at lw_m3 127 rfl
theorem q684 : (Jvm.Cond.methodLink "FishReaders$Library" (69 : Nat) ({ cls := "java/util/List", name := "size", desc := "()I" } : Jvm.MethodName)) ∈ lw_all := lw_g (lw_at lw_m3 128 rfl) rfl
theorem q738 : (Jvm.Cond.selects "FishReaders$Library" ({ cls := "java/lang/Object", name := "getClass", desc := "()Ljava/lang/Class;" } : Jvm.MethodName) ({ cls := "java/lang/Object", name := "getClass", desc := "()Ljava/lang/Class;" } : Jvm.MethodName)) ∈ lw_all := lw_g (lw_at lw_m3 182 rfl) rfl
theorem q764 : (Jvm.Cond.instanceMethod ({ cls := "FishReaders$Library", name := "become", desc := "(LFishReaders$Library;)LFishReaders$Library;" } : Jvm.MethodName)) ∈ lw_all := lw_g (lw_at lw_m3 208 rfl) rfl
theorem q765 : (Jvm.Cond.selects "FishReaders$Library" ({ cls := "FishReaders$Library", name := "become", desc := "(LFishReaders$Library;)LFishReaders$Library;" } : Jvm.MethodName) ({ cls := "FishReaders$Library", name := "become", desc := "(LFishReaders$Library;)LFishReaders$Library;" } : Jvm.MethodName)) ∈ lw_all := lw_g (lw_at lw_m3 209 rfl) rfl
theorem q766 : (Jvm.Cond.code ({ cls := "FishReaders$Library", name := "become", desc := "(LFishReaders$Library;)LFishReaders$Library;" } : Jvm.MethodName) prog_7_method_2_code (2 : Nat) (Option.some (Jvm.ClassFile.FieldType.object "FishReaders$Library"))) ∈ lw_all := lw_g (lw_at lw_m3 210 rfl) rfl
theorem q767 : (Jvm.Cond.methodLink "FishReaders$Library" (51 : Nat) ({ cls := "java/lang/System", name := "arraycopy", desc := "(Ljava/lang/Object;ILjava/lang/Object;II)V" } : Jvm.MethodName)) ∈ lw_all := lw_g (lw_at lw_m3 211 rfl) rfl
theorem q792 : (Jvm.Cond.instanceMethod ({ cls := "FishReaders$Library", name := "pass", desc := "()LFishReaders$Library;" } : Jvm.MethodName)) ∈ lw_all := lw_g (lw_at lw_m3 236 rfl) rfl
theorem q793 : (Jvm.Cond.selects "FishReaders$Library" ({ cls := "FishReaders$Library", name := "pass", desc := "()LFishReaders$Library;" } : Jvm.MethodName) ({ cls := "FishReaders$Library", name := "pass", desc := "()LFishReaders$Library;" } : Jvm.MethodName)) ∈ lw_all := lw_g (lw_at lw_m3 237 rfl) rfl
theorem q794 : (Jvm.Cond.code ({ cls := "FishReaders$Library", name := "pass", desc := "()LFishReaders$Library;" } : Jvm.MethodName) prog_7_method_12_code (2 : Nat) (Option.some (Jvm.ClassFile.FieldType.object "FishReaders$Library"))) ∈ lw_all := lw_g (lw_at lw_m3 238 rfl) rfl
theorem q795 : (Jvm.Cond.methodLink "FishReaders$Library" (105 : Nat) ({ cls := "FishReaders$Library", name := "many", desc := "()I" } : Jvm.MethodName)) ∈ lw_all := lw_g (lw_at lw_m3 239 rfl) rfl
theorem q796 : (Jvm.Cond.methodLink "FishReaders$Library" (108 : Nat) ({ cls := "FishReaders$Library", name := "isCaught", desc := "(I)Z" } : Jvm.MethodName)) ∈ lw_all := lw_g (lw_at lw_m4 0 rfl) rfl
theorem q797 : (Jvm.Cond.instanceMethod ({ cls := "FishReaders$Library", name := "isCaught", desc := "(I)Z" } : Jvm.MethodName)) ∈ lw_all := lw_g (lw_at lw_m4 1 rfl) rfl
theorem q798 : (Jvm.Cond.selects "FishReaders$Library" ({ cls := "FishReaders$Library", name := "isCaught", desc := "(I)Z" } : Jvm.MethodName) ({ cls := "FishReaders$Library", name := "isCaught", desc := "(I)Z" } : Jvm.MethodName)) ∈ lw_all := lw_g (lw_at lw_m4 2 rfl) rfl
theorem q799 : (Jvm.Cond.code ({ cls := "FishReaders$Library", name := "isCaught", desc := "(I)Z" } : Jvm.MethodName) prog_7_method_7_code (2 : Nat) (Option.some Jvm.ClassFile.FieldType.boolean)) ∈ lw_all := lw_g (lw_at lw_m4 3 rfl) rfl
theorem q800 : (Jvm.Cond.methodLink "FishReaders$Library" (111 : Nat) ({ cls := "FishReaders$Library", name := "fish", desc := "(I)LFishReaders$Fish;" } : Jvm.MethodName)) ∈ lw_all := lw_g (lw_at lw_m4 4 rfl) rfl
theorem q801 : (Jvm.Cond.instanceMethod ({ cls := "FishReaders$Library", name := "fish", desc := "(I)LFishReaders$Fish;" } : Jvm.MethodName)) ∈ lw_all := lw_g (lw_at lw_m4 5 rfl) rfl
theorem q802 : (Jvm.Cond.selects "FishReaders$Library" ({ cls := "FishReaders$Library", name := "fish", desc := "(I)LFishReaders$Fish;" } : Jvm.MethodName) ({ cls := "FishReaders$Library", name := "fish", desc := "(I)LFishReaders$Fish;" } : Jvm.MethodName)) ∈ lw_all := lw_g (lw_at lw_m4 6 rfl) rfl
theorem q803 : (Jvm.Cond.code ({ cls := "FishReaders$Library", name := "fish", desc := "(I)LFishReaders$Fish;" } : Jvm.MethodName) prog_7_method_4_code (2 : Nat) (Option.some (Jvm.ClassFile.FieldType.object "FishReaders$Fish"))) ∈ lw_all := lw_g (lw_at lw_m4 7 rfl) rfl
theorem q804 : (Jvm.Cond.interfaceEntry "FishReaders$Library" (79 : Nat)) ∈ lw_tbl := lw_at lw_m4 8 rfl
theorem q805 : (Jvm.Cond.methodLink "FishReaders$Library" (79 : Nat) ({ cls := "java/util/List", name := "get", desc := "(I)Ljava/lang/Object;" } : Jvm.MethodName)) ∈ lw_all := lw_g (lw_at lw_m4 9 rfl) rfl
theorem q821 : (Jvm.Cond.classLink "FishReaders$Library" (83 : Nat) "FishReaders$Fish") ∈ lw_all := lw_g (lw_at lw_m4 25 rfl) rfl
theorem q822 : (Jvm.Cond.methodLink "FishReaders$Library" (115 : Nat) ({ cls := "FishReaders$Fish", name := "goes", desc := "(ILFishReaders$Library;)I" } : Jvm.MethodName)) ∈ lw_all := lw_g (lw_at lw_m4 26 rfl) rfl
theorem q839 : (Jvm.Cond.instanceMethod ({ cls := "FishReaders$Library", name := "liked", desc := "(II)I" } : Jvm.MethodName)) ∈ lw_all := lw_g (lw_at lw_m4 43 rfl) rfl
theorem q840 : (Jvm.Cond.selects "FishReaders$Library" ({ cls := "FishReaders$Library", name := "liked", desc := "(II)I" } : Jvm.MethodName) ({ cls := "FishReaders$Library", name := "liked", desc := "(II)I" } : Jvm.MethodName)) ∈ lw_all := lw_g (lw_at lw_m4 44 rfl) rfl
theorem q841 : (Jvm.Cond.code ({ cls := "FishReaders$Library", name := "liked", desc := "(II)I" } : Jvm.MethodName) prog_7_method_9_code (8 : Nat) (Option.some Jvm.ClassFile.FieldType.int)) ∈ lw_all := lw_g (lw_at lw_m4 45 rfl) rfl
theorem q842 : (Jvm.Cond.methodLink "FishReaders$Library" (92 : Nat) ({ cls := "java/lang/Math", name := "abs", desc := "(I)I" } : Jvm.MethodName)) ∈ lw_all := lw_g (lw_at lw_m4 46 rfl) rfl
theorem q845 : (Jvm.Cond.methodLink "FishReaders$Library" (98 : Nat) ({ cls := "FishReaders$Library", name := "isOpen", desc := "(I)Z" } : Jvm.MethodName)) ∈ lw_all := lw_g (lw_at lw_m4 49 rfl) rfl
theorem q846 : (Jvm.Cond.instanceMethod ({ cls := "FishReaders$Library", name := "isOpen", desc := "(I)Z" } : Jvm.MethodName)) ∈ lw_all := lw_g (lw_at lw_m4 50 rfl) rfl
theorem q847 : (Jvm.Cond.selects "FishReaders$Library" ({ cls := "FishReaders$Library", name := "isOpen", desc := "(I)Z" } : Jvm.MethodName) ({ cls := "FishReaders$Library", name := "isOpen", desc := "(I)Z" } : Jvm.MethodName)) ∈ lw_all := lw_g (lw_at lw_m4 51 rfl) rfl
theorem q848 : (Jvm.Cond.code ({ cls := "FishReaders$Library", name := "isOpen", desc := "(I)Z" } : Jvm.MethodName) prog_7_method_8_code (2 : Nat) (Option.some Jvm.ClassFile.FieldType.boolean)) ∈ lw_all := lw_g (lw_at lw_m4 52 rfl) rfl
theorem q849 : (Jvm.Cond.methodLink "FishReaders$Library" (85 : Nat) ({ cls := "FishReaders$Library", name := "isLit", desc := "(I)Z" } : Jvm.MethodName)) ∈ lw_all := lw_g (lw_at lw_m4 53 rfl) rfl
theorem q850 : (Jvm.Cond.instanceMethod ({ cls := "FishReaders$Library", name := "isLit", desc := "(I)Z" } : Jvm.MethodName)) ∈ lw_all := lw_g (lw_at lw_m4 54 rfl) rfl
theorem q851 : (Jvm.Cond.selects "FishReaders$Library" ({ cls := "FishReaders$Library", name := "isLit", desc := "(I)Z" } : Jvm.MethodName) ({ cls := "FishReaders$Library", name := "isLit", desc := "(I)Z" } : Jvm.MethodName)) ∈ lw_all := lw_g (lw_at lw_m4 55 rfl) rfl
theorem q852 : (Jvm.Cond.code ({ cls := "FishReaders$Library", name := "isLit", desc := "(I)Z" } : Jvm.MethodName) prog_7_method_5_code (2 : Nat) (Option.some Jvm.ClassFile.FieldType.boolean)) ∈ lw_all := lw_g (lw_at lw_m4 56 rfl) rfl
theorem q853 : (Jvm.Cond.methodLink "FishReaders$Library" (89 : Nat) ({ cls := "FishReaders$Library", name := "isKept", desc := "(I)Z" } : Jvm.MethodName)) ∈ lw_all := lw_g (lw_at lw_m4 57 rfl) rfl
theorem q854 : (Jvm.Cond.privateMethod ({ cls := "FishReaders$Library", name := "isKept", desc := "(I)Z" } : Jvm.MethodName)) ∈ lw_tbl := lw_at lw_m4 58 rfl
theorem q855 : (Jvm.Cond.instanceMethod ({ cls := "FishReaders$Library", name := "isKept", desc := "(I)Z" } : Jvm.MethodName)) ∈ lw_all := lw_g (lw_at lw_m4 59 rfl) rfl
theorem q856 : (Jvm.Cond.code ({ cls := "FishReaders$Library", name := "isKept", desc := "(I)Z" } : Jvm.MethodName) prog_7_method_6_code (2 : Nat) (Option.some Jvm.ClassFile.FieldType.boolean)) ∈ lw_all := lw_g (lw_at lw_m4 60 rfl) rfl
theorem q858 : (Jvm.Cond.instanceMethod ({ cls := "FishReaders$Library", name := "nearer", desc := "(II)I" } : Jvm.MethodName)) ∈ lw_all := lw_g (lw_at lw_m4 62 rfl) rfl
theorem q859 : (Jvm.Cond.selects "FishReaders$Library" ({ cls := "FishReaders$Library", name := "nearer", desc := "(II)I" } : Jvm.MethodName) ({ cls := "FishReaders$Library", name := "nearer", desc := "(II)I" } : Jvm.MethodName)) ∈ lw_all := lw_g (lw_at lw_m4 63 rfl) rfl
theorem q860 : (Jvm.Cond.code ({ cls := "FishReaders$Library", name := "nearer", desc := "(II)I" } : Jvm.MethodName) prog_7_method_10_code (3 : Nat) (Option.some Jvm.ClassFile.FieldType.int)) ∈ lw_all := lw_g (lw_at lw_m4 64 rfl) rfl
theorem q875 : (Jvm.Cond.methodLink "FishReaders$Library" (119 : Nat) ({ cls := "FishReaders$Library", name := "eats", desc := "(I)V" } : Jvm.MethodName)) ∈ lw_all := lw_g (lw_at lw_m4 79 rfl) rfl
theorem q876 : (Jvm.Cond.privateMethod ({ cls := "FishReaders$Library", name := "eats", desc := "(I)V" } : Jvm.MethodName)) ∈ lw_tbl := lw_at lw_m4 80 rfl
theorem q877 : (Jvm.Cond.instanceMethod ({ cls := "FishReaders$Library", name := "eats", desc := "(I)V" } : Jvm.MethodName)) ∈ lw_all := lw_g (lw_at lw_m4 81 rfl) rfl
theorem q878 : (Jvm.Cond.code ({ cls := "FishReaders$Library", name := "eats", desc := "(I)V" } : Jvm.MethodName) prog_7_method_11_code (4 : Nat) (Option.none : Option Jvm.ClassFile.FieldType)) ∈ lw_all := lw_g (lw_at lw_m4 82 rfl) rfl
theorem q879 : (Jvm.Cond.methodLink "FishReaders$Library" (101 : Nat) ({ cls := "java/lang/Math", name := "min", desc := "(II)I" } : Jvm.MethodName)) ∈ lw_all := lw_g (lw_at lw_m4 83 rfl) rfl
theorem q885 : (Jvm.Cond.instanceMethod ({ cls := "FishReaders$Library", name := "left", desc := "(I)I" } : Jvm.MethodName)) ∈ lw_all := lw_g (lw_at lw_m4 89 rfl) rfl
theorem q886 : (Jvm.Cond.selects "FishReaders$Library" ({ cls := "FishReaders$Library", name := "left", desc := "(I)I" } : Jvm.MethodName) ({ cls := "FishReaders$Library", name := "left", desc := "(I)I" } : Jvm.MethodName)) ∈ lw_all := lw_g (lw_at lw_m4 90 rfl) rfl
theorem q887 : (Jvm.Cond.code ({ cls := "FishReaders$Library", name := "left", desc := "(I)I" } : Jvm.MethodName) prog_7_method_14_code (4 : Nat) (Option.some Jvm.ClassFile.FieldType.int)) ∈ lw_all := lw_g (lw_at lw_m4 91 rfl) rfl
theorem q985 : (Jvm.Cond.instanceMethod ({ cls := "FishReaders$Library", name := "gone", desc := "()I" } : Jvm.MethodName)) ∈ lw_all := lw_g (lw_at lw_m4 189 rfl) rfl
theorem q986 : (Jvm.Cond.selects "FishReaders$Library" ({ cls := "FishReaders$Library", name := "gone", desc := "()I" } : Jvm.MethodName) ({ cls := "FishReaders$Library", name := "gone", desc := "()I" } : Jvm.MethodName)) ∈ lw_all := lw_g (lw_at lw_m4 190 rfl) rfl
theorem q987 : (Jvm.Cond.code ({ cls := "FishReaders$Library", name := "gone", desc := "()I" } : Jvm.MethodName) prog_7_method_15_code (3 : Nat) (Option.some Jvm.ClassFile.FieldType.int)) ∈ lw_all := lw_g (lw_at lw_m4 191 rfl) rfl
theorem q1234 : (Jvm.Cond.instanceMethod ({ cls := "FishReaders$Library", name := "dusts", desc := "()I" } : Jvm.MethodName)) ∈ lw_all := lw_g (lw_at lw_m5 198 rfl) rfl
theorem q1235 : (Jvm.Cond.selects "FishReaders$Library" ({ cls := "FishReaders$Library", name := "dusts", desc := "()I" } : Jvm.MethodName) ({ cls := "FishReaders$Library", name := "dusts", desc := "()I" } : Jvm.MethodName)) ∈ lw_all := lw_g (lw_at lw_m5 199 rfl) rfl
theorem q1236 : (Jvm.Cond.code ({ cls := "FishReaders$Library", name := "dusts", desc := "()I" } : Jvm.MethodName) prog_7_method_16_code (3 : Nat) (Option.some Jvm.ClassFile.FieldType.int)) ∈ lw_all := lw_g (lw_at lw_m5 200 rfl) rfl
theorem q1724 : (Jvm.Cond.castable "FishReaders$Library" "java/lang/Object") ∈ lw_tbl := lw_at lw_m7 208 rfl
theorem in_X1 : ∀ w ∈ wsX10, w ∈ lw_all := lw_in wsX10 [200, 202, 204, 206, 208, 210, 212, 214, 216, 218, 220, 222, 224, 226, 228, 230] (by decide +kernel) (by decide +kernel)
/-! FishReaders$Trail -/
set_option maxRecDepth 100000
def RX2 : String := "FishReaders$Trail"
def TX2 : u_T := fun k => match k with
  | 0 => ("FishReaders$Trail", "body", "[I", true)
  | _ => ("FishReaders$Trail", "many", "I", false)
def tyX2 : Nat → FieldType := fun k => match k with
  | 0 => .array .int
  | _ => .int
abbrev wsX20 : List Cond := u_ws RX2 TX2 2
theorem nmX2 : ∀ a, a < 2 → ∀ b, b < 2 → a ≠ b → (TX2 a).2.1 ≠ (TX2 b).2.1 := by decide +kernel
theorem tyX2_ok : ∀ k, k < 2 → parseFieldDescriptor (TX2 k).2.2.1 = some (tyX2 k) := by decide +kernel
abbrev cX2_init : ByteArray := prog_13_method_1_code
def yX2_init : MethodName := ⟨RX2, "<init>", "()V"⟩
def dkwX2_init_0 : List UInt8 := [42, 183, 0, 3, 42, 16, 16, 188, 10, 181, 0, 9, 177]
abbrev dktX2_init_0 : List UInt8 := dkwX2_init_0 ++ []
theorem dksX2_init_0 : cX2_init.data.toList.drop 0 = dktX2_init_0 := by decide +kernel
theorem dX2_init_0 : decode cX2_init 0 = .ok (.aload_n 0, 1) := dk_42 (dk_at dksX2_init_0 0 rfl rfl)
theorem dX2_init_1 : decode cX2_init 1 = .ok (.invokespecial 3, 3) := dk_183 0 3 (dk_at dksX2_init_0 1 rfl rfl)
theorem dX2_init_4 : decode cX2_init 4 = .ok (.aload_n 0, 1) := dk_42 (dk_at dksX2_init_0 4 rfl rfl)
theorem dX2_init_5 : decode cX2_init 5 = .ok (.bipush 16, 2) := dk_16 16 (dk_at dksX2_init_0 5 rfl rfl)
theorem dX2_init_7 : decode cX2_init 7 = .ok (.newarray .int, 2) := dk_188_10 (dk_at dksX2_init_0 7 rfl rfl)
theorem dX2_init_9 : decode cX2_init 9 = .ok (.putfield 9, 3) := dk_181 0 9 (dk_at dksX2_init_0 9 rfl rfl)
theorem dX2_init_12 : decode cX2_init 12 = .ok (.return_, 1) := dk_177 (dk_at dksX2_init_0 12 rfl rfl)
abbrev cX2_begins : ByteArray := prog_13_method_2_code
def yX2_begins : MethodName := ⟨RX2, "begins", "(I)V"⟩
def dkwX2_begins_1 : List UInt8 := [27, 79, 177]
abbrev dktX2_begins_1 : List UInt8 := dkwX2_begins_1 ++ []
def dkwX2_begins_0 : List UInt8 := [42, 180, 0, 15, 16, 16, 162, 0, 20, 42, 180, 0, 9, 42, 89, 180, 0, 15, 90, 4, 96, 181, 0, 15]
abbrev dktX2_begins_0 : List UInt8 := dkwX2_begins_0 ++ dktX2_begins_1
theorem dksX2_begins_0 : cX2_begins.data.toList.drop 0 = dktX2_begins_0 := by decide +kernel
theorem dksX2_begins_1 : cX2_begins.data.toList.drop 24 = dktX2_begins_1 := dk_seg dksX2_begins_0 24 rfl rfl
theorem dX2_begins_0 : decode cX2_begins 0 = .ok (.aload_n 0, 1) := dk_42 (dk_at dksX2_begins_0 0 rfl rfl)
theorem dX2_begins_1 : decode cX2_begins 1 = .ok (.getfield 15, 3) := dk_180 0 15 (dk_at dksX2_begins_0 1 rfl rfl)
theorem dX2_begins_4 : decode cX2_begins 4 = .ok (.bipush 16, 2) := dk_16 16 (dk_at dksX2_begins_0 4 rfl rfl)
theorem dX2_begins_6 : decode cX2_begins 6 = .ok (.if_icmp .ge 20, 3) := dk_162 0 20 (dk_at dksX2_begins_0 6 rfl rfl)
theorem dX2_begins_9 : decode cX2_begins 9 = .ok (.aload_n 0, 1) := dk_42 (dk_at dksX2_begins_0 9 rfl rfl)
theorem dX2_begins_10 : decode cX2_begins 10 = .ok (.getfield 9, 3) := dk_180 0 9 (dk_at dksX2_begins_0 10 rfl rfl)
theorem dX2_begins_13 : decode cX2_begins 13 = .ok (.aload_n 0, 1) := dk_42 (dk_at dksX2_begins_0 13 rfl rfl)
theorem dX2_begins_14 : decode cX2_begins 14 = .ok (.dup, 1) := dk_89 (dk_at dksX2_begins_0 14 rfl rfl)
theorem dX2_begins_15 : decode cX2_begins 15 = .ok (.getfield 15, 3) := dk_180 0 15 (dk_at dksX2_begins_0 15 rfl rfl)
theorem dX2_begins_18 : decode cX2_begins 18 = .ok (.dup_x1, 1) := dk_90 (dk_at dksX2_begins_0 18 rfl rfl)
theorem dX2_begins_19 : decode cX2_begins 19 = .ok (.iconst 1, 1) := dk_4 (dk_at dksX2_begins_0 19 rfl rfl)
theorem dX2_begins_20 : decode cX2_begins 20 = .ok (.iadd, 1) := dk_96 (dk_at dksX2_begins_0 20 rfl rfl)
theorem dX2_begins_21 : decode cX2_begins 21 = .ok (.putfield 15, 3) := dk_181 0 15 (dk_at dksX2_begins_0 21 rfl rfl)
theorem dX2_begins_24 : decode cX2_begins 24 = .ok (.iload_n 1, 1) := dk_27 (dk_at dksX2_begins_1 0 rfl rfl)
theorem dX2_begins_25 : decode cX2_begins 25 = .ok (.iastore, 1) := dk_79 (dk_at dksX2_begins_1 1 rfl rfl)
theorem dX2_begins_26 : decode cX2_begins 26 = .ok (.return_, 1) := dk_177 (dk_at dksX2_begins_1 2 rfl rfl)
theorem q82 : (Jvm.Cond.initialized "FishReaders$Trail") ∈ lw_all := lw_g (lw_at lw_m1 6 rfl) rfl
theorem q235 : (Jvm.Cond.instantiable "FishReaders$Trail" (2 : Nat)) ∈ lw_all := lw_g (lw_at lw_m1 159 rfl) rfl
theorem q237 : (Jvm.Cond.instanceMethod ({ cls := "FishReaders$Trail", name := "<init>", desc := "()V" } : Jvm.MethodName)) ∈ lw_all := lw_g (lw_at lw_m1 161 rfl) rfl
theorem q238 : (Jvm.Cond.code ({ cls := "FishReaders$Trail", name := "<init>", desc := "()V" } : Jvm.MethodName) prog_13_method_1_code (1 : Nat) (Option.none : Option Jvm.ClassFile.FieldType)) ∈ lw_all := lw_g (lw_at lw_m1 162 rfl) rfl
theorem q239 : (Jvm.Cond.methodLink "FishReaders$Trail" (3 : Nat) ({ cls := "java/lang/Object", name := "<init>", desc := "()V" } : Jvm.MethodName)) ∈ lw_all := lw_g (lw_at lw_m1 163 rfl) rfl
theorem q240 : (Jvm.Cond.fieldLink "FishReaders$Trail" (9 : Nat) "FishReaders$Trail" "body" "[I") ∈ lw_all := lw_g (lw_at lw_m1 164 rfl) rfl
theorem q242 : (Jvm.Cond.fieldLink "FishReaders$Trail" (15 : Nat) "FishReaders$Trail" "many" "I") ∈ lw_all := lw_g (lw_at lw_m1 166 rfl) rfl
theorem q244 : (Jvm.Cond.laysFinal "FishReaders$Trail" "FishReaders$Trail" "body" "[I") ∈ lw_all := lw_g (lw_at lw_m1 168 rfl) rfl
theorem q245 : (Jvm.Cond.soleField "FishReaders$Trail" "body") ∈ lw_all := lw_g (lw_at lw_m1 169 rfl) rfl
theorem q246 : (Jvm.Cond.lays "FishReaders$Trail" "FishReaders$Trail" "many" "I") ∈ lw_all := lw_g (lw_at lw_m1 170 rfl) rfl
theorem q247 : (Jvm.Cond.soleField "FishReaders$Trail" "many") ∈ lw_all := lw_g (lw_at lw_m1 171 rfl) rfl
theorem q248 : (Jvm.Cond.superclass "FishReaders$Trail" "java/lang/Object") ∈ lw_all := lw_g (lw_at lw_m1 172 rfl) rfl
theorem q743 : (Jvm.Cond.selects "FishReaders$Trail" ({ cls := "java/lang/Object", name := "getClass", desc := "()Ljava/lang/Class;" } : Jvm.MethodName) ({ cls := "java/lang/Object", name := "getClass", desc := "()Ljava/lang/Class;" } : Jvm.MethodName)) ∈ lw_all := lw_g (lw_at lw_m3 187 rfl) rfl
theorem q1150 : (Jvm.Cond.instanceMethod ({ cls := "FishReaders$Trail", name := "begins", desc := "(I)V" } : Jvm.MethodName)) ∈ lw_all := lw_g (lw_at lw_m5 114 rfl) rfl
theorem q1151 : (Jvm.Cond.selects "FishReaders$Trail" ({ cls := "FishReaders$Trail", name := "begins", desc := "(I)V" } : Jvm.MethodName) ({ cls := "FishReaders$Trail", name := "begins", desc := "(I)V" } : Jvm.MethodName)) ∈ lw_all := lw_g (lw_at lw_m5 115 rfl) rfl
theorem q1152 : (Jvm.Cond.code ({ cls := "FishReaders$Trail", name := "begins", desc := "(I)V" } : Jvm.MethodName) prog_13_method_2_code (2 : Nat) (Option.none : Option Jvm.ClassFile.FieldType)) ∈ lw_all := lw_g (lw_at lw_m5 116 rfl) rfl
theorem q1728 : (Jvm.Cond.castable "FishReaders$Trail" "java/lang/Object") ∈ lw_tbl := lw_at lw_m7 212 rfl
theorem in_X2 : ∀ w ∈ wsX20, w ∈ lw_all := lw_in wsX20 [244, 246] (by decide +kernel) (by decide +kernel)
/-! FishReaders$Fish -/
set_option maxRecDepth 100000
def RX3 : String := "FishReaders$Fish"
abbrev cX3_init : ByteArray := prog_6_method_1_code
def yX3_init : MethodName := ⟨RX3, "<init>", "(I)V"⟩
def dkwX3_init_0 : List UInt8 := [42, 183, 0, 1, 42, 27, 181, 0, 7, 177]
abbrev dktX3_init_0 : List UInt8 := dkwX3_init_0 ++ []
theorem dksX3_init_0 : cX3_init.data.toList.drop 0 = dktX3_init_0 := by decide +kernel
theorem dX3_init_0 : decode cX3_init 0 = .ok (.aload_n 0, 1) := dk_42 (dk_at dksX3_init_0 0 rfl rfl)
theorem dX3_init_1 : decode cX3_init 1 = .ok (.invokespecial 1, 3) := dk_183 0 1 (dk_at dksX3_init_0 1 rfl rfl)
theorem dX3_init_4 : decode cX3_init 4 = .ok (.aload_n 0, 1) := dk_42 (dk_at dksX3_init_0 4 rfl rfl)
theorem dX3_init_5 : decode cX3_init 5 = .ok (.iload_n 1, 1) := dk_27 (dk_at dksX3_init_0 5 rfl rfl)
theorem dX3_init_6 : decode cX3_init 6 = .ok (.putfield 7, 3) := dk_181 0 7 (dk_at dksX3_init_0 6 rfl rfl)
theorem dX3_init_9 : decode cX3_init 9 = .ok (.return_, 1) := dk_177 (dk_at dksX3_init_0 9 rfl rfl)
abbrev cX3_taste : ByteArray := prog_6_method_4_code
def yX3_taste : MethodName := ⟨RX3, "taste", "()I"⟩
theorem dX3_taste_0 : decode cX3_taste 0 = .ok (.iconst 0, 1) := by decide +kernel
theorem dX3_taste_1 : decode cX3_taste 1 = .ok (.ireturn, 1) := by decide +kernel
abbrev cX3_number : ByteArray := prog_6_method_5_code
def yX3_number : MethodName := ⟨RX3, "number", "()I"⟩
theorem dX3_number_0 : decode cX3_number 0 = .ok (.aload_n 0, 1) := by decide +kernel
theorem dX3_number_1 : decode cX3_number 1 = .ok (.getfield 7, 3) := by decide +kernel
theorem dX3_number_4 : decode cX3_number 4 = .ok (.ireturn, 1) := by decide +kernel
abbrev cX3_size : ByteArray := prog_6_method_6_code
def yX3_size : MethodName := ⟨RX3, "size", "(LFishReaders$Trail;LFishReaders$Library;)I"⟩
def dkwX3_size_0 : List UInt8 := [43, 16, 10, 182, 0, 13, 44, 180, 0, 19, 42, 180, 0, 7, 46, 172]
abbrev dktX3_size_0 : List UInt8 := dkwX3_size_0 ++ []
theorem dksX3_size_0 : cX3_size.data.toList.drop 0 = dktX3_size_0 := by decide +kernel
theorem dX3_size_0 : decode cX3_size 0 = .ok (.aload_n 1, 1) := dk_43 (dk_at dksX3_size_0 0 rfl rfl)
theorem dX3_size_1 : decode cX3_size 1 = .ok (.bipush 10, 2) := dk_16 10 (dk_at dksX3_size_0 1 rfl rfl)
theorem dX3_size_3 : decode cX3_size 3 = .ok (.invokevirtual 13, 3) := dk_182 0 13 (dk_at dksX3_size_0 3 rfl rfl)
theorem dX3_size_6 : decode cX3_size 6 = .ok (.aload_n 2, 1) := dk_44 (dk_at dksX3_size_0 6 rfl rfl)
theorem dX3_size_7 : decode cX3_size 7 = .ok (.getfield 19, 3) := dk_180 0 19 (dk_at dksX3_size_0 7 rfl rfl)
theorem dX3_size_10 : decode cX3_size 10 = .ok (.aload_n 0, 1) := dk_42 (dk_at dksX3_size_0 10 rfl rfl)
theorem dX3_size_11 : decode cX3_size 11 = .ok (.getfield 7, 3) := dk_180 0 7 (dk_at dksX3_size_0 11 rfl rfl)
theorem dX3_size_14 : decode cX3_size 14 = .ok (.iaload, 1) := dk_46 (dk_at dksX3_size_0 14 rfl rfl)
theorem dX3_size_15 : decode cX3_size 15 = .ok (.ireturn, 1) := dk_172 (dk_at dksX3_size_0 15 rfl rfl)
theorem q83 : (Jvm.Cond.initialized "FishReaders$Fish") ∈ lw_all := lw_g (lw_at lw_m1 7 rfl) rfl
theorem q190 : (Jvm.Cond.fieldLink "FishReaders$Fish" (19 : Nat) "FishReaders$Library" "dust" "[I") ∈ lw_all := lw_g (lw_at lw_m1 114 rfl) rfl
theorem q257 : (Jvm.Cond.instanceMethod ({ cls := "FishReaders$Fish", name := "<init>", desc := "(I)V" } : Jvm.MethodName)) ∈ lw_all := lw_g (lw_at lw_m1 181 rfl) rfl
theorem q258 : (Jvm.Cond.code ({ cls := "FishReaders$Fish", name := "<init>", desc := "(I)V" } : Jvm.MethodName) prog_6_method_1_code (2 : Nat) (Option.none : Option Jvm.ClassFile.FieldType)) ∈ lw_all := lw_g (lw_at lw_m1 182 rfl) rfl
theorem q259 : (Jvm.Cond.methodLink "FishReaders$Fish" (1 : Nat) ({ cls := "java/lang/Object", name := "<init>", desc := "()V" } : Jvm.MethodName)) ∈ lw_all := lw_g (lw_at lw_m1 183 rfl) rfl
theorem q260 : (Jvm.Cond.fieldLink "FishReaders$Fish" (7 : Nat) "FishReaders$Fish" "number" "I") ∈ lw_all := lw_g (lw_at lw_m1 184 rfl) rfl
theorem q262 : (Jvm.Cond.soleField "FishReaders$Fish" "number") ∈ lw_all := lw_g (lw_at lw_m1 186 rfl) rfl
theorem q823 : (Jvm.Cond.declares ({ cls := "FishReaders$Fish", name := "goes", desc := "(ILFishReaders$Library;)I" } : Jvm.MethodName)) ∈ lw_tbl := lw_at lw_m4 27 rfl
theorem q824 : (Jvm.Cond.sameMethod "FishReaders$Fish" "FishReaders$Fish" "goes" "(ILFishReaders$Library;)I") ∈ lw_all := lw_g (lw_at lw_m4 28 rfl) rfl
theorem q943 : (Jvm.Cond.instanceMethod ({ cls := "FishReaders$Fish", name := "taste", desc := "()I" } : Jvm.MethodName)) ∈ lw_all := lw_g (lw_at lw_m4 147 rfl) rfl
theorem q944 : (Jvm.Cond.sameMethod "FishReaders$Fish" "FishReaders$Fish" "taste" "()I") ∈ lw_all := lw_g (lw_at lw_m4 148 rfl) rfl
theorem q950 : (Jvm.Cond.code ({ cls := "FishReaders$Fish", name := "taste", desc := "()I" } : Jvm.MethodName) prog_6_method_4_code (1 : Nat) (Option.some Jvm.ClassFile.FieldType.int)) ∈ lw_all := lw_g (lw_at lw_m4 154 rfl) rfl
theorem q1095 : (Jvm.Cond.declares ({ cls := "FishReaders$Fish", name := "kind", desc := "()I" } : Jvm.MethodName)) ∈ lw_tbl := lw_at lw_m5 59 rfl
theorem q1096 : (Jvm.Cond.sameMethod "FishReaders$Fish" "FishReaders$Fish" "kind" "()I") ∈ lw_all := lw_g (lw_at lw_m5 60 rfl) rfl
theorem q1131 : (Jvm.Cond.instanceMethod ({ cls := "FishReaders$Fish", name := "number", desc := "()I" } : Jvm.MethodName)) ∈ lw_all := lw_g (lw_at lw_m5 95 rfl) rfl
theorem q1132 : (Jvm.Cond.sameMethod "FishReaders$Fish" "FishReaders$Fish" "number" "()I") ∈ lw_all := lw_g (lw_at lw_m5 96 rfl) rfl
theorem q1138 : (Jvm.Cond.code ({ cls := "FishReaders$Fish", name := "number", desc := "()I" } : Jvm.MethodName) prog_6_method_5_code (1 : Nat) (Option.some Jvm.ClassFile.FieldType.int)) ∈ lw_all := lw_g (lw_at lw_m5 102 rfl) rfl
theorem q1144 : (Jvm.Cond.instanceMethod ({ cls := "FishReaders$Fish", name := "size", desc := "(LFishReaders$Trail;LFishReaders$Library;)I" } : Jvm.MethodName)) ∈ lw_all := lw_g (lw_at lw_m5 108 rfl) rfl
theorem q1145 : (Jvm.Cond.sameMethod "FishReaders$Fish" "FishReaders$Fish" "size" "(LFishReaders$Trail;LFishReaders$Library;)I") ∈ lw_all := lw_g (lw_at lw_m5 109 rfl) rfl
theorem q1169 : (Jvm.Cond.superclass "FishReaders$Fish" "java/lang/Object") ∈ lw_all := lw_g (lw_at lw_m5 133 rfl) rfl
theorem q1181 : (Jvm.Cond.publicMethod ({ cls := "FishReaders$Fish", name := "number", desc := "()I" } : Jvm.MethodName)) ∈ lw_tbl := lw_at lw_m5 145 rfl
theorem q1196 : (Jvm.Cond.declares ({ cls := "FishReaders$Fish", name := "number", desc := "()I" } : Jvm.MethodName)) ∈ lw_tbl := lw_at lw_m5 160 rfl
theorem q1215 : (Jvm.Cond.code ({ cls := "FishReaders$Fish", name := "size", desc := "(LFishReaders$Trail;LFishReaders$Library;)I" } : Jvm.MethodName) prog_6_method_6_code (3 : Nat) (Option.some Jvm.ClassFile.FieldType.int)) ∈ lw_all := lw_g (lw_at lw_m5 179 rfl) rfl
theorem q1216 : (Jvm.Cond.methodLink "FishReaders$Fish" (13 : Nat) ({ cls := "FishReaders$Trail", name := "begins", desc := "(I)V" } : Jvm.MethodName)) ∈ lw_all := lw_g (lw_at lw_m5 180 rfl) rfl
theorem q1725 : (Jvm.Cond.castable "FishReaders$Fish" "java/lang/Object") ∈ lw_tbl := lw_at lw_m7 209 rfl
/-! FishReaders$Browser -/
set_option maxRecDepth 100000
def RX4 : String := "FishReaders$Browser"
def TX4 : u_T := fun k => match k with
  | _ => ("FishReaders$Fish", "number", "I", true)
def tyX4 : Nat → FieldType := fun k => match k with
  | _ => .int
abbrev wsX40 : List Cond := u_ws RX4 TX4 1
theorem nmX4 : ∀ a, a < 1 → ∀ b, b < 1 → a ≠ b → (TX4 a).2.1 ≠ (TX4 b).2.1 := by decide +kernel
theorem tyX4_ok : ∀ k, k < 1 → parseFieldDescriptor (TX4 k).2.2.1 = some (tyX4 k) := by decide +kernel
abbrev cX4_init : ByteArray := prog_2_method_1_code
def yX4_init : MethodName := ⟨RX4, "<init>", "(I)V"⟩
def dkwX4_init_0 : List UInt8 := [42, 27, 183, 0, 3, 177]
abbrev dktX4_init_0 : List UInt8 := dkwX4_init_0 ++ []
theorem dksX4_init_0 : cX4_init.data.toList.drop 0 = dktX4_init_0 := by decide +kernel
theorem dX4_init_0 : decode cX4_init 0 = .ok (.aload_n 0, 1) := dk_42 (dk_at dksX4_init_0 0 rfl rfl)
theorem dX4_init_1 : decode cX4_init 1 = .ok (.iload_n 1, 1) := dk_27 (dk_at dksX4_init_0 1 rfl rfl)
theorem dX4_init_2 : decode cX4_init 2 = .ok (.invokespecial 3, 3) := dk_183 0 3 (dk_at dksX4_init_0 2 rfl rfl)
theorem dX4_init_5 : decode cX4_init 5 = .ok (.return_, 1) := dk_177 (dk_at dksX4_init_0 5 rfl rfl)
abbrev cX4_goes : ByteArray := prog_2_method_4_code
def yX4_goes : MethodName := ⟨RX4, "goes", "(ILFishReaders$Library;)I"⟩
def dkwX4_goes_0 : List UInt8 := [44, 27, 44, 27, 42, 182, 0, 9, 182, 0, 15, 182, 0, 21, 172]
abbrev dktX4_goes_0 : List UInt8 := dkwX4_goes_0 ++ []
theorem dksX4_goes_0 : cX4_goes.data.toList.drop 0 = dktX4_goes_0 := by decide +kernel
theorem dX4_goes_0 : decode cX4_goes 0 = .ok (.aload_n 2, 1) := dk_44 (dk_at dksX4_goes_0 0 rfl rfl)
theorem dX4_goes_1 : decode cX4_goes 1 = .ok (.iload_n 1, 1) := dk_27 (dk_at dksX4_goes_0 1 rfl rfl)
theorem dX4_goes_2 : decode cX4_goes 2 = .ok (.aload_n 2, 1) := dk_44 (dk_at dksX4_goes_0 2 rfl rfl)
theorem dX4_goes_3 : decode cX4_goes 3 = .ok (.iload_n 1, 1) := dk_27 (dk_at dksX4_goes_0 3 rfl rfl)
theorem dX4_goes_4 : decode cX4_goes 4 = .ok (.aload_n 0, 1) := dk_42 (dk_at dksX4_goes_0 4 rfl rfl)
theorem dX4_goes_5 : decode cX4_goes 5 = .ok (.invokevirtual 9, 3) := dk_182 0 9 (dk_at dksX4_goes_0 5 rfl rfl)
theorem dX4_goes_8 : decode cX4_goes 8 = .ok (.invokevirtual 15, 3) := dk_182 0 15 (dk_at dksX4_goes_0 8 rfl rfl)
theorem dX4_goes_11 : decode cX4_goes 11 = .ok (.invokevirtual 21, 3) := dk_182 0 21 (dk_at dksX4_goes_0 11 rfl rfl)
theorem dX4_goes_14 : decode cX4_goes 14 = .ok (.ireturn, 1) := dk_172 (dk_at dksX4_goes_0 14 rfl rfl)
abbrev cX4_taste : ByteArray := prog_2_method_3_code
def yX4_taste : MethodName := ⟨RX4, "taste", "()I"⟩
theorem dX4_taste_0 : decode cX4_taste 0 = .ok (.iconst 1, 1) := by decide +kernel
theorem dX4_taste_1 : decode cX4_taste 1 = .ok (.ireturn, 1) := by decide +kernel
abbrev cX4_kind : ByteArray := prog_2_method_2_code
def yX4_kind : MethodName := ⟨RX4, "kind", "()I"⟩
theorem dX4_kind_0 : decode cX4_kind 0 = .ok (.iconst 1, 1) := by decide +kernel
theorem dX4_kind_1 : decode cX4_kind 1 = .ok (.ireturn, 1) := by decide +kernel
abbrev cX4_size : ByteArray := prog_2_method_5_code
def yX4_size : MethodName := ⟨RX4, "size", "(LFishReaders$Trail;LFishReaders$Library;)I"⟩
def dkwX4_size_0 : List UInt8 := [43, 16, 11, 182, 0, 24, 42, 43, 44, 183, 0, 29, 42, 43, 44, 182, 0, 33, 96, 172]
abbrev dktX4_size_0 : List UInt8 := dkwX4_size_0 ++ []
theorem dksX4_size_0 : cX4_size.data.toList.drop 0 = dktX4_size_0 := by decide +kernel
theorem dX4_size_0 : decode cX4_size 0 = .ok (.aload_n 1, 1) := dk_43 (dk_at dksX4_size_0 0 rfl rfl)
theorem dX4_size_1 : decode cX4_size 1 = .ok (.bipush 11, 2) := dk_16 11 (dk_at dksX4_size_0 1 rfl rfl)
theorem dX4_size_3 : decode cX4_size 3 = .ok (.invokevirtual 24, 3) := dk_182 0 24 (dk_at dksX4_size_0 3 rfl rfl)
theorem dX4_size_6 : decode cX4_size 6 = .ok (.aload_n 0, 1) := dk_42 (dk_at dksX4_size_0 6 rfl rfl)
theorem dX4_size_7 : decode cX4_size 7 = .ok (.aload_n 1, 1) := dk_43 (dk_at dksX4_size_0 7 rfl rfl)
theorem dX4_size_8 : decode cX4_size 8 = .ok (.aload_n 2, 1) := dk_44 (dk_at dksX4_size_0 8 rfl rfl)
theorem dX4_size_9 : decode cX4_size 9 = .ok (.invokespecial 29, 3) := dk_183 0 29 (dk_at dksX4_size_0 9 rfl rfl)
theorem dX4_size_12 : decode cX4_size 12 = .ok (.aload_n 0, 1) := dk_42 (dk_at dksX4_size_0 12 rfl rfl)
theorem dX4_size_13 : decode cX4_size 13 = .ok (.aload_n 1, 1) := dk_43 (dk_at dksX4_size_0 13 rfl rfl)
theorem dX4_size_14 : decode cX4_size 14 = .ok (.aload_n 2, 1) := dk_44 (dk_at dksX4_size_0 14 rfl rfl)
theorem dX4_size_15 : decode cX4_size 15 = .ok (.invokevirtual 33, 3) := dk_182 0 33 (dk_at dksX4_size_0 15 rfl rfl)
theorem dX4_size_18 : decode cX4_size 18 = .ok (.iadd, 1) := dk_96 (dk_at dksX4_size_0 18 rfl rfl)
theorem dX4_size_19 : decode cX4_size 19 = .ok (.ireturn, 1) := dk_172 (dk_at dksX4_size_0 19 rfl rfl)
abbrev cX4_mark : ByteArray := prog_2_method_6_code
def yX4_mark : MethodName := ⟨RX4, "mark", "(LFishReaders$Trail;LFishReaders$Library;)I"⟩
def dkwX4_mark_0 : List UInt8 := [43, 16, 21, 182, 0, 24, 42, 43, 44, 183, 0, 36, 44, 180, 0, 37, 42, 182, 0, 41, 46, 96, 172]
abbrev dktX4_mark_0 : List UInt8 := dkwX4_mark_0 ++ []
theorem dksX4_mark_0 : cX4_mark.data.toList.drop 0 = dktX4_mark_0 := by decide +kernel
theorem dX4_mark_0 : decode cX4_mark 0 = .ok (.aload_n 1, 1) := dk_43 (dk_at dksX4_mark_0 0 rfl rfl)
theorem dX4_mark_1 : decode cX4_mark 1 = .ok (.bipush 21, 2) := dk_16 21 (dk_at dksX4_mark_0 1 rfl rfl)
theorem dX4_mark_3 : decode cX4_mark 3 = .ok (.invokevirtual 24, 3) := dk_182 0 24 (dk_at dksX4_mark_0 3 rfl rfl)
theorem dX4_mark_6 : decode cX4_mark 6 = .ok (.aload_n 0, 1) := dk_42 (dk_at dksX4_mark_0 6 rfl rfl)
theorem dX4_mark_7 : decode cX4_mark 7 = .ok (.aload_n 1, 1) := dk_43 (dk_at dksX4_mark_0 7 rfl rfl)
theorem dX4_mark_8 : decode cX4_mark 8 = .ok (.aload_n 2, 1) := dk_44 (dk_at dksX4_mark_0 8 rfl rfl)
theorem dX4_mark_9 : decode cX4_mark 9 = .ok (.invokespecial 36, 3) := dk_183 0 36 (dk_at dksX4_mark_0 9 rfl rfl)
theorem dX4_mark_12 : decode cX4_mark 12 = .ok (.aload_n 2, 1) := dk_44 (dk_at dksX4_mark_0 12 rfl rfl)
theorem dX4_mark_13 : decode cX4_mark 13 = .ok (.getfield 37, 3) := dk_180 0 37 (dk_at dksX4_mark_0 13 rfl rfl)
theorem dX4_mark_16 : decode cX4_mark 16 = .ok (.aload_n 0, 1) := dk_42 (dk_at dksX4_mark_0 16 rfl rfl)
theorem dX4_mark_17 : decode cX4_mark 17 = .ok (.invokevirtual 41, 3) := dk_182 0 41 (dk_at dksX4_mark_0 17 rfl rfl)
theorem dX4_mark_20 : decode cX4_mark 20 = .ok (.iaload, 1) := dk_46 (dk_at dksX4_mark_0 20 rfl rfl)
theorem dX4_mark_21 : decode cX4_mark 21 = .ok (.iadd, 1) := dk_96 (dk_at dksX4_mark_0 21 rfl rfl)
theorem dX4_mark_22 : decode cX4_mark 22 = .ok (.ireturn, 1) := dk_172 (dk_at dksX4_mark_0 22 rfl rfl)
theorem q84 : (Jvm.Cond.initialized "FishReaders$Browser") ∈ lw_all := lw_g (lw_at lw_m1 8 rfl) rfl
theorem q186 : (Jvm.Cond.fieldLink "FishReaders$Browser" (37 : Nat) "FishReaders$Library" "at" "[I") ∈ lw_all := lw_g (lw_at lw_m1 110 rfl) rfl
theorem q252 : (Jvm.Cond.instantiable "FishReaders$Browser" (1 : Nat)) ∈ lw_all := lw_g (lw_at lw_m1 176 rfl) rfl
theorem q254 : (Jvm.Cond.instanceMethod ({ cls := "FishReaders$Browser", name := "<init>", desc := "(I)V" } : Jvm.MethodName)) ∈ lw_all := lw_g (lw_at lw_m1 178 rfl) rfl
theorem q255 : (Jvm.Cond.code ({ cls := "FishReaders$Browser", name := "<init>", desc := "(I)V" } : Jvm.MethodName) prog_2_method_1_code (2 : Nat) (Option.none : Option Jvm.ClassFile.FieldType)) ∈ lw_all := lw_g (lw_at lw_m1 179 rfl) rfl
theorem q256 : (Jvm.Cond.methodLink "FishReaders$Browser" (3 : Nat) ({ cls := "FishReaders$Fish", name := "<init>", desc := "(I)V" } : Jvm.MethodName)) ∈ lw_all := lw_g (lw_at lw_m1 180 rfl) rfl
theorem q261 : (Jvm.Cond.laysFinal "FishReaders$Browser" "FishReaders$Fish" "number" "I") ∈ lw_all := lw_g (lw_at lw_m1 185 rfl) rfl
theorem q263 : (Jvm.Cond.superclass "FishReaders$Browser" "FishReaders$Fish") ∈ lw_all := lw_g (lw_at lw_m1 187 rfl) rfl
theorem q734 : (Jvm.Cond.selects "FishReaders$Browser" ({ cls := "java/lang/Object", name := "getClass", desc := "()Ljava/lang/Class;" } : Jvm.MethodName) ({ cls := "java/lang/Object", name := "getClass", desc := "()Ljava/lang/Class;" } : Jvm.MethodName)) ∈ lw_all := lw_g (lw_at lw_m3 178 rfl) rfl
theorem q825 : (Jvm.Cond.selects "FishReaders$Browser" ({ cls := "FishReaders$Fish", name := "goes", desc := "(ILFishReaders$Library;)I" } : Jvm.MethodName) ({ cls := "FishReaders$Browser", name := "goes", desc := "(ILFishReaders$Library;)I" } : Jvm.MethodName)) ∈ lw_all := lw_g (lw_at lw_m4 29 rfl) rfl
theorem q826 : (Jvm.Cond.instanceMethod ({ cls := "FishReaders$Browser", name := "goes", desc := "(ILFishReaders$Library;)I" } : Jvm.MethodName)) ∈ lw_all := lw_g (lw_at lw_m4 30 rfl) rfl
theorem q827 : (Jvm.Cond.code ({ cls := "FishReaders$Browser", name := "goes", desc := "(ILFishReaders$Library;)I" } : Jvm.MethodName) prog_2_method_4_code (3 : Nat) (Option.some Jvm.ClassFile.FieldType.int)) ∈ lw_all := lw_g (lw_at lw_m4 31 rfl) rfl
theorem q828 : (Jvm.Cond.methodLink "FishReaders$Browser" (9 : Nat) ({ cls := "FishReaders$Browser", name := "taste", desc := "()I" } : Jvm.MethodName)) ∈ lw_all := lw_g (lw_at lw_m4 32 rfl) rfl
theorem q829 : (Jvm.Cond.instanceMethod ({ cls := "FishReaders$Browser", name := "taste", desc := "()I" } : Jvm.MethodName)) ∈ lw_all := lw_g (lw_at lw_m4 33 rfl) rfl
theorem q830 : (Jvm.Cond.selects "FishReaders$Browser" ({ cls := "FishReaders$Browser", name := "taste", desc := "()I" } : Jvm.MethodName) ({ cls := "FishReaders$Browser", name := "taste", desc := "()I" } : Jvm.MethodName)) ∈ lw_all := lw_g (lw_at lw_m4 34 rfl) rfl
theorem q831 : (Jvm.Cond.sameMethod "FishReaders$Browser" "FishReaders$Browser" "taste" "()I") ∈ lw_all := lw_g (lw_at lw_m4 35 rfl) rfl
theorem q837 : (Jvm.Cond.code ({ cls := "FishReaders$Browser", name := "taste", desc := "()I" } : Jvm.MethodName) prog_2_method_3_code (1 : Nat) (Option.some Jvm.ClassFile.FieldType.int)) ∈ lw_all := lw_g (lw_at lw_m4 41 rfl) rfl
theorem q838 : (Jvm.Cond.methodLink "FishReaders$Browser" (15 : Nat) ({ cls := "FishReaders$Library", name := "liked", desc := "(II)I" } : Jvm.MethodName)) ∈ lw_all := lw_g (lw_at lw_m4 42 rfl) rfl
theorem q857 : (Jvm.Cond.methodLink "FishReaders$Browser" (21 : Nat) ({ cls := "FishReaders$Library", name := "nearer", desc := "(II)I" } : Jvm.MethodName)) ∈ lw_all := lw_g (lw_at lw_m4 61 rfl) rfl
theorem q945 : (Jvm.Cond.selects "FishReaders$Browser" ({ cls := "FishReaders$Fish", name := "taste", desc := "()I" } : Jvm.MethodName) ({ cls := "FishReaders$Browser", name := "taste", desc := "()I" } : Jvm.MethodName)) ∈ lw_all := lw_g (lw_at lw_m4 149 rfl) rfl
theorem q1097 : (Jvm.Cond.selects "FishReaders$Browser" ({ cls := "FishReaders$Fish", name := "kind", desc := "()I" } : Jvm.MethodName) ({ cls := "FishReaders$Browser", name := "kind", desc := "()I" } : Jvm.MethodName)) ∈ lw_all := lw_g (lw_at lw_m5 61 rfl) rfl
theorem q1098 : (Jvm.Cond.instanceMethod ({ cls := "FishReaders$Browser", name := "kind", desc := "()I" } : Jvm.MethodName)) ∈ lw_all := lw_g (lw_at lw_m5 62 rfl) rfl
theorem q1099 : (Jvm.Cond.code ({ cls := "FishReaders$Browser", name := "kind", desc := "()I" } : Jvm.MethodName) prog_2_method_2_code (1 : Nat) (Option.some Jvm.ClassFile.FieldType.int)) ∈ lw_all := lw_g (lw_at lw_m5 63 rfl) rfl
theorem q1133 : (Jvm.Cond.selects "FishReaders$Browser" ({ cls := "FishReaders$Fish", name := "number", desc := "()I" } : Jvm.MethodName) ({ cls := "FishReaders$Fish", name := "number", desc := "()I" } : Jvm.MethodName)) ∈ lw_all := lw_g (lw_at lw_m5 97 rfl) rfl
theorem q1146 : (Jvm.Cond.selects "FishReaders$Browser" ({ cls := "FishReaders$Fish", name := "size", desc := "(LFishReaders$Trail;LFishReaders$Library;)I" } : Jvm.MethodName) ({ cls := "FishReaders$Browser", name := "size", desc := "(LFishReaders$Trail;LFishReaders$Library;)I" } : Jvm.MethodName)) ∈ lw_all := lw_g (lw_at lw_m5 110 rfl) rfl
theorem q1147 : (Jvm.Cond.instanceMethod ({ cls := "FishReaders$Browser", name := "size", desc := "(LFishReaders$Trail;LFishReaders$Library;)I" } : Jvm.MethodName)) ∈ lw_all := lw_g (lw_at lw_m5 111 rfl) rfl
theorem q1148 : (Jvm.Cond.code ({ cls := "FishReaders$Browser", name := "size", desc := "(LFishReaders$Trail;LFishReaders$Library;)I" } : Jvm.MethodName) prog_2_method_5_code (3 : Nat) (Option.some Jvm.ClassFile.FieldType.int)) ∈ lw_all := lw_g (lw_at lw_m5 112 rfl) rfl
theorem q1149 : (Jvm.Cond.methodLink "FishReaders$Browser" (24 : Nat) ({ cls := "FishReaders$Trail", name := "begins", desc := "(I)V" } : Jvm.MethodName)) ∈ lw_all := lw_g (lw_at lw_m5 113 rfl) rfl
theorem q1153 : (Jvm.Cond.methodLink "FishReaders$Browser" (29 : Nat) ({ cls := "FishReaders$Fish", name := "size", desc := "(LFishReaders$Trail;LFishReaders$Library;)I" } : Jvm.MethodName)) ∈ lw_all := lw_g (lw_at lw_m5 117 rfl) rfl
theorem q1154 : (Jvm.Cond.methodLink "FishReaders$Browser" (33 : Nat) ({ cls := "FishReaders$Browser", name := "mark", desc := "(LFishReaders$Trail;LFishReaders$Library;)I" } : Jvm.MethodName)) ∈ lw_all := lw_g (lw_at lw_m5 118 rfl) rfl
theorem q1155 : (Jvm.Cond.instanceMethod ({ cls := "FishReaders$Browser", name := "mark", desc := "(LFishReaders$Trail;LFishReaders$Library;)I" } : Jvm.MethodName)) ∈ lw_all := lw_g (lw_at lw_m5 119 rfl) rfl
theorem q1156 : (Jvm.Cond.selects "FishReaders$Browser" ({ cls := "FishReaders$Browser", name := "mark", desc := "(LFishReaders$Trail;LFishReaders$Library;)I" } : Jvm.MethodName) ({ cls := "FishReaders$Browser", name := "mark", desc := "(LFishReaders$Trail;LFishReaders$Library;)I" } : Jvm.MethodName)) ∈ lw_all := lw_g (lw_at lw_m5 120 rfl) rfl
theorem q1157 : (Jvm.Cond.sameMethod "FishReaders$Browser" "FishReaders$Browser" "mark" "(LFishReaders$Trail;LFishReaders$Library;)I") ∈ lw_all := lw_g (lw_at lw_m5 121 rfl) rfl
theorem q1168 : (Jvm.Cond.code ({ cls := "FishReaders$Browser", name := "mark", desc := "(LFishReaders$Trail;LFishReaders$Library;)I" } : Jvm.MethodName) prog_2_method_6_code (3 : Nat) (Option.some Jvm.ClassFile.FieldType.int)) ∈ lw_all := lw_g (lw_at lw_m5 132 rfl) rfl
theorem q1178 : (Jvm.Cond.castable "FishReaders$Browser" "FishReaders$Marked") ∈ lw_tbl := lw_at lw_m5 142 rfl
theorem q1179 : (Jvm.Cond.selects "FishReaders$Browser" ({ cls := "FishReaders$Marked", name := "number", desc := "()I" } : Jvm.MethodName) ({ cls := "FishReaders$Fish", name := "number", desc := "()I" } : Jvm.MethodName)) ∈ lw_all := lw_g (lw_at lw_m5 143 rfl) rfl
theorem q1180 : (Jvm.Cond.unhidden "FishReaders$Browser" "number" "()I") ∈ lw_tbl := lw_at lw_m5 144 rfl
theorem q1194 : (Jvm.Cond.methodLink "FishReaders$Browser" (41 : Nat) ({ cls := "FishReaders$Browser", name := "number", desc := "()I" } : Jvm.MethodName)) ∈ lw_all := lw_g (lw_at lw_m5 158 rfl) rfl
theorem q1195 : (Jvm.Cond.sameMethod "FishReaders$Browser" "FishReaders$Fish" "number" "()I") ∈ lw_all := lw_g (lw_at lw_m5 159 rfl) rfl
theorem q1197 : (Jvm.Cond.selects "FishReaders$Browser" ({ cls := "FishReaders$Browser", name := "number", desc := "()I" } : Jvm.MethodName) ({ cls := "FishReaders$Fish", name := "number", desc := "()I" } : Jvm.MethodName)) ∈ lw_all := lw_g (lw_at lw_m5 161 rfl) rfl
theorem q1217 : (Jvm.Cond.selects "FishReaders$Browser" ({ cls := "FishReaders$Marked", name := "mark", desc := "(LFishReaders$Trail;LFishReaders$Library;)I" } : Jvm.MethodName) ({ cls := "FishReaders$Browser", name := "mark", desc := "(LFishReaders$Trail;LFishReaders$Library;)I" } : Jvm.MethodName)) ∈ lw_all := lw_g (lw_at lw_m5 181 rfl) rfl
theorem q1708 : (Jvm.Cond.sameMethod "FishReaders$Browser" "FishReaders$Browser" "goes" "(ILFishReaders$Library;)I") ∈ lw_all := lw_g (lw_at lw_m7 192 rfl) rfl
theorem q1710 : (Jvm.Cond.sameMethod "FishReaders$Browser" "FishReaders$Browser" "size" "(LFishReaders$Trail;LFishReaders$Library;)I") ∈ lw_all := lw_g (lw_at lw_m7 194 rfl) rfl
theorem q1715 : (Jvm.Cond.castable "FishReaders$Browser" "FishReaders$Fish") ∈ lw_tbl := lw_at lw_m7 199 rfl
theorem q1729 : (Jvm.Cond.castable "FishReaders$Browser" "java/lang/Object") ∈ lw_tbl := lw_at lw_m7 213 rfl
theorem in_X4 : ∀ w ∈ wsX40, w ∈ lw_all := lw_in wsX40 [261] (by decide +kernel) (by decide +kernel)
/-! FishReaders$Poet -/
set_option maxRecDepth 100000
def RX5 : String := "FishReaders$Poet"
def TX5 : u_T := fun k => match k with
  | _ => ("FishReaders$Fish", "number", "I", true)
def tyX5 : Nat → FieldType := fun k => match k with
  | _ => .int
abbrev wsX50 : List Cond := u_ws RX5 TX5 1
theorem nmX5 : ∀ a, a < 1 → ∀ b, b < 1 → a ≠ b → (TX5 a).2.1 ≠ (TX5 b).2.1 := by decide +kernel
theorem tyX5_ok : ∀ k, k < 1 → parseFieldDescriptor (TX5 k).2.2.1 = some (tyX5 k) := by decide +kernel
abbrev cX5_init : ByteArray := prog_9_method_1_code
def yX5_init : MethodName := ⟨RX5, "<init>", "(I)V"⟩
def dkwX5_init_0 : List UInt8 := [42, 27, 183, 0, 3, 177]
abbrev dktX5_init_0 : List UInt8 := dkwX5_init_0 ++ []
theorem dksX5_init_0 : cX5_init.data.toList.drop 0 = dktX5_init_0 := by decide +kernel
theorem dX5_init_0 : decode cX5_init 0 = .ok (.aload_n 0, 1) := dk_42 (dk_at dksX5_init_0 0 rfl rfl)
theorem dX5_init_1 : decode cX5_init 1 = .ok (.iload_n 1, 1) := dk_27 (dk_at dksX5_init_0 1 rfl rfl)
theorem dX5_init_2 : decode cX5_init 2 = .ok (.invokespecial 3, 3) := dk_183 0 3 (dk_at dksX5_init_0 2 rfl rfl)
theorem dX5_init_5 : decode cX5_init 5 = .ok (.return_, 1) := dk_177 (dk_at dksX5_init_0 5 rfl rfl)
abbrev cX5_taste : ByteArray := prog_9_method_3_code
def yX5_taste : MethodName := ⟨RX5, "taste", "()I"⟩
def dkwX5_taste_0 : List UInt8 := [5, 42, 183, 0, 9, 104, 172]
abbrev dktX5_taste_0 : List UInt8 := dkwX5_taste_0 ++ []
theorem dksX5_taste_0 : cX5_taste.data.toList.drop 0 = dktX5_taste_0 := by decide +kernel
theorem dX5_taste_0 : decode cX5_taste 0 = .ok (.iconst 2, 1) := dk_5 (dk_at dksX5_taste_0 0 rfl rfl)
theorem dX5_taste_1 : decode cX5_taste 1 = .ok (.aload_n 0, 1) := dk_42 (dk_at dksX5_taste_0 1 rfl rfl)
theorem dX5_taste_2 : decode cX5_taste 2 = .ok (.invokespecial 9, 3) := dk_183 0 9 (dk_at dksX5_taste_0 2 rfl rfl)
theorem dX5_taste_5 : decode cX5_taste 5 = .ok (.imul, 1) := dk_104 (dk_at dksX5_taste_0 5 rfl rfl)
theorem dX5_taste_6 : decode cX5_taste 6 = .ok (.ireturn, 1) := dk_172 (dk_at dksX5_taste_0 6 rfl rfl)
abbrev cX5_kind : ByteArray := prog_9_method_2_code
def yX5_kind : MethodName := ⟨RX5, "kind", "()I"⟩
theorem dX5_kind_0 : decode cX5_kind 0 = .ok (.iconst 2, 1) := by decide +kernel
theorem dX5_kind_1 : decode cX5_kind 1 = .ok (.ireturn, 1) := by decide +kernel
abbrev cX5_mark : ByteArray := prog_9_method_5_code
def yX5_mark : MethodName := ⟨RX5, "mark", "(LFishReaders$Trail;LFishReaders$Library;)I"⟩
def dkwX5_mark_0 : List UInt8 := [43, 16, 24, 182, 0, 13, 5, 42, 43, 44, 183, 0, 22, 104, 172]
abbrev dktX5_mark_0 : List UInt8 := dkwX5_mark_0 ++ []
theorem dksX5_mark_0 : cX5_mark.data.toList.drop 0 = dktX5_mark_0 := by decide +kernel
theorem dX5_mark_0 : decode cX5_mark 0 = .ok (.aload_n 1, 1) := dk_43 (dk_at dksX5_mark_0 0 rfl rfl)
theorem dX5_mark_1 : decode cX5_mark 1 = .ok (.bipush 24, 2) := dk_16 24 (dk_at dksX5_mark_0 1 rfl rfl)
theorem dX5_mark_3 : decode cX5_mark 3 = .ok (.invokevirtual 13, 3) := dk_182 0 13 (dk_at dksX5_mark_0 3 rfl rfl)
theorem dX5_mark_6 : decode cX5_mark 6 = .ok (.iconst 2, 1) := dk_5 (dk_at dksX5_mark_0 6 rfl rfl)
theorem dX5_mark_7 : decode cX5_mark 7 = .ok (.aload_n 0, 1) := dk_42 (dk_at dksX5_mark_0 7 rfl rfl)
theorem dX5_mark_8 : decode cX5_mark 8 = .ok (.aload_n 1, 1) := dk_43 (dk_at dksX5_mark_0 8 rfl rfl)
theorem dX5_mark_9 : decode cX5_mark 9 = .ok (.aload_n 2, 1) := dk_44 (dk_at dksX5_mark_0 9 rfl rfl)
theorem dX5_mark_10 : decode cX5_mark 10 = .ok (.invokespecial 22, 3) := dk_183 0 22 (dk_at dksX5_mark_0 10 rfl rfl)
theorem dX5_mark_13 : decode cX5_mark 13 = .ok (.imul, 1) := dk_104 (dk_at dksX5_mark_0 13 rfl rfl)
theorem dX5_mark_14 : decode cX5_mark 14 = .ok (.ireturn, 1) := dk_172 (dk_at dksX5_mark_0 14 rfl rfl)
abbrev cX5_size : ByteArray := prog_9_method_4_code
def yX5_size : MethodName := ⟨RX5, "size", "(LFishReaders$Trail;LFishReaders$Library;)I"⟩
def dkwX5_size_0 : List UInt8 := [43, 16, 12, 182, 0, 13, 42, 43, 44, 183, 0, 18, 116, 172]
abbrev dktX5_size_0 : List UInt8 := dkwX5_size_0 ++ []
theorem dksX5_size_0 : cX5_size.data.toList.drop 0 = dktX5_size_0 := by decide +kernel
theorem dX5_size_0 : decode cX5_size 0 = .ok (.aload_n 1, 1) := dk_43 (dk_at dksX5_size_0 0 rfl rfl)
theorem dX5_size_1 : decode cX5_size 1 = .ok (.bipush 12, 2) := dk_16 12 (dk_at dksX5_size_0 1 rfl rfl)
theorem dX5_size_3 : decode cX5_size 3 = .ok (.invokevirtual 13, 3) := dk_182 0 13 (dk_at dksX5_size_0 3 rfl rfl)
theorem dX5_size_6 : decode cX5_size 6 = .ok (.aload_n 0, 1) := dk_42 (dk_at dksX5_size_0 6 rfl rfl)
theorem dX5_size_7 : decode cX5_size 7 = .ok (.aload_n 1, 1) := dk_43 (dk_at dksX5_size_0 7 rfl rfl)
theorem dX5_size_8 : decode cX5_size 8 = .ok (.aload_n 2, 1) := dk_44 (dk_at dksX5_size_0 8 rfl rfl)
theorem dX5_size_9 : decode cX5_size 9 = .ok (.invokespecial 18, 3) := dk_183 0 18 (dk_at dksX5_size_0 9 rfl rfl)
theorem dX5_size_12 : decode cX5_size 12 = .ok (.ineg, 1) := dk_116 (dk_at dksX5_size_0 12 rfl rfl)
theorem dX5_size_13 : decode cX5_size 13 = .ok (.ireturn, 1) := dk_172 (dk_at dksX5_size_0 13 rfl rfl)
theorem q85 : (Jvm.Cond.initialized "FishReaders$Poet") ∈ lw_all := lw_g (lw_at lw_m1 9 rfl) rfl
theorem q265 : (Jvm.Cond.instantiable "FishReaders$Poet" (1 : Nat)) ∈ lw_all := lw_g (lw_at lw_m1 189 rfl) rfl
theorem q267 : (Jvm.Cond.instanceMethod ({ cls := "FishReaders$Poet", name := "<init>", desc := "(I)V" } : Jvm.MethodName)) ∈ lw_all := lw_g (lw_at lw_m1 191 rfl) rfl
theorem q268 : (Jvm.Cond.code ({ cls := "FishReaders$Poet", name := "<init>", desc := "(I)V" } : Jvm.MethodName) prog_9_method_1_code (2 : Nat) (Option.none : Option Jvm.ClassFile.FieldType)) ∈ lw_all := lw_g (lw_at lw_m1 192 rfl) rfl
theorem q269 : (Jvm.Cond.methodLink "FishReaders$Poet" (3 : Nat) ({ cls := "FishReaders$Browser", name := "<init>", desc := "(I)V" } : Jvm.MethodName)) ∈ lw_all := lw_g (lw_at lw_m1 193 rfl) rfl
theorem q270 : (Jvm.Cond.laysFinal "FishReaders$Poet" "FishReaders$Fish" "number" "I") ∈ lw_all := lw_g (lw_at lw_m1 194 rfl) rfl
theorem q271 : (Jvm.Cond.superclass "FishReaders$Poet" "FishReaders$Browser") ∈ lw_all := lw_g (lw_at lw_m1 195 rfl) rfl
theorem q739 : (Jvm.Cond.selects "FishReaders$Poet" ({ cls := "java/lang/Object", name := "getClass", desc := "()Ljava/lang/Class;" } : Jvm.MethodName) ({ cls := "java/lang/Object", name := "getClass", desc := "()Ljava/lang/Class;" } : Jvm.MethodName)) ∈ lw_all := lw_g (lw_at lw_m3 183 rfl) rfl
theorem q833 : (Jvm.Cond.selects "FishReaders$Poet" ({ cls := "FishReaders$Browser", name := "taste", desc := "()I" } : Jvm.MethodName) ({ cls := "FishReaders$Poet", name := "taste", desc := "()I" } : Jvm.MethodName)) ∈ lw_all := lw_g (lw_at lw_m4 37 rfl) rfl
theorem q834 : (Jvm.Cond.instanceMethod ({ cls := "FishReaders$Poet", name := "taste", desc := "()I" } : Jvm.MethodName)) ∈ lw_all := lw_g (lw_at lw_m4 38 rfl) rfl
theorem q835 : (Jvm.Cond.code ({ cls := "FishReaders$Poet", name := "taste", desc := "()I" } : Jvm.MethodName) prog_9_method_3_code (1 : Nat) (Option.some Jvm.ClassFile.FieldType.int)) ∈ lw_all := lw_g (lw_at lw_m4 39 rfl) rfl
theorem q836 : (Jvm.Cond.methodLink "FishReaders$Poet" (9 : Nat) ({ cls := "FishReaders$Browser", name := "taste", desc := "()I" } : Jvm.MethodName)) ∈ lw_all := lw_g (lw_at lw_m4 40 rfl) rfl
theorem q866 : (Jvm.Cond.selects "FishReaders$Poet" ({ cls := "FishReaders$Fish", name := "goes", desc := "(ILFishReaders$Library;)I" } : Jvm.MethodName) ({ cls := "FishReaders$Browser", name := "goes", desc := "(ILFishReaders$Library;)I" } : Jvm.MethodName)) ∈ lw_all := lw_g (lw_at lw_m4 70 rfl) rfl
theorem q947 : (Jvm.Cond.selects "FishReaders$Poet" ({ cls := "FishReaders$Fish", name := "taste", desc := "()I" } : Jvm.MethodName) ({ cls := "FishReaders$Poet", name := "taste", desc := "()I" } : Jvm.MethodName)) ∈ lw_all := lw_g (lw_at lw_m4 151 rfl) rfl
theorem q1103 : (Jvm.Cond.selects "FishReaders$Poet" ({ cls := "FishReaders$Fish", name := "kind", desc := "()I" } : Jvm.MethodName) ({ cls := "FishReaders$Poet", name := "kind", desc := "()I" } : Jvm.MethodName)) ∈ lw_all := lw_g (lw_at lw_m5 67 rfl) rfl
theorem q1104 : (Jvm.Cond.instanceMethod ({ cls := "FishReaders$Poet", name := "kind", desc := "()I" } : Jvm.MethodName)) ∈ lw_all := lw_g (lw_at lw_m5 68 rfl) rfl
theorem q1105 : (Jvm.Cond.code ({ cls := "FishReaders$Poet", name := "kind", desc := "()I" } : Jvm.MethodName) prog_9_method_2_code (1 : Nat) (Option.some Jvm.ClassFile.FieldType.int)) ∈ lw_all := lw_g (lw_at lw_m5 69 rfl) rfl
theorem q1135 : (Jvm.Cond.selects "FishReaders$Poet" ({ cls := "FishReaders$Fish", name := "number", desc := "()I" } : Jvm.MethodName) ({ cls := "FishReaders$Fish", name := "number", desc := "()I" } : Jvm.MethodName)) ∈ lw_all := lw_g (lw_at lw_m5 99 rfl) rfl
theorem q1163 : (Jvm.Cond.selects "FishReaders$Poet" ({ cls := "FishReaders$Browser", name := "mark", desc := "(LFishReaders$Trail;LFishReaders$Library;)I" } : Jvm.MethodName) ({ cls := "FishReaders$Poet", name := "mark", desc := "(LFishReaders$Trail;LFishReaders$Library;)I" } : Jvm.MethodName)) ∈ lw_all := lw_g (lw_at lw_m5 127 rfl) rfl
theorem q1164 : (Jvm.Cond.instanceMethod ({ cls := "FishReaders$Poet", name := "mark", desc := "(LFishReaders$Trail;LFishReaders$Library;)I" } : Jvm.MethodName)) ∈ lw_all := lw_g (lw_at lw_m5 128 rfl) rfl
theorem q1165 : (Jvm.Cond.code ({ cls := "FishReaders$Poet", name := "mark", desc := "(LFishReaders$Trail;LFishReaders$Library;)I" } : Jvm.MethodName) prog_9_method_5_code (3 : Nat) (Option.some Jvm.ClassFile.FieldType.int)) ∈ lw_all := lw_g (lw_at lw_m5 129 rfl) rfl
theorem q1166 : (Jvm.Cond.methodLink "FishReaders$Poet" (13 : Nat) ({ cls := "FishReaders$Trail", name := "begins", desc := "(I)V" } : Jvm.MethodName)) ∈ lw_all := lw_g (lw_at lw_m5 130 rfl) rfl
theorem q1167 : (Jvm.Cond.methodLink "FishReaders$Poet" (22 : Nat) ({ cls := "FishReaders$Browser", name := "mark", desc := "(LFishReaders$Trail;LFishReaders$Library;)I" } : Jvm.MethodName)) ∈ lw_all := lw_g (lw_at lw_m5 131 rfl) rfl
theorem q1185 : (Jvm.Cond.castable "FishReaders$Poet" "FishReaders$Marked") ∈ lw_tbl := lw_at lw_m5 149 rfl
theorem q1186 : (Jvm.Cond.selects "FishReaders$Poet" ({ cls := "FishReaders$Marked", name := "number", desc := "()I" } : Jvm.MethodName) ({ cls := "FishReaders$Fish", name := "number", desc := "()I" } : Jvm.MethodName)) ∈ lw_all := lw_g (lw_at lw_m5 150 rfl) rfl
theorem q1187 : (Jvm.Cond.unhidden "FishReaders$Poet" "number" "()I") ∈ lw_tbl := lw_at lw_m5 151 rfl
theorem q1199 : (Jvm.Cond.selects "FishReaders$Poet" ({ cls := "FishReaders$Browser", name := "number", desc := "()I" } : Jvm.MethodName) ({ cls := "FishReaders$Fish", name := "number", desc := "()I" } : Jvm.MethodName)) ∈ lw_all := lw_g (lw_at lw_m5 163 rfl) rfl
theorem q1201 : (Jvm.Cond.selects "FishReaders$Poet" ({ cls := "FishReaders$Fish", name := "size", desc := "(LFishReaders$Trail;LFishReaders$Library;)I" } : Jvm.MethodName) ({ cls := "FishReaders$Poet", name := "size", desc := "(LFishReaders$Trail;LFishReaders$Library;)I" } : Jvm.MethodName)) ∈ lw_all := lw_g (lw_at lw_m5 165 rfl) rfl
theorem q1202 : (Jvm.Cond.instanceMethod ({ cls := "FishReaders$Poet", name := "size", desc := "(LFishReaders$Trail;LFishReaders$Library;)I" } : Jvm.MethodName)) ∈ lw_all := lw_g (lw_at lw_m5 166 rfl) rfl
theorem q1203 : (Jvm.Cond.code ({ cls := "FishReaders$Poet", name := "size", desc := "(LFishReaders$Trail;LFishReaders$Library;)I" } : Jvm.MethodName) prog_9_method_4_code (3 : Nat) (Option.some Jvm.ClassFile.FieldType.int)) ∈ lw_all := lw_g (lw_at lw_m5 167 rfl) rfl
theorem q1204 : (Jvm.Cond.methodLink "FishReaders$Poet" (18 : Nat) ({ cls := "FishReaders$Browser", name := "size", desc := "(LFishReaders$Trail;LFishReaders$Library;)I" } : Jvm.MethodName)) ∈ lw_all := lw_g (lw_at lw_m5 168 rfl) rfl
theorem q1219 : (Jvm.Cond.selects "FishReaders$Poet" ({ cls := "FishReaders$Marked", name := "mark", desc := "(LFishReaders$Trail;LFishReaders$Library;)I" } : Jvm.MethodName) ({ cls := "FishReaders$Poet", name := "mark", desc := "(LFishReaders$Trail;LFishReaders$Library;)I" } : Jvm.MethodName)) ∈ lw_all := lw_g (lw_at lw_m5 183 rfl) rfl
theorem q1717 : (Jvm.Cond.castable "FishReaders$Poet" "FishReaders$Fish") ∈ lw_tbl := lw_at lw_m7 201 rfl
theorem q1721 : (Jvm.Cond.castable "FishReaders$Poet" "FishReaders$Browser") ∈ lw_tbl := lw_at lw_m7 205 rfl
theorem q1730 : (Jvm.Cond.castable "FishReaders$Poet" "java/lang/Object") ∈ lw_tbl := lw_at lw_m7 214 rfl
theorem in_X5 : ∀ w ∈ wsX50, w ∈ lw_all := lw_in wsX50 [270] (by decide +kernel) (by decide +kernel)
/-! FishReaders$Critic -/
set_option maxRecDepth 100000
def RX6 : String := "FishReaders$Critic"
def TX6 : u_T := fun k => match k with
  | _ => ("FishReaders$Fish", "number", "I", true)
def tyX6 : Nat → FieldType := fun k => match k with
  | _ => .int
abbrev wsX60 : List Cond := u_ws RX6 TX6 1
theorem nmX6 : ∀ a, a < 1 → ∀ b, b < 1 → a ≠ b → (TX6 a).2.1 ≠ (TX6 b).2.1 := by decide +kernel
theorem tyX6_ok : ∀ k, k < 1 → parseFieldDescriptor (TX6 k).2.2.1 = some (tyX6 k) := by decide +kernel
abbrev cX6_init : ByteArray := prog_3_method_1_code
def yX6_init : MethodName := ⟨RX6, "<init>", "(I)V"⟩
def dkwX6_init_0 : List UInt8 := [42, 27, 183, 0, 3, 177]
abbrev dktX6_init_0 : List UInt8 := dkwX6_init_0 ++ []
theorem dksX6_init_0 : cX6_init.data.toList.drop 0 = dktX6_init_0 := by decide +kernel
theorem dX6_init_0 : decode cX6_init 0 = .ok (.aload_n 0, 1) := dk_42 (dk_at dksX6_init_0 0 rfl rfl)
theorem dX6_init_1 : decode cX6_init 1 = .ok (.iload_n 1, 1) := dk_27 (dk_at dksX6_init_0 1 rfl rfl)
theorem dX6_init_2 : decode cX6_init 2 = .ok (.invokespecial 3, 3) := dk_183 0 3 (dk_at dksX6_init_0 2 rfl rfl)
theorem dX6_init_5 : decode cX6_init 5 = .ok (.return_, 1) := dk_177 (dk_at dksX6_init_0 5 rfl rfl)
abbrev cX6_goes : ByteArray := prog_3_method_3_code
def yX6_goes : MethodName := ⟨RX6, "goes", "(ILFishReaders$Library;)I"⟩
def dkwX6_goes_1 : List UInt8 := [42, 27, 44, 183, 0, 23, 172]
abbrev dktX6_goes_1 : List UInt8 := dkwX6_goes_1 ++ []
def dkwX6_goes_0 : List UInt8 := [44, 44, 180, 0, 9, 27, 46, 182, 0, 15, 153, 0, 14, 27, 5, 96, 44, 180, 0, 19, 112, 167, 0, 9]
abbrev dktX6_goes_0 : List UInt8 := dkwX6_goes_0 ++ dktX6_goes_1
theorem dksX6_goes_0 : cX6_goes.data.toList.drop 0 = dktX6_goes_0 := by decide +kernel
theorem dksX6_goes_1 : cX6_goes.data.toList.drop 24 = dktX6_goes_1 := dk_seg dksX6_goes_0 24 rfl rfl
theorem dX6_goes_0 : decode cX6_goes 0 = .ok (.aload_n 2, 1) := dk_44 (dk_at dksX6_goes_0 0 rfl rfl)
theorem dX6_goes_1 : decode cX6_goes 1 = .ok (.aload_n 2, 1) := dk_44 (dk_at dksX6_goes_0 1 rfl rfl)
theorem dX6_goes_2 : decode cX6_goes 2 = .ok (.getfield 9, 3) := dk_180 0 9 (dk_at dksX6_goes_0 2 rfl rfl)
theorem dX6_goes_5 : decode cX6_goes 5 = .ok (.iload_n 1, 1) := dk_27 (dk_at dksX6_goes_0 5 rfl rfl)
theorem dX6_goes_6 : decode cX6_goes 6 = .ok (.iaload, 1) := dk_46 (dk_at dksX6_goes_0 6 rfl rfl)
theorem dX6_goes_7 : decode cX6_goes 7 = .ok (.invokevirtual 15, 3) := dk_182 0 15 (dk_at dksX6_goes_0 7 rfl rfl)
theorem dX6_goes_10 : decode cX6_goes 10 = .ok (.ifCond .eq 14, 3) := dk_153 0 14 (dk_at dksX6_goes_0 10 rfl rfl)
theorem dX6_goes_13 : decode cX6_goes 13 = .ok (.iload_n 1, 1) := dk_27 (dk_at dksX6_goes_0 13 rfl rfl)
theorem dX6_goes_14 : decode cX6_goes 14 = .ok (.iconst 2, 1) := dk_5 (dk_at dksX6_goes_0 14 rfl rfl)
theorem dX6_goes_15 : decode cX6_goes 15 = .ok (.iadd, 1) := dk_96 (dk_at dksX6_goes_0 15 rfl rfl)
theorem dX6_goes_16 : decode cX6_goes 16 = .ok (.aload_n 2, 1) := dk_44 (dk_at dksX6_goes_0 16 rfl rfl)
theorem dX6_goes_17 : decode cX6_goes 17 = .ok (.getfield 19, 3) := dk_180 0 19 (dk_at dksX6_goes_0 17 rfl rfl)
theorem dX6_goes_20 : decode cX6_goes 20 = .ok (.irem, 1) := dk_112 (dk_at dksX6_goes_0 20 rfl rfl)
theorem dX6_goes_21 : decode cX6_goes 21 = .ok (.goto 9, 3) := dk_167 0 9 (dk_at dksX6_goes_0 21 rfl rfl)
theorem dX6_goes_24 : decode cX6_goes 24 = .ok (.aload_n 0, 1) := dk_42 (dk_at dksX6_goes_1 0 rfl rfl)
theorem dX6_goes_25 : decode cX6_goes 25 = .ok (.iload_n 1, 1) := dk_27 (dk_at dksX6_goes_1 1 rfl rfl)
theorem dX6_goes_26 : decode cX6_goes 26 = .ok (.aload_n 2, 1) := dk_44 (dk_at dksX6_goes_1 2 rfl rfl)
theorem dX6_goes_27 : decode cX6_goes 27 = .ok (.invokespecial 23, 3) := dk_183 0 23 (dk_at dksX6_goes_1 3 rfl rfl)
theorem dX6_goes_30 : decode cX6_goes 30 = .ok (.ireturn, 1) := dk_172 (dk_at dksX6_goes_1 6 rfl rfl)
abbrev cX6_kind : ByteArray := prog_3_method_2_code
def yX6_kind : MethodName := ⟨RX6, "kind", "()I"⟩
theorem dX6_kind_0 : decode cX6_kind 0 = .ok (.iconst 3, 1) := by decide +kernel
theorem dX6_kind_1 : decode cX6_kind 1 = .ok (.ireturn, 1) := by decide +kernel
abbrev cX6_mark : ByteArray := prog_3_method_4_code
def yX6_mark : MethodName := ⟨RX6, "mark", "(LFishReaders$Trail;LFishReaders$Library;)I"⟩
def dkwX6_mark_0 : List UInt8 := [43, 16, 22, 182, 0, 27, 42, 43, 44, 183, 0, 32, 17, 3, 232, 100, 172]
abbrev dktX6_mark_0 : List UInt8 := dkwX6_mark_0 ++ []
theorem dksX6_mark_0 : cX6_mark.data.toList.drop 0 = dktX6_mark_0 := by decide +kernel
theorem dX6_mark_0 : decode cX6_mark 0 = .ok (.aload_n 1, 1) := dk_43 (dk_at dksX6_mark_0 0 rfl rfl)
theorem dX6_mark_1 : decode cX6_mark 1 = .ok (.bipush 22, 2) := dk_16 22 (dk_at dksX6_mark_0 1 rfl rfl)
theorem dX6_mark_3 : decode cX6_mark 3 = .ok (.invokevirtual 27, 3) := dk_182 0 27 (dk_at dksX6_mark_0 3 rfl rfl)
theorem dX6_mark_6 : decode cX6_mark 6 = .ok (.aload_n 0, 1) := dk_42 (dk_at dksX6_mark_0 6 rfl rfl)
theorem dX6_mark_7 : decode cX6_mark 7 = .ok (.aload_n 1, 1) := dk_43 (dk_at dksX6_mark_0 7 rfl rfl)
theorem dX6_mark_8 : decode cX6_mark 8 = .ok (.aload_n 2, 1) := dk_44 (dk_at dksX6_mark_0 8 rfl rfl)
theorem dX6_mark_9 : decode cX6_mark 9 = .ok (.invokespecial 32, 3) := dk_183 0 32 (dk_at dksX6_mark_0 9 rfl rfl)
theorem dX6_mark_12 : decode cX6_mark 12 = .ok (.sipush 1000, 3) := dk_17 3 232 (dk_at dksX6_mark_0 12 rfl rfl)
theorem dX6_mark_15 : decode cX6_mark 15 = .ok (.isub, 1) := dk_100 (dk_at dksX6_mark_0 15 rfl rfl)
theorem dX6_mark_16 : decode cX6_mark 16 = .ok (.ireturn, 1) := dk_172 (dk_at dksX6_mark_0 16 rfl rfl)
theorem q86 : (Jvm.Cond.initialized "FishReaders$Critic") ∈ lw_all := lw_g (lw_at lw_m1 10 rfl) rfl
theorem q163 : (Jvm.Cond.fieldLink "FishReaders$Critic" (19 : Nat) "FishReaders$Library" "books" "I") ∈ lw_all := lw_g (lw_at lw_m1 87 rfl) rfl
theorem q173 : (Jvm.Cond.fieldLink "FishReaders$Critic" (9 : Nat) "FishReaders$Library" "in" "[I") ∈ lw_all := lw_g (lw_at lw_m1 97 rfl) rfl
theorem q273 : (Jvm.Cond.instantiable "FishReaders$Critic" (1 : Nat)) ∈ lw_all := lw_g (lw_at lw_m1 197 rfl) rfl
theorem q275 : (Jvm.Cond.instanceMethod ({ cls := "FishReaders$Critic", name := "<init>", desc := "(I)V" } : Jvm.MethodName)) ∈ lw_all := lw_g (lw_at lw_m1 199 rfl) rfl
theorem q276 : (Jvm.Cond.code ({ cls := "FishReaders$Critic", name := "<init>", desc := "(I)V" } : Jvm.MethodName) prog_3_method_1_code (2 : Nat) (Option.none : Option Jvm.ClassFile.FieldType)) ∈ lw_all := lw_g (lw_at lw_m1 200 rfl) rfl
theorem q277 : (Jvm.Cond.methodLink "FishReaders$Critic" (3 : Nat) ({ cls := "FishReaders$Browser", name := "<init>", desc := "(I)V" } : Jvm.MethodName)) ∈ lw_all := lw_g (lw_at lw_m1 201 rfl) rfl
theorem q278 : (Jvm.Cond.laysFinal "FishReaders$Critic" "FishReaders$Fish" "number" "I") ∈ lw_all := lw_g (lw_at lw_m1 202 rfl) rfl
theorem q279 : (Jvm.Cond.superclass "FishReaders$Critic" "FishReaders$Browser") ∈ lw_all := lw_g (lw_at lw_m1 203 rfl) rfl
theorem q735 : (Jvm.Cond.selects "FishReaders$Critic" ({ cls := "java/lang/Object", name := "getClass", desc := "()Ljava/lang/Class;" } : Jvm.MethodName) ({ cls := "java/lang/Object", name := "getClass", desc := "()Ljava/lang/Class;" } : Jvm.MethodName)) ∈ lw_all := lw_g (lw_at lw_m3 179 rfl) rfl
theorem q832 : (Jvm.Cond.selects "FishReaders$Critic" ({ cls := "FishReaders$Browser", name := "taste", desc := "()I" } : Jvm.MethodName) ({ cls := "FishReaders$Browser", name := "taste", desc := "()I" } : Jvm.MethodName)) ∈ lw_all := lw_g (lw_at lw_m4 36 rfl) rfl
theorem q861 : (Jvm.Cond.selects "FishReaders$Critic" ({ cls := "FishReaders$Fish", name := "goes", desc := "(ILFishReaders$Library;)I" } : Jvm.MethodName) ({ cls := "FishReaders$Critic", name := "goes", desc := "(ILFishReaders$Library;)I" } : Jvm.MethodName)) ∈ lw_all := lw_g (lw_at lw_m4 65 rfl) rfl
theorem q862 : (Jvm.Cond.instanceMethod ({ cls := "FishReaders$Critic", name := "goes", desc := "(ILFishReaders$Library;)I" } : Jvm.MethodName)) ∈ lw_all := lw_g (lw_at lw_m4 66 rfl) rfl
theorem q863 : (Jvm.Cond.code ({ cls := "FishReaders$Critic", name := "goes", desc := "(ILFishReaders$Library;)I" } : Jvm.MethodName) prog_3_method_3_code (3 : Nat) (Option.some Jvm.ClassFile.FieldType.int)) ∈ lw_all := lw_g (lw_at lw_m4 67 rfl) rfl
theorem q864 : (Jvm.Cond.methodLink "FishReaders$Critic" (15 : Nat) ({ cls := "FishReaders$Library", name := "isLit", desc := "(I)Z" } : Jvm.MethodName)) ∈ lw_all := lw_g (lw_at lw_m4 68 rfl) rfl
theorem q865 : (Jvm.Cond.methodLink "FishReaders$Critic" (23 : Nat) ({ cls := "FishReaders$Browser", name := "goes", desc := "(ILFishReaders$Library;)I" } : Jvm.MethodName)) ∈ lw_all := lw_g (lw_at lw_m4 69 rfl) rfl
theorem q946 : (Jvm.Cond.selects "FishReaders$Critic" ({ cls := "FishReaders$Fish", name := "taste", desc := "()I" } : Jvm.MethodName) ({ cls := "FishReaders$Browser", name := "taste", desc := "()I" } : Jvm.MethodName)) ∈ lw_all := lw_g (lw_at lw_m4 150 rfl) rfl
theorem q1100 : (Jvm.Cond.selects "FishReaders$Critic" ({ cls := "FishReaders$Fish", name := "kind", desc := "()I" } : Jvm.MethodName) ({ cls := "FishReaders$Critic", name := "kind", desc := "()I" } : Jvm.MethodName)) ∈ lw_all := lw_g (lw_at lw_m5 64 rfl) rfl
theorem q1101 : (Jvm.Cond.instanceMethod ({ cls := "FishReaders$Critic", name := "kind", desc := "()I" } : Jvm.MethodName)) ∈ lw_all := lw_g (lw_at lw_m5 65 rfl) rfl
theorem q1102 : (Jvm.Cond.code ({ cls := "FishReaders$Critic", name := "kind", desc := "()I" } : Jvm.MethodName) prog_3_method_2_code (1 : Nat) (Option.some Jvm.ClassFile.FieldType.int)) ∈ lw_all := lw_g (lw_at lw_m5 66 rfl) rfl
theorem q1134 : (Jvm.Cond.selects "FishReaders$Critic" ({ cls := "FishReaders$Fish", name := "number", desc := "()I" } : Jvm.MethodName) ({ cls := "FishReaders$Fish", name := "number", desc := "()I" } : Jvm.MethodName)) ∈ lw_all := lw_g (lw_at lw_m5 98 rfl) rfl
theorem q1158 : (Jvm.Cond.selects "FishReaders$Critic" ({ cls := "FishReaders$Browser", name := "mark", desc := "(LFishReaders$Trail;LFishReaders$Library;)I" } : Jvm.MethodName) ({ cls := "FishReaders$Critic", name := "mark", desc := "(LFishReaders$Trail;LFishReaders$Library;)I" } : Jvm.MethodName)) ∈ lw_all := lw_g (lw_at lw_m5 122 rfl) rfl
theorem q1159 : (Jvm.Cond.instanceMethod ({ cls := "FishReaders$Critic", name := "mark", desc := "(LFishReaders$Trail;LFishReaders$Library;)I" } : Jvm.MethodName)) ∈ lw_all := lw_g (lw_at lw_m5 123 rfl) rfl
theorem q1160 : (Jvm.Cond.code ({ cls := "FishReaders$Critic", name := "mark", desc := "(LFishReaders$Trail;LFishReaders$Library;)I" } : Jvm.MethodName) prog_3_method_4_code (3 : Nat) (Option.some Jvm.ClassFile.FieldType.int)) ∈ lw_all := lw_g (lw_at lw_m5 124 rfl) rfl
theorem q1161 : (Jvm.Cond.methodLink "FishReaders$Critic" (27 : Nat) ({ cls := "FishReaders$Trail", name := "begins", desc := "(I)V" } : Jvm.MethodName)) ∈ lw_all := lw_g (lw_at lw_m5 125 rfl) rfl
theorem q1162 : (Jvm.Cond.methodLink "FishReaders$Critic" (32 : Nat) ({ cls := "FishReaders$Browser", name := "mark", desc := "(LFishReaders$Trail;LFishReaders$Library;)I" } : Jvm.MethodName)) ∈ lw_all := lw_g (lw_at lw_m5 126 rfl) rfl
theorem q1182 : (Jvm.Cond.castable "FishReaders$Critic" "FishReaders$Marked") ∈ lw_tbl := lw_at lw_m5 146 rfl
theorem q1183 : (Jvm.Cond.selects "FishReaders$Critic" ({ cls := "FishReaders$Marked", name := "number", desc := "()I" } : Jvm.MethodName) ({ cls := "FishReaders$Fish", name := "number", desc := "()I" } : Jvm.MethodName)) ∈ lw_all := lw_g (lw_at lw_m5 147 rfl) rfl
theorem q1184 : (Jvm.Cond.unhidden "FishReaders$Critic" "number" "()I") ∈ lw_tbl := lw_at lw_m5 148 rfl
theorem q1198 : (Jvm.Cond.selects "FishReaders$Critic" ({ cls := "FishReaders$Browser", name := "number", desc := "()I" } : Jvm.MethodName) ({ cls := "FishReaders$Fish", name := "number", desc := "()I" } : Jvm.MethodName)) ∈ lw_all := lw_g (lw_at lw_m5 162 rfl) rfl
theorem q1200 : (Jvm.Cond.selects "FishReaders$Critic" ({ cls := "FishReaders$Fish", name := "size", desc := "(LFishReaders$Trail;LFishReaders$Library;)I" } : Jvm.MethodName) ({ cls := "FishReaders$Browser", name := "size", desc := "(LFishReaders$Trail;LFishReaders$Library;)I" } : Jvm.MethodName)) ∈ lw_all := lw_g (lw_at lw_m5 164 rfl) rfl
theorem q1218 : (Jvm.Cond.selects "FishReaders$Critic" ({ cls := "FishReaders$Marked", name := "mark", desc := "(LFishReaders$Trail;LFishReaders$Library;)I" } : Jvm.MethodName) ({ cls := "FishReaders$Critic", name := "mark", desc := "(LFishReaders$Trail;LFishReaders$Library;)I" } : Jvm.MethodName)) ∈ lw_all := lw_g (lw_at lw_m5 182 rfl) rfl
theorem q1716 : (Jvm.Cond.castable "FishReaders$Critic" "FishReaders$Fish") ∈ lw_tbl := lw_at lw_m7 200 rfl
theorem q1720 : (Jvm.Cond.castable "FishReaders$Critic" "FishReaders$Browser") ∈ lw_tbl := lw_at lw_m7 204 rfl
theorem q1731 : (Jvm.Cond.castable "FishReaders$Critic" "java/lang/Object") ∈ lw_tbl := lw_at lw_m7 215 rfl
theorem in_X6 : ∀ w ∈ wsX60, w ∈ lw_all := lw_in wsX60 [278] (by decide +kernel) (by decide +kernel)
/-! FishReaders$Wanderer -/
set_option maxRecDepth 100000
def RX7 : String := "FishReaders$Wanderer"
def TX7 : u_T := fun k => match k with
  | _ => ("FishReaders$Fish", "number", "I", true)
def tyX7 : Nat → FieldType := fun k => match k with
  | _ => .int
abbrev wsX70 : List Cond := u_ws RX7 TX7 1
theorem nmX7 : ∀ a, a < 1 → ∀ b, b < 1 → a ≠ b → (TX7 a).2.1 ≠ (TX7 b).2.1 := by decide +kernel
theorem tyX7_ok : ∀ k, k < 1 → parseFieldDescriptor (TX7 k).2.2.1 = some (tyX7 k) := by decide +kernel
abbrev cX7_init : ByteArray := prog_14_method_1_code
def yX7_init : MethodName := ⟨RX7, "<init>", "(I)V"⟩
def dkwX7_init_0 : List UInt8 := [42, 27, 183, 0, 3, 177]
abbrev dktX7_init_0 : List UInt8 := dkwX7_init_0 ++ []
theorem dksX7_init_0 : cX7_init.data.toList.drop 0 = dktX7_init_0 := by decide +kernel
theorem dX7_init_0 : decode cX7_init 0 = .ok (.aload_n 0, 1) := dk_42 (dk_at dksX7_init_0 0 rfl rfl)
theorem dX7_init_1 : decode cX7_init 1 = .ok (.iload_n 1, 1) := dk_27 (dk_at dksX7_init_0 1 rfl rfl)
theorem dX7_init_2 : decode cX7_init 2 = .ok (.invokespecial 3, 3) := dk_183 0 3 (dk_at dksX7_init_0 2 rfl rfl)
theorem dX7_init_5 : decode cX7_init 5 = .ok (.return_, 1) := dk_177 (dk_at dksX7_init_0 5 rfl rfl)
abbrev cX7_goes : ByteArray := prog_14_method_3_code
def yX7_goes : MethodName := ⟨RX7, "goes", "(ILFishReaders$Library;)I"⟩
def dkwX7_goes_0 : List UInt8 := [27, 4, 96, 44, 180, 0, 9, 112, 172]
abbrev dktX7_goes_0 : List UInt8 := dkwX7_goes_0 ++ []
theorem dksX7_goes_0 : cX7_goes.data.toList.drop 0 = dktX7_goes_0 := by decide +kernel
theorem dX7_goes_0 : decode cX7_goes 0 = .ok (.iload_n 1, 1) := dk_27 (dk_at dksX7_goes_0 0 rfl rfl)
theorem dX7_goes_1 : decode cX7_goes 1 = .ok (.iconst 1, 1) := dk_4 (dk_at dksX7_goes_0 1 rfl rfl)
theorem dX7_goes_2 : decode cX7_goes 2 = .ok (.iadd, 1) := dk_96 (dk_at dksX7_goes_0 2 rfl rfl)
theorem dX7_goes_3 : decode cX7_goes 3 = .ok (.aload_n 2, 1) := dk_44 (dk_at dksX7_goes_0 3 rfl rfl)
theorem dX7_goes_4 : decode cX7_goes 4 = .ok (.getfield 9, 3) := dk_180 0 9 (dk_at dksX7_goes_0 4 rfl rfl)
theorem dX7_goes_7 : decode cX7_goes 7 = .ok (.irem, 1) := dk_112 (dk_at dksX7_goes_0 7 rfl rfl)
theorem dX7_goes_8 : decode cX7_goes 8 = .ok (.ireturn, 1) := dk_172 (dk_at dksX7_goes_0 8 rfl rfl)
abbrev cX7_kind : ByteArray := prog_14_method_2_code
def yX7_kind : MethodName := ⟨RX7, "kind", "()I"⟩
theorem dX7_kind_0 : decode cX7_kind 0 = .ok (.iconst 4, 1) := by decide +kernel
theorem dX7_kind_1 : decode cX7_kind 1 = .ok (.ireturn, 1) := by decide +kernel
abbrev cX7_size : ByteArray := prog_14_method_4_code
def yX7_size : MethodName := ⟨RX7, "size", "(LFishReaders$Trail;LFishReaders$Library;)I"⟩
def dkwX7_size_0 : List UInt8 := [43, 16, 13, 182, 0, 15, 42, 43, 44, 183, 0, 20, 16, 100, 100, 172]
abbrev dktX7_size_0 : List UInt8 := dkwX7_size_0 ++ []
theorem dksX7_size_0 : cX7_size.data.toList.drop 0 = dktX7_size_0 := by decide +kernel
theorem dX7_size_0 : decode cX7_size 0 = .ok (.aload_n 1, 1) := dk_43 (dk_at dksX7_size_0 0 rfl rfl)
theorem dX7_size_1 : decode cX7_size 1 = .ok (.bipush 13, 2) := dk_16 13 (dk_at dksX7_size_0 1 rfl rfl)
theorem dX7_size_3 : decode cX7_size 3 = .ok (.invokevirtual 15, 3) := dk_182 0 15 (dk_at dksX7_size_0 3 rfl rfl)
theorem dX7_size_6 : decode cX7_size 6 = .ok (.aload_n 0, 1) := dk_42 (dk_at dksX7_size_0 6 rfl rfl)
theorem dX7_size_7 : decode cX7_size 7 = .ok (.aload_n 1, 1) := dk_43 (dk_at dksX7_size_0 7 rfl rfl)
theorem dX7_size_8 : decode cX7_size 8 = .ok (.aload_n 2, 1) := dk_44 (dk_at dksX7_size_0 8 rfl rfl)
theorem dX7_size_9 : decode cX7_size 9 = .ok (.invokespecial 20, 3) := dk_183 0 20 (dk_at dksX7_size_0 9 rfl rfl)
theorem dX7_size_12 : decode cX7_size 12 = .ok (.bipush 100, 2) := dk_16 100 (dk_at dksX7_size_0 12 rfl rfl)
theorem dX7_size_14 : decode cX7_size 14 = .ok (.isub, 1) := dk_100 (dk_at dksX7_size_0 14 rfl rfl)
theorem dX7_size_15 : decode cX7_size 15 = .ok (.ireturn, 1) := dk_172 (dk_at dksX7_size_0 15 rfl rfl)
abbrev cX7_mark : ByteArray := prog_14_method_5_code
def yX7_mark : MethodName := ⟨RX7, "mark", "(LFishReaders$Trail;LFishReaders$Library;)I"⟩
def dkwX7_mark_0 : List UInt8 := [43, 16, 23, 182, 0, 15, 42, 43, 44, 183, 0, 24, 42, 43, 44, 182, 0, 27, 100, 172]
abbrev dktX7_mark_0 : List UInt8 := dkwX7_mark_0 ++ []
theorem dksX7_mark_0 : cX7_mark.data.toList.drop 0 = dktX7_mark_0 := by decide +kernel
theorem dX7_mark_0 : decode cX7_mark 0 = .ok (.aload_n 1, 1) := dk_43 (dk_at dksX7_mark_0 0 rfl rfl)
theorem dX7_mark_1 : decode cX7_mark 1 = .ok (.bipush 23, 2) := dk_16 23 (dk_at dksX7_mark_0 1 rfl rfl)
theorem dX7_mark_3 : decode cX7_mark 3 = .ok (.invokevirtual 15, 3) := dk_182 0 15 (dk_at dksX7_mark_0 3 rfl rfl)
theorem dX7_mark_6 : decode cX7_mark 6 = .ok (.aload_n 0, 1) := dk_42 (dk_at dksX7_mark_0 6 rfl rfl)
theorem dX7_mark_7 : decode cX7_mark 7 = .ok (.aload_n 1, 1) := dk_43 (dk_at dksX7_mark_0 7 rfl rfl)
theorem dX7_mark_8 : decode cX7_mark 8 = .ok (.aload_n 2, 1) := dk_44 (dk_at dksX7_mark_0 8 rfl rfl)
theorem dX7_mark_9 : decode cX7_mark 9 = .ok (.invokespecial 24, 3) := dk_183 0 24 (dk_at dksX7_mark_0 9 rfl rfl)
theorem dX7_mark_12 : decode cX7_mark 12 = .ok (.aload_n 0, 1) := dk_42 (dk_at dksX7_mark_0 12 rfl rfl)
theorem dX7_mark_13 : decode cX7_mark 13 = .ok (.aload_n 1, 1) := dk_43 (dk_at dksX7_mark_0 13 rfl rfl)
theorem dX7_mark_14 : decode cX7_mark 14 = .ok (.aload_n 2, 1) := dk_44 (dk_at dksX7_mark_0 14 rfl rfl)
theorem dX7_mark_15 : decode cX7_mark 15 = .ok (.invokevirtual 27, 3) := dk_182 0 27 (dk_at dksX7_mark_0 15 rfl rfl)
theorem dX7_mark_18 : decode cX7_mark 18 = .ok (.isub, 1) := dk_100 (dk_at dksX7_mark_0 18 rfl rfl)
theorem dX7_mark_19 : decode cX7_mark 19 = .ok (.ireturn, 1) := dk_172 (dk_at dksX7_mark_0 19 rfl rfl)
theorem q87 : (Jvm.Cond.initialized "FishReaders$Wanderer") ∈ lw_all := lw_g (lw_at lw_m1 11 rfl) rfl
theorem q162 : (Jvm.Cond.fieldLink "FishReaders$Wanderer" (9 : Nat) "FishReaders$Library" "books" "I") ∈ lw_all := lw_g (lw_at lw_m1 86 rfl) rfl
theorem q281 : (Jvm.Cond.instantiable "FishReaders$Wanderer" (1 : Nat)) ∈ lw_all := lw_g (lw_at lw_m1 205 rfl) rfl
theorem q283 : (Jvm.Cond.instanceMethod ({ cls := "FishReaders$Wanderer", name := "<init>", desc := "(I)V" } : Jvm.MethodName)) ∈ lw_all := lw_g (lw_at lw_m1 207 rfl) rfl
theorem q284 : (Jvm.Cond.code ({ cls := "FishReaders$Wanderer", name := "<init>", desc := "(I)V" } : Jvm.MethodName) prog_14_method_1_code (2 : Nat) (Option.none : Option Jvm.ClassFile.FieldType)) ∈ lw_all := lw_g (lw_at lw_m1 208 rfl) rfl
theorem q285 : (Jvm.Cond.methodLink "FishReaders$Wanderer" (3 : Nat) ({ cls := "FishReaders$Fish", name := "<init>", desc := "(I)V" } : Jvm.MethodName)) ∈ lw_all := lw_g (lw_at lw_m1 209 rfl) rfl
theorem q286 : (Jvm.Cond.laysFinal "FishReaders$Wanderer" "FishReaders$Fish" "number" "I") ∈ lw_all := lw_g (lw_at lw_m1 210 rfl) rfl
theorem q287 : (Jvm.Cond.superclass "FishReaders$Wanderer" "FishReaders$Fish") ∈ lw_all := lw_g (lw_at lw_m1 211 rfl) rfl
theorem q744 : (Jvm.Cond.selects "FishReaders$Wanderer" ({ cls := "java/lang/Object", name := "getClass", desc := "()Ljava/lang/Class;" } : Jvm.MethodName) ({ cls := "java/lang/Object", name := "getClass", desc := "()Ljava/lang/Class;" } : Jvm.MethodName)) ∈ lw_all := lw_g (lw_at lw_m3 188 rfl) rfl
theorem q872 : (Jvm.Cond.instanceMethod ({ cls := "FishReaders$Wanderer", name := "goes", desc := "(ILFishReaders$Library;)I" } : Jvm.MethodName)) ∈ lw_all := lw_g (lw_at lw_m4 76 rfl) rfl
theorem q873 : (Jvm.Cond.code ({ cls := "FishReaders$Wanderer", name := "goes", desc := "(ILFishReaders$Library;)I" } : Jvm.MethodName) prog_14_method_3_code (3 : Nat) (Option.some Jvm.ClassFile.FieldType.int)) ∈ lw_all := lw_g (lw_at lw_m4 77 rfl) rfl
theorem q874 : (Jvm.Cond.selects "FishReaders$Wanderer" ({ cls := "FishReaders$Fish", name := "goes", desc := "(ILFishReaders$Library;)I" } : Jvm.MethodName) ({ cls := "FishReaders$Wanderer", name := "goes", desc := "(ILFishReaders$Library;)I" } : Jvm.MethodName)) ∈ lw_all := lw_g (lw_at lw_m4 78 rfl) rfl
theorem q949 : (Jvm.Cond.selects "FishReaders$Wanderer" ({ cls := "FishReaders$Fish", name := "taste", desc := "()I" } : Jvm.MethodName) ({ cls := "FishReaders$Fish", name := "taste", desc := "()I" } : Jvm.MethodName)) ∈ lw_all := lw_g (lw_at lw_m4 153 rfl) rfl
theorem q1109 : (Jvm.Cond.selects "FishReaders$Wanderer" ({ cls := "FishReaders$Fish", name := "kind", desc := "()I" } : Jvm.MethodName) ({ cls := "FishReaders$Wanderer", name := "kind", desc := "()I" } : Jvm.MethodName)) ∈ lw_all := lw_g (lw_at lw_m5 73 rfl) rfl
theorem q1110 : (Jvm.Cond.instanceMethod ({ cls := "FishReaders$Wanderer", name := "kind", desc := "()I" } : Jvm.MethodName)) ∈ lw_all := lw_g (lw_at lw_m5 74 rfl) rfl
theorem q1111 : (Jvm.Cond.code ({ cls := "FishReaders$Wanderer", name := "kind", desc := "()I" } : Jvm.MethodName) prog_14_method_2_code (1 : Nat) (Option.some Jvm.ClassFile.FieldType.int)) ∈ lw_all := lw_g (lw_at lw_m5 75 rfl) rfl
theorem q1137 : (Jvm.Cond.selects "FishReaders$Wanderer" ({ cls := "FishReaders$Fish", name := "number", desc := "()I" } : Jvm.MethodName) ({ cls := "FishReaders$Fish", name := "number", desc := "()I" } : Jvm.MethodName)) ∈ lw_all := lw_g (lw_at lw_m5 101 rfl) rfl
theorem q1191 : (Jvm.Cond.castable "FishReaders$Wanderer" "FishReaders$Marked") ∈ lw_tbl := lw_at lw_m5 155 rfl
theorem q1192 : (Jvm.Cond.selects "FishReaders$Wanderer" ({ cls := "FishReaders$Marked", name := "number", desc := "()I" } : Jvm.MethodName) ({ cls := "FishReaders$Fish", name := "number", desc := "()I" } : Jvm.MethodName)) ∈ lw_all := lw_g (lw_at lw_m5 156 rfl) rfl
theorem q1193 : (Jvm.Cond.unhidden "FishReaders$Wanderer" "number" "()I") ∈ lw_tbl := lw_at lw_m5 157 rfl
theorem q1210 : (Jvm.Cond.instanceMethod ({ cls := "FishReaders$Wanderer", name := "size", desc := "(LFishReaders$Trail;LFishReaders$Library;)I" } : Jvm.MethodName)) ∈ lw_all := lw_g (lw_at lw_m5 174 rfl) rfl
theorem q1211 : (Jvm.Cond.code ({ cls := "FishReaders$Wanderer", name := "size", desc := "(LFishReaders$Trail;LFishReaders$Library;)I" } : Jvm.MethodName) prog_14_method_4_code (3 : Nat) (Option.some Jvm.ClassFile.FieldType.int)) ∈ lw_all := lw_g (lw_at lw_m5 175 rfl) rfl
theorem q1212 : (Jvm.Cond.methodLink "FishReaders$Wanderer" (15 : Nat) ({ cls := "FishReaders$Trail", name := "begins", desc := "(I)V" } : Jvm.MethodName)) ∈ lw_all := lw_g (lw_at lw_m5 176 rfl) rfl
theorem q1213 : (Jvm.Cond.methodLink "FishReaders$Wanderer" (20 : Nat) ({ cls := "FishReaders$Fish", name := "size", desc := "(LFishReaders$Trail;LFishReaders$Library;)I" } : Jvm.MethodName)) ∈ lw_all := lw_g (lw_at lw_m5 177 rfl) rfl
theorem q1214 : (Jvm.Cond.selects "FishReaders$Wanderer" ({ cls := "FishReaders$Fish", name := "size", desc := "(LFishReaders$Trail;LFishReaders$Library;)I" } : Jvm.MethodName) ({ cls := "FishReaders$Wanderer", name := "size", desc := "(LFishReaders$Trail;LFishReaders$Library;)I" } : Jvm.MethodName)) ∈ lw_all := lw_g (lw_at lw_m5 178 rfl) rfl
theorem q1221 : (Jvm.Cond.instanceMethod ({ cls := "FishReaders$Wanderer", name := "mark", desc := "(LFishReaders$Trail;LFishReaders$Library;)I" } : Jvm.MethodName)) ∈ lw_all := lw_g (lw_at lw_m5 185 rfl) rfl
theorem q1222 : (Jvm.Cond.code ({ cls := "FishReaders$Wanderer", name := "mark", desc := "(LFishReaders$Trail;LFishReaders$Library;)I" } : Jvm.MethodName) prog_14_method_5_code (3 : Nat) (Option.some Jvm.ClassFile.FieldType.int)) ∈ lw_all := lw_g (lw_at lw_m5 186 rfl) rfl
theorem q1223 : (Jvm.Cond.methodLink "FishReaders$Wanderer" (27 : Nat) ({ cls := "FishReaders$Wanderer", name := "size", desc := "(LFishReaders$Trail;LFishReaders$Library;)I" } : Jvm.MethodName)) ∈ lw_all := lw_g (lw_at lw_m5 187 rfl) rfl
theorem q1224 : (Jvm.Cond.selects "FishReaders$Wanderer" ({ cls := "FishReaders$Marked", name := "mark", desc := "(LFishReaders$Trail;LFishReaders$Library;)I" } : Jvm.MethodName) ({ cls := "FishReaders$Wanderer", name := "mark", desc := "(LFishReaders$Trail;LFishReaders$Library;)I" } : Jvm.MethodName)) ∈ lw_all := lw_g (lw_at lw_m5 188 rfl) rfl
theorem q1709 : (Jvm.Cond.sameMethod "FishReaders$Wanderer" "FishReaders$Wanderer" "goes" "(ILFishReaders$Library;)I") ∈ lw_all := lw_g (lw_at lw_m7 193 rfl) rfl
theorem q1711 : (Jvm.Cond.sameMethod "FishReaders$Wanderer" "FishReaders$Wanderer" "size" "(LFishReaders$Trail;LFishReaders$Library;)I") ∈ lw_all := lw_g (lw_at lw_m7 195 rfl) rfl
theorem q1713 : (Jvm.Cond.selects "FishReaders$Wanderer" ({ cls := "FishReaders$Wanderer", name := "size", desc := "(LFishReaders$Trail;LFishReaders$Library;)I" } : Jvm.MethodName) ({ cls := "FishReaders$Wanderer", name := "size", desc := "(LFishReaders$Trail;LFishReaders$Library;)I" } : Jvm.MethodName)) ∈ lw_all := lw_g (lw_at lw_m7 197 rfl) rfl
theorem q1719 : (Jvm.Cond.castable "FishReaders$Wanderer" "FishReaders$Fish") ∈ lw_tbl := lw_at lw_m7 203 rfl
theorem q1732 : (Jvm.Cond.castable "FishReaders$Wanderer" "java/lang/Object") ∈ lw_tbl := lw_at lw_m7 216 rfl
theorem in_X7 : ∀ w ∈ wsX70, w ∈ lw_all := lw_in wsX70 [286] (by decide +kernel) (by decide +kernel)
/-! FishReaders$Scholar -/
set_option maxRecDepth 100000
def RX8 : String := "FishReaders$Scholar"
def TX8 : u_T := fun k => match k with
  | _ => ("FishReaders$Fish", "number", "I", true)
def tyX8 : Nat → FieldType := fun k => match k with
  | _ => .int
abbrev wsX80 : List Cond := u_ws RX8 TX8 1
theorem nmX8 : ∀ a, a < 1 → ∀ b, b < 1 → a ≠ b → (TX8 a).2.1 ≠ (TX8 b).2.1 := by decide +kernel
theorem tyX8_ok : ∀ k, k < 1 → parseFieldDescriptor (TX8 k).2.2.1 = some (tyX8 k) := by decide +kernel
abbrev cX8_init : ByteArray := prog_12_method_1_code
def yX8_init : MethodName := ⟨RX8, "<init>", "(I)V"⟩
def dkwX8_init_0 : List UInt8 := [42, 27, 183, 0, 3, 177]
abbrev dktX8_init_0 : List UInt8 := dkwX8_init_0 ++ []
theorem dksX8_init_0 : cX8_init.data.toList.drop 0 = dktX8_init_0 := by decide +kernel
theorem dX8_init_0 : decode cX8_init 0 = .ok (.aload_n 0, 1) := dk_42 (dk_at dksX8_init_0 0 rfl rfl)
theorem dX8_init_1 : decode cX8_init 1 = .ok (.iload_n 1, 1) := dk_27 (dk_at dksX8_init_0 1 rfl rfl)
theorem dX8_init_2 : decode cX8_init 2 = .ok (.invokespecial 3, 3) := dk_183 0 3 (dk_at dksX8_init_0 2 rfl rfl)
theorem dX8_init_5 : decode cX8_init 5 = .ok (.return_, 1) := dk_177 (dk_at dksX8_init_0 5 rfl rfl)
abbrev cX8_goes : ByteArray := prog_12_method_3_code
def yX8_goes : MethodName := ⟨RX8, "goes", "(ILFishReaders$Library;)I"⟩
def dkwX8_goes_0 : List UInt8 := [44, 44, 180, 0, 9, 27, 46, 182, 0, 15, 153, 0, 7, 27, 167, 0, 9, 42, 27, 44, 183, 0, 19, 172]
abbrev dktX8_goes_0 : List UInt8 := dkwX8_goes_0 ++ []
theorem dksX8_goes_0 : cX8_goes.data.toList.drop 0 = dktX8_goes_0 := by decide +kernel
theorem dX8_goes_0 : decode cX8_goes 0 = .ok (.aload_n 2, 1) := dk_44 (dk_at dksX8_goes_0 0 rfl rfl)
theorem dX8_goes_1 : decode cX8_goes 1 = .ok (.aload_n 2, 1) := dk_44 (dk_at dksX8_goes_0 1 rfl rfl)
theorem dX8_goes_2 : decode cX8_goes 2 = .ok (.getfield 9, 3) := dk_180 0 9 (dk_at dksX8_goes_0 2 rfl rfl)
theorem dX8_goes_5 : decode cX8_goes 5 = .ok (.iload_n 1, 1) := dk_27 (dk_at dksX8_goes_0 5 rfl rfl)
theorem dX8_goes_6 : decode cX8_goes 6 = .ok (.iaload, 1) := dk_46 (dk_at dksX8_goes_0 6 rfl rfl)
theorem dX8_goes_7 : decode cX8_goes 7 = .ok (.invokevirtual 15, 3) := dk_182 0 15 (dk_at dksX8_goes_0 7 rfl rfl)
theorem dX8_goes_10 : decode cX8_goes 10 = .ok (.ifCond .eq 7, 3) := dk_153 0 7 (dk_at dksX8_goes_0 10 rfl rfl)
theorem dX8_goes_13 : decode cX8_goes 13 = .ok (.iload_n 1, 1) := dk_27 (dk_at dksX8_goes_0 13 rfl rfl)
theorem dX8_goes_14 : decode cX8_goes 14 = .ok (.goto 9, 3) := dk_167 0 9 (dk_at dksX8_goes_0 14 rfl rfl)
theorem dX8_goes_17 : decode cX8_goes 17 = .ok (.aload_n 0, 1) := dk_42 (dk_at dksX8_goes_0 17 rfl rfl)
theorem dX8_goes_18 : decode cX8_goes 18 = .ok (.iload_n 1, 1) := dk_27 (dk_at dksX8_goes_0 18 rfl rfl)
theorem dX8_goes_19 : decode cX8_goes 19 = .ok (.aload_n 2, 1) := dk_44 (dk_at dksX8_goes_0 19 rfl rfl)
theorem dX8_goes_20 : decode cX8_goes 20 = .ok (.invokespecial 19, 3) := dk_183 0 19 (dk_at dksX8_goes_0 20 rfl rfl)
theorem dX8_goes_23 : decode cX8_goes 23 = .ok (.ireturn, 1) := dk_172 (dk_at dksX8_goes_0 23 rfl rfl)
abbrev cX8_kind : ByteArray := prog_12_method_2_code
def yX8_kind : MethodName := ⟨RX8, "kind", "()I"⟩
theorem dX8_kind_0 : decode cX8_kind 0 = .ok (.iconst 5, 1) := by decide +kernel
theorem dX8_kind_1 : decode cX8_kind 1 = .ok (.ireturn, 1) := by decide +kernel
abbrev cX8_size : ByteArray := prog_12_method_4_code
def yX8_size : MethodName := ⟨RX8, "size", "(LFishReaders$Trail;LFishReaders$Library;)I"⟩
def dkwX8_size_0 : List UInt8 := [43, 16, 14, 182, 0, 23, 5, 42, 43, 44, 183, 0, 28, 104, 172]
abbrev dktX8_size_0 : List UInt8 := dkwX8_size_0 ++ []
theorem dksX8_size_0 : cX8_size.data.toList.drop 0 = dktX8_size_0 := by decide +kernel
theorem dX8_size_0 : decode cX8_size 0 = .ok (.aload_n 1, 1) := dk_43 (dk_at dksX8_size_0 0 rfl rfl)
theorem dX8_size_1 : decode cX8_size 1 = .ok (.bipush 14, 2) := dk_16 14 (dk_at dksX8_size_0 1 rfl rfl)
theorem dX8_size_3 : decode cX8_size 3 = .ok (.invokevirtual 23, 3) := dk_182 0 23 (dk_at dksX8_size_0 3 rfl rfl)
theorem dX8_size_6 : decode cX8_size 6 = .ok (.iconst 2, 1) := dk_5 (dk_at dksX8_size_0 6 rfl rfl)
theorem dX8_size_7 : decode cX8_size 7 = .ok (.aload_n 0, 1) := dk_42 (dk_at dksX8_size_0 7 rfl rfl)
theorem dX8_size_8 : decode cX8_size 8 = .ok (.aload_n 1, 1) := dk_43 (dk_at dksX8_size_0 8 rfl rfl)
theorem dX8_size_9 : decode cX8_size 9 = .ok (.aload_n 2, 1) := dk_44 (dk_at dksX8_size_0 9 rfl rfl)
theorem dX8_size_10 : decode cX8_size 10 = .ok (.invokespecial 28, 3) := dk_183 0 28 (dk_at dksX8_size_0 10 rfl rfl)
theorem dX8_size_13 : decode cX8_size 13 = .ok (.imul, 1) := dk_104 (dk_at dksX8_size_0 13 rfl rfl)
theorem dX8_size_14 : decode cX8_size 14 = .ok (.ireturn, 1) := dk_172 (dk_at dksX8_size_0 14 rfl rfl)
theorem q88 : (Jvm.Cond.initialized "FishReaders$Scholar") ∈ lw_all := lw_g (lw_at lw_m1 12 rfl) rfl
theorem q174 : (Jvm.Cond.fieldLink "FishReaders$Scholar" (9 : Nat) "FishReaders$Library" "in" "[I") ∈ lw_all := lw_g (lw_at lw_m1 98 rfl) rfl
theorem q289 : (Jvm.Cond.instantiable "FishReaders$Scholar" (1 : Nat)) ∈ lw_all := lw_g (lw_at lw_m1 213 rfl) rfl
theorem q291 : (Jvm.Cond.instanceMethod ({ cls := "FishReaders$Scholar", name := "<init>", desc := "(I)V" } : Jvm.MethodName)) ∈ lw_all := lw_g (lw_at lw_m1 215 rfl) rfl
theorem q292 : (Jvm.Cond.code ({ cls := "FishReaders$Scholar", name := "<init>", desc := "(I)V" } : Jvm.MethodName) prog_12_method_1_code (2 : Nat) (Option.none : Option Jvm.ClassFile.FieldType)) ∈ lw_all := lw_g (lw_at lw_m1 216 rfl) rfl
theorem q293 : (Jvm.Cond.methodLink "FishReaders$Scholar" (3 : Nat) ({ cls := "FishReaders$Wanderer", name := "<init>", desc := "(I)V" } : Jvm.MethodName)) ∈ lw_all := lw_g (lw_at lw_m1 217 rfl) rfl
theorem q294 : (Jvm.Cond.laysFinal "FishReaders$Scholar" "FishReaders$Fish" "number" "I") ∈ lw_all := lw_g (lw_at lw_m1 218 rfl) rfl
theorem q295 : (Jvm.Cond.superclass "FishReaders$Scholar" "FishReaders$Wanderer") ∈ lw_all := lw_g (lw_at lw_m1 219 rfl) rfl
theorem q742 : (Jvm.Cond.selects "FishReaders$Scholar" ({ cls := "java/lang/Object", name := "getClass", desc := "()Ljava/lang/Class;" } : Jvm.MethodName) ({ cls := "java/lang/Object", name := "getClass", desc := "()Ljava/lang/Class;" } : Jvm.MethodName)) ∈ lw_all := lw_g (lw_at lw_m3 186 rfl) rfl
theorem q867 : (Jvm.Cond.selects "FishReaders$Scholar" ({ cls := "FishReaders$Fish", name := "goes", desc := "(ILFishReaders$Library;)I" } : Jvm.MethodName) ({ cls := "FishReaders$Scholar", name := "goes", desc := "(ILFishReaders$Library;)I" } : Jvm.MethodName)) ∈ lw_all := lw_g (lw_at lw_m4 71 rfl) rfl
theorem q868 : (Jvm.Cond.instanceMethod ({ cls := "FishReaders$Scholar", name := "goes", desc := "(ILFishReaders$Library;)I" } : Jvm.MethodName)) ∈ lw_all := lw_g (lw_at lw_m4 72 rfl) rfl
theorem q869 : (Jvm.Cond.code ({ cls := "FishReaders$Scholar", name := "goes", desc := "(ILFishReaders$Library;)I" } : Jvm.MethodName) prog_12_method_3_code (3 : Nat) (Option.some Jvm.ClassFile.FieldType.int)) ∈ lw_all := lw_g (lw_at lw_m4 73 rfl) rfl
theorem q870 : (Jvm.Cond.methodLink "FishReaders$Scholar" (15 : Nat) ({ cls := "FishReaders$Library", name := "isOpen", desc := "(I)Z" } : Jvm.MethodName)) ∈ lw_all := lw_g (lw_at lw_m4 74 rfl) rfl
theorem q871 : (Jvm.Cond.methodLink "FishReaders$Scholar" (19 : Nat) ({ cls := "FishReaders$Wanderer", name := "goes", desc := "(ILFishReaders$Library;)I" } : Jvm.MethodName)) ∈ lw_all := lw_g (lw_at lw_m4 75 rfl) rfl
theorem q948 : (Jvm.Cond.selects "FishReaders$Scholar" ({ cls := "FishReaders$Fish", name := "taste", desc := "()I" } : Jvm.MethodName) ({ cls := "FishReaders$Fish", name := "taste", desc := "()I" } : Jvm.MethodName)) ∈ lw_all := lw_g (lw_at lw_m4 152 rfl) rfl
theorem q1106 : (Jvm.Cond.selects "FishReaders$Scholar" ({ cls := "FishReaders$Fish", name := "kind", desc := "()I" } : Jvm.MethodName) ({ cls := "FishReaders$Scholar", name := "kind", desc := "()I" } : Jvm.MethodName)) ∈ lw_all := lw_g (lw_at lw_m5 70 rfl) rfl
theorem q1107 : (Jvm.Cond.instanceMethod ({ cls := "FishReaders$Scholar", name := "kind", desc := "()I" } : Jvm.MethodName)) ∈ lw_all := lw_g (lw_at lw_m5 71 rfl) rfl
theorem q1108 : (Jvm.Cond.code ({ cls := "FishReaders$Scholar", name := "kind", desc := "()I" } : Jvm.MethodName) prog_12_method_2_code (1 : Nat) (Option.some Jvm.ClassFile.FieldType.int)) ∈ lw_all := lw_g (lw_at lw_m5 72 rfl) rfl
theorem q1136 : (Jvm.Cond.selects "FishReaders$Scholar" ({ cls := "FishReaders$Fish", name := "number", desc := "()I" } : Jvm.MethodName) ({ cls := "FishReaders$Fish", name := "number", desc := "()I" } : Jvm.MethodName)) ∈ lw_all := lw_g (lw_at lw_m5 100 rfl) rfl
theorem q1188 : (Jvm.Cond.castable "FishReaders$Scholar" "FishReaders$Marked") ∈ lw_tbl := lw_at lw_m5 152 rfl
theorem q1189 : (Jvm.Cond.selects "FishReaders$Scholar" ({ cls := "FishReaders$Marked", name := "number", desc := "()I" } : Jvm.MethodName) ({ cls := "FishReaders$Fish", name := "number", desc := "()I" } : Jvm.MethodName)) ∈ lw_all := lw_g (lw_at lw_m5 153 rfl) rfl
theorem q1190 : (Jvm.Cond.unhidden "FishReaders$Scholar" "number" "()I") ∈ lw_tbl := lw_at lw_m5 154 rfl
theorem q1205 : (Jvm.Cond.selects "FishReaders$Scholar" ({ cls := "FishReaders$Fish", name := "size", desc := "(LFishReaders$Trail;LFishReaders$Library;)I" } : Jvm.MethodName) ({ cls := "FishReaders$Scholar", name := "size", desc := "(LFishReaders$Trail;LFishReaders$Library;)I" } : Jvm.MethodName)) ∈ lw_all := lw_g (lw_at lw_m5 169 rfl) rfl
theorem q1206 : (Jvm.Cond.instanceMethod ({ cls := "FishReaders$Scholar", name := "size", desc := "(LFishReaders$Trail;LFishReaders$Library;)I" } : Jvm.MethodName)) ∈ lw_all := lw_g (lw_at lw_m5 170 rfl) rfl
theorem q1207 : (Jvm.Cond.code ({ cls := "FishReaders$Scholar", name := "size", desc := "(LFishReaders$Trail;LFishReaders$Library;)I" } : Jvm.MethodName) prog_12_method_4_code (3 : Nat) (Option.some Jvm.ClassFile.FieldType.int)) ∈ lw_all := lw_g (lw_at lw_m5 171 rfl) rfl
theorem q1208 : (Jvm.Cond.methodLink "FishReaders$Scholar" (23 : Nat) ({ cls := "FishReaders$Trail", name := "begins", desc := "(I)V" } : Jvm.MethodName)) ∈ lw_all := lw_g (lw_at lw_m5 172 rfl) rfl
theorem q1209 : (Jvm.Cond.methodLink "FishReaders$Scholar" (28 : Nat) ({ cls := "FishReaders$Wanderer", name := "size", desc := "(LFishReaders$Trail;LFishReaders$Library;)I" } : Jvm.MethodName)) ∈ lw_all := lw_g (lw_at lw_m5 173 rfl) rfl
theorem q1220 : (Jvm.Cond.selects "FishReaders$Scholar" ({ cls := "FishReaders$Marked", name := "mark", desc := "(LFishReaders$Trail;LFishReaders$Library;)I" } : Jvm.MethodName) ({ cls := "FishReaders$Wanderer", name := "mark", desc := "(LFishReaders$Trail;LFishReaders$Library;)I" } : Jvm.MethodName)) ∈ lw_all := lw_g (lw_at lw_m5 184 rfl) rfl
theorem q1712 : (Jvm.Cond.selects "FishReaders$Scholar" ({ cls := "FishReaders$Wanderer", name := "size", desc := "(LFishReaders$Trail;LFishReaders$Library;)I" } : Jvm.MethodName) ({ cls := "FishReaders$Scholar", name := "size", desc := "(LFishReaders$Trail;LFishReaders$Library;)I" } : Jvm.MethodName)) ∈ lw_all := lw_g (lw_at lw_m7 196 rfl) rfl
theorem q1718 : (Jvm.Cond.castable "FishReaders$Scholar" "FishReaders$Fish") ∈ lw_tbl := lw_at lw_m7 202 rfl
theorem q1722 : (Jvm.Cond.castable "FishReaders$Scholar" "FishReaders$Wanderer") ∈ lw_tbl := lw_at lw_m7 206 rfl
theorem q1733 : (Jvm.Cond.castable "FishReaders$Scholar" "java/lang/Object") ∈ lw_tbl := lw_at lw_m7 217 rfl
theorem in_X8 : ∀ w ∈ wsX80, w ∈ lw_all := lw_in wsX80 [294] (by decide +kernel) (by decide +kernel)
/-! FishReaders$Finding -/
set_option maxRecDepth 100000
def RX10 : String := "FishReaders$Finding"
def TX10 : u_T := fun k => match k with
  | 0 => ("java/lang/Throwable", "cause", "Ljava/lang/Throwable;", false)
  | 1 => ("java/lang/Throwable", "stackTrace", "[Ljava/lang/StackTraceElement;", false)
  | 2 => ("java/lang/Throwable", "suppressedExceptions", "Ljava/util/List;", false)
  | 3 => ("java/lang/Throwable", "detailMessage", "Ljava/lang/String;", false)
  | 4 => ("java/lang/Throwable", "backtrace", "Ljava/lang/Object;", false)
  | 5 => ("java/lang/Throwable", "depth", "I", false)
  | _ => ("FishReaders$Finding", "number", "I", true)
def tyX10 : Nat → FieldType := fun k => match k with
  | 0 => .object "java/lang/Throwable"
  | 1 => .array (.object "java/lang/StackTraceElement")
  | 2 => .object "java/util/List"
  | 3 => .object "java/lang/String"
  | 4 => .object "java/lang/Object"
  | 5 => .int
  | _ => .int
abbrev wsX100 : List Cond := u_ws RX10 TX10 7
theorem nmX10 : ∀ a, a < 7 → ∀ b, b < 7 → a ≠ b → (TX10 a).2.1 ≠ (TX10 b).2.1 := by decide +kernel
theorem tyX10_ok : ∀ k, k < 7 → parseFieldDescriptor (TX10 k).2.2.1 = some (tyX10 k) := by decide +kernel
abbrev cX10_init : ByteArray := prog_5_method_1_code
def yX10_init : MethodName := ⟨RX10, "<init>", "(I)V"⟩
def dkwX10_init_0 : List UInt8 := [42, 1, 1, 3, 3, 183, 0, 1, 42, 27, 181, 0, 7, 177]
abbrev dktX10_init_0 : List UInt8 := dkwX10_init_0 ++ []
theorem dksX10_init_0 : cX10_init.data.toList.drop 0 = dktX10_init_0 := by decide +kernel
theorem dX10_init_0 : decode cX10_init 0 = .ok (.aload_n 0, 1) := dk_42 (dk_at dksX10_init_0 0 rfl rfl)
theorem dX10_init_1 : decode cX10_init 1 = .ok (.aconst_null, 1) := dk_1 (dk_at dksX10_init_0 1 rfl rfl)
theorem dX10_init_2 : decode cX10_init 2 = .ok (.aconst_null, 1) := dk_1 (dk_at dksX10_init_0 2 rfl rfl)
theorem dX10_init_3 : decode cX10_init 3 = .ok (.iconst 0, 1) := dk_3 (dk_at dksX10_init_0 3 rfl rfl)
theorem dX10_init_4 : decode cX10_init 4 = .ok (.iconst 0, 1) := dk_3 (dk_at dksX10_init_0 4 rfl rfl)
theorem dX10_init_5 : decode cX10_init 5 = .ok (.invokespecial 1, 3) := dk_183 0 1 (dk_at dksX10_init_0 5 rfl rfl)
theorem dX10_init_8 : decode cX10_init 8 = .ok (.aload_n 0, 1) := dk_42 (dk_at dksX10_init_0 8 rfl rfl)
theorem dX10_init_9 : decode cX10_init 9 = .ok (.iload_n 1, 1) := dk_27 (dk_at dksX10_init_0 9 rfl rfl)
theorem dX10_init_10 : decode cX10_init 10 = .ok (.putfield 7, 3) := dk_181 0 7 (dk_at dksX10_init_0 10 rfl rfl)
theorem dX10_init_13 : decode cX10_init 13 = .ok (.return_, 1) := dk_177 (dk_at dksX10_init_0 13 rfl rfl)
theorem q92 : (Jvm.Cond.initialized "FishReaders$Finding") ∈ lw_all := lw_g (lw_at lw_m1 16 rfl) rfl
theorem q359 : (Jvm.Cond.instantiable "FishReaders$Finding" (7 : Nat)) ∈ lw_all := lw_g (lw_at lw_m2 43 rfl) rfl
theorem q360 : (Jvm.Cond.castable "FishReaders$Finding" "FishReaders$Finding") ∈ lw_tbl := lw_at lw_m2 44 rfl
theorem q365 : (Jvm.Cond.selects "FishReaders$Finding" ({ cls := "java/lang/Throwable", name := "fillInStackTrace", desc := "(I)Ljava/lang/Throwable;" } : Jvm.MethodName) ({ cls := "java/lang/Throwable", name := "fillInStackTrace", desc := "(I)Ljava/lang/Throwable;" } : Jvm.MethodName)) ∈ lw_all := lw_g (lw_at lw_m2 49 rfl) rfl
theorem q366 : (Jvm.Cond.selects "FishReaders$Finding" ({ cls := "java/lang/Throwable", name := "fillInStackTrace", desc := "()Ljava/lang/Throwable;" } : Jvm.MethodName) ({ cls := "java/lang/Throwable", name := "fillInStackTrace", desc := "()Ljava/lang/Throwable;" } : Jvm.MethodName)) ∈ lw_all := lw_g (lw_at lw_m2 50 rfl) rfl
theorem q367 : (Jvm.Cond.lays "FishReaders$Finding" "java/lang/Throwable" "cause" "Ljava/lang/Throwable;") ∈ lw_all := lw_g (lw_at lw_m2 51 rfl) rfl
theorem q369 : (Jvm.Cond.lays "FishReaders$Finding" "java/lang/Throwable" "stackTrace" "[Ljava/lang/StackTraceElement;") ∈ lw_all := lw_g (lw_at lw_m2 53 rfl) rfl
theorem q371 : (Jvm.Cond.lays "FishReaders$Finding" "java/lang/Throwable" "suppressedExceptions" "Ljava/util/List;") ∈ lw_all := lw_g (lw_at lw_m2 55 rfl) rfl
theorem q373 : (Jvm.Cond.lays "FishReaders$Finding" "java/lang/Throwable" "detailMessage" "Ljava/lang/String;") ∈ lw_all := lw_g (lw_at lw_m2 57 rfl) rfl
theorem q375 : (Jvm.Cond.lays "FishReaders$Finding" "java/lang/Throwable" "backtrace" "Ljava/lang/Object;") ∈ lw_all := lw_g (lw_at lw_m2 59 rfl) rfl
theorem q399 : (Jvm.Cond.instanceMethod ({ cls := "FishReaders$Finding", name := "<init>", desc := "(I)V" } : Jvm.MethodName)) ∈ lw_all := lw_g (lw_at lw_m2 83 rfl) rfl
theorem q400 : (Jvm.Cond.code ({ cls := "FishReaders$Finding", name := "<init>", desc := "(I)V" } : Jvm.MethodName) prog_5_method_1_code (2 : Nat) (Option.none : Option Jvm.ClassFile.FieldType)) ∈ lw_all := lw_g (lw_at lw_m2 84 rfl) rfl
theorem q401 : (Jvm.Cond.methodLink "FishReaders$Finding" (1 : Nat) ({ cls := "java/lang/Exception", name := "<init>", desc := "(Ljava/lang/String;Ljava/lang/Throwable;ZZ)V" } : Jvm.MethodName)) ∈ lw_all := lw_g (lw_at lw_m2 85 rfl) rfl
theorem q407 : (Jvm.Cond.fieldLink "FishReaders$Finding" (7 : Nat) "FishReaders$Finding" "number" "I") ∈ lw_all := lw_g (lw_at lw_m2 91 rfl) rfl
theorem q414 : (Jvm.Cond.laysFinal "FishReaders$Finding" "FishReaders$Finding" "number" "I") ∈ lw_all := lw_g (lw_at lw_m2 98 rfl) rfl
theorem q415 : (Jvm.Cond.soleField "FishReaders$Finding" "number") ∈ lw_all := lw_g (lw_at lw_m2 99 rfl) rfl
theorem q420 : (Jvm.Cond.lays "FishReaders$Finding" "java/lang/Throwable" "depth" "I") ∈ lw_all := lw_g (lw_at lw_m2 104 rfl) rfl
theorem q423 : (Jvm.Cond.superclass "FishReaders$Finding" "java/lang/Exception") ∈ lw_all := lw_g (lw_at lw_m2 107 rfl) rfl
theorem q737 : (Jvm.Cond.selects "FishReaders$Finding" ({ cls := "java/lang/Object", name := "getClass", desc := "()Ljava/lang/Class;" } : Jvm.MethodName) ({ cls := "java/lang/Object", name := "getClass", desc := "()Ljava/lang/Class;" } : Jvm.MethodName)) ∈ lw_all := lw_g (lw_at lw_m3 181 rfl) rfl
theorem q1735 : (Jvm.Cond.castable "FishReaders$Finding" "java/lang/Object") ∈ lw_tbl := lw_at lw_m7 219 rfl
theorem in_X10 : ∀ w ∈ wsX100, w ∈ lw_all := lw_in wsX100 [367, 369, 371, 373, 375, 420, 414] (by decide +kernel) (by decide +kernel)
/-! FishReaders$Row -/
set_option maxRecDepth 100000
def RX11 : String := "FishReaders$Row"
def TX11 : u_T := fun k => match k with
  | 0 => ("FishReaders$Row", "lane", "I", true)
  | _ => ("FishReaders$Row", "items", "[I", true)
def tyX11 : Nat → FieldType := fun k => match k with
  | 0 => .int
  | _ => .array .int
abbrev wsX110 : List Cond := u_ws RX11 TX11 2
theorem nmX11 : ∀ a, a < 2 → ∀ b, b < 2 → a ≠ b → (TX11 a).2.1 ≠ (TX11 b).2.1 := by decide +kernel
theorem tyX11_ok : ∀ k, k < 2 → parseFieldDescriptor (TX11 k).2.2.1 = some (tyX11 k) := by decide +kernel
abbrev cX11_init : ByteArray := prog_11_method_1_code
def yX11_init : MethodName := ⟨RX11, "<init>", "(II)V"⟩
def dkwX11_init_0 : List UInt8 := [42, 183, 0, 3, 42, 27, 181, 0, 9, 42, 28, 188, 10, 181, 0, 15, 177]
abbrev dktX11_init_0 : List UInt8 := dkwX11_init_0 ++ []
theorem dksX11_init_0 : cX11_init.data.toList.drop 0 = dktX11_init_0 := by decide +kernel
theorem dX11_init_0 : decode cX11_init 0 = .ok (.aload_n 0, 1) := dk_42 (dk_at dksX11_init_0 0 rfl rfl)
theorem dX11_init_1 : decode cX11_init 1 = .ok (.invokespecial 3, 3) := dk_183 0 3 (dk_at dksX11_init_0 1 rfl rfl)
theorem dX11_init_4 : decode cX11_init 4 = .ok (.aload_n 0, 1) := dk_42 (dk_at dksX11_init_0 4 rfl rfl)
theorem dX11_init_5 : decode cX11_init 5 = .ok (.iload_n 1, 1) := dk_27 (dk_at dksX11_init_0 5 rfl rfl)
theorem dX11_init_6 : decode cX11_init 6 = .ok (.putfield 9, 3) := dk_181 0 9 (dk_at dksX11_init_0 6 rfl rfl)
theorem dX11_init_9 : decode cX11_init 9 = .ok (.aload_n 0, 1) := dk_42 (dk_at dksX11_init_0 9 rfl rfl)
theorem dX11_init_10 : decode cX11_init 10 = .ok (.iload_n 2, 1) := dk_28 (dk_at dksX11_init_0 10 rfl rfl)
theorem dX11_init_11 : decode cX11_init 11 = .ok (.newarray .int, 2) := dk_188_10 (dk_at dksX11_init_0 11 rfl rfl)
theorem dX11_init_13 : decode cX11_init 13 = .ok (.putfield 15, 3) := dk_181 0 15 (dk_at dksX11_init_0 13 rfl rfl)
theorem dX11_init_16 : decode cX11_init 16 = .ok (.return_, 1) := dk_177 (dk_at dksX11_init_0 16 rfl rfl)
abbrev cX11_cut : ByteArray := prog_11_method_2_code
def yX11_cut : MethodName := ⟨RX11, "cut", "(I)I"⟩
def dkwX11_cut_1 : List UInt8 := [167, 0, 4, 27, 172]
abbrev dktX11_cut_1 : List UInt8 := dkwX11_cut_1 ++ []
def dkwX11_cut_0 : List UInt8 := [42, 180, 0, 9, 154, 0, 8, 27, 145, 167, 0, 17, 42, 180, 0, 9, 4, 160, 0, 8, 27, 147]
abbrev dktX11_cut_0 : List UInt8 := dkwX11_cut_0 ++ dktX11_cut_1
theorem dksX11_cut_0 : cX11_cut.data.toList.drop 0 = dktX11_cut_0 := by decide +kernel
theorem dksX11_cut_1 : cX11_cut.data.toList.drop 22 = dktX11_cut_1 := dk_seg dksX11_cut_0 22 rfl rfl
theorem dX11_cut_0 : decode cX11_cut 0 = .ok (.aload_n 0, 1) := dk_42 (dk_at dksX11_cut_0 0 rfl rfl)
theorem dX11_cut_1 : decode cX11_cut 1 = .ok (.getfield 9, 3) := dk_180 0 9 (dk_at dksX11_cut_0 1 rfl rfl)
theorem dX11_cut_4 : decode cX11_cut 4 = .ok (.ifCond .ne 8, 3) := dk_154 0 8 (dk_at dksX11_cut_0 4 rfl rfl)
theorem dX11_cut_7 : decode cX11_cut 7 = .ok (.iload_n 1, 1) := dk_27 (dk_at dksX11_cut_0 7 rfl rfl)
theorem dX11_cut_8 : decode cX11_cut 8 = .ok (.i2b, 1) := dk_145 (dk_at dksX11_cut_0 8 rfl rfl)
theorem dX11_cut_9 : decode cX11_cut 9 = .ok (.goto 17, 3) := dk_167 0 17 (dk_at dksX11_cut_0 9 rfl rfl)
theorem dX11_cut_12 : decode cX11_cut 12 = .ok (.aload_n 0, 1) := dk_42 (dk_at dksX11_cut_0 12 rfl rfl)
theorem dX11_cut_13 : decode cX11_cut 13 = .ok (.getfield 9, 3) := dk_180 0 9 (dk_at dksX11_cut_0 13 rfl rfl)
theorem dX11_cut_16 : decode cX11_cut 16 = .ok (.iconst 1, 1) := dk_4 (dk_at dksX11_cut_0 16 rfl rfl)
theorem dX11_cut_17 : decode cX11_cut 17 = .ok (.if_icmp .ne 8, 3) := dk_160 0 8 (dk_at dksX11_cut_0 17 rfl rfl)
theorem dX11_cut_20 : decode cX11_cut 20 = .ok (.iload_n 1, 1) := dk_27 (dk_at dksX11_cut_0 20 rfl rfl)
theorem dX11_cut_21 : decode cX11_cut 21 = .ok (.i2s, 1) := dk_147 (dk_at dksX11_cut_0 21 rfl rfl)
theorem dX11_cut_22 : decode cX11_cut 22 = .ok (.goto 4, 3) := dk_167 0 4 (dk_at dksX11_cut_1 0 rfl rfl)
theorem dX11_cut_25 : decode cX11_cut 25 = .ok (.iload_n 1, 1) := dk_27 (dk_at dksX11_cut_1 3 rfl rfl)
theorem dX11_cut_26 : decode cX11_cut 26 = .ok (.ireturn, 1) := dk_172 (dk_at dksX11_cut_1 4 rfl rfl)
abbrev cX11_row : ByteArray := prog_11_method_3_code
def yX11_row : MethodName := ⟨RX11, "row", "(II)[I"⟩
def dkwX11_row_1 : List UInt8 := [5, 184, 0, 19, 28, 188, 10, 78, 42, 180, 0, 15, 27, 45, 3, 28, 184, 0, 23, 45, 176]
abbrev dktX11_row_1 : List UInt8 := dkwX11_row_1 ++ []
def dkwX11_row_0 : List UInt8 := [27, 155, 0, 22, 27, 133, 28, 133, 97, 42, 180, 0, 15, 190, 133, 148, 157, 0, 7, 4, 167, 0, 4, 3]
abbrev dktX11_row_0 : List UInt8 := dkwX11_row_0 ++ dktX11_row_1
theorem dksX11_row_0 : cX11_row.data.toList.drop 0 = dktX11_row_0 := by decide +kernel
theorem dksX11_row_1 : cX11_row.data.toList.drop 24 = dktX11_row_1 := dk_seg dksX11_row_0 24 rfl rfl
theorem dX11_row_0 : decode cX11_row 0 = .ok (.iload_n 1, 1) := dk_27 (dk_at dksX11_row_0 0 rfl rfl)
theorem dX11_row_1 : decode cX11_row 1 = .ok (.ifCond .lt 22, 3) := dk_155 0 22 (dk_at dksX11_row_0 1 rfl rfl)
theorem dX11_row_4 : decode cX11_row 4 = .ok (.iload_n 1, 1) := dk_27 (dk_at dksX11_row_0 4 rfl rfl)
theorem dX11_row_5 : decode cX11_row 5 = .ok (.i2l, 1) := dk_133 (dk_at dksX11_row_0 5 rfl rfl)
theorem dX11_row_6 : decode cX11_row 6 = .ok (.iload_n 2, 1) := dk_28 (dk_at dksX11_row_0 6 rfl rfl)
theorem dX11_row_7 : decode cX11_row 7 = .ok (.i2l, 1) := dk_133 (dk_at dksX11_row_0 7 rfl rfl)
theorem dX11_row_8 : decode cX11_row 8 = .ok (.ladd, 1) := dk_97 (dk_at dksX11_row_0 8 rfl rfl)
theorem dX11_row_9 : decode cX11_row 9 = .ok (.aload_n 0, 1) := dk_42 (dk_at dksX11_row_0 9 rfl rfl)
theorem dX11_row_10 : decode cX11_row 10 = .ok (.getfield 15, 3) := dk_180 0 15 (dk_at dksX11_row_0 10 rfl rfl)
theorem dX11_row_13 : decode cX11_row 13 = .ok (.arraylength, 1) := dk_190 (dk_at dksX11_row_0 13 rfl rfl)
theorem dX11_row_14 : decode cX11_row 14 = .ok (.i2l, 1) := dk_133 (dk_at dksX11_row_0 14 rfl rfl)
theorem dX11_row_15 : decode cX11_row 15 = .ok (.lcmp, 1) := dk_148 (dk_at dksX11_row_0 15 rfl rfl)
theorem dX11_row_16 : decode cX11_row 16 = .ok (.ifCond .gt 7, 3) := dk_157 0 7 (dk_at dksX11_row_0 16 rfl rfl)
theorem dX11_row_19 : decode cX11_row 19 = .ok (.iconst 1, 1) := dk_4 (dk_at dksX11_row_0 19 rfl rfl)
theorem dX11_row_20 : decode cX11_row 20 = .ok (.goto 4, 3) := dk_167 0 4 (dk_at dksX11_row_0 20 rfl rfl)
theorem dX11_row_23 : decode cX11_row 23 = .ok (.iconst 0, 1) := dk_3 (dk_at dksX11_row_0 23 rfl rfl)
theorem dX11_row_24 : decode cX11_row 24 = .ok (.iconst 2, 1) := dk_5 (dk_at dksX11_row_1 0 rfl rfl)
theorem dX11_row_25 : decode cX11_row 25 = .ok (.invokestatic 19, 3) := dk_184 0 19 (dk_at dksX11_row_1 1 rfl rfl)
theorem dX11_row_28 : decode cX11_row 28 = .ok (.iload_n 2, 1) := dk_28 (dk_at dksX11_row_1 4 rfl rfl)
theorem dX11_row_29 : decode cX11_row 29 = .ok (.newarray .int, 2) := dk_188_10 (dk_at dksX11_row_1 5 rfl rfl)
theorem dX11_row_31 : decode cX11_row 31 = .ok (.astore_n 3, 1) := dk_78 (dk_at dksX11_row_1 7 rfl rfl)
theorem dX11_row_32 : decode cX11_row 32 = .ok (.aload_n 0, 1) := dk_42 (dk_at dksX11_row_1 8 rfl rfl)
theorem dX11_row_33 : decode cX11_row 33 = .ok (.getfield 15, 3) := dk_180 0 15 (dk_at dksX11_row_1 9 rfl rfl)
theorem dX11_row_36 : decode cX11_row 36 = .ok (.iload_n 1, 1) := dk_27 (dk_at dksX11_row_1 12 rfl rfl)
theorem dX11_row_37 : decode cX11_row 37 = .ok (.aload_n 3, 1) := dk_45 (dk_at dksX11_row_1 13 rfl rfl)
theorem dX11_row_38 : decode cX11_row 38 = .ok (.iconst 0, 1) := dk_3 (dk_at dksX11_row_1 14 rfl rfl)
theorem dX11_row_39 : decode cX11_row 39 = .ok (.iload_n 2, 1) := dk_28 (dk_at dksX11_row_1 15 rfl rfl)
theorem dX11_row_40 : decode cX11_row 40 = .ok (.invokestatic 23, 3) := dk_184 0 23 (dk_at dksX11_row_1 16 rfl rfl)
theorem dX11_row_43 : decode cX11_row 43 = .ok (.aload_n 3, 1) := dk_45 (dk_at dksX11_row_1 19 rfl rfl)
theorem dX11_row_44 : decode cX11_row 44 = .ok (.areturn, 1) := dk_176 (dk_at dksX11_row_1 20 rfl rfl)
theorem q93 : (Jvm.Cond.initialized "FishReaders$Row") ∈ lw_all := lw_g (lw_at lw_m1 17 rfl) rfl
theorem q424 : (Jvm.Cond.instantiable "FishReaders$Row" (2 : Nat)) ∈ lw_all := lw_g (lw_at lw_m2 108 rfl) rfl
theorem q426 : (Jvm.Cond.instanceMethod ({ cls := "FishReaders$Row", name := "<init>", desc := "(II)V" } : Jvm.MethodName)) ∈ lw_all := lw_g (lw_at lw_m2 110 rfl) rfl
theorem q427 : (Jvm.Cond.code ({ cls := "FishReaders$Row", name := "<init>", desc := "(II)V" } : Jvm.MethodName) prog_11_method_1_code (3 : Nat) (Option.none : Option Jvm.ClassFile.FieldType)) ∈ lw_all := lw_g (lw_at lw_m2 111 rfl) rfl
theorem q428 : (Jvm.Cond.methodLink "FishReaders$Row" (3 : Nat) ({ cls := "java/lang/Object", name := "<init>", desc := "()V" } : Jvm.MethodName)) ∈ lw_all := lw_g (lw_at lw_m2 112 rfl) rfl
theorem q429 : (Jvm.Cond.fieldLink "FishReaders$Row" (9 : Nat) "FishReaders$Row" "lane" "I") ∈ lw_all := lw_g (lw_at lw_m2 113 rfl) rfl
theorem q431 : (Jvm.Cond.fieldLink "FishReaders$Row" (15 : Nat) "FishReaders$Row" "items" "[I") ∈ lw_all := lw_g (lw_at lw_m2 115 rfl) rfl
theorem q433 : (Jvm.Cond.laysFinal "FishReaders$Row" "FishReaders$Row" "lane" "I") ∈ lw_all := lw_g (lw_at lw_m2 117 rfl) rfl
theorem q434 : (Jvm.Cond.soleField "FishReaders$Row" "lane") ∈ lw_all := lw_g (lw_at lw_m2 118 rfl) rfl
theorem q435 : (Jvm.Cond.laysFinal "FishReaders$Row" "FishReaders$Row" "items" "[I") ∈ lw_all := lw_g (lw_at lw_m2 119 rfl) rfl
theorem q436 : (Jvm.Cond.soleField "FishReaders$Row" "items") ∈ lw_all := lw_g (lw_at lw_m2 120 rfl) rfl
theorem q437 : (Jvm.Cond.superclass "FishReaders$Row" "java/lang/Object") ∈ lw_all := lw_g (lw_at lw_m2 121 rfl) rfl
theorem q456 : (Jvm.Cond.instanceMethod ({ cls := "FishReaders$Row", name := "cut", desc := "(I)I" } : Jvm.MethodName)) ∈ lw_all := lw_g (lw_at lw_m2 140 rfl) rfl
theorem q457 : (Jvm.Cond.selects "FishReaders$Row" ({ cls := "FishReaders$Row", name := "cut", desc := "(I)I" } : Jvm.MethodName) ({ cls := "FishReaders$Row", name := "cut", desc := "(I)I" } : Jvm.MethodName)) ∈ lw_all := lw_g (lw_at lw_m2 141 rfl) rfl
theorem q458 : (Jvm.Cond.code ({ cls := "FishReaders$Row", name := "cut", desc := "(I)I" } : Jvm.MethodName) prog_11_method_2_code (2 : Nat) (Option.some Jvm.ClassFile.FieldType.int)) ∈ lw_all := lw_g (lw_at lw_m2 142 rfl) rfl
theorem q741 : (Jvm.Cond.selects "FishReaders$Row" ({ cls := "java/lang/Object", name := "getClass", desc := "()Ljava/lang/Class;" } : Jvm.MethodName) ({ cls := "java/lang/Object", name := "getClass", desc := "()Ljava/lang/Class;" } : Jvm.MethodName)) ∈ lw_all := lw_g (lw_at lw_m3 185 rfl) rfl
theorem q1041 : (Jvm.Cond.instanceMethod ({ cls := "FishReaders$Row", name := "row", desc := "(II)[I" } : Jvm.MethodName)) ∈ lw_all := lw_g (lw_at lw_m5 5 rfl) rfl
theorem q1042 : (Jvm.Cond.selects "FishReaders$Row" ({ cls := "FishReaders$Row", name := "row", desc := "(II)[I" } : Jvm.MethodName) ({ cls := "FishReaders$Row", name := "row", desc := "(II)[I" } : Jvm.MethodName)) ∈ lw_all := lw_g (lw_at lw_m5 6 rfl) rfl
theorem q1043 : (Jvm.Cond.code ({ cls := "FishReaders$Row", name := "row", desc := "(II)[I" } : Jvm.MethodName) prog_11_method_3_code (4 : Nat) (Option.some (Jvm.ClassFile.FieldType.array Jvm.ClassFile.FieldType.int))) ∈ lw_all := lw_g (lw_at lw_m5 7 rfl) rfl
theorem q1044 : (Jvm.Cond.methodLinkNest "FishReaders$Row" (19 : Nat) ({ cls := "FishReaders", name := "must", desc := "(ZI)V" } : Jvm.MethodName) "FishReaders") ∈ lw_tbl := lw_at lw_m5 8 rfl
theorem q1045 : (Jvm.Cond.methodLink "FishReaders$Row" (23 : Nat) ({ cls := "java/lang/System", name := "arraycopy", desc := "(Ljava/lang/Object;ILjava/lang/Object;II)V" } : Jvm.MethodName)) ∈ lw_all := lw_g (lw_at lw_m5 9 rfl) rfl
theorem q1723 : (Jvm.Cond.castable "FishReaders$Row" "java/lang/Object") ∈ lw_tbl := lw_at lw_m7 207 rfl
theorem in_X11 : ∀ w ∈ wsX110, w ∈ lw_all := lw_in wsX110 [433, 435] (by decide +kernel) (by decide +kernel)
/-! FishReaders$Reader -/
set_option maxRecDepth 100000
def RX12 : String := "FishReaders$Reader"
def TX12 : u_T := fun k => match k with
  | 0 => ("FishReaders$Reader", "text", "[B", true)
  | 1 => ("FishReaders$Reader", "size", "I", true)
  | 2 => ("FishReaders$Reader", "at", "I", false)
  | 3 => ("FishReaders$Reader", "token", "I", false)
  | 4 => ("FishReaders$Reader", "from", "I", false)
  | 5 => ("FishReaders$Reader", "value", "I", false)
  | _ => ("FishReaders$Reader", "made", "LFishReaders$Library;", true)
def tyX12 : Nat → FieldType := fun k => match k with
  | 0 => .array .byte
  | 1 => .int
  | 2 => .int
  | 3 => .int
  | 4 => .int
  | 5 => .int
  | _ => .object "FishReaders$Library"
abbrev wsX120 : List Cond := u_ws RX12 TX12 7
theorem nmX12 : ∀ a, a < 7 → ∀ b, b < 7 → a ≠ b → (TX12 a).2.1 ≠ (TX12 b).2.1 := by decide +kernel
theorem tyX12_ok : ∀ k, k < 7 → parseFieldDescriptor (TX12 k).2.2.1 = some (tyX12 k) := by decide +kernel
abbrev cX12_init : ByteArray := prog_10_method_1_code
def yX12_init : MethodName := ⟨RX12, "<init>", "([BI)V"⟩
def dkwX12_init_1 : List UInt8 := [181, 0, 22, 177]
abbrev dktX12_init_1 : List UInt8 := dkwX12_init_1 ++ []
def dkwX12_init_0 : List UInt8 := [42, 183, 0, 3, 42, 187, 0, 9, 89, 183, 0, 11, 181, 0, 12, 42, 43, 181, 0, 18, 42, 28]
abbrev dktX12_init_0 : List UInt8 := dkwX12_init_0 ++ dktX12_init_1
theorem dksX12_init_0 : cX12_init.data.toList.drop 0 = dktX12_init_0 := by decide +kernel
theorem dksX12_init_1 : cX12_init.data.toList.drop 22 = dktX12_init_1 := dk_seg dksX12_init_0 22 rfl rfl
theorem dX12_init_0 : decode cX12_init 0 = .ok (.aload_n 0, 1) := dk_42 (dk_at dksX12_init_0 0 rfl rfl)
theorem dX12_init_1 : decode cX12_init 1 = .ok (.invokespecial 3, 3) := dk_183 0 3 (dk_at dksX12_init_0 1 rfl rfl)
theorem dX12_init_4 : decode cX12_init 4 = .ok (.aload_n 0, 1) := dk_42 (dk_at dksX12_init_0 4 rfl rfl)
theorem dX12_init_5 : decode cX12_init 5 = .ok (.new 9, 3) := dk_187 0 9 (dk_at dksX12_init_0 5 rfl rfl)
theorem dX12_init_8 : decode cX12_init 8 = .ok (.dup, 1) := dk_89 (dk_at dksX12_init_0 8 rfl rfl)
theorem dX12_init_9 : decode cX12_init 9 = .ok (.invokespecial 11, 3) := dk_183 0 11 (dk_at dksX12_init_0 9 rfl rfl)
theorem dX12_init_12 : decode cX12_init 12 = .ok (.putfield 12, 3) := dk_181 0 12 (dk_at dksX12_init_0 12 rfl rfl)
theorem dX12_init_15 : decode cX12_init 15 = .ok (.aload_n 0, 1) := dk_42 (dk_at dksX12_init_0 15 rfl rfl)
theorem dX12_init_16 : decode cX12_init 16 = .ok (.aload_n 1, 1) := dk_43 (dk_at dksX12_init_0 16 rfl rfl)
theorem dX12_init_17 : decode cX12_init 17 = .ok (.putfield 18, 3) := dk_181 0 18 (dk_at dksX12_init_0 17 rfl rfl)
theorem dX12_init_20 : decode cX12_init 20 = .ok (.aload_n 0, 1) := dk_42 (dk_at dksX12_init_0 20 rfl rfl)
theorem dX12_init_21 : decode cX12_init 21 = .ok (.iload_n 2, 1) := dk_28 (dk_at dksX12_init_0 21 rfl rfl)
theorem dX12_init_22 : decode cX12_init 22 = .ok (.putfield 22, 3) := dk_181 0 22 (dk_at dksX12_init_1 0 rfl rfl)
theorem dX12_init_25 : decode cX12_init 25 = .ok (.return_, 1) := dk_177 (dk_at dksX12_init_1 3 rfl rfl)
abbrev cX12_all : ByteArray := prog_10_method_12_code
def yX12_all : MethodName := ⟨RX12, "all", "()V"⟩
def dkwX12_all_5 : List UInt8 := [167, 255, 241, 42, 42, 180, 0, 40, 154, 0, 7, 4, 167, 0, 4, 3, 4, 182, 0, 60, 177]
abbrev dktX12_all_5 : List UInt8 := dkwX12_all_5 ++ []
def dkwX12_all_4 : List UInt8 := [167, 0, 4, 3, 4, 182, 0, 60, 42, 18, 104, 182, 0, 106, 18, 29, 159, 0, 10, 42, 182, 0, 110]
abbrev dktX12_all_4 : List UInt8 := dkwX12_all_4 ++ dktX12_all_5
def dkwX12_all_3 : List UInt8 := [153, 0, 10, 42, 182, 0, 101, 167, 255, 243, 42, 42, 18, 104, 182, 0, 106, 18, 29, 159, 0, 7, 4]
abbrev dktX12_all_3 : List UInt8 := dkwX12_all_3 ++ dktX12_all_4
def dkwX12_all_2 : List UInt8 := [180, 0, 12, 27, 181, 0, 98, 42, 42, 16, 98, 182, 0, 88, 4, 182, 0, 60, 42, 16, 98, 182, 0, 88]
abbrev dktX12_all_2 : List UInt8 := dkwX12_all_2 ++ dktX12_all_3
def dkwX12_all_1 : List UInt8 := [182, 0, 71, 60, 42, 180, 0, 12, 42, 3, 16, 8, 182, 0, 92, 181, 0, 95, 42, 7, 182, 0, 67, 42]
abbrev dktX12_all_1 : List UInt8 := dkwX12_all_1 ++ dktX12_all_2
def dkwX12_all_0 : List UInt8 := [42, 182, 0, 64, 42, 42, 16, 108, 182, 0, 88, 4, 182, 0, 60, 42, 182, 0, 64, 42, 4, 16, 9]
abbrev dktX12_all_0 : List UInt8 := dkwX12_all_0 ++ dktX12_all_1
theorem dksX12_all_0 : cX12_all.data.toList.drop 0 = dktX12_all_0 := by decide +kernel
theorem dksX12_all_1 : cX12_all.data.toList.drop 23 = dktX12_all_1 := dk_seg dksX12_all_0 23 rfl rfl
theorem dksX12_all_2 : cX12_all.data.toList.drop 47 = dktX12_all_2 := dk_seg dksX12_all_1 24 rfl rfl
theorem dksX12_all_3 : cX12_all.data.toList.drop 71 = dktX12_all_3 := dk_seg dksX12_all_2 24 rfl rfl
theorem dksX12_all_4 : cX12_all.data.toList.drop 94 = dktX12_all_4 := dk_seg dksX12_all_3 23 rfl rfl
theorem dksX12_all_5 : cX12_all.data.toList.drop 117 = dktX12_all_5 := dk_seg dksX12_all_4 23 rfl rfl
theorem dX12_all_0 : decode cX12_all 0 = .ok (.aload_n 0, 1) := dk_42 (dk_at dksX12_all_0 0 rfl rfl)
theorem dX12_all_1 : decode cX12_all 1 = .ok (.invokevirtual 64, 3) := dk_182 0 64 (dk_at dksX12_all_0 1 rfl rfl)
theorem dX12_all_4 : decode cX12_all 4 = .ok (.aload_n 0, 1) := dk_42 (dk_at dksX12_all_0 4 rfl rfl)
theorem dX12_all_5 : decode cX12_all 5 = .ok (.aload_n 0, 1) := dk_42 (dk_at dksX12_all_0 5 rfl rfl)
theorem dX12_all_6 : decode cX12_all 6 = .ok (.bipush 108, 2) := dk_16 108 (dk_at dksX12_all_0 6 rfl rfl)
theorem dX12_all_8 : decode cX12_all 8 = .ok (.invokevirtual 88, 3) := dk_182 0 88 (dk_at dksX12_all_0 8 rfl rfl)
theorem dX12_all_11 : decode cX12_all 11 = .ok (.iconst 1, 1) := dk_4 (dk_at dksX12_all_0 11 rfl rfl)
theorem dX12_all_12 : decode cX12_all 12 = .ok (.invokevirtual 60, 3) := dk_182 0 60 (dk_at dksX12_all_0 12 rfl rfl)
theorem dX12_all_15 : decode cX12_all 15 = .ok (.aload_n 0, 1) := dk_42 (dk_at dksX12_all_0 15 rfl rfl)
theorem dX12_all_16 : decode cX12_all 16 = .ok (.invokevirtual 64, 3) := dk_182 0 64 (dk_at dksX12_all_0 16 rfl rfl)
theorem dX12_all_19 : decode cX12_all 19 = .ok (.aload_n 0, 1) := dk_42 (dk_at dksX12_all_0 19 rfl rfl)
theorem dX12_all_20 : decode cX12_all 20 = .ok (.iconst 1, 1) := dk_4 (dk_at dksX12_all_0 20 rfl rfl)
theorem dX12_all_21 : decode cX12_all 21 = .ok (.bipush 9, 2) := dk_16 9 (dk_at dksX12_all_0 21 rfl rfl)
theorem dX12_all_23 : decode cX12_all 23 = .ok (.invokevirtual 71, 3) := dk_182 0 71 (dk_at dksX12_all_1 0 rfl rfl)
theorem dX12_all_26 : decode cX12_all 26 = .ok (.istore_n 1, 1) := dk_60 (dk_at dksX12_all_1 3 rfl rfl)
theorem dX12_all_27 : decode cX12_all 27 = .ok (.aload_n 0, 1) := dk_42 (dk_at dksX12_all_1 4 rfl rfl)
theorem dX12_all_28 : decode cX12_all 28 = .ok (.getfield 12, 3) := dk_180 0 12 (dk_at dksX12_all_1 5 rfl rfl)
theorem dX12_all_31 : decode cX12_all 31 = .ok (.aload_n 0, 1) := dk_42 (dk_at dksX12_all_1 8 rfl rfl)
theorem dX12_all_32 : decode cX12_all 32 = .ok (.iconst 0, 1) := dk_3 (dk_at dksX12_all_1 9 rfl rfl)
theorem dX12_all_33 : decode cX12_all 33 = .ok (.bipush 8, 2) := dk_16 8 (dk_at dksX12_all_1 10 rfl rfl)
theorem dX12_all_35 : decode cX12_all 35 = .ok (.invokevirtual 92, 3) := dk_182 0 92 (dk_at dksX12_all_1 12 rfl rfl)
theorem dX12_all_38 : decode cX12_all 38 = .ok (.putfield 95, 3) := dk_181 0 95 (dk_at dksX12_all_1 15 rfl rfl)
theorem dX12_all_41 : decode cX12_all 41 = .ok (.aload_n 0, 1) := dk_42 (dk_at dksX12_all_1 18 rfl rfl)
theorem dX12_all_42 : decode cX12_all 42 = .ok (.iconst 4, 1) := dk_7 (dk_at dksX12_all_1 19 rfl rfl)
theorem dX12_all_43 : decode cX12_all 43 = .ok (.invokevirtual 67, 3) := dk_182 0 67 (dk_at dksX12_all_1 20 rfl rfl)
theorem dX12_all_46 : decode cX12_all 46 = .ok (.aload_n 0, 1) := dk_42 (dk_at dksX12_all_1 23 rfl rfl)
theorem dX12_all_47 : decode cX12_all 47 = .ok (.getfield 12, 3) := dk_180 0 12 (dk_at dksX12_all_2 0 rfl rfl)
theorem dX12_all_50 : decode cX12_all 50 = .ok (.iload_n 1, 1) := dk_27 (dk_at dksX12_all_2 3 rfl rfl)
theorem dX12_all_51 : decode cX12_all 51 = .ok (.putfield 98, 3) := dk_181 0 98 (dk_at dksX12_all_2 4 rfl rfl)
theorem dX12_all_54 : decode cX12_all 54 = .ok (.aload_n 0, 1) := dk_42 (dk_at dksX12_all_2 7 rfl rfl)
theorem dX12_all_55 : decode cX12_all 55 = .ok (.aload_n 0, 1) := dk_42 (dk_at dksX12_all_2 8 rfl rfl)
theorem dX12_all_56 : decode cX12_all 56 = .ok (.bipush 98, 2) := dk_16 98 (dk_at dksX12_all_2 9 rfl rfl)
theorem dX12_all_58 : decode cX12_all 58 = .ok (.invokevirtual 88, 3) := dk_182 0 88 (dk_at dksX12_all_2 11 rfl rfl)
theorem dX12_all_61 : decode cX12_all 61 = .ok (.iconst 1, 1) := dk_4 (dk_at dksX12_all_2 14 rfl rfl)
theorem dX12_all_62 : decode cX12_all 62 = .ok (.invokevirtual 60, 3) := dk_182 0 60 (dk_at dksX12_all_2 15 rfl rfl)
theorem dX12_all_65 : decode cX12_all 65 = .ok (.aload_n 0, 1) := dk_42 (dk_at dksX12_all_2 18 rfl rfl)
theorem dX12_all_66 : decode cX12_all 66 = .ok (.bipush 98, 2) := dk_16 98 (dk_at dksX12_all_2 19 rfl rfl)
theorem dX12_all_68 : decode cX12_all 68 = .ok (.invokevirtual 88, 3) := dk_182 0 88 (dk_at dksX12_all_2 21 rfl rfl)
theorem dX12_all_71 : decode cX12_all 71 = .ok (.ifCond .eq 10, 3) := dk_153 0 10 (dk_at dksX12_all_3 0 rfl rfl)
theorem dX12_all_74 : decode cX12_all 74 = .ok (.aload_n 0, 1) := dk_42 (dk_at dksX12_all_3 3 rfl rfl)
theorem dX12_all_75 : decode cX12_all 75 = .ok (.invokevirtual 101, 3) := dk_182 0 101 (dk_at dksX12_all_3 4 rfl rfl)
theorem dX12_all_78 : decode cX12_all 78 = .ok (.goto (-13), 3) := dk_167 255 243 (dk_at dksX12_all_3 7 rfl rfl)
theorem dX12_all_81 : decode cX12_all 81 = .ok (.aload_n 0, 1) := dk_42 (dk_at dksX12_all_3 10 rfl rfl)
theorem dX12_all_82 : decode cX12_all 82 = .ok (.aload_n 0, 1) := dk_42 (dk_at dksX12_all_3 11 rfl rfl)
theorem dX12_all_83 : decode cX12_all 83 = .ok (.ldc 104, 2) := dk_18 104 (dk_at dksX12_all_3 12 rfl rfl)
theorem dX12_all_85 : decode cX12_all 85 = .ok (.invokevirtual 106, 3) := dk_182 0 106 (dk_at dksX12_all_3 14 rfl rfl)
theorem dX12_all_88 : decode cX12_all 88 = .ok (.ldc 29, 2) := dk_18 29 (dk_at dksX12_all_3 17 rfl rfl)
theorem dX12_all_90 : decode cX12_all 90 = .ok (.if_icmp .eq 7, 3) := dk_159 0 7 (dk_at dksX12_all_3 19 rfl rfl)
theorem dX12_all_93 : decode cX12_all 93 = .ok (.iconst 1, 1) := dk_4 (dk_at dksX12_all_3 22 rfl rfl)
theorem dX12_all_94 : decode cX12_all 94 = .ok (.goto 4, 3) := dk_167 0 4 (dk_at dksX12_all_4 0 rfl rfl)
theorem dX12_all_97 : decode cX12_all 97 = .ok (.iconst 0, 1) := dk_3 (dk_at dksX12_all_4 3 rfl rfl)
theorem dX12_all_98 : decode cX12_all 98 = .ok (.iconst 1, 1) := dk_4 (dk_at dksX12_all_4 4 rfl rfl)
theorem dX12_all_99 : decode cX12_all 99 = .ok (.invokevirtual 60, 3) := dk_182 0 60 (dk_at dksX12_all_4 5 rfl rfl)
theorem dX12_all_102 : decode cX12_all 102 = .ok (.aload_n 0, 1) := dk_42 (dk_at dksX12_all_4 8 rfl rfl)
theorem dX12_all_103 : decode cX12_all 103 = .ok (.ldc 104, 2) := dk_18 104 (dk_at dksX12_all_4 9 rfl rfl)
theorem dX12_all_105 : decode cX12_all 105 = .ok (.invokevirtual 106, 3) := dk_182 0 106 (dk_at dksX12_all_4 11 rfl rfl)
theorem dX12_all_108 : decode cX12_all 108 = .ok (.ldc 29, 2) := dk_18 29 (dk_at dksX12_all_4 14 rfl rfl)
theorem dX12_all_110 : decode cX12_all 110 = .ok (.if_icmp .eq 10, 3) := dk_159 0 10 (dk_at dksX12_all_4 16 rfl rfl)
theorem dX12_all_113 : decode cX12_all 113 = .ok (.aload_n 0, 1) := dk_42 (dk_at dksX12_all_4 19 rfl rfl)
theorem dX12_all_114 : decode cX12_all 114 = .ok (.invokevirtual 110, 3) := dk_182 0 110 (dk_at dksX12_all_4 20 rfl rfl)
theorem dX12_all_117 : decode cX12_all 117 = .ok (.goto (-15), 3) := dk_167 255 241 (dk_at dksX12_all_5 0 rfl rfl)
theorem dX12_all_120 : decode cX12_all 120 = .ok (.aload_n 0, 1) := dk_42 (dk_at dksX12_all_5 3 rfl rfl)
theorem dX12_all_121 : decode cX12_all 121 = .ok (.aload_n 0, 1) := dk_42 (dk_at dksX12_all_5 4 rfl rfl)
theorem dX12_all_122 : decode cX12_all 122 = .ok (.getfield 40, 3) := dk_180 0 40 (dk_at dksX12_all_5 5 rfl rfl)
theorem dX12_all_125 : decode cX12_all 125 = .ok (.ifCond .ne 7, 3) := dk_154 0 7 (dk_at dksX12_all_5 8 rfl rfl)
theorem dX12_all_128 : decode cX12_all 128 = .ok (.iconst 1, 1) := dk_4 (dk_at dksX12_all_5 11 rfl rfl)
theorem dX12_all_129 : decode cX12_all 129 = .ok (.goto 4, 3) := dk_167 0 4 (dk_at dksX12_all_5 12 rfl rfl)
theorem dX12_all_132 : decode cX12_all 132 = .ok (.iconst 0, 1) := dk_3 (dk_at dksX12_all_5 15 rfl rfl)
theorem dX12_all_133 : decode cX12_all 133 = .ok (.iconst 1, 1) := dk_4 (dk_at dksX12_all_5 16 rfl rfl)
theorem dX12_all_134 : decode cX12_all 134 = .ok (.invokevirtual 60, 3) := dk_182 0 60 (dk_at dksX12_all_5 17 rfl rfl)
theorem dX12_all_137 : decode cX12_all 137 = .ok (.return_, 1) := dk_177 (dk_at dksX12_all_5 20 rfl rfl)
abbrev cX12_next : ByteArray := prog_10_method_3_code
def yX12_next : MethodName := ⟨RX12, "next", "()V"⟩
def dkwX12_next_8 : List UInt8 := [16, 59, 160, 0, 7, 7, 167, 0, 4, 8, 181, 0, 40, 177]
abbrev dktX12_next_8 : List UInt8 := dkwX12_next_8 ++ []
def dkwX12_next_7 : List UInt8 := [20, 0, 53, 184, 0, 47, 153, 0, 7, 4, 167, 0, 24, 27, 16, 44, 160, 0, 7, 6, 167, 0, 14, 27]
abbrev dktX12_next_7 : List UInt8 := dkwX12_next_7 ++ dktX12_next_8
def dkwX12_next_6 : List UInt8 := [181, 0, 40, 167, 0, 56, 42, 89, 180, 0, 26, 4, 96, 181, 0, 26, 42, 27, 133, 20, 0, 51]
abbrev dktX12_next_6 : List UInt8 := dkwX12_next_6 ++ dktX12_next_7
def dkwX12_next_5 : List UInt8 := [167, 255, 190, 42, 42, 180, 0, 26, 42, 180, 0, 30, 100, 5, 163, 0, 7, 5, 167, 0, 4, 8]
abbrev dktX12_next_5 : List UInt8 := dkwX12_next_5 ++ dktX12_next_6
def dkwX12_next_4 : List UInt8 := [16, 48, 100, 167, 0, 7, 42, 180, 0, 37, 181, 0, 37, 42, 89, 180, 0, 26, 4, 96, 181, 0, 26]
abbrev dktX12_next_4 : List UInt8 := dkwX12_next_4 ++ dktX12_next_5
def dkwX12_next_3 : List UInt8 := [180, 0, 26, 42, 180, 0, 30, 100, 5, 162, 0, 21, 16, 10, 42, 180, 0, 37, 104, 42, 182, 0, 33, 96]
abbrev dktX12_next_3 : List UInt8 := dkwX12_next_3 ++ dktX12_next_4
def dkwX12_next_2 : List UInt8 := [181, 0, 37, 42, 182, 0, 33, 133, 20, 0, 43, 20, 0, 45, 184, 0, 47, 153, 0, 55, 42, 42]
abbrev dktX12_next_2 : List UInt8 := dkwX12_next_2 ++ dktX12_next_3
def dkwX12_next_1 : List UInt8 := [42, 3, 181, 0, 40, 167, 0, 169, 27, 133, 20, 0, 43, 20, 0, 45, 184, 0, 47, 153, 0, 102, 42, 3]
abbrev dktX12_next_1 : List UInt8 := dkwX12_next_1 ++ dktX12_next_2
def dkwX12_next_0 : List UInt8 := [42, 42, 180, 0, 26, 181, 0, 30, 42, 182, 0, 33, 60, 42, 27, 181, 0, 37, 27, 18, 29, 160, 0, 11]
abbrev dktX12_next_0 : List UInt8 := dkwX12_next_0 ++ dktX12_next_1
theorem dksX12_next_0 : cX12_next.data.toList.drop 0 = dktX12_next_0 := by decide +kernel
theorem dksX12_next_1 : cX12_next.data.toList.drop 24 = dktX12_next_1 := dk_seg dksX12_next_0 24 rfl rfl
theorem dksX12_next_2 : cX12_next.data.toList.drop 48 = dktX12_next_2 := dk_seg dksX12_next_1 24 rfl rfl
theorem dksX12_next_3 : cX12_next.data.toList.drop 70 = dktX12_next_3 := dk_seg dksX12_next_2 22 rfl rfl
theorem dksX12_next_4 : cX12_next.data.toList.drop 94 = dktX12_next_4 := dk_seg dksX12_next_3 24 rfl rfl
theorem dksX12_next_5 : cX12_next.data.toList.drop 117 = dktX12_next_5 := dk_seg dksX12_next_4 23 rfl rfl
theorem dksX12_next_6 : cX12_next.data.toList.drop 139 = dktX12_next_6 := dk_seg dksX12_next_5 22 rfl rfl
theorem dksX12_next_7 : cX12_next.data.toList.drop 161 = dktX12_next_7 := dk_seg dksX12_next_6 22 rfl rfl
theorem dksX12_next_8 : cX12_next.data.toList.drop 185 = dktX12_next_8 := dk_seg dksX12_next_7 24 rfl rfl
theorem dX12_next_0 : decode cX12_next 0 = .ok (.aload_n 0, 1) := dk_42 (dk_at dksX12_next_0 0 rfl rfl)
theorem dX12_next_1 : decode cX12_next 1 = .ok (.aload_n 0, 1) := dk_42 (dk_at dksX12_next_0 1 rfl rfl)
theorem dX12_next_2 : decode cX12_next 2 = .ok (.getfield 26, 3) := dk_180 0 26 (dk_at dksX12_next_0 2 rfl rfl)
theorem dX12_next_5 : decode cX12_next 5 = .ok (.putfield 30, 3) := dk_181 0 30 (dk_at dksX12_next_0 5 rfl rfl)
theorem dX12_next_8 : decode cX12_next 8 = .ok (.aload_n 0, 1) := dk_42 (dk_at dksX12_next_0 8 rfl rfl)
theorem dX12_next_9 : decode cX12_next 9 = .ok (.invokevirtual 33, 3) := dk_182 0 33 (dk_at dksX12_next_0 9 rfl rfl)
theorem dX12_next_12 : decode cX12_next 12 = .ok (.istore_n 1, 1) := dk_60 (dk_at dksX12_next_0 12 rfl rfl)
theorem dX12_next_13 : decode cX12_next 13 = .ok (.aload_n 0, 1) := dk_42 (dk_at dksX12_next_0 13 rfl rfl)
theorem dX12_next_14 : decode cX12_next 14 = .ok (.iload_n 1, 1) := dk_27 (dk_at dksX12_next_0 14 rfl rfl)
theorem dX12_next_15 : decode cX12_next 15 = .ok (.putfield 37, 3) := dk_181 0 37 (dk_at dksX12_next_0 15 rfl rfl)
theorem dX12_next_18 : decode cX12_next 18 = .ok (.iload_n 1, 1) := dk_27 (dk_at dksX12_next_0 18 rfl rfl)
theorem dX12_next_19 : decode cX12_next 19 = .ok (.ldc 29, 2) := dk_18 29 (dk_at dksX12_next_0 19 rfl rfl)
theorem dX12_next_21 : decode cX12_next 21 = .ok (.if_icmp .ne 11, 3) := dk_160 0 11 (dk_at dksX12_next_0 21 rfl rfl)
theorem dX12_next_24 : decode cX12_next 24 = .ok (.aload_n 0, 1) := dk_42 (dk_at dksX12_next_1 0 rfl rfl)
theorem dX12_next_25 : decode cX12_next 25 = .ok (.iconst 0, 1) := dk_3 (dk_at dksX12_next_1 1 rfl rfl)
theorem dX12_next_26 : decode cX12_next 26 = .ok (.putfield 40, 3) := dk_181 0 40 (dk_at dksX12_next_1 2 rfl rfl)
theorem dX12_next_29 : decode cX12_next 29 = .ok (.goto 169, 3) := dk_167 0 169 (dk_at dksX12_next_1 5 rfl rfl)
theorem dX12_next_32 : decode cX12_next 32 = .ok (.iload_n 1, 1) := dk_27 (dk_at dksX12_next_1 8 rfl rfl)
theorem dX12_next_33 : decode cX12_next 33 = .ok (.i2l, 1) := dk_133 (dk_at dksX12_next_1 9 rfl rfl)
theorem dX12_next_34 : decode cX12_next 34 = .ok (.ldc2_w 43, 3) := dk_20 0 43 (dk_at dksX12_next_1 10 rfl rfl)
theorem dX12_next_37 : decode cX12_next 37 = .ok (.ldc2_w 45, 3) := dk_20 0 45 (dk_at dksX12_next_1 13 rfl rfl)
theorem dX12_next_40 : decode cX12_next 40 = .ok (.invokestatic 47, 3) := dk_184 0 47 (dk_at dksX12_next_1 16 rfl rfl)
theorem dX12_next_43 : decode cX12_next 43 = .ok (.ifCond .eq 102, 3) := dk_153 0 102 (dk_at dksX12_next_1 19 rfl rfl)
theorem dX12_next_46 : decode cX12_next 46 = .ok (.aload_n 0, 1) := dk_42 (dk_at dksX12_next_1 22 rfl rfl)
theorem dX12_next_47 : decode cX12_next 47 = .ok (.iconst 0, 1) := dk_3 (dk_at dksX12_next_1 23 rfl rfl)
theorem dX12_next_48 : decode cX12_next 48 = .ok (.putfield 37, 3) := dk_181 0 37 (dk_at dksX12_next_2 0 rfl rfl)
theorem dX12_next_51 : decode cX12_next 51 = .ok (.aload_n 0, 1) := dk_42 (dk_at dksX12_next_2 3 rfl rfl)
theorem dX12_next_52 : decode cX12_next 52 = .ok (.invokevirtual 33, 3) := dk_182 0 33 (dk_at dksX12_next_2 4 rfl rfl)
theorem dX12_next_55 : decode cX12_next 55 = .ok (.i2l, 1) := dk_133 (dk_at dksX12_next_2 7 rfl rfl)
theorem dX12_next_56 : decode cX12_next 56 = .ok (.ldc2_w 43, 3) := dk_20 0 43 (dk_at dksX12_next_2 8 rfl rfl)
theorem dX12_next_59 : decode cX12_next 59 = .ok (.ldc2_w 45, 3) := dk_20 0 45 (dk_at dksX12_next_2 11 rfl rfl)
theorem dX12_next_62 : decode cX12_next 62 = .ok (.invokestatic 47, 3) := dk_184 0 47 (dk_at dksX12_next_2 14 rfl rfl)
theorem dX12_next_65 : decode cX12_next 65 = .ok (.ifCond .eq 55, 3) := dk_153 0 55 (dk_at dksX12_next_2 17 rfl rfl)
theorem dX12_next_68 : decode cX12_next 68 = .ok (.aload_n 0, 1) := dk_42 (dk_at dksX12_next_2 20 rfl rfl)
theorem dX12_next_69 : decode cX12_next 69 = .ok (.aload_n 0, 1) := dk_42 (dk_at dksX12_next_2 21 rfl rfl)
theorem dX12_next_70 : decode cX12_next 70 = .ok (.getfield 26, 3) := dk_180 0 26 (dk_at dksX12_next_3 0 rfl rfl)
theorem dX12_next_73 : decode cX12_next 73 = .ok (.aload_n 0, 1) := dk_42 (dk_at dksX12_next_3 3 rfl rfl)
theorem dX12_next_74 : decode cX12_next 74 = .ok (.getfield 30, 3) := dk_180 0 30 (dk_at dksX12_next_3 4 rfl rfl)
theorem dX12_next_77 : decode cX12_next 77 = .ok (.isub, 1) := dk_100 (dk_at dksX12_next_3 7 rfl rfl)
theorem dX12_next_78 : decode cX12_next 78 = .ok (.iconst 2, 1) := dk_5 (dk_at dksX12_next_3 8 rfl rfl)
theorem dX12_next_79 : decode cX12_next 79 = .ok (.if_icmp .ge 21, 3) := dk_162 0 21 (dk_at dksX12_next_3 9 rfl rfl)
theorem dX12_next_82 : decode cX12_next 82 = .ok (.bipush 10, 2) := dk_16 10 (dk_at dksX12_next_3 12 rfl rfl)
theorem dX12_next_84 : decode cX12_next 84 = .ok (.aload_n 0, 1) := dk_42 (dk_at dksX12_next_3 14 rfl rfl)
theorem dX12_next_85 : decode cX12_next 85 = .ok (.getfield 37, 3) := dk_180 0 37 (dk_at dksX12_next_3 15 rfl rfl)
theorem dX12_next_88 : decode cX12_next 88 = .ok (.imul, 1) := dk_104 (dk_at dksX12_next_3 18 rfl rfl)
theorem dX12_next_89 : decode cX12_next 89 = .ok (.aload_n 0, 1) := dk_42 (dk_at dksX12_next_3 19 rfl rfl)
theorem dX12_next_90 : decode cX12_next 90 = .ok (.invokevirtual 33, 3) := dk_182 0 33 (dk_at dksX12_next_3 20 rfl rfl)
theorem dX12_next_93 : decode cX12_next 93 = .ok (.iadd, 1) := dk_96 (dk_at dksX12_next_3 23 rfl rfl)
theorem dX12_next_94 : decode cX12_next 94 = .ok (.bipush 48, 2) := dk_16 48 (dk_at dksX12_next_4 0 rfl rfl)
theorem dX12_next_96 : decode cX12_next 96 = .ok (.isub, 1) := dk_100 (dk_at dksX12_next_4 2 rfl rfl)
theorem dX12_next_97 : decode cX12_next 97 = .ok (.goto 7, 3) := dk_167 0 7 (dk_at dksX12_next_4 3 rfl rfl)
theorem dX12_next_100 : decode cX12_next 100 = .ok (.aload_n 0, 1) := dk_42 (dk_at dksX12_next_4 6 rfl rfl)
theorem dX12_next_101 : decode cX12_next 101 = .ok (.getfield 37, 3) := dk_180 0 37 (dk_at dksX12_next_4 7 rfl rfl)
theorem dX12_next_104 : decode cX12_next 104 = .ok (.putfield 37, 3) := dk_181 0 37 (dk_at dksX12_next_4 10 rfl rfl)
theorem dX12_next_107 : decode cX12_next 107 = .ok (.aload_n 0, 1) := dk_42 (dk_at dksX12_next_4 13 rfl rfl)
theorem dX12_next_108 : decode cX12_next 108 = .ok (.dup, 1) := dk_89 (dk_at dksX12_next_4 14 rfl rfl)
theorem dX12_next_109 : decode cX12_next 109 = .ok (.getfield 26, 3) := dk_180 0 26 (dk_at dksX12_next_4 15 rfl rfl)
theorem dX12_next_112 : decode cX12_next 112 = .ok (.iconst 1, 1) := dk_4 (dk_at dksX12_next_4 18 rfl rfl)
theorem dX12_next_113 : decode cX12_next 113 = .ok (.iadd, 1) := dk_96 (dk_at dksX12_next_4 19 rfl rfl)
theorem dX12_next_114 : decode cX12_next 114 = .ok (.putfield 26, 3) := dk_181 0 26 (dk_at dksX12_next_4 20 rfl rfl)
theorem dX12_next_117 : decode cX12_next 117 = .ok (.goto (-66), 3) := dk_167 255 190 (dk_at dksX12_next_5 0 rfl rfl)
theorem dX12_next_120 : decode cX12_next 120 = .ok (.aload_n 0, 1) := dk_42 (dk_at dksX12_next_5 3 rfl rfl)
theorem dX12_next_121 : decode cX12_next 121 = .ok (.aload_n 0, 1) := dk_42 (dk_at dksX12_next_5 4 rfl rfl)
theorem dX12_next_122 : decode cX12_next 122 = .ok (.getfield 26, 3) := dk_180 0 26 (dk_at dksX12_next_5 5 rfl rfl)
theorem dX12_next_125 : decode cX12_next 125 = .ok (.aload_n 0, 1) := dk_42 (dk_at dksX12_next_5 8 rfl rfl)
theorem dX12_next_126 : decode cX12_next 126 = .ok (.getfield 30, 3) := dk_180 0 30 (dk_at dksX12_next_5 9 rfl rfl)
theorem dX12_next_129 : decode cX12_next 129 = .ok (.isub, 1) := dk_100 (dk_at dksX12_next_5 12 rfl rfl)
theorem dX12_next_130 : decode cX12_next 130 = .ok (.iconst 2, 1) := dk_5 (dk_at dksX12_next_5 13 rfl rfl)
theorem dX12_next_131 : decode cX12_next 131 = .ok (.if_icmp .gt 7, 3) := dk_163 0 7 (dk_at dksX12_next_5 14 rfl rfl)
theorem dX12_next_134 : decode cX12_next 134 = .ok (.iconst 2, 1) := dk_5 (dk_at dksX12_next_5 17 rfl rfl)
theorem dX12_next_135 : decode cX12_next 135 = .ok (.goto 4, 3) := dk_167 0 4 (dk_at dksX12_next_5 18 rfl rfl)
theorem dX12_next_138 : decode cX12_next 138 = .ok (.iconst 5, 1) := dk_8 (dk_at dksX12_next_5 21 rfl rfl)
theorem dX12_next_139 : decode cX12_next 139 = .ok (.putfield 40, 3) := dk_181 0 40 (dk_at dksX12_next_6 0 rfl rfl)
theorem dX12_next_142 : decode cX12_next 142 = .ok (.goto 56, 3) := dk_167 0 56 (dk_at dksX12_next_6 3 rfl rfl)
theorem dX12_next_145 : decode cX12_next 145 = .ok (.aload_n 0, 1) := dk_42 (dk_at dksX12_next_6 6 rfl rfl)
theorem dX12_next_146 : decode cX12_next 146 = .ok (.dup, 1) := dk_89 (dk_at dksX12_next_6 7 rfl rfl)
theorem dX12_next_147 : decode cX12_next 147 = .ok (.getfield 26, 3) := dk_180 0 26 (dk_at dksX12_next_6 8 rfl rfl)
theorem dX12_next_150 : decode cX12_next 150 = .ok (.iconst 1, 1) := dk_4 (dk_at dksX12_next_6 11 rfl rfl)
theorem dX12_next_151 : decode cX12_next 151 = .ok (.iadd, 1) := dk_96 (dk_at dksX12_next_6 12 rfl rfl)
theorem dX12_next_152 : decode cX12_next 152 = .ok (.putfield 26, 3) := dk_181 0 26 (dk_at dksX12_next_6 13 rfl rfl)
theorem dX12_next_155 : decode cX12_next 155 = .ok (.aload_n 0, 1) := dk_42 (dk_at dksX12_next_6 16 rfl rfl)
theorem dX12_next_156 : decode cX12_next 156 = .ok (.iload_n 1, 1) := dk_27 (dk_at dksX12_next_6 17 rfl rfl)
theorem dX12_next_157 : decode cX12_next 157 = .ok (.i2l, 1) := dk_133 (dk_at dksX12_next_6 18 rfl rfl)
theorem dX12_next_158 : decode cX12_next 158 = .ok (.ldc2_w 51, 3) := dk_20 0 51 (dk_at dksX12_next_6 19 rfl rfl)
theorem dX12_next_161 : decode cX12_next 161 = .ok (.ldc2_w 53, 3) := dk_20 0 53 (dk_at dksX12_next_7 0 rfl rfl)
theorem dX12_next_164 : decode cX12_next 164 = .ok (.invokestatic 47, 3) := dk_184 0 47 (dk_at dksX12_next_7 3 rfl rfl)
theorem dX12_next_167 : decode cX12_next 167 = .ok (.ifCond .eq 7, 3) := dk_153 0 7 (dk_at dksX12_next_7 6 rfl rfl)
theorem dX12_next_170 : decode cX12_next 170 = .ok (.iconst 1, 1) := dk_4 (dk_at dksX12_next_7 9 rfl rfl)
theorem dX12_next_171 : decode cX12_next 171 = .ok (.goto 24, 3) := dk_167 0 24 (dk_at dksX12_next_7 10 rfl rfl)
theorem dX12_next_174 : decode cX12_next 174 = .ok (.iload_n 1, 1) := dk_27 (dk_at dksX12_next_7 13 rfl rfl)
theorem dX12_next_175 : decode cX12_next 175 = .ok (.bipush 44, 2) := dk_16 44 (dk_at dksX12_next_7 14 rfl rfl)
theorem dX12_next_177 : decode cX12_next 177 = .ok (.if_icmp .ne 7, 3) := dk_160 0 7 (dk_at dksX12_next_7 16 rfl rfl)
theorem dX12_next_180 : decode cX12_next 180 = .ok (.iconst 3, 1) := dk_6 (dk_at dksX12_next_7 19 rfl rfl)
theorem dX12_next_181 : decode cX12_next 181 = .ok (.goto 14, 3) := dk_167 0 14 (dk_at dksX12_next_7 20 rfl rfl)
theorem dX12_next_184 : decode cX12_next 184 = .ok (.iload_n 1, 1) := dk_27 (dk_at dksX12_next_7 23 rfl rfl)
theorem dX12_next_185 : decode cX12_next 185 = .ok (.bipush 59, 2) := dk_16 59 (dk_at dksX12_next_8 0 rfl rfl)
theorem dX12_next_187 : decode cX12_next 187 = .ok (.if_icmp .ne 7, 3) := dk_160 0 7 (dk_at dksX12_next_8 2 rfl rfl)
theorem dX12_next_190 : decode cX12_next 190 = .ok (.iconst 4, 1) := dk_7 (dk_at dksX12_next_8 5 rfl rfl)
theorem dX12_next_191 : decode cX12_next 191 = .ok (.goto 4, 3) := dk_167 0 4 (dk_at dksX12_next_8 6 rfl rfl)
theorem dX12_next_194 : decode cX12_next 194 = .ok (.iconst 5, 1) := dk_8 (dk_at dksX12_next_8 9 rfl rfl)
theorem dX12_next_195 : decode cX12_next 195 = .ok (.putfield 40, 3) := dk_181 0 40 (dk_at dksX12_next_8 10 rfl rfl)
theorem dX12_next_198 : decode cX12_next 198 = .ok (.return_, 1) := dk_177 (dk_at dksX12_next_8 13 rfl rfl)
abbrev cX12_look : ByteArray := prog_10_method_2_code
def yX12_look : MethodName := ⟨RX12, "look", "()I"⟩
def dkwX12_look_1 : List UInt8 := [167, 0, 5, 18, 29, 172]
abbrev dktX12_look_1 : List UInt8 := dkwX12_look_1 ++ []
def dkwX12_look_0 : List UInt8 := [42, 180, 0, 26, 42, 180, 0, 22, 162, 0, 19, 42, 180, 0, 18, 42, 180, 0, 26, 51, 17, 0, 255, 126]
abbrev dktX12_look_0 : List UInt8 := dkwX12_look_0 ++ dktX12_look_1
theorem dksX12_look_0 : cX12_look.data.toList.drop 0 = dktX12_look_0 := by decide +kernel
theorem dksX12_look_1 : cX12_look.data.toList.drop 24 = dktX12_look_1 := dk_seg dksX12_look_0 24 rfl rfl
theorem dX12_look_0 : decode cX12_look 0 = .ok (.aload_n 0, 1) := dk_42 (dk_at dksX12_look_0 0 rfl rfl)
theorem dX12_look_1 : decode cX12_look 1 = .ok (.getfield 26, 3) := dk_180 0 26 (dk_at dksX12_look_0 1 rfl rfl)
theorem dX12_look_4 : decode cX12_look 4 = .ok (.aload_n 0, 1) := dk_42 (dk_at dksX12_look_0 4 rfl rfl)
theorem dX12_look_5 : decode cX12_look 5 = .ok (.getfield 22, 3) := dk_180 0 22 (dk_at dksX12_look_0 5 rfl rfl)
theorem dX12_look_8 : decode cX12_look 8 = .ok (.if_icmp .ge 19, 3) := dk_162 0 19 (dk_at dksX12_look_0 8 rfl rfl)
theorem dX12_look_11 : decode cX12_look 11 = .ok (.aload_n 0, 1) := dk_42 (dk_at dksX12_look_0 11 rfl rfl)
theorem dX12_look_12 : decode cX12_look 12 = .ok (.getfield 18, 3) := dk_180 0 18 (dk_at dksX12_look_0 12 rfl rfl)
theorem dX12_look_15 : decode cX12_look 15 = .ok (.aload_n 0, 1) := dk_42 (dk_at dksX12_look_0 15 rfl rfl)
theorem dX12_look_16 : decode cX12_look 16 = .ok (.getfield 26, 3) := dk_180 0 26 (dk_at dksX12_look_0 16 rfl rfl)
theorem dX12_look_19 : decode cX12_look 19 = .ok (.baload, 1) := dk_51 (dk_at dksX12_look_0 19 rfl rfl)
theorem dX12_look_20 : decode cX12_look 20 = .ok (.sipush 255, 3) := dk_17 0 255 (dk_at dksX12_look_0 20 rfl rfl)
theorem dX12_look_23 : decode cX12_look 23 = .ok (.iand, 1) := dk_126 (dk_at dksX12_look_0 23 rfl rfl)
theorem dX12_look_24 : decode cX12_look 24 = .ok (.goto 5, 3) := dk_167 0 5 (dk_at dksX12_look_1 0 rfl rfl)
theorem dX12_look_27 : decode cX12_look 27 = .ok (.ldc 29, 2) := dk_18 29 (dk_at dksX12_look_1 3 rfl rfl)
theorem dX12_look_29 : decode cX12_look 29 = .ok (.ireturn, 1) := dk_172 (dk_at dksX12_look_1 5 rfl rfl)
abbrev cX12_isLetter : ByteArray := prog_10_method_5_code
def yX12_isLetter : MethodName := ⟨RX12, "isLetter", "(I)Z"⟩
def dkwX12_isLetter_0 : List UInt8 := [42, 180, 0, 40, 4, 160, 0, 15, 42, 180, 0, 37, 27, 160, 0, 7, 4, 167, 0, 4, 3, 172]
abbrev dktX12_isLetter_0 : List UInt8 := dkwX12_isLetter_0 ++ []
theorem dksX12_isLetter_0 : cX12_isLetter.data.toList.drop 0 = dktX12_isLetter_0 := by decide +kernel
theorem dX12_isLetter_0 : decode cX12_isLetter 0 = .ok (.aload_n 0, 1) := dk_42 (dk_at dksX12_isLetter_0 0 rfl rfl)
theorem dX12_isLetter_1 : decode cX12_isLetter 1 = .ok (.getfield 40, 3) := dk_180 0 40 (dk_at dksX12_isLetter_0 1 rfl rfl)
theorem dX12_isLetter_4 : decode cX12_isLetter 4 = .ok (.iconst 1, 1) := dk_4 (dk_at dksX12_isLetter_0 4 rfl rfl)
theorem dX12_isLetter_5 : decode cX12_isLetter 5 = .ok (.if_icmp .ne 15, 3) := dk_160 0 15 (dk_at dksX12_isLetter_0 5 rfl rfl)
theorem dX12_isLetter_8 : decode cX12_isLetter 8 = .ok (.aload_n 0, 1) := dk_42 (dk_at dksX12_isLetter_0 8 rfl rfl)
theorem dX12_isLetter_9 : decode cX12_isLetter 9 = .ok (.getfield 37, 3) := dk_180 0 37 (dk_at dksX12_isLetter_0 9 rfl rfl)
theorem dX12_isLetter_12 : decode cX12_isLetter 12 = .ok (.iload_n 1, 1) := dk_27 (dk_at dksX12_isLetter_0 12 rfl rfl)
theorem dX12_isLetter_13 : decode cX12_isLetter 13 = .ok (.if_icmp .ne 7, 3) := dk_160 0 7 (dk_at dksX12_isLetter_0 13 rfl rfl)
theorem dX12_isLetter_16 : decode cX12_isLetter 16 = .ok (.iconst 1, 1) := dk_4 (dk_at dksX12_isLetter_0 16 rfl rfl)
theorem dX12_isLetter_17 : decode cX12_isLetter 17 = .ok (.goto 4, 3) := dk_167 0 4 (dk_at dksX12_isLetter_0 17 rfl rfl)
theorem dX12_isLetter_20 : decode cX12_isLetter 20 = .ok (.iconst 0, 1) := dk_3 (dk_at dksX12_isLetter_0 20 rfl rfl)
theorem dX12_isLetter_21 : decode cX12_isLetter 21 = .ok (.ireturn, 1) := dk_172 (dk_at dksX12_isLetter_0 21 rfl rfl)
abbrev cX12_must : ByteArray := prog_10_method_4_code
def yX12_must : MethodName := ⟨RX12, "must", "(ZI)V"⟩
def dkwX12_must_0 : List UInt8 := [27, 154, 0, 16, 187, 0, 55, 89, 28, 42, 180, 0, 30, 183, 0, 57, 191, 177]
abbrev dktX12_must_0 : List UInt8 := dkwX12_must_0 ++ []
theorem dksX12_must_0 : cX12_must.data.toList.drop 0 = dktX12_must_0 := by decide +kernel
theorem dX12_must_0 : decode cX12_must 0 = .ok (.iload_n 1, 1) := dk_27 (dk_at dksX12_must_0 0 rfl rfl)
theorem dX12_must_1 : decode cX12_must 1 = .ok (.ifCond .ne 16, 3) := dk_154 0 16 (dk_at dksX12_must_0 1 rfl rfl)
theorem dX12_must_4 : decode cX12_must 4 = .ok (.new 55, 3) := dk_187 0 55 (dk_at dksX12_must_0 4 rfl rfl)
theorem dX12_must_7 : decode cX12_must 7 = .ok (.dup, 1) := dk_89 (dk_at dksX12_must_0 7 rfl rfl)
theorem dX12_must_8 : decode cX12_must 8 = .ok (.iload_n 2, 1) := dk_28 (dk_at dksX12_must_0 8 rfl rfl)
theorem dX12_must_9 : decode cX12_must 9 = .ok (.aload_n 0, 1) := dk_42 (dk_at dksX12_must_0 9 rfl rfl)
theorem dX12_must_10 : decode cX12_must 10 = .ok (.getfield 30, 3) := dk_180 0 30 (dk_at dksX12_must_0 10 rfl rfl)
theorem dX12_must_13 : decode cX12_must 13 = .ok (.invokespecial 57, 3) := dk_183 0 57 (dk_at dksX12_must_0 13 rfl rfl)
theorem dX12_must_16 : decode cX12_must 16 = .ok (.athrow, 1) := dk_191 (dk_at dksX12_must_0 16 rfl rfl)
theorem dX12_must_17 : decode cX12_must 17 = .ok (.return_, 1) := dk_177 (dk_at dksX12_must_0 17 rfl rfl)
abbrev cX12_figure : ByteArray := prog_10_method_6_code
def yX12_figure : MethodName := ⟨RX12, "figure", "(II)I"⟩
def dkwX12_figure_1 : List UInt8 := [27, 133, 28, 133, 184, 0, 47, 5, 182, 0, 60, 42, 180, 0, 37, 62, 42, 182, 0, 64, 29, 172]
abbrev dktX12_figure_1 : List UInt8 := dkwX12_figure_1 ++ []
def dkwX12_figure_0 : List UInt8 := [42, 42, 180, 0, 40, 5, 160, 0, 7, 4, 167, 0, 4, 3, 4, 182, 0, 60, 42, 42, 180, 0, 37, 133]
abbrev dktX12_figure_0 : List UInt8 := dkwX12_figure_0 ++ dktX12_figure_1
theorem dksX12_figure_0 : cX12_figure.data.toList.drop 0 = dktX12_figure_0 := by decide +kernel
theorem dksX12_figure_1 : cX12_figure.data.toList.drop 24 = dktX12_figure_1 := dk_seg dksX12_figure_0 24 rfl rfl
theorem dX12_figure_0 : decode cX12_figure 0 = .ok (.aload_n 0, 1) := dk_42 (dk_at dksX12_figure_0 0 rfl rfl)
theorem dX12_figure_1 : decode cX12_figure 1 = .ok (.aload_n 0, 1) := dk_42 (dk_at dksX12_figure_0 1 rfl rfl)
theorem dX12_figure_2 : decode cX12_figure 2 = .ok (.getfield 40, 3) := dk_180 0 40 (dk_at dksX12_figure_0 2 rfl rfl)
theorem dX12_figure_5 : decode cX12_figure 5 = .ok (.iconst 2, 1) := dk_5 (dk_at dksX12_figure_0 5 rfl rfl)
theorem dX12_figure_6 : decode cX12_figure 6 = .ok (.if_icmp .ne 7, 3) := dk_160 0 7 (dk_at dksX12_figure_0 6 rfl rfl)
theorem dX12_figure_9 : decode cX12_figure 9 = .ok (.iconst 1, 1) := dk_4 (dk_at dksX12_figure_0 9 rfl rfl)
theorem dX12_figure_10 : decode cX12_figure 10 = .ok (.goto 4, 3) := dk_167 0 4 (dk_at dksX12_figure_0 10 rfl rfl)
theorem dX12_figure_13 : decode cX12_figure 13 = .ok (.iconst 0, 1) := dk_3 (dk_at dksX12_figure_0 13 rfl rfl)
theorem dX12_figure_14 : decode cX12_figure 14 = .ok (.iconst 1, 1) := dk_4 (dk_at dksX12_figure_0 14 rfl rfl)
theorem dX12_figure_15 : decode cX12_figure 15 = .ok (.invokevirtual 60, 3) := dk_182 0 60 (dk_at dksX12_figure_0 15 rfl rfl)
theorem dX12_figure_18 : decode cX12_figure 18 = .ok (.aload_n 0, 1) := dk_42 (dk_at dksX12_figure_0 18 rfl rfl)
theorem dX12_figure_19 : decode cX12_figure 19 = .ok (.aload_n 0, 1) := dk_42 (dk_at dksX12_figure_0 19 rfl rfl)
theorem dX12_figure_20 : decode cX12_figure 20 = .ok (.getfield 37, 3) := dk_180 0 37 (dk_at dksX12_figure_0 20 rfl rfl)
theorem dX12_figure_23 : decode cX12_figure 23 = .ok (.i2l, 1) := dk_133 (dk_at dksX12_figure_0 23 rfl rfl)
theorem dX12_figure_24 : decode cX12_figure 24 = .ok (.iload_n 1, 1) := dk_27 (dk_at dksX12_figure_1 0 rfl rfl)
theorem dX12_figure_25 : decode cX12_figure 25 = .ok (.i2l, 1) := dk_133 (dk_at dksX12_figure_1 1 rfl rfl)
theorem dX12_figure_26 : decode cX12_figure 26 = .ok (.iload_n 2, 1) := dk_28 (dk_at dksX12_figure_1 2 rfl rfl)
theorem dX12_figure_27 : decode cX12_figure 27 = .ok (.i2l, 1) := dk_133 (dk_at dksX12_figure_1 3 rfl rfl)
theorem dX12_figure_28 : decode cX12_figure 28 = .ok (.invokestatic 47, 3) := dk_184 0 47 (dk_at dksX12_figure_1 4 rfl rfl)
theorem dX12_figure_31 : decode cX12_figure 31 = .ok (.iconst 2, 1) := dk_5 (dk_at dksX12_figure_1 7 rfl rfl)
theorem dX12_figure_32 : decode cX12_figure 32 = .ok (.invokevirtual 60, 3) := dk_182 0 60 (dk_at dksX12_figure_1 8 rfl rfl)
theorem dX12_figure_35 : decode cX12_figure 35 = .ok (.aload_n 0, 1) := dk_42 (dk_at dksX12_figure_1 11 rfl rfl)
theorem dX12_figure_36 : decode cX12_figure 36 = .ok (.getfield 37, 3) := dk_180 0 37 (dk_at dksX12_figure_1 12 rfl rfl)
theorem dX12_figure_39 : decode cX12_figure 39 = .ok (.istore_n 3, 1) := dk_62 (dk_at dksX12_figure_1 15 rfl rfl)
theorem dX12_figure_40 : decode cX12_figure 40 = .ok (.aload_n 0, 1) := dk_42 (dk_at dksX12_figure_1 16 rfl rfl)
theorem dX12_figure_41 : decode cX12_figure 41 = .ok (.invokevirtual 64, 3) := dk_182 0 64 (dk_at dksX12_figure_1 17 rfl rfl)
theorem dX12_figure_44 : decode cX12_figure 44 = .ok (.iload_n 3, 1) := dk_29 (dk_at dksX12_figure_1 20 rfl rfl)
theorem dX12_figure_45 : decode cX12_figure 45 = .ok (.ireturn, 1) := dk_172 (dk_at dksX12_figure_1 21 rfl rfl)
abbrev cX12_more : ByteArray := prog_10_method_7_code
def yX12_more : MethodName := ⟨RX12, "more", "(II)I"⟩
def dkwX12_more_0 : List UInt8 := [42, 6, 182, 0, 67, 42, 27, 28, 182, 0, 71, 172]
abbrev dktX12_more_0 : List UInt8 := dkwX12_more_0 ++ []
theorem dksX12_more_0 : cX12_more.data.toList.drop 0 = dktX12_more_0 := by decide +kernel
theorem dX12_more_0 : decode cX12_more 0 = .ok (.aload_n 0, 1) := dk_42 (dk_at dksX12_more_0 0 rfl rfl)
theorem dX12_more_1 : decode cX12_more 1 = .ok (.iconst 3, 1) := dk_6 (dk_at dksX12_more_0 1 rfl rfl)
theorem dX12_more_2 : decode cX12_more 2 = .ok (.invokevirtual 67, 3) := dk_182 0 67 (dk_at dksX12_more_0 2 rfl rfl)
theorem dX12_more_5 : decode cX12_more 5 = .ok (.aload_n 0, 1) := dk_42 (dk_at dksX12_more_0 5 rfl rfl)
theorem dX12_more_6 : decode cX12_more 6 = .ok (.iload_n 1, 1) := dk_27 (dk_at dksX12_more_0 6 rfl rfl)
theorem dX12_more_7 : decode cX12_more 7 = .ok (.iload_n 2, 1) := dk_28 (dk_at dksX12_more_0 7 rfl rfl)
theorem dX12_more_8 : decode cX12_more 8 = .ok (.invokevirtual 71, 3) := dk_182 0 71 (dk_at dksX12_more_0 8 rfl rfl)
theorem dX12_more_11 : decode cX12_more 11 = .ok (.ireturn, 1) := dk_172 (dk_at dksX12_more_0 11 rfl rfl)
abbrev cX12_sign : ByteArray := prog_10_method_8_code
def yX12_sign : MethodName := ⟨RX12, "sign", "(I)V"⟩
def dkwX12_sign_0 : List UInt8 := [42, 42, 180, 0, 40, 27, 160, 0, 7, 4, 167, 0, 4, 3, 4, 182, 0, 60, 42, 182, 0, 64, 177]
abbrev dktX12_sign_0 : List UInt8 := dkwX12_sign_0 ++ []
theorem dksX12_sign_0 : cX12_sign.data.toList.drop 0 = dktX12_sign_0 := by decide +kernel
theorem dX12_sign_0 : decode cX12_sign 0 = .ok (.aload_n 0, 1) := dk_42 (dk_at dksX12_sign_0 0 rfl rfl)
theorem dX12_sign_1 : decode cX12_sign 1 = .ok (.aload_n 0, 1) := dk_42 (dk_at dksX12_sign_0 1 rfl rfl)
theorem dX12_sign_2 : decode cX12_sign 2 = .ok (.getfield 40, 3) := dk_180 0 40 (dk_at dksX12_sign_0 2 rfl rfl)
theorem dX12_sign_5 : decode cX12_sign 5 = .ok (.iload_n 1, 1) := dk_27 (dk_at dksX12_sign_0 5 rfl rfl)
theorem dX12_sign_6 : decode cX12_sign 6 = .ok (.if_icmp .ne 7, 3) := dk_160 0 7 (dk_at dksX12_sign_0 6 rfl rfl)
theorem dX12_sign_9 : decode cX12_sign 9 = .ok (.iconst 1, 1) := dk_4 (dk_at dksX12_sign_0 9 rfl rfl)
theorem dX12_sign_10 : decode cX12_sign 10 = .ok (.goto 4, 3) := dk_167 0 4 (dk_at dksX12_sign_0 10 rfl rfl)
theorem dX12_sign_13 : decode cX12_sign 13 = .ok (.iconst 0, 1) := dk_3 (dk_at dksX12_sign_0 13 rfl rfl)
theorem dX12_sign_14 : decode cX12_sign 14 = .ok (.iconst 1, 1) := dk_4 (dk_at dksX12_sign_0 14 rfl rfl)
theorem dX12_sign_15 : decode cX12_sign 15 = .ok (.invokevirtual 60, 3) := dk_182 0 60 (dk_at dksX12_sign_0 15 rfl rfl)
theorem dX12_sign_18 : decode cX12_sign 18 = .ok (.aload_n 0, 1) := dk_42 (dk_at dksX12_sign_0 18 rfl rfl)
theorem dX12_sign_19 : decode cX12_sign 19 = .ok (.invokevirtual 64, 3) := dk_182 0 64 (dk_at dksX12_sign_0 19 rfl rfl)
theorem dX12_sign_22 : decode cX12_sign 22 = .ok (.return_, 1) := dk_177 (dk_at dksX12_sign_0 22 rfl rfl)
abbrev cX12_book : ByteArray := prog_10_method_13_code
def yX12_book : MethodName := ⟨RX12, "book", "()V"⟩
def dkwX12_book_3 : List UInt8 := [182, 0, 67, 177]
abbrev dktX12_book_3 : List UInt8 := dkwX12_book_3 ++ []
def dkwX12_book_2 : List UInt8 := [180, 0, 12, 27, 27, 182, 0, 126, 42, 180, 0, 12, 89, 180, 0, 113, 4, 96, 181, 0, 113, 42, 7]
abbrev dktX12_book_2 : List UInt8 := dkwX12_book_2 ++ dktX12_book_3
def dkwX12_book_1 : List UInt8 := [3, 16, 99, 182, 0, 71, 79, 42, 180, 0, 12, 180, 0, 123, 27, 42, 3, 16, 9, 182, 0, 92, 79, 42]
abbrev dktX12_book_1 : List UInt8 := dkwX12_book_1 ++ dktX12_book_2
def dkwX12_book_0 : List UInt8 := [42, 180, 0, 12, 180, 0, 113, 60, 42, 27, 16, 6, 182, 0, 116, 42, 180, 0, 12, 180, 0, 119, 27, 42]
abbrev dktX12_book_0 : List UInt8 := dkwX12_book_0 ++ dktX12_book_1
theorem dksX12_book_0 : cX12_book.data.toList.drop 0 = dktX12_book_0 := by decide +kernel
theorem dksX12_book_1 : cX12_book.data.toList.drop 24 = dktX12_book_1 := dk_seg dksX12_book_0 24 rfl rfl
theorem dksX12_book_2 : cX12_book.data.toList.drop 48 = dktX12_book_2 := dk_seg dksX12_book_1 24 rfl rfl
theorem dksX12_book_3 : cX12_book.data.toList.drop 71 = dktX12_book_3 := dk_seg dksX12_book_2 23 rfl rfl
theorem dX12_book_0 : decode cX12_book 0 = .ok (.aload_n 0, 1) := dk_42 (dk_at dksX12_book_0 0 rfl rfl)
theorem dX12_book_1 : decode cX12_book 1 = .ok (.getfield 12, 3) := dk_180 0 12 (dk_at dksX12_book_0 1 rfl rfl)
theorem dX12_book_4 : decode cX12_book 4 = .ok (.getfield 113, 3) := dk_180 0 113 (dk_at dksX12_book_0 4 rfl rfl)
theorem dX12_book_7 : decode cX12_book 7 = .ok (.istore_n 1, 1) := dk_60 (dk_at dksX12_book_0 7 rfl rfl)
theorem dX12_book_8 : decode cX12_book 8 = .ok (.aload_n 0, 1) := dk_42 (dk_at dksX12_book_0 8 rfl rfl)
theorem dX12_book_9 : decode cX12_book 9 = .ok (.iload_n 1, 1) := dk_27 (dk_at dksX12_book_0 9 rfl rfl)
theorem dX12_book_10 : decode cX12_book 10 = .ok (.bipush 6, 2) := dk_16 6 (dk_at dksX12_book_0 10 rfl rfl)
theorem dX12_book_12 : decode cX12_book 12 = .ok (.invokevirtual 116, 3) := dk_182 0 116 (dk_at dksX12_book_0 12 rfl rfl)
theorem dX12_book_15 : decode cX12_book 15 = .ok (.aload_n 0, 1) := dk_42 (dk_at dksX12_book_0 15 rfl rfl)
theorem dX12_book_16 : decode cX12_book 16 = .ok (.getfield 12, 3) := dk_180 0 12 (dk_at dksX12_book_0 16 rfl rfl)
theorem dX12_book_19 : decode cX12_book 19 = .ok (.getfield 119, 3) := dk_180 0 119 (dk_at dksX12_book_0 19 rfl rfl)
theorem dX12_book_22 : decode cX12_book 22 = .ok (.iload_n 1, 1) := dk_27 (dk_at dksX12_book_0 22 rfl rfl)
theorem dX12_book_23 : decode cX12_book 23 = .ok (.aload_n 0, 1) := dk_42 (dk_at dksX12_book_0 23 rfl rfl)
theorem dX12_book_24 : decode cX12_book 24 = .ok (.iconst 0, 1) := dk_3 (dk_at dksX12_book_1 0 rfl rfl)
theorem dX12_book_25 : decode cX12_book 25 = .ok (.bipush 99, 2) := dk_16 99 (dk_at dksX12_book_1 1 rfl rfl)
theorem dX12_book_27 : decode cX12_book 27 = .ok (.invokevirtual 71, 3) := dk_182 0 71 (dk_at dksX12_book_1 3 rfl rfl)
theorem dX12_book_30 : decode cX12_book 30 = .ok (.iastore, 1) := dk_79 (dk_at dksX12_book_1 6 rfl rfl)
theorem dX12_book_31 : decode cX12_book 31 = .ok (.aload_n 0, 1) := dk_42 (dk_at dksX12_book_1 7 rfl rfl)
theorem dX12_book_32 : decode cX12_book 32 = .ok (.getfield 12, 3) := dk_180 0 12 (dk_at dksX12_book_1 8 rfl rfl)
theorem dX12_book_35 : decode cX12_book 35 = .ok (.getfield 123, 3) := dk_180 0 123 (dk_at dksX12_book_1 11 rfl rfl)
theorem dX12_book_38 : decode cX12_book 38 = .ok (.iload_n 1, 1) := dk_27 (dk_at dksX12_book_1 14 rfl rfl)
theorem dX12_book_39 : decode cX12_book 39 = .ok (.aload_n 0, 1) := dk_42 (dk_at dksX12_book_1 15 rfl rfl)
theorem dX12_book_40 : decode cX12_book 40 = .ok (.iconst 0, 1) := dk_3 (dk_at dksX12_book_1 16 rfl rfl)
theorem dX12_book_41 : decode cX12_book 41 = .ok (.bipush 9, 2) := dk_16 9 (dk_at dksX12_book_1 17 rfl rfl)
theorem dX12_book_43 : decode cX12_book 43 = .ok (.invokevirtual 92, 3) := dk_182 0 92 (dk_at dksX12_book_1 19 rfl rfl)
theorem dX12_book_46 : decode cX12_book 46 = .ok (.iastore, 1) := dk_79 (dk_at dksX12_book_1 22 rfl rfl)
theorem dX12_book_47 : decode cX12_book 47 = .ok (.aload_n 0, 1) := dk_42 (dk_at dksX12_book_1 23 rfl rfl)
theorem dX12_book_48 : decode cX12_book 48 = .ok (.getfield 12, 3) := dk_180 0 12 (dk_at dksX12_book_2 0 rfl rfl)
theorem dX12_book_51 : decode cX12_book 51 = .ok (.iload_n 1, 1) := dk_27 (dk_at dksX12_book_2 3 rfl rfl)
theorem dX12_book_52 : decode cX12_book 52 = .ok (.iload_n 1, 1) := dk_27 (dk_at dksX12_book_2 4 rfl rfl)
theorem dX12_book_53 : decode cX12_book 53 = .ok (.invokevirtual 126, 3) := dk_182 0 126 (dk_at dksX12_book_2 5 rfl rfl)
theorem dX12_book_56 : decode cX12_book 56 = .ok (.aload_n 0, 1) := dk_42 (dk_at dksX12_book_2 8 rfl rfl)
theorem dX12_book_57 : decode cX12_book 57 = .ok (.getfield 12, 3) := dk_180 0 12 (dk_at dksX12_book_2 9 rfl rfl)
theorem dX12_book_60 : decode cX12_book 60 = .ok (.dup, 1) := dk_89 (dk_at dksX12_book_2 12 rfl rfl)
theorem dX12_book_61 : decode cX12_book 61 = .ok (.getfield 113, 3) := dk_180 0 113 (dk_at dksX12_book_2 13 rfl rfl)
theorem dX12_book_64 : decode cX12_book 64 = .ok (.iconst 1, 1) := dk_4 (dk_at dksX12_book_2 16 rfl rfl)
theorem dX12_book_65 : decode cX12_book 65 = .ok (.iadd, 1) := dk_96 (dk_at dksX12_book_2 17 rfl rfl)
theorem dX12_book_66 : decode cX12_book 66 = .ok (.putfield 113, 3) := dk_181 0 113 (dk_at dksX12_book_2 18 rfl rfl)
theorem dX12_book_69 : decode cX12_book 69 = .ok (.aload_n 0, 1) := dk_42 (dk_at dksX12_book_2 21 rfl rfl)
theorem dX12_book_70 : decode cX12_book 70 = .ok (.iconst 4, 1) := dk_7 (dk_at dksX12_book_2 22 rfl rfl)
theorem dX12_book_71 : decode cX12_book 71 = .ok (.invokevirtual 67, 3) := dk_182 0 67 (dk_at dksX12_book_3 0 rfl rfl)
theorem dX12_book_74 : decode cX12_book 74 = .ok (.return_, 1) := dk_177 (dk_at dksX12_book_3 3 rfl rfl)
abbrev cX12_begin : ByteArray := prog_10_method_9_code
def yX12_begin : MethodName := ⟨RX12, "begin", "(II)V"⟩
def dkwX12_begin_0 : List UInt8 := [42, 27, 28, 162, 0, 7, 4, 167, 0, 4, 3, 6, 182, 0, 60, 42, 182, 0, 64, 177]
abbrev dktX12_begin_0 : List UInt8 := dkwX12_begin_0 ++ []
theorem dksX12_begin_0 : cX12_begin.data.toList.drop 0 = dktX12_begin_0 := by decide +kernel
theorem dX12_begin_0 : decode cX12_begin 0 = .ok (.aload_n 0, 1) := dk_42 (dk_at dksX12_begin_0 0 rfl rfl)
theorem dX12_begin_1 : decode cX12_begin 1 = .ok (.iload_n 1, 1) := dk_27 (dk_at dksX12_begin_0 1 rfl rfl)
theorem dX12_begin_2 : decode cX12_begin 2 = .ok (.iload_n 2, 1) := dk_28 (dk_at dksX12_begin_0 2 rfl rfl)
theorem dX12_begin_3 : decode cX12_begin 3 = .ok (.if_icmp .ge 7, 3) := dk_162 0 7 (dk_at dksX12_begin_0 3 rfl rfl)
theorem dX12_begin_6 : decode cX12_begin 6 = .ok (.iconst 1, 1) := dk_4 (dk_at dksX12_begin_0 6 rfl rfl)
theorem dX12_begin_7 : decode cX12_begin 7 = .ok (.goto 4, 3) := dk_167 0 4 (dk_at dksX12_begin_0 7 rfl rfl)
theorem dX12_begin_10 : decode cX12_begin 10 = .ok (.iconst 0, 1) := dk_3 (dk_at dksX12_begin_0 10 rfl rfl)
theorem dX12_begin_11 : decode cX12_begin 11 = .ok (.iconst 3, 1) := dk_6 (dk_at dksX12_begin_0 11 rfl rfl)
theorem dX12_begin_12 : decode cX12_begin 12 = .ok (.invokevirtual 60, 3) := dk_182 0 60 (dk_at dksX12_begin_0 12 rfl rfl)
theorem dX12_begin_15 : decode cX12_begin 15 = .ok (.aload_n 0, 1) := dk_42 (dk_at dksX12_begin_0 15 rfl rfl)
theorem dX12_begin_16 : decode cX12_begin 16 = .ok (.invokevirtual 64, 3) := dk_182 0 64 (dk_at dksX12_begin_0 16 rfl rfl)
theorem dX12_begin_19 : decode cX12_begin 19 = .ok (.return_, 1) := dk_177 (dk_at dksX12_begin_0 19 rfl rfl)
abbrev cX12_sortOf : ByteArray := prog_10_method_11_code
def yX12_sortOf : MethodName := ⟨RX12, "sortOf", "(Ljava/lang/String;)I"⟩
def dkwX12_sortOf_0 : List UInt8 := [43, 42, 180, 0, 40, 42, 180, 0, 37, 184, 0, 84, 172]
abbrev dktX12_sortOf_0 : List UInt8 := dkwX12_sortOf_0 ++ []
theorem dksX12_sortOf_0 : cX12_sortOf.data.toList.drop 0 = dktX12_sortOf_0 := by decide +kernel
theorem dX12_sortOf_0 : decode cX12_sortOf 0 = .ok (.aload_n 1, 1) := dk_43 (dk_at dksX12_sortOf_0 0 rfl rfl)
theorem dX12_sortOf_1 : decode cX12_sortOf 1 = .ok (.aload_n 0, 1) := dk_42 (dk_at dksX12_sortOf_0 1 rfl rfl)
theorem dX12_sortOf_2 : decode cX12_sortOf 2 = .ok (.getfield 40, 3) := dk_180 0 40 (dk_at dksX12_sortOf_0 2 rfl rfl)
theorem dX12_sortOf_5 : decode cX12_sortOf 5 = .ok (.aload_n 0, 1) := dk_42 (dk_at dksX12_sortOf_0 5 rfl rfl)
theorem dX12_sortOf_6 : decode cX12_sortOf 6 = .ok (.getfield 37, 3) := dk_180 0 37 (dk_at dksX12_sortOf_0 6 rfl rfl)
theorem dX12_sortOf_9 : decode cX12_sortOf 9 = .ok (.invokestatic 84, 3) := dk_184 0 84 (dk_at dksX12_sortOf_0 9 rfl rfl)
theorem dX12_sortOf_12 : decode cX12_sortOf 12 = .ok (.ireturn, 1) := dk_172 (dk_at dksX12_sortOf_0 12 rfl rfl)
abbrev cX12_sortIn : ByteArray := prog_10_method_10_code
def yX12_sortIn : MethodName := ⟨RX12, "sortIn", "(Ljava/lang/String;II)I"⟩
def dkwX12_sortIn_1 : List UInt8 := [132, 3, 1, 167, 255, 231, 29, 42, 182, 0, 75, 162, 0, 7, 29, 167, 0, 5, 18, 29, 172]
abbrev dktX12_sortIn_1 : List UInt8 := dkwX12_sortIn_1 ++ []
def dkwX12_sortIn_0 : List UInt8 := [3, 62, 29, 42, 182, 0, 75, 162, 0, 23, 27, 4, 160, 0, 12, 42, 29, 182, 0, 80, 28, 159, 0, 9]
abbrev dktX12_sortIn_0 : List UInt8 := dkwX12_sortIn_0 ++ dktX12_sortIn_1
theorem dksX12_sortIn_0 : cX12_sortIn.data.toList.drop 0 = dktX12_sortIn_0 := by decide +kernel
theorem dksX12_sortIn_1 : cX12_sortIn.data.toList.drop 24 = dktX12_sortIn_1 := dk_seg dksX12_sortIn_0 24 rfl rfl
theorem dX12_sortIn_0 : decode cX12_sortIn 0 = .ok (.iconst 0, 1) := dk_3 (dk_at dksX12_sortIn_0 0 rfl rfl)
theorem dX12_sortIn_1 : decode cX12_sortIn 1 = .ok (.istore_n 3, 1) := dk_62 (dk_at dksX12_sortIn_0 1 rfl rfl)
theorem dX12_sortIn_2 : decode cX12_sortIn 2 = .ok (.iload_n 3, 1) := dk_29 (dk_at dksX12_sortIn_0 2 rfl rfl)
theorem dX12_sortIn_3 : decode cX12_sortIn 3 = .ok (.aload_n 0, 1) := dk_42 (dk_at dksX12_sortIn_0 3 rfl rfl)
theorem dX12_sortIn_4 : decode cX12_sortIn 4 = .ok (.invokevirtual 75, 3) := dk_182 0 75 (dk_at dksX12_sortIn_0 4 rfl rfl)
theorem dX12_sortIn_7 : decode cX12_sortIn 7 = .ok (.if_icmp .ge 23, 3) := dk_162 0 23 (dk_at dksX12_sortIn_0 7 rfl rfl)
theorem dX12_sortIn_10 : decode cX12_sortIn 10 = .ok (.iload_n 1, 1) := dk_27 (dk_at dksX12_sortIn_0 10 rfl rfl)
theorem dX12_sortIn_11 : decode cX12_sortIn 11 = .ok (.iconst 1, 1) := dk_4 (dk_at dksX12_sortIn_0 11 rfl rfl)
theorem dX12_sortIn_12 : decode cX12_sortIn 12 = .ok (.if_icmp .ne 12, 3) := dk_160 0 12 (dk_at dksX12_sortIn_0 12 rfl rfl)
theorem dX12_sortIn_15 : decode cX12_sortIn 15 = .ok (.aload_n 0, 1) := dk_42 (dk_at dksX12_sortIn_0 15 rfl rfl)
theorem dX12_sortIn_16 : decode cX12_sortIn 16 = .ok (.iload_n 3, 1) := dk_29 (dk_at dksX12_sortIn_0 16 rfl rfl)
theorem dX12_sortIn_17 : decode cX12_sortIn 17 = .ok (.invokevirtual 80, 3) := dk_182 0 80 (dk_at dksX12_sortIn_0 17 rfl rfl)
theorem dX12_sortIn_20 : decode cX12_sortIn 20 = .ok (.iload_n 2, 1) := dk_28 (dk_at dksX12_sortIn_0 20 rfl rfl)
theorem dX12_sortIn_21 : decode cX12_sortIn 21 = .ok (.if_icmp .eq 9, 3) := dk_159 0 9 (dk_at dksX12_sortIn_0 21 rfl rfl)
theorem dX12_sortIn_24 : decode cX12_sortIn 24 = .ok (.iinc 3 1, 3) := dk_132 3 1 (dk_at dksX12_sortIn_1 0 rfl rfl)
theorem dX12_sortIn_27 : decode cX12_sortIn 27 = .ok (.goto (-25), 3) := dk_167 255 231 (dk_at dksX12_sortIn_1 3 rfl rfl)
theorem dX12_sortIn_30 : decode cX12_sortIn 30 = .ok (.iload_n 3, 1) := dk_29 (dk_at dksX12_sortIn_1 6 rfl rfl)
theorem dX12_sortIn_31 : decode cX12_sortIn 31 = .ok (.aload_n 0, 1) := dk_42 (dk_at dksX12_sortIn_1 7 rfl rfl)
theorem dX12_sortIn_32 : decode cX12_sortIn 32 = .ok (.invokevirtual 75, 3) := dk_182 0 75 (dk_at dksX12_sortIn_1 8 rfl rfl)
theorem dX12_sortIn_35 : decode cX12_sortIn 35 = .ok (.if_icmp .ge 7, 3) := dk_162 0 7 (dk_at dksX12_sortIn_1 11 rfl rfl)
theorem dX12_sortIn_38 : decode cX12_sortIn 38 = .ok (.iload_n 3, 1) := dk_29 (dk_at dksX12_sortIn_1 14 rfl rfl)
theorem dX12_sortIn_39 : decode cX12_sortIn 39 = .ok (.goto 5, 3) := dk_167 0 5 (dk_at dksX12_sortIn_1 15 rfl rfl)
theorem dX12_sortIn_42 : decode cX12_sortIn 42 = .ok (.ldc 29, 2) := dk_18 29 (dk_at dksX12_sortIn_1 18 rfl rfl)
theorem dX12_sortIn_44 : decode cX12_sortIn 44 = .ok (.ireturn, 1) := dk_172 (dk_at dksX12_sortIn_1 20 rfl rfl)
abbrev cX12_fish : ByteArray := prog_10_method_14_code
def yX12_fish : MethodName := ⟨RX12, "fish", "()V"⟩
def dkwX12_fish_2 : List UInt8 := [180, 0, 12, 180, 0, 134, 27, 28, 184, 0, 138, 185, 0, 142, 2, 0, 87, 42, 7, 182, 0, 67, 177]
abbrev dktX12_fish_2 : List UInt8 := dkwX12_fish_2 ++ []
def dkwX12_fish_1 : List UInt8 := [180, 0, 12, 180, 0, 132, 28, 42, 3, 42, 180, 0, 12, 180, 0, 113, 4, 100, 182, 0, 71, 79, 42]
abbrev dktX12_fish_1 : List UInt8 := dkwX12_fish_1 ++ dktX12_fish_2
def dkwX12_fish_0 : List UInt8 := [42, 18, 104, 182, 0, 106, 60, 42, 180, 0, 12, 182, 0, 129, 61, 42, 28, 8, 182, 0, 116, 42]
abbrev dktX12_fish_0 : List UInt8 := dkwX12_fish_0 ++ dktX12_fish_1
theorem dksX12_fish_0 : cX12_fish.data.toList.drop 0 = dktX12_fish_0 := by decide +kernel
theorem dksX12_fish_1 : cX12_fish.data.toList.drop 22 = dktX12_fish_1 := dk_seg dksX12_fish_0 22 rfl rfl
theorem dksX12_fish_2 : cX12_fish.data.toList.drop 45 = dktX12_fish_2 := dk_seg dksX12_fish_1 23 rfl rfl
theorem dX12_fish_0 : decode cX12_fish 0 = .ok (.aload_n 0, 1) := dk_42 (dk_at dksX12_fish_0 0 rfl rfl)
theorem dX12_fish_1 : decode cX12_fish 1 = .ok (.ldc 104, 2) := dk_18 104 (dk_at dksX12_fish_0 1 rfl rfl)
theorem dX12_fish_3 : decode cX12_fish 3 = .ok (.invokevirtual 106, 3) := dk_182 0 106 (dk_at dksX12_fish_0 3 rfl rfl)
theorem dX12_fish_6 : decode cX12_fish 6 = .ok (.istore_n 1, 1) := dk_60 (dk_at dksX12_fish_0 6 rfl rfl)
theorem dX12_fish_7 : decode cX12_fish 7 = .ok (.aload_n 0, 1) := dk_42 (dk_at dksX12_fish_0 7 rfl rfl)
theorem dX12_fish_8 : decode cX12_fish 8 = .ok (.getfield 12, 3) := dk_180 0 12 (dk_at dksX12_fish_0 8 rfl rfl)
theorem dX12_fish_11 : decode cX12_fish 11 = .ok (.invokevirtual 129, 3) := dk_182 0 129 (dk_at dksX12_fish_0 11 rfl rfl)
theorem dX12_fish_14 : decode cX12_fish 14 = .ok (.istore_n 2, 1) := dk_61 (dk_at dksX12_fish_0 14 rfl rfl)
theorem dX12_fish_15 : decode cX12_fish 15 = .ok (.aload_n 0, 1) := dk_42 (dk_at dksX12_fish_0 15 rfl rfl)
theorem dX12_fish_16 : decode cX12_fish 16 = .ok (.iload_n 2, 1) := dk_28 (dk_at dksX12_fish_0 16 rfl rfl)
theorem dX12_fish_17 : decode cX12_fish 17 = .ok (.iconst 5, 1) := dk_8 (dk_at dksX12_fish_0 17 rfl rfl)
theorem dX12_fish_18 : decode cX12_fish 18 = .ok (.invokevirtual 116, 3) := dk_182 0 116 (dk_at dksX12_fish_0 18 rfl rfl)
theorem dX12_fish_21 : decode cX12_fish 21 = .ok (.aload_n 0, 1) := dk_42 (dk_at dksX12_fish_0 21 rfl rfl)
theorem dX12_fish_22 : decode cX12_fish 22 = .ok (.getfield 12, 3) := dk_180 0 12 (dk_at dksX12_fish_1 0 rfl rfl)
theorem dX12_fish_25 : decode cX12_fish 25 = .ok (.getfield 132, 3) := dk_180 0 132 (dk_at dksX12_fish_1 3 rfl rfl)
theorem dX12_fish_28 : decode cX12_fish 28 = .ok (.iload_n 2, 1) := dk_28 (dk_at dksX12_fish_1 6 rfl rfl)
theorem dX12_fish_29 : decode cX12_fish 29 = .ok (.aload_n 0, 1) := dk_42 (dk_at dksX12_fish_1 7 rfl rfl)
theorem dX12_fish_30 : decode cX12_fish 30 = .ok (.iconst 0, 1) := dk_3 (dk_at dksX12_fish_1 8 rfl rfl)
theorem dX12_fish_31 : decode cX12_fish 31 = .ok (.aload_n 0, 1) := dk_42 (dk_at dksX12_fish_1 9 rfl rfl)
theorem dX12_fish_32 : decode cX12_fish 32 = .ok (.getfield 12, 3) := dk_180 0 12 (dk_at dksX12_fish_1 10 rfl rfl)
theorem dX12_fish_35 : decode cX12_fish 35 = .ok (.getfield 113, 3) := dk_180 0 113 (dk_at dksX12_fish_1 13 rfl rfl)
theorem dX12_fish_38 : decode cX12_fish 38 = .ok (.iconst 1, 1) := dk_4 (dk_at dksX12_fish_1 16 rfl rfl)
theorem dX12_fish_39 : decode cX12_fish 39 = .ok (.isub, 1) := dk_100 (dk_at dksX12_fish_1 17 rfl rfl)
theorem dX12_fish_40 : decode cX12_fish 40 = .ok (.invokevirtual 71, 3) := dk_182 0 71 (dk_at dksX12_fish_1 18 rfl rfl)
theorem dX12_fish_43 : decode cX12_fish 43 = .ok (.iastore, 1) := dk_79 (dk_at dksX12_fish_1 21 rfl rfl)
theorem dX12_fish_44 : decode cX12_fish 44 = .ok (.aload_n 0, 1) := dk_42 (dk_at dksX12_fish_1 22 rfl rfl)
theorem dX12_fish_45 : decode cX12_fish 45 = .ok (.getfield 12, 3) := dk_180 0 12 (dk_at dksX12_fish_2 0 rfl rfl)
theorem dX12_fish_48 : decode cX12_fish 48 = .ok (.getfield 134, 3) := dk_180 0 134 (dk_at dksX12_fish_2 3 rfl rfl)
theorem dX12_fish_51 : decode cX12_fish 51 = .ok (.iload_n 1, 1) := dk_27 (dk_at dksX12_fish_2 6 rfl rfl)
theorem dX12_fish_52 : decode cX12_fish 52 = .ok (.iload_n 2, 1) := dk_28 (dk_at dksX12_fish_2 7 rfl rfl)
theorem dX12_fish_53 : decode cX12_fish 53 = .ok (.invokestatic 138, 3) := dk_184 0 138 (dk_at dksX12_fish_2 8 rfl rfl)
theorem dX12_fish_56 : decode cX12_fish 56 = .ok (.invokeinterface 142 2, 5) := by decide +kernel
theorem dX12_fish_61 : decode cX12_fish 61 = .ok (.pop, 1) := dk_87 (dk_at dksX12_fish_2 16 rfl rfl)
theorem dX12_fish_62 : decode cX12_fish 62 = .ok (.aload_n 0, 1) := dk_42 (dk_at dksX12_fish_2 17 rfl rfl)
theorem dX12_fish_63 : decode cX12_fish 63 = .ok (.iconst 4, 1) := dk_7 (dk_at dksX12_fish_2 18 rfl rfl)
theorem dX12_fish_64 : decode cX12_fish 64 = .ok (.invokevirtual 67, 3) := dk_182 0 67 (dk_at dksX12_fish_2 19 rfl rfl)
theorem dX12_fish_67 : decode cX12_fish 67 = .ok (.return_, 1) := dk_177 (dk_at dksX12_fish_2 22 rfl rfl)
theorem q99 : (Jvm.Cond.initialized "FishReaders$Reader") ∈ lw_all := lw_g (lw_at lw_m1 23 rfl) rfl
theorem q156 : (Jvm.Cond.fieldLink "FishReaders$Reader" (98 : Nat) "FishReaders$Library" "hunger" "I") ∈ lw_all := lw_g (lw_at lw_m1 80 rfl) rfl
theorem q159 : (Jvm.Cond.fieldLink "FishReaders$Reader" (95 : Nat) "FishReaders$Library" "lamps" "I") ∈ lw_all := lw_g (lw_at lw_m1 83 rfl) rfl
theorem q164 : (Jvm.Cond.fieldLink "FishReaders$Reader" (113 : Nat) "FishReaders$Library" "books" "I") ∈ lw_all := lw_g (lw_at lw_m1 88 rfl) rfl
theorem q167 : (Jvm.Cond.fieldLink "FishReaders$Reader" (119 : Nat) "FishReaders$Library" "pages" "[I") ∈ lw_all := lw_g (lw_at lw_m1 91 rfl) rfl
theorem q170 : (Jvm.Cond.fieldLink "FishReaders$Reader" (123 : Nat) "FishReaders$Library" "paste" "[I") ∈ lw_all := lw_g (lw_at lw_m1 94 rfl) rfl
theorem q183 : (Jvm.Cond.fieldLink "FishReaders$Reader" (134 : Nat) "FishReaders$Library" "fishes" "Ljava/util/List;") ∈ lw_all := lw_g (lw_at lw_m1 107 rfl) rfl
theorem q187 : (Jvm.Cond.fieldLink "FishReaders$Reader" (132 : Nat) "FishReaders$Library" "at" "[I") ∈ lw_all := lw_g (lw_at lw_m1 111 rfl) rfl
theorem q516 : (Jvm.Cond.instantiable "FishReaders$Reader" (7 : Nat)) ∈ lw_all := lw_g (lw_at lw_m2 200 rfl) rfl
theorem q518 : (Jvm.Cond.instanceMethod ({ cls := "FishReaders$Reader", name := "<init>", desc := "([BI)V" } : Jvm.MethodName)) ∈ lw_all := lw_g (lw_at lw_m2 202 rfl) rfl
theorem q519 : (Jvm.Cond.code ({ cls := "FishReaders$Reader", name := "<init>", desc := "([BI)V" } : Jvm.MethodName) prog_10_method_1_code (3 : Nat) (Option.none : Option Jvm.ClassFile.FieldType)) ∈ lw_all := lw_g (lw_at lw_m2 203 rfl) rfl
theorem q520 : (Jvm.Cond.methodLink "FishReaders$Reader" (3 : Nat) ({ cls := "java/lang/Object", name := "<init>", desc := "()V" } : Jvm.MethodName)) ∈ lw_all := lw_g (lw_at lw_m2 204 rfl) rfl
theorem q521 : (Jvm.Cond.classLink "FishReaders$Reader" (9 : Nat) "FishReaders$Library") ∈ lw_all := lw_g (lw_at lw_m2 205 rfl) rfl
theorem q522 : (Jvm.Cond.methodLinkNest "FishReaders$Reader" (11 : Nat) ({ cls := "FishReaders$Library", name := "<init>", desc := "()V" } : Jvm.MethodName) "FishReaders") ∈ lw_tbl := lw_at lw_m2 206 rfl
theorem q523 : (Jvm.Cond.fieldLink "FishReaders$Reader" (18 : Nat) "FishReaders$Reader" "text" "[B") ∈ lw_all := lw_g (lw_at lw_m2 207 rfl) rfl
theorem q524 : (Jvm.Cond.fieldLink "FishReaders$Reader" (22 : Nat) "FishReaders$Reader" "size" "I") ∈ lw_all := lw_g (lw_at lw_m2 208 rfl) rfl
theorem q525 : (Jvm.Cond.fieldLink "FishReaders$Reader" (26 : Nat) "FishReaders$Reader" "at" "I") ∈ lw_all := lw_g (lw_at lw_m2 209 rfl) rfl
theorem q526 : (Jvm.Cond.fieldLink "FishReaders$Reader" (40 : Nat) "FishReaders$Reader" "token" "I") ∈ lw_all := lw_g (lw_at lw_m2 210 rfl) rfl
theorem q527 : (Jvm.Cond.fieldLink "FishReaders$Reader" (30 : Nat) "FishReaders$Reader" "from" "I") ∈ lw_all := lw_g (lw_at lw_m2 211 rfl) rfl
theorem q528 : (Jvm.Cond.fieldLink "FishReaders$Reader" (37 : Nat) "FishReaders$Reader" "value" "I") ∈ lw_all := lw_g (lw_at lw_m2 212 rfl) rfl
theorem q529 : (Jvm.Cond.fieldLink "FishReaders$Reader" (12 : Nat) "FishReaders$Reader" "made" "LFishReaders$Library;") ∈ lw_all := lw_g (lw_at lw_m2 213 rfl) rfl
theorem q531 : (Jvm.Cond.laysFinal "FishReaders$Reader" "FishReaders$Reader" "text" "[B") ∈ lw_all := lw_g (lw_at lw_m2 215 rfl) rfl
theorem q532 : (Jvm.Cond.soleField "FishReaders$Reader" "text") ∈ lw_all := lw_g (lw_at lw_m2 216 rfl) rfl
theorem q533 : (Jvm.Cond.laysFinal "FishReaders$Reader" "FishReaders$Reader" "size" "I") ∈ lw_all := lw_g (lw_at lw_m2 217 rfl) rfl
theorem q534 : (Jvm.Cond.soleField "FishReaders$Reader" "size") ∈ lw_all := lw_g (lw_at lw_m2 218 rfl) rfl
theorem q535 : (Jvm.Cond.lays "FishReaders$Reader" "FishReaders$Reader" "at" "I") ∈ lw_all := lw_g (lw_at lw_m2 219 rfl) rfl
theorem q536 : (Jvm.Cond.soleField "FishReaders$Reader" "at") ∈ lw_all := lw_g (lw_at lw_m2 220 rfl) rfl
theorem q537 : (Jvm.Cond.lays "FishReaders$Reader" "FishReaders$Reader" "token" "I") ∈ lw_all := lw_g (lw_at lw_m2 221 rfl) rfl
theorem q538 : (Jvm.Cond.soleField "FishReaders$Reader" "token") ∈ lw_all := lw_g (lw_at lw_m2 222 rfl) rfl
theorem q539 : (Jvm.Cond.lays "FishReaders$Reader" "FishReaders$Reader" "from" "I") ∈ lw_all := lw_g (lw_at lw_m2 223 rfl) rfl
theorem q540 : (Jvm.Cond.soleField "FishReaders$Reader" "from") ∈ lw_all := lw_g (lw_at lw_m2 224 rfl) rfl
theorem q541 : (Jvm.Cond.lays "FishReaders$Reader" "FishReaders$Reader" "value" "I") ∈ lw_all := lw_g (lw_at lw_m2 225 rfl) rfl
theorem q542 : (Jvm.Cond.soleField "FishReaders$Reader" "value") ∈ lw_all := lw_g (lw_at lw_m2 226 rfl) rfl
theorem q543 : (Jvm.Cond.laysFinal "FishReaders$Reader" "FishReaders$Reader" "made" "LFishReaders$Library;") ∈ lw_all := lw_g (lw_at lw_m2 227 rfl) rfl
theorem q544 : (Jvm.Cond.soleField "FishReaders$Reader" "made") ∈ lw_all := lw_g (lw_at lw_m2 228 rfl) rfl
theorem q545 : (Jvm.Cond.superclass "FishReaders$Reader" "java/lang/Object") ∈ lw_all := lw_g (lw_at lw_m2 229 rfl) rfl
theorem q547 : (Jvm.Cond.instanceMethod ({ cls := "FishReaders$Reader", name := "all", desc := "()V" } : Jvm.MethodName)) ∈ lw_all := lw_g (lw_at lw_m2 231 rfl) rfl
theorem q548 : (Jvm.Cond.selects "FishReaders$Reader" ({ cls := "FishReaders$Reader", name := "all", desc := "()V" } : Jvm.MethodName) ({ cls := "FishReaders$Reader", name := "all", desc := "()V" } : Jvm.MethodName)) ∈ lw_all := lw_g (lw_at lw_m2 232 rfl) rfl
theorem q549 : (Jvm.Cond.code ({ cls := "FishReaders$Reader", name := "all", desc := "()V" } : Jvm.MethodName) prog_10_method_12_code (2 : Nat) (Option.none : Option Jvm.ClassFile.FieldType)) ∈ lw_all := lw_g (lw_at lw_m2 233 rfl) rfl
theorem q550 : (Jvm.Cond.methodLink "FishReaders$Reader" (64 : Nat) ({ cls := "FishReaders$Reader", name := "next", desc := "()V" } : Jvm.MethodName)) ∈ lw_all := lw_g (lw_at lw_m2 234 rfl) rfl
theorem q551 : (Jvm.Cond.privateMethod ({ cls := "FishReaders$Reader", name := "next", desc := "()V" } : Jvm.MethodName)) ∈ lw_tbl := lw_at lw_m2 235 rfl
theorem q552 : (Jvm.Cond.instanceMethod ({ cls := "FishReaders$Reader", name := "next", desc := "()V" } : Jvm.MethodName)) ∈ lw_all := lw_g (lw_at lw_m2 236 rfl) rfl
theorem q553 : (Jvm.Cond.code ({ cls := "FishReaders$Reader", name := "next", desc := "()V" } : Jvm.MethodName) prog_10_method_3_code (2 : Nat) (Option.none : Option Jvm.ClassFile.FieldType)) ∈ lw_all := lw_g (lw_at lw_m2 237 rfl) rfl
theorem q554 : (Jvm.Cond.methodLink "FishReaders$Reader" (33 : Nat) ({ cls := "FishReaders$Reader", name := "look", desc := "()I" } : Jvm.MethodName)) ∈ lw_all := lw_g (lw_at lw_m2 238 rfl) rfl
theorem q555 : (Jvm.Cond.privateMethod ({ cls := "FishReaders$Reader", name := "look", desc := "()I" } : Jvm.MethodName)) ∈ lw_tbl := lw_at lw_m2 239 rfl
theorem q556 : (Jvm.Cond.instanceMethod ({ cls := "FishReaders$Reader", name := "look", desc := "()I" } : Jvm.MethodName)) ∈ lw_all := lw_g (lw_at lw_m3 0 rfl) rfl
theorem q557 : (Jvm.Cond.code ({ cls := "FishReaders$Reader", name := "look", desc := "()I" } : Jvm.MethodName) prog_10_method_2_code (1 : Nat) (Option.some Jvm.ClassFile.FieldType.int)) ∈ lw_all := lw_g (lw_at lw_m3 1 rfl) rfl
theorem q558 : (Jvm.Cond.constant "FishReaders$Reader" (29 : Nat) (-1000000 : Int32)) ∈ lw_all := lw_g (lw_at lw_m3 2 rfl) rfl
theorem q559 : (Jvm.Cond.constantLong "FishReaders$Reader" (43 : Nat) (48 : Int64)) ∈ lw_all := lw_g (lw_at lw_m3 3 rfl) rfl
theorem q560 : (Jvm.Cond.constantLong "FishReaders$Reader" (45 : Nat) (57 : Int64)) ∈ lw_all := lw_g (lw_at lw_m3 4 rfl) rfl
theorem q561 : (Jvm.Cond.methodLinkNest "FishReaders$Reader" (47 : Nat) ({ cls := "FishReaders", name := "isIn", desc := "(JJJ)Z" } : Jvm.MethodName) "FishReaders") ∈ lw_tbl := lw_at lw_m3 5 rfl
theorem q562 : (Jvm.Cond.constantLong "FishReaders$Reader" (51 : Nat) (97 : Int64)) ∈ lw_all := lw_g (lw_at lw_m3 6 rfl) rfl
theorem q563 : (Jvm.Cond.constantLong "FishReaders$Reader" (53 : Nat) (122 : Int64)) ∈ lw_all := lw_g (lw_at lw_m3 7 rfl) rfl
theorem q564 : (Jvm.Cond.methodLink "FishReaders$Reader" (88 : Nat) ({ cls := "FishReaders$Reader", name := "isLetter", desc := "(I)Z" } : Jvm.MethodName)) ∈ lw_all := lw_g (lw_at lw_m3 8 rfl) rfl
theorem q565 : (Jvm.Cond.privateMethod ({ cls := "FishReaders$Reader", name := "isLetter", desc := "(I)Z" } : Jvm.MethodName)) ∈ lw_tbl := lw_at lw_m3 9 rfl
theorem q566 : (Jvm.Cond.instanceMethod ({ cls := "FishReaders$Reader", name := "isLetter", desc := "(I)Z" } : Jvm.MethodName)) ∈ lw_all := lw_g (lw_at lw_m3 10 rfl) rfl
theorem q567 : (Jvm.Cond.code ({ cls := "FishReaders$Reader", name := "isLetter", desc := "(I)Z" } : Jvm.MethodName) prog_10_method_5_code (2 : Nat) (Option.some Jvm.ClassFile.FieldType.boolean)) ∈ lw_all := lw_g (lw_at lw_m3 11 rfl) rfl
theorem q568 : (Jvm.Cond.methodLink "FishReaders$Reader" (60 : Nat) ({ cls := "FishReaders$Reader", name := "must", desc := "(ZI)V" } : Jvm.MethodName)) ∈ lw_all := lw_g (lw_at lw_m3 12 rfl) rfl
theorem q569 : (Jvm.Cond.privateMethod ({ cls := "FishReaders$Reader", name := "must", desc := "(ZI)V" } : Jvm.MethodName)) ∈ lw_tbl := lw_at lw_m3 13 rfl
theorem q570 : (Jvm.Cond.instanceMethod ({ cls := "FishReaders$Reader", name := "must", desc := "(ZI)V" } : Jvm.MethodName)) ∈ lw_all := lw_g (lw_at lw_m3 14 rfl) rfl
theorem q571 : (Jvm.Cond.code ({ cls := "FishReaders$Reader", name := "must", desc := "(ZI)V" } : Jvm.MethodName) prog_10_method_4_code (3 : Nat) (Option.none : Option Jvm.ClassFile.FieldType)) ∈ lw_all := lw_g (lw_at lw_m3 15 rfl) rfl
theorem q572 : (Jvm.Cond.classLink "FishReaders$Reader" (55 : Nat) "FishReaders$Fault") ∈ lw_all := lw_g (lw_at lw_m3 16 rfl) rfl
theorem q581 : (Jvm.Cond.methodLink "FishReaders$Reader" (57 : Nat) ({ cls := "FishReaders$Fault", name := "<init>", desc := "(II)V" } : Jvm.MethodName)) ∈ lw_all := lw_g (lw_at lw_m3 25 rfl) rfl
theorem q595 : (Jvm.Cond.methodLink "FishReaders$Reader" (71 : Nat) ({ cls := "FishReaders$Reader", name := "figure", desc := "(II)I" } : Jvm.MethodName)) ∈ lw_all := lw_g (lw_at lw_m3 39 rfl) rfl
theorem q596 : (Jvm.Cond.privateMethod ({ cls := "FishReaders$Reader", name := "figure", desc := "(II)I" } : Jvm.MethodName)) ∈ lw_tbl := lw_at lw_m3 40 rfl
theorem q597 : (Jvm.Cond.instanceMethod ({ cls := "FishReaders$Reader", name := "figure", desc := "(II)I" } : Jvm.MethodName)) ∈ lw_all := lw_g (lw_at lw_m3 41 rfl) rfl
theorem q598 : (Jvm.Cond.code ({ cls := "FishReaders$Reader", name := "figure", desc := "(II)I" } : Jvm.MethodName) prog_10_method_6_code (4 : Nat) (Option.some Jvm.ClassFile.FieldType.int)) ∈ lw_all := lw_g (lw_at lw_m3 42 rfl) rfl
theorem q599 : (Jvm.Cond.methodLink "FishReaders$Reader" (92 : Nat) ({ cls := "FishReaders$Reader", name := "more", desc := "(II)I" } : Jvm.MethodName)) ∈ lw_all := lw_g (lw_at lw_m3 43 rfl) rfl
theorem q600 : (Jvm.Cond.privateMethod ({ cls := "FishReaders$Reader", name := "more", desc := "(II)I" } : Jvm.MethodName)) ∈ lw_tbl := lw_at lw_m3 44 rfl
theorem q601 : (Jvm.Cond.instanceMethod ({ cls := "FishReaders$Reader", name := "more", desc := "(II)I" } : Jvm.MethodName)) ∈ lw_all := lw_g (lw_at lw_m3 45 rfl) rfl
theorem q602 : (Jvm.Cond.code ({ cls := "FishReaders$Reader", name := "more", desc := "(II)I" } : Jvm.MethodName) prog_10_method_7_code (3 : Nat) (Option.some Jvm.ClassFile.FieldType.int)) ∈ lw_all := lw_g (lw_at lw_m3 46 rfl) rfl
theorem q603 : (Jvm.Cond.methodLink "FishReaders$Reader" (67 : Nat) ({ cls := "FishReaders$Reader", name := "sign", desc := "(I)V" } : Jvm.MethodName)) ∈ lw_all := lw_g (lw_at lw_m3 47 rfl) rfl
theorem q604 : (Jvm.Cond.privateMethod ({ cls := "FishReaders$Reader", name := "sign", desc := "(I)V" } : Jvm.MethodName)) ∈ lw_tbl := lw_at lw_m3 48 rfl
theorem q605 : (Jvm.Cond.instanceMethod ({ cls := "FishReaders$Reader", name := "sign", desc := "(I)V" } : Jvm.MethodName)) ∈ lw_all := lw_g (lw_at lw_m3 49 rfl) rfl
theorem q606 : (Jvm.Cond.code ({ cls := "FishReaders$Reader", name := "sign", desc := "(I)V" } : Jvm.MethodName) prog_10_method_8_code (2 : Nat) (Option.none : Option Jvm.ClassFile.FieldType)) ∈ lw_all := lw_g (lw_at lw_m3 50 rfl) rfl
theorem q607 : (Jvm.Cond.methodLink "FishReaders$Reader" (101 : Nat) ({ cls := "FishReaders$Reader", name := "book", desc := "()V" } : Jvm.MethodName)) ∈ lw_all := lw_g (lw_at lw_m3 51 rfl) rfl
theorem q608 : (Jvm.Cond.privateMethod ({ cls := "FishReaders$Reader", name := "book", desc := "()V" } : Jvm.MethodName)) ∈ lw_tbl := lw_at lw_m3 52 rfl
theorem q609 : (Jvm.Cond.instanceMethod ({ cls := "FishReaders$Reader", name := "book", desc := "()V" } : Jvm.MethodName)) ∈ lw_all := lw_g (lw_at lw_m3 53 rfl) rfl
theorem q610 : (Jvm.Cond.code ({ cls := "FishReaders$Reader", name := "book", desc := "()V" } : Jvm.MethodName) prog_10_method_13_code (2 : Nat) (Option.none : Option Jvm.ClassFile.FieldType)) ∈ lw_all := lw_g (lw_at lw_m3 54 rfl) rfl
theorem q611 : (Jvm.Cond.methodLink "FishReaders$Reader" (116 : Nat) ({ cls := "FishReaders$Reader", name := "begin", desc := "(II)V" } : Jvm.MethodName)) ∈ lw_all := lw_g (lw_at lw_m3 55 rfl) rfl
theorem q612 : (Jvm.Cond.privateMethod ({ cls := "FishReaders$Reader", name := "begin", desc := "(II)V" } : Jvm.MethodName)) ∈ lw_tbl := lw_at lw_m3 56 rfl
theorem q613 : (Jvm.Cond.instanceMethod ({ cls := "FishReaders$Reader", name := "begin", desc := "(II)V" } : Jvm.MethodName)) ∈ lw_all := lw_g (lw_at lw_m3 57 rfl) rfl
theorem q614 : (Jvm.Cond.code ({ cls := "FishReaders$Reader", name := "begin", desc := "(II)V" } : Jvm.MethodName) prog_10_method_9_code (3 : Nat) (Option.none : Option Jvm.ClassFile.FieldType)) ∈ lw_all := lw_g (lw_at lw_m3 58 rfl) rfl
theorem q615 : (Jvm.Cond.methodLink "FishReaders$Reader" (126 : Nat) ({ cls := "FishReaders$Library", name := "puts", desc := "(II)V" } : Jvm.MethodName)) ∈ lw_all := lw_g (lw_at lw_m3 59 rfl) rfl
theorem q619 : (Jvm.Cond.stringRef "FishReaders$Reader" (104 : Nat) "rpcws") ∈ lw_tbl := lw_at lw_m3 63 rfl
theorem q620 : (Jvm.Cond.methodLink "FishReaders$Reader" (106 : Nat) ({ cls := "FishReaders$Reader", name := "sortOf", desc := "(Ljava/lang/String;)I" } : Jvm.MethodName)) ∈ lw_all := lw_g (lw_at lw_m3 64 rfl) rfl
theorem q621 : (Jvm.Cond.privateMethod ({ cls := "FishReaders$Reader", name := "sortOf", desc := "(Ljava/lang/String;)I" } : Jvm.MethodName)) ∈ lw_tbl := lw_at lw_m3 65 rfl
theorem q622 : (Jvm.Cond.instanceMethod ({ cls := "FishReaders$Reader", name := "sortOf", desc := "(Ljava/lang/String;)I" } : Jvm.MethodName)) ∈ lw_all := lw_g (lw_at lw_m3 66 rfl) rfl
theorem q623 : (Jvm.Cond.code ({ cls := "FishReaders$Reader", name := "sortOf", desc := "(Ljava/lang/String;)I" } : Jvm.MethodName) prog_10_method_11_code (2 : Nat) (Option.some Jvm.ClassFile.FieldType.int)) ∈ lw_all := lw_g (lw_at lw_m3 67 rfl) rfl
theorem q624 : (Jvm.Cond.methodLink "FishReaders$Reader" (84 : Nat) ({ cls := "FishReaders$Reader", name := "sortIn", desc := "(Ljava/lang/String;II)I" } : Jvm.MethodName)) ∈ lw_all := lw_g (lw_at lw_m3 68 rfl) rfl
theorem q625 : (Jvm.Cond.static ({ cls := "FishReaders$Reader", name := "sortIn", desc := "(Ljava/lang/String;II)I" } : Jvm.MethodName)) ∈ lw_all := lw_g (lw_at lw_m3 69 rfl) rfl
theorem q626 : (Jvm.Cond.code ({ cls := "FishReaders$Reader", name := "sortIn", desc := "(Ljava/lang/String;II)I" } : Jvm.MethodName) prog_10_method_10_code (4 : Nat) (Option.some Jvm.ClassFile.FieldType.int)) ∈ lw_all := lw_g (lw_at lw_m3 70 rfl) rfl
theorem q627 : (Jvm.Cond.methodLink "FishReaders$Reader" (75 : Nat) ({ cls := "java/lang/String", name := "length", desc := "()I" } : Jvm.MethodName)) ∈ lw_all := lw_g (lw_at lw_m3 71 rfl) rfl
theorem q637 : (Jvm.Cond.methodLink "FishReaders$Reader" (80 : Nat) ({ cls := "java/lang/String", name := "charAt", desc := "(I)C" } : Jvm.MethodName)) ∈ lw_all := lw_g (lw_at lw_m3 81 rfl) rfl
theorem q675 : (Jvm.Cond.methodLink "FishReaders$Reader" (110 : Nat) ({ cls := "FishReaders$Reader", name := "fish", desc := "()V" } : Jvm.MethodName)) ∈ lw_all := lw_g (lw_at lw_m3 119 rfl) rfl
theorem q676 : (Jvm.Cond.privateMethod ({ cls := "FishReaders$Reader", name := "fish", desc := "()V" } : Jvm.MethodName)) ∈ lw_tbl := lw_at lw_m3 120 rfl
theorem q677 : (Jvm.Cond.instanceMethod ({ cls := "FishReaders$Reader", name := "fish", desc := "()V" } : Jvm.MethodName)) ∈ lw_all := lw_g (lw_at lw_m3 121 rfl) rfl
theorem q678 : (Jvm.Cond.code ({ cls := "FishReaders$Reader", name := "fish", desc := "()V" } : Jvm.MethodName) prog_10_method_14_code (3 : Nat) (Option.none : Option Jvm.ClassFile.FieldType)) ∈ lw_all := lw_g (lw_at lw_m3 122 rfl) rfl
theorem q679 : (Jvm.Cond.methodLink "FishReaders$Reader" (129 : Nat) ({ cls := "FishReaders$Library", name := "many", desc := "()I" } : Jvm.MethodName)) ∈ lw_all := lw_g (lw_at lw_m3 123 rfl) rfl
theorem q693 : (Jvm.Cond.methodLinkNest "FishReaders$Reader" (138 : Nat) ({ cls := "FishReaders", name := "fishBy", desc := "(II)LFishReaders$Fish;" } : Jvm.MethodName) "FishReaders") ∈ lw_tbl := lw_at lw_m3 137 rfl
theorem q696 : (Jvm.Cond.interfaceEntry "FishReaders$Reader" (142 : Nat)) ∈ lw_tbl := lw_at lw_m3 140 rfl
theorem q697 : (Jvm.Cond.methodLink "FishReaders$Reader" (142 : Nat) ({ cls := "java/util/List", name := "add", desc := "(Ljava/lang/Object;)Z" } : Jvm.MethodName)) ∈ lw_all := lw_g (lw_at lw_m3 141 rfl) rfl
theorem q740 : (Jvm.Cond.selects "FishReaders$Reader" ({ cls := "java/lang/Object", name := "getClass", desc := "()Ljava/lang/Class;" } : Jvm.MethodName) ({ cls := "java/lang/Object", name := "getClass", desc := "()Ljava/lang/Class;" } : Jvm.MethodName)) ∈ lw_all := lw_g (lw_at lw_m3 184 rfl) rfl
theorem q1737 : (Jvm.Cond.castable "FishReaders$Reader" "java/lang/Object") ∈ lw_tbl := lw_at lw_m7 221 rfl
theorem in_X12 : ∀ w ∈ wsX120, w ∈ lw_all := lw_in wsX120 [531, 533, 535, 537, 539, 541, 543] (by decide +kernel) (by decide +kernel)
/-! FishReaders$Fault -/
set_option maxRecDepth 100000
def RX13 : String := "FishReaders$Fault"
def TX13 : u_T := fun k => match k with
  | 0 => ("java/lang/Throwable", "cause", "Ljava/lang/Throwable;", false)
  | 1 => ("java/lang/Throwable", "stackTrace", "[Ljava/lang/StackTraceElement;", false)
  | 2 => ("java/lang/Throwable", "suppressedExceptions", "Ljava/util/List;", false)
  | 3 => ("java/lang/Throwable", "detailMessage", "Ljava/lang/String;", false)
  | 4 => ("java/lang/Throwable", "backtrace", "Ljava/lang/Object;", false)
  | 5 => ("java/lang/Throwable", "depth", "I", false)
  | 6 => ("FishReaders$Fault", "kind", "I", true)
  | _ => ("FishReaders$Fault", "place", "I", true)
def tyX13 : Nat → FieldType := fun k => match k with
  | 0 => .object "java/lang/Throwable"
  | 1 => .array (.object "java/lang/StackTraceElement")
  | 2 => .object "java/util/List"
  | 3 => .object "java/lang/String"
  | 4 => .object "java/lang/Object"
  | 5 => .int
  | 6 => .int
  | _ => .int
abbrev wsX130 : List Cond := u_ws RX13 TX13 8
theorem nmX13 : ∀ a, a < 8 → ∀ b, b < 8 → a ≠ b → (TX13 a).2.1 ≠ (TX13 b).2.1 := by decide +kernel
theorem tyX13_ok : ∀ k, k < 8 → parseFieldDescriptor (TX13 k).2.2.1 = some (tyX13 k) := by decide +kernel
abbrev cX13_init : ByteArray := prog_4_method_1_code
def yX13_init : MethodName := ⟨RX13, "<init>", "(II)V"⟩
def dkwX13_init_0 : List UInt8 := [42, 1, 1, 3, 3, 183, 0, 1, 42, 27, 181, 0, 7, 42, 28, 181, 0, 13, 177]
abbrev dktX13_init_0 : List UInt8 := dkwX13_init_0 ++ []
theorem dksX13_init_0 : cX13_init.data.toList.drop 0 = dktX13_init_0 := by decide +kernel
theorem dX13_init_0 : decode cX13_init 0 = .ok (.aload_n 0, 1) := dk_42 (dk_at dksX13_init_0 0 rfl rfl)
theorem dX13_init_1 : decode cX13_init 1 = .ok (.aconst_null, 1) := dk_1 (dk_at dksX13_init_0 1 rfl rfl)
theorem dX13_init_2 : decode cX13_init 2 = .ok (.aconst_null, 1) := dk_1 (dk_at dksX13_init_0 2 rfl rfl)
theorem dX13_init_3 : decode cX13_init 3 = .ok (.iconst 0, 1) := dk_3 (dk_at dksX13_init_0 3 rfl rfl)
theorem dX13_init_4 : decode cX13_init 4 = .ok (.iconst 0, 1) := dk_3 (dk_at dksX13_init_0 4 rfl rfl)
theorem dX13_init_5 : decode cX13_init 5 = .ok (.invokespecial 1, 3) := dk_183 0 1 (dk_at dksX13_init_0 5 rfl rfl)
theorem dX13_init_8 : decode cX13_init 8 = .ok (.aload_n 0, 1) := dk_42 (dk_at dksX13_init_0 8 rfl rfl)
theorem dX13_init_9 : decode cX13_init 9 = .ok (.iload_n 1, 1) := dk_27 (dk_at dksX13_init_0 9 rfl rfl)
theorem dX13_init_10 : decode cX13_init 10 = .ok (.putfield 7, 3) := dk_181 0 7 (dk_at dksX13_init_0 10 rfl rfl)
theorem dX13_init_13 : decode cX13_init 13 = .ok (.aload_n 0, 1) := dk_42 (dk_at dksX13_init_0 13 rfl rfl)
theorem dX13_init_14 : decode cX13_init 14 = .ok (.iload_n 2, 1) := dk_28 (dk_at dksX13_init_0 14 rfl rfl)
theorem dX13_init_15 : decode cX13_init 15 = .ok (.putfield 13, 3) := dk_181 0 13 (dk_at dksX13_init_0 15 rfl rfl)
theorem dX13_init_18 : decode cX13_init 18 = .ok (.return_, 1) := dk_177 (dk_at dksX13_init_0 18 rfl rfl)
theorem q100 : (Jvm.Cond.initialized "FishReaders$Fault") ∈ lw_all := lw_g (lw_at lw_m1 24 rfl) rfl
theorem q389 : (Jvm.Cond.selects "FishReaders$Fault" ({ cls := "java/lang/Throwable", name := "fillInStackTrace", desc := "()Ljava/lang/Throwable;" } : Jvm.MethodName) ({ cls := "java/lang/Throwable", name := "fillInStackTrace", desc := "()Ljava/lang/Throwable;" } : Jvm.MethodName)) ∈ lw_all := lw_g (lw_at lw_m2 73 rfl) rfl
theorem q573 : (Jvm.Cond.instantiable "FishReaders$Fault" (8 : Nat)) ∈ lw_all := lw_g (lw_at lw_m3 17 rfl) rfl
theorem q574 : (Jvm.Cond.castable "FishReaders$Fault" "FishReaders$Fault") ∈ lw_tbl := lw_at lw_m3 18 rfl
theorem q575 : (Jvm.Cond.selects "FishReaders$Fault" ({ cls := "java/lang/Throwable", name := "fillInStackTrace", desc := "(I)Ljava/lang/Throwable;" } : Jvm.MethodName) ({ cls := "java/lang/Throwable", name := "fillInStackTrace", desc := "(I)Ljava/lang/Throwable;" } : Jvm.MethodName)) ∈ lw_all := lw_g (lw_at lw_m3 19 rfl) rfl
theorem q576 : (Jvm.Cond.lays "FishReaders$Fault" "java/lang/Throwable" "cause" "Ljava/lang/Throwable;") ∈ lw_all := lw_g (lw_at lw_m3 20 rfl) rfl
theorem q577 : (Jvm.Cond.lays "FishReaders$Fault" "java/lang/Throwable" "stackTrace" "[Ljava/lang/StackTraceElement;") ∈ lw_all := lw_g (lw_at lw_m3 21 rfl) rfl
theorem q578 : (Jvm.Cond.lays "FishReaders$Fault" "java/lang/Throwable" "suppressedExceptions" "Ljava/util/List;") ∈ lw_all := lw_g (lw_at lw_m3 22 rfl) rfl
theorem q579 : (Jvm.Cond.lays "FishReaders$Fault" "java/lang/Throwable" "detailMessage" "Ljava/lang/String;") ∈ lw_all := lw_g (lw_at lw_m3 23 rfl) rfl
theorem q580 : (Jvm.Cond.lays "FishReaders$Fault" "java/lang/Throwable" "backtrace" "Ljava/lang/Object;") ∈ lw_all := lw_g (lw_at lw_m3 24 rfl) rfl
theorem q582 : (Jvm.Cond.instanceMethod ({ cls := "FishReaders$Fault", name := "<init>", desc := "(II)V" } : Jvm.MethodName)) ∈ lw_all := lw_g (lw_at lw_m3 26 rfl) rfl
theorem q583 : (Jvm.Cond.code ({ cls := "FishReaders$Fault", name := "<init>", desc := "(II)V" } : Jvm.MethodName) prog_4_method_1_code (3 : Nat) (Option.none : Option Jvm.ClassFile.FieldType)) ∈ lw_all := lw_g (lw_at lw_m3 27 rfl) rfl
theorem q584 : (Jvm.Cond.methodLink "FishReaders$Fault" (1 : Nat) ({ cls := "java/lang/Exception", name := "<init>", desc := "(Ljava/lang/String;Ljava/lang/Throwable;ZZ)V" } : Jvm.MethodName)) ∈ lw_all := lw_g (lw_at lw_m3 28 rfl) rfl
theorem q585 : (Jvm.Cond.fieldLink "FishReaders$Fault" (7 : Nat) "FishReaders$Fault" "kind" "I") ∈ lw_all := lw_g (lw_at lw_m3 29 rfl) rfl
theorem q587 : (Jvm.Cond.fieldLink "FishReaders$Fault" (13 : Nat) "FishReaders$Fault" "place" "I") ∈ lw_all := lw_g (lw_at lw_m3 31 rfl) rfl
theorem q589 : (Jvm.Cond.laysFinal "FishReaders$Fault" "FishReaders$Fault" "kind" "I") ∈ lw_all := lw_g (lw_at lw_m3 33 rfl) rfl
theorem q590 : (Jvm.Cond.soleField "FishReaders$Fault" "kind") ∈ lw_all := lw_g (lw_at lw_m3 34 rfl) rfl
theorem q591 : (Jvm.Cond.laysFinal "FishReaders$Fault" "FishReaders$Fault" "place" "I") ∈ lw_all := lw_g (lw_at lw_m3 35 rfl) rfl
theorem q592 : (Jvm.Cond.soleField "FishReaders$Fault" "place") ∈ lw_all := lw_g (lw_at lw_m3 36 rfl) rfl
theorem q593 : (Jvm.Cond.lays "FishReaders$Fault" "java/lang/Throwable" "depth" "I") ∈ lw_all := lw_g (lw_at lw_m3 37 rfl) rfl
theorem q594 : (Jvm.Cond.superclass "FishReaders$Fault" "java/lang/Exception") ∈ lw_all := lw_g (lw_at lw_m3 38 rfl) rfl
theorem q736 : (Jvm.Cond.selects "FishReaders$Fault" ({ cls := "java/lang/Object", name := "getClass", desc := "()Ljava/lang/Class;" } : Jvm.MethodName) ({ cls := "java/lang/Object", name := "getClass", desc := "()Ljava/lang/Class;" } : Jvm.MethodName)) ∈ lw_all := lw_g (lw_at lw_m3 180 rfl) rfl
theorem q1738 : (Jvm.Cond.castable "FishReaders$Fault" "java/lang/Object") ∈ lw_tbl := lw_at lw_m7 222 rfl
theorem in_X13 : ∀ w ∈ wsX130, w ∈ lw_all := lw_in wsX130 [576, 577, 578, 579, 580, 593, 589, 591] (by decide +kernel) (by decide +kernel)
/-! FishReaders$Marked -/
set_option maxRecDepth 100000
def RX14 : String := "FishReaders$Marked"
abbrev cX14_mark : ByteArray := prog_8_method_3_code
def yX14_mark : MethodName := ⟨RX14, "mark", "(LFishReaders$Trail;LFishReaders$Library;)I"⟩
def dkwX14_mark_0 : List UInt8 := [43, 16, 20, 182, 0, 1, 42, 185, 0, 7, 1, 0, 172]
abbrev dktX14_mark_0 : List UInt8 := dkwX14_mark_0 ++ []
theorem dksX14_mark_0 : cX14_mark.data.toList.drop 0 = dktX14_mark_0 := by decide +kernel
theorem dX14_mark_0 : decode cX14_mark 0 = .ok (.aload_n 1, 1) := dk_43 (dk_at dksX14_mark_0 0 rfl rfl)
theorem dX14_mark_1 : decode cX14_mark 1 = .ok (.bipush 20, 2) := dk_16 20 (dk_at dksX14_mark_0 1 rfl rfl)
theorem dX14_mark_3 : decode cX14_mark 3 = .ok (.invokevirtual 1, 3) := dk_182 0 1 (dk_at dksX14_mark_0 3 rfl rfl)
theorem dX14_mark_6 : decode cX14_mark 6 = .ok (.aload_n 0, 1) := dk_42 (dk_at dksX14_mark_0 6 rfl rfl)
theorem dX14_mark_7 : decode cX14_mark 7 = .ok (.invokeinterface 7 1, 5) := by decide +kernel
theorem dX14_mark_12 : decode cX14_mark 12 = .ok (.ireturn, 1) := dk_172 (dk_at dksX14_mark_0 12 rfl rfl)
theorem q1170 : (Jvm.Cond.declares ({ cls := "FishReaders$Marked", name := "mark", desc := "(LFishReaders$Trail;LFishReaders$Library;)I" } : Jvm.MethodName)) ∈ lw_tbl := lw_at lw_m5 134 rfl
theorem q1171 : (Jvm.Cond.instanceMethod ({ cls := "FishReaders$Marked", name := "mark", desc := "(LFishReaders$Trail;LFishReaders$Library;)I" } : Jvm.MethodName)) ∈ lw_all := lw_g (lw_at lw_m5 135 rfl) rfl
theorem q1172 : (Jvm.Cond.code ({ cls := "FishReaders$Marked", name := "mark", desc := "(LFishReaders$Trail;LFishReaders$Library;)I" } : Jvm.MethodName) prog_8_method_3_code (3 : Nat) (Option.some Jvm.ClassFile.FieldType.int)) ∈ lw_all := lw_g (lw_at lw_m5 136 rfl) rfl
theorem q1173 : (Jvm.Cond.methodLink "FishReaders$Marked" (1 : Nat) ({ cls := "FishReaders$Trail", name := "begins", desc := "(I)V" } : Jvm.MethodName)) ∈ lw_all := lw_g (lw_at lw_m5 137 rfl) rfl
theorem q1174 : (Jvm.Cond.interfaceEntry "FishReaders$Marked" (7 : Nat)) ∈ lw_tbl := lw_at lw_m5 138 rfl
theorem q1175 : (Jvm.Cond.methodLink "FishReaders$Marked" (7 : Nat) ({ cls := "FishReaders$Marked", name := "number", desc := "()I" } : Jvm.MethodName)) ∈ lw_all := lw_g (lw_at lw_m5 139 rfl) rfl
theorem q1176 : (Jvm.Cond.interfaceMethod "FishReaders$Marked" "FishReaders$Marked" "number" "()I") ∈ lw_tbl := lw_at lw_m5 140 rfl
theorem q1177 : (Jvm.Cond.declares ({ cls := "FishReaders$Marked", name := "number", desc := "()I" } : Jvm.MethodName)) ∈ lw_tbl := lw_at lw_m5 141 rfl
