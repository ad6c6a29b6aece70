/-! BurntLettersModel -/
set_option maxRecDepth 100000
def RX2 : String := "BurntLettersModel"
def TX2 : u_T := fun k => match k with
  | 0 => ("BurntLettersModel", "page", "[I", true)
  | 1 => ("BurntLettersModel", "pageMany", "I", false)
  | 2 => ("BurntLettersModel", "room", "I", false)
  | 3 => ("BurntLettersModel", "yearNow", "I", false)
  | 4 => ("BurntLettersModel", "lawsRead", "I", false)
  | 5 => ("BurntLettersModel", "lots", "[I", true)
  | 6 => ("BurntLettersModel", "files", "I", false)
  | 7 => ("BurntLettersModel", "rows", "[I", true)
  | 8 => ("BurntLettersModel", "leaves", "[I", true)
  | 9 => ("BurntLettersModel", "kept", "[I", true)
  | 10 => ("BurntLettersModel", "now", "[I", true)
  | 11 => ("BurntLettersModel", "nowKept", "[I", true)
  | 12 => ("BurntLettersModel", "ahead", "[I", true)
  | 13 => ("BurntLettersModel", "sureMany", "I", false)
  | 14 => ("BurntLettersModel", "movingMany", "I", false)
  | 15 => ("BurntLettersModel", "next", "[I", true)
  | 16 => ("BurntLettersModel", "ashMany", "I", false)
  | 17 => ("BurntLettersModel", "ashRows", "[I", true)
  | 18 => ("BurntLettersModel", "burns", "[I", true)
  | 19 => ("BurntLettersModel", "seedNow", "I", false)
  | 20 => ("BurntLettersModel", "keptLaw", "I", false)
  | 21 => ("BurntLettersModel", "keptFiles", "I", false)
  | 22 => ("BurntLettersModel", "keptYear", "I", false)
  | 23 => ("BurntLettersModel", "keptAshMany", "I", false)
  | 24 => ("BurntLettersModel", "keptRows", "[I", true)
  | 25 => ("BurntLettersModel", "keptLeaves", "[I", true)
  | 26 => ("BurntLettersModel", "keptKept", "[I", true)
  | 27 => ("BurntLettersModel", "keptAshes", "[I", true)
  | _ => ("BurntLettersModel", "hash", "J", false)
def tyX2 : Nat → FieldType := fun k => match k with
  | 0 => .array .int
  | 1 => .int
  | 2 => .int
  | 3 => .int
  | 4 => .int
  | 5 => .array .int
  | 6 => .int
  | 7 => .array .int
  | 8 => .array .int
  | 9 => .array .int
  | 10 => .array .int
  | 11 => .array .int
  | 12 => .array .int
  | 13 => .int
  | 14 => .int
  | 15 => .array .int
  | 16 => .int
  | 17 => .array .int
  | 18 => .array .int
  | 19 => .int
  | 20 => .int
  | 21 => .int
  | 22 => .int
  | 23 => .int
  | 24 => .array .int
  | 25 => .array .int
  | 26 => .array .int
  | 27 => .array .int
  | _ => .long
abbrev wsX20 : List Cond := u_ws RX2 TX2 29
set_option maxRecDepth 100000 in
theorem nmX2 : ∀ a, a < 29 → ∀ b, b < 29 → a ≠ b → (TX2 a).2.1 ≠ (TX2 b).2.1 := by decide +kernel
set_option maxRecDepth 100000 in
theorem tyX2_ok : ∀ k, k < 29 → parseFieldDescriptor (TX2 k).2.2.1 = some (tyX2 k) := by decide +kernel
abbrev cX2_init : ByteArray := prog_11_method_1_code
def yX2_init : MethodName := ⟨RX2, "<init>", "()V"⟩
def dkwX2_init_5 : List UInt8 := [177]
abbrev dktX2_init_5 : List UInt8 := dkwX2_init_5 ++ []
def dkwX2_init_4 : List UInt8 := [188, 10, 181, 0, 46, 42, 8, 188, 10, 181, 0, 49, 42, 8, 188, 10, 181, 0, 52, 42, 2, 181, 0, 55]
abbrev dktX2_init_4 : List UInt8 := dkwX2_init_4 ++ dktX2_init_5
def dkwX2_init_3 : List UInt8 := [42, 8, 188, 10, 181, 0, 37, 42, 8, 188, 10, 181, 0, 40, 42, 16, 10, 188, 10, 181, 0, 43, 42, 8]
abbrev dktX2_init_3 : List UInt8 := dkwX2_init_3 ++ dktX2_init_4
def dkwX2_init_2 : List UInt8 := [181, 0, 25, 42, 8, 188, 10, 181, 0, 28, 42, 8, 188, 10, 181, 0, 31, 42, 7, 188, 10, 181, 0, 34]
abbrev dktX2_init_2 : List UInt8 := dkwX2_init_2 ++ dktX2_init_3
def dkwX2_init_1 : List UInt8 := [188, 10, 181, 0, 16, 42, 8, 188, 10, 181, 0, 19, 42, 8, 188, 10, 181, 0, 22, 42, 8, 188, 10]
abbrev dktX2_init_1 : List UInt8 := dkwX2_init_1 ++ dktX2_init_2
def dkwX2_init_0 : List UInt8 := [42, 183, 0, 1, 42, 16, 10, 188, 10, 181, 0, 7, 42, 16, 6, 188, 10, 181, 0, 13, 42, 16, 10]
abbrev dktX2_init_0 : List UInt8 := dkwX2_init_0 ++ dktX2_init_1
theorem dksX2_init_0 : cX2_init.data.toList.drop 0 = dktX2_init_0 := by decide +kernel
theorem dksX2_init_1 : cX2_init.data.toList.drop 23 = dktX2_init_1 := dk_seg dksX2_init_0 23 rfl rfl
theorem dksX2_init_2 : cX2_init.data.toList.drop 46 = dktX2_init_2 := dk_seg dksX2_init_1 23 rfl rfl
theorem dksX2_init_3 : cX2_init.data.toList.drop 70 = dktX2_init_3 := dk_seg dksX2_init_2 24 rfl rfl
theorem dksX2_init_4 : cX2_init.data.toList.drop 94 = dktX2_init_4 := dk_seg dksX2_init_3 24 rfl rfl
theorem dksX2_init_5 : cX2_init.data.toList.drop 118 = dktX2_init_5 := dk_seg dksX2_init_4 24 rfl rfl
theorem dX2_init_0 : decode cX2_init 0 = .ok (.aload_n 0, 1) := dk_42 (dk_at dksX2_init_0 0 rfl rfl)
theorem dX2_init_1 : decode cX2_init 1 = .ok (.invokespecial 1, 3) := dk_183 0 1 (dk_at dksX2_init_0 1 rfl rfl)
theorem dX2_init_4 : decode cX2_init 4 = .ok (.aload_n 0, 1) := dk_42 (dk_at dksX2_init_0 4 rfl rfl)
theorem dX2_init_5 : decode cX2_init 5 = .ok (.bipush 10, 2) := dk_16 10 (dk_at dksX2_init_0 5 rfl rfl)
theorem dX2_init_7 : decode cX2_init 7 = .ok (.newarray .int, 2) := dk_188_10 (dk_at dksX2_init_0 7 rfl rfl)
theorem dX2_init_9 : decode cX2_init 9 = .ok (.putfield 7, 3) := dk_181 0 7 (dk_at dksX2_init_0 9 rfl rfl)
theorem dX2_init_12 : decode cX2_init 12 = .ok (.aload_n 0, 1) := dk_42 (dk_at dksX2_init_0 12 rfl rfl)
theorem dX2_init_13 : decode cX2_init 13 = .ok (.bipush 6, 2) := dk_16 6 (dk_at dksX2_init_0 13 rfl rfl)
theorem dX2_init_15 : decode cX2_init 15 = .ok (.newarray .int, 2) := dk_188_10 (dk_at dksX2_init_0 15 rfl rfl)
theorem dX2_init_17 : decode cX2_init 17 = .ok (.putfield 13, 3) := dk_181 0 13 (dk_at dksX2_init_0 17 rfl rfl)
theorem dX2_init_20 : decode cX2_init 20 = .ok (.aload_n 0, 1) := dk_42 (dk_at dksX2_init_0 20 rfl rfl)
theorem dX2_init_21 : decode cX2_init 21 = .ok (.bipush 10, 2) := dk_16 10 (dk_at dksX2_init_0 21 rfl rfl)
theorem dX2_init_23 : decode cX2_init 23 = .ok (.newarray .int, 2) := dk_188_10 (dk_at dksX2_init_1 0 rfl rfl)
theorem dX2_init_25 : decode cX2_init 25 = .ok (.putfield 16, 3) := dk_181 0 16 (dk_at dksX2_init_1 2 rfl rfl)
theorem dX2_init_28 : decode cX2_init 28 = .ok (.aload_n 0, 1) := dk_42 (dk_at dksX2_init_1 5 rfl rfl)
theorem dX2_init_29 : decode cX2_init 29 = .ok (.iconst 5, 1) := dk_8 (dk_at dksX2_init_1 6 rfl rfl)
theorem dX2_init_30 : decode cX2_init 30 = .ok (.newarray .int, 2) := dk_188_10 (dk_at dksX2_init_1 7 rfl rfl)
theorem dX2_init_32 : decode cX2_init 32 = .ok (.putfield 19, 3) := dk_181 0 19 (dk_at dksX2_init_1 9 rfl rfl)
theorem dX2_init_35 : decode cX2_init 35 = .ok (.aload_n 0, 1) := dk_42 (dk_at dksX2_init_1 12 rfl rfl)
theorem dX2_init_36 : decode cX2_init 36 = .ok (.iconst 5, 1) := dk_8 (dk_at dksX2_init_1 13 rfl rfl)
theorem dX2_init_37 : decode cX2_init 37 = .ok (.newarray .int, 2) := dk_188_10 (dk_at dksX2_init_1 14 rfl rfl)
theorem dX2_init_39 : decode cX2_init 39 = .ok (.putfield 22, 3) := dk_181 0 22 (dk_at dksX2_init_1 16 rfl rfl)
theorem dX2_init_42 : decode cX2_init 42 = .ok (.aload_n 0, 1) := dk_42 (dk_at dksX2_init_1 19 rfl rfl)
theorem dX2_init_43 : decode cX2_init 43 = .ok (.iconst 5, 1) := dk_8 (dk_at dksX2_init_1 20 rfl rfl)
theorem dX2_init_44 : decode cX2_init 44 = .ok (.newarray .int, 2) := dk_188_10 (dk_at dksX2_init_1 21 rfl rfl)
theorem dX2_init_46 : decode cX2_init 46 = .ok (.putfield 25, 3) := dk_181 0 25 (dk_at dksX2_init_2 0 rfl rfl)
theorem dX2_init_49 : decode cX2_init 49 = .ok (.aload_n 0, 1) := dk_42 (dk_at dksX2_init_2 3 rfl rfl)
theorem dX2_init_50 : decode cX2_init 50 = .ok (.iconst 5, 1) := dk_8 (dk_at dksX2_init_2 4 rfl rfl)
theorem dX2_init_51 : decode cX2_init 51 = .ok (.newarray .int, 2) := dk_188_10 (dk_at dksX2_init_2 5 rfl rfl)
theorem dX2_init_53 : decode cX2_init 53 = .ok (.putfield 28, 3) := dk_181 0 28 (dk_at dksX2_init_2 7 rfl rfl)
theorem dX2_init_56 : decode cX2_init 56 = .ok (.aload_n 0, 1) := dk_42 (dk_at dksX2_init_2 10 rfl rfl)
theorem dX2_init_57 : decode cX2_init 57 = .ok (.iconst 5, 1) := dk_8 (dk_at dksX2_init_2 11 rfl rfl)
theorem dX2_init_58 : decode cX2_init 58 = .ok (.newarray .int, 2) := dk_188_10 (dk_at dksX2_init_2 12 rfl rfl)
theorem dX2_init_60 : decode cX2_init 60 = .ok (.putfield 31, 3) := dk_181 0 31 (dk_at dksX2_init_2 14 rfl rfl)
theorem dX2_init_63 : decode cX2_init 63 = .ok (.aload_n 0, 1) := dk_42 (dk_at dksX2_init_2 17 rfl rfl)
theorem dX2_init_64 : decode cX2_init 64 = .ok (.iconst 4, 1) := dk_7 (dk_at dksX2_init_2 18 rfl rfl)
theorem dX2_init_65 : decode cX2_init 65 = .ok (.newarray .int, 2) := dk_188_10 (dk_at dksX2_init_2 19 rfl rfl)
theorem dX2_init_67 : decode cX2_init 67 = .ok (.putfield 34, 3) := dk_181 0 34 (dk_at dksX2_init_2 21 rfl rfl)
theorem dX2_init_70 : decode cX2_init 70 = .ok (.aload_n 0, 1) := dk_42 (dk_at dksX2_init_3 0 rfl rfl)
theorem dX2_init_71 : decode cX2_init 71 = .ok (.iconst 5, 1) := dk_8 (dk_at dksX2_init_3 1 rfl rfl)
theorem dX2_init_72 : decode cX2_init 72 = .ok (.newarray .int, 2) := dk_188_10 (dk_at dksX2_init_3 2 rfl rfl)
theorem dX2_init_74 : decode cX2_init 74 = .ok (.putfield 37, 3) := dk_181 0 37 (dk_at dksX2_init_3 4 rfl rfl)
theorem dX2_init_77 : decode cX2_init 77 = .ok (.aload_n 0, 1) := dk_42 (dk_at dksX2_init_3 7 rfl rfl)
theorem dX2_init_78 : decode cX2_init 78 = .ok (.iconst 5, 1) := dk_8 (dk_at dksX2_init_3 8 rfl rfl)
theorem dX2_init_79 : decode cX2_init 79 = .ok (.newarray .int, 2) := dk_188_10 (dk_at dksX2_init_3 9 rfl rfl)
theorem dX2_init_81 : decode cX2_init 81 = .ok (.putfield 40, 3) := dk_181 0 40 (dk_at dksX2_init_3 11 rfl rfl)
theorem dX2_init_84 : decode cX2_init 84 = .ok (.aload_n 0, 1) := dk_42 (dk_at dksX2_init_3 14 rfl rfl)
theorem dX2_init_85 : decode cX2_init 85 = .ok (.bipush 10, 2) := dk_16 10 (dk_at dksX2_init_3 15 rfl rfl)
theorem dX2_init_87 : decode cX2_init 87 = .ok (.newarray .int, 2) := dk_188_10 (dk_at dksX2_init_3 17 rfl rfl)
theorem dX2_init_89 : decode cX2_init 89 = .ok (.putfield 43, 3) := dk_181 0 43 (dk_at dksX2_init_3 19 rfl rfl)
theorem dX2_init_92 : decode cX2_init 92 = .ok (.aload_n 0, 1) := dk_42 (dk_at dksX2_init_3 22 rfl rfl)
theorem dX2_init_93 : decode cX2_init 93 = .ok (.iconst 5, 1) := dk_8 (dk_at dksX2_init_3 23 rfl rfl)
theorem dX2_init_94 : decode cX2_init 94 = .ok (.newarray .int, 2) := dk_188_10 (dk_at dksX2_init_4 0 rfl rfl)
theorem dX2_init_96 : decode cX2_init 96 = .ok (.putfield 46, 3) := dk_181 0 46 (dk_at dksX2_init_4 2 rfl rfl)
theorem dX2_init_99 : decode cX2_init 99 = .ok (.aload_n 0, 1) := dk_42 (dk_at dksX2_init_4 5 rfl rfl)
theorem dX2_init_100 : decode cX2_init 100 = .ok (.iconst 5, 1) := dk_8 (dk_at dksX2_init_4 6 rfl rfl)
theorem dX2_init_101 : decode cX2_init 101 = .ok (.newarray .int, 2) := dk_188_10 (dk_at dksX2_init_4 7 rfl rfl)
theorem dX2_init_103 : decode cX2_init 103 = .ok (.putfield 49, 3) := dk_181 0 49 (dk_at dksX2_init_4 9 rfl rfl)
theorem dX2_init_106 : decode cX2_init 106 = .ok (.aload_n 0, 1) := dk_42 (dk_at dksX2_init_4 12 rfl rfl)
theorem dX2_init_107 : decode cX2_init 107 = .ok (.iconst 5, 1) := dk_8 (dk_at dksX2_init_4 13 rfl rfl)
theorem dX2_init_108 : decode cX2_init 108 = .ok (.newarray .int, 2) := dk_188_10 (dk_at dksX2_init_4 14 rfl rfl)
theorem dX2_init_110 : decode cX2_init 110 = .ok (.putfield 52, 3) := dk_181 0 52 (dk_at dksX2_init_4 16 rfl rfl)
theorem dX2_init_113 : decode cX2_init 113 = .ok (.aload_n 0, 1) := dk_42 (dk_at dksX2_init_4 19 rfl rfl)
theorem dX2_init_114 : decode cX2_init 114 = .ok (.iconst (-1), 1) := dk_2 (dk_at dksX2_init_4 20 rfl rfl)
theorem dX2_init_115 : decode cX2_init 115 = .ok (.putfield 55, 3) := dk_181 0 55 (dk_at dksX2_init_4 21 rfl rfl)
theorem dX2_init_118 : decode cX2_init 118 = .ok (.return_, 1) := dk_177 (dk_at dksX2_init_5 0 rfl rfl)
abbrev cX2_letter : ByteArray := prog_11_method_4_code
def yX2_letter : MethodName := ⟨RX2, "letter", "(I)I"⟩
def dkwX2_letter_2 : List UInt8 := [180, 0, 65, 172]
abbrev dktX2_letter_2 : List UInt8 := dkwX2_letter_2 ++ []
def dkwX2_letter_1 : List UInt8 := [16, 152, 172, 42, 180, 0, 7, 42, 180, 0, 65, 27, 79, 42, 89, 180, 0, 65, 4, 96, 181, 0, 65, 42]
abbrev dktX2_letter_1 : List UInt8 := dkwX2_letter_1 ++ dktX2_letter_2
def dkwX2_letter_0 : List UInt8 := [27, 133, 10, 20, 0, 59, 184, 0, 61, 154, 0, 6, 16, 154, 172, 42, 180, 0, 65, 16, 10, 160, 0, 6]
abbrev dktX2_letter_0 : List UInt8 := dkwX2_letter_0 ++ dktX2_letter_1
theorem dksX2_letter_0 : cX2_letter.data.toList.drop 0 = dktX2_letter_0 := by decide +kernel
theorem dksX2_letter_1 : cX2_letter.data.toList.drop 24 = dktX2_letter_1 := dk_seg dksX2_letter_0 24 rfl rfl
theorem dksX2_letter_2 : cX2_letter.data.toList.drop 48 = dktX2_letter_2 := dk_seg dksX2_letter_1 24 rfl rfl
theorem dX2_letter_0 : decode cX2_letter 0 = .ok (.iload_n 1, 1) := dk_27 (dk_at dksX2_letter_0 0 rfl rfl)
theorem dX2_letter_1 : decode cX2_letter 1 = .ok (.i2l, 1) := dk_133 (dk_at dksX2_letter_0 1 rfl rfl)
theorem dX2_letter_2 : decode cX2_letter 2 = .ok (.lconst 1, 1) := dk_10 (dk_at dksX2_letter_0 2 rfl rfl)
theorem dX2_letter_3 : decode cX2_letter 3 = .ok (.ldc2_w 59, 3) := dk_20 0 59 (dk_at dksX2_letter_0 3 rfl rfl)
theorem dX2_letter_6 : decode cX2_letter 6 = .ok (.invokestatic 61, 3) := dk_184 0 61 (dk_at dksX2_letter_0 6 rfl rfl)
theorem dX2_letter_9 : decode cX2_letter 9 = .ok (.ifCond .ne 6, 3) := dk_154 0 6 (dk_at dksX2_letter_0 9 rfl rfl)
theorem dX2_letter_12 : decode cX2_letter 12 = .ok (.bipush (-102), 2) := dk_16 154 (dk_at dksX2_letter_0 12 rfl rfl)
theorem dX2_letter_14 : decode cX2_letter 14 = .ok (.ireturn, 1) := dk_172 (dk_at dksX2_letter_0 14 rfl rfl)
theorem dX2_letter_15 : decode cX2_letter 15 = .ok (.aload_n 0, 1) := dk_42 (dk_at dksX2_letter_0 15 rfl rfl)
theorem dX2_letter_16 : decode cX2_letter 16 = .ok (.getfield 65, 3) := dk_180 0 65 (dk_at dksX2_letter_0 16 rfl rfl)
theorem dX2_letter_19 : decode cX2_letter 19 = .ok (.bipush 10, 2) := dk_16 10 (dk_at dksX2_letter_0 19 rfl rfl)
theorem dX2_letter_21 : decode cX2_letter 21 = .ok (.if_icmp .ne 6, 3) := dk_160 0 6 (dk_at dksX2_letter_0 21 rfl rfl)
theorem dX2_letter_24 : decode cX2_letter 24 = .ok (.bipush (-104), 2) := dk_16 152 (dk_at dksX2_letter_1 0 rfl rfl)
theorem dX2_letter_26 : decode cX2_letter 26 = .ok (.ireturn, 1) := dk_172 (dk_at dksX2_letter_1 2 rfl rfl)
theorem dX2_letter_27 : decode cX2_letter 27 = .ok (.aload_n 0, 1) := dk_42 (dk_at dksX2_letter_1 3 rfl rfl)
theorem dX2_letter_28 : decode cX2_letter 28 = .ok (.getfield 7, 3) := dk_180 0 7 (dk_at dksX2_letter_1 4 rfl rfl)
theorem dX2_letter_31 : decode cX2_letter 31 = .ok (.aload_n 0, 1) := dk_42 (dk_at dksX2_letter_1 7 rfl rfl)
theorem dX2_letter_32 : decode cX2_letter 32 = .ok (.getfield 65, 3) := dk_180 0 65 (dk_at dksX2_letter_1 8 rfl rfl)
theorem dX2_letter_35 : decode cX2_letter 35 = .ok (.iload_n 1, 1) := dk_27 (dk_at dksX2_letter_1 11 rfl rfl)
theorem dX2_letter_36 : decode cX2_letter 36 = .ok (.iastore, 1) := dk_79 (dk_at dksX2_letter_1 12 rfl rfl)
theorem dX2_letter_37 : decode cX2_letter 37 = .ok (.aload_n 0, 1) := dk_42 (dk_at dksX2_letter_1 13 rfl rfl)
theorem dX2_letter_38 : decode cX2_letter 38 = .ok (.dup, 1) := dk_89 (dk_at dksX2_letter_1 14 rfl rfl)
theorem dX2_letter_39 : decode cX2_letter 39 = .ok (.getfield 65, 3) := dk_180 0 65 (dk_at dksX2_letter_1 15 rfl rfl)
theorem dX2_letter_42 : decode cX2_letter 42 = .ok (.iconst 1, 1) := dk_4 (dk_at dksX2_letter_1 18 rfl rfl)
theorem dX2_letter_43 : decode cX2_letter 43 = .ok (.iadd, 1) := dk_96 (dk_at dksX2_letter_1 19 rfl rfl)
theorem dX2_letter_44 : decode cX2_letter 44 = .ok (.putfield 65, 3) := dk_181 0 65 (dk_at dksX2_letter_1 20 rfl rfl)
theorem dX2_letter_47 : decode cX2_letter 47 = .ok (.aload_n 0, 1) := dk_42 (dk_at dksX2_letter_1 23 rfl rfl)
theorem dX2_letter_48 : decode cX2_letter 48 = .ok (.getfield 65, 3) := dk_180 0 65 (dk_at dksX2_letter_2 0 rfl rfl)
theorem dX2_letter_51 : decode cX2_letter 51 = .ok (.ireturn, 1) := dk_172 (dk_at dksX2_letter_2 3 rfl rfl)
abbrev cX2_in : ByteArray := prog_11_method_2_code
def yX2_in : MethodName := ⟨RX2, "in", "(JJJ)Z"⟩
def dkwX2_in_0 : List UInt8 := [30, 32, 148, 155, 0, 14, 30, 22, 4, 148, 157, 0, 7, 4, 167, 0, 4, 3, 172]
abbrev dktX2_in_0 : List UInt8 := dkwX2_in_0 ++ []
theorem dksX2_in_0 : cX2_in.data.toList.drop 0 = dktX2_in_0 := by decide +kernel
theorem dX2_in_0 : decode cX2_in 0 = .ok (.lload_n 0, 1) := dk_30 (dk_at dksX2_in_0 0 rfl rfl)
theorem dX2_in_1 : decode cX2_in 1 = .ok (.lload_n 2, 1) := dk_32 (dk_at dksX2_in_0 1 rfl rfl)
theorem dX2_in_2 : decode cX2_in 2 = .ok (.lcmp, 1) := dk_148 (dk_at dksX2_in_0 2 rfl rfl)
theorem dX2_in_3 : decode cX2_in 3 = .ok (.ifCond .lt 14, 3) := dk_155 0 14 (dk_at dksX2_in_0 3 rfl rfl)
theorem dX2_in_6 : decode cX2_in 6 = .ok (.lload_n 0, 1) := dk_30 (dk_at dksX2_in_0 6 rfl rfl)
theorem dX2_in_7 : decode cX2_in 7 = .ok (.lload 4, 2) := dk_22 4 (dk_at dksX2_in_0 7 rfl rfl)
theorem dX2_in_9 : decode cX2_in 9 = .ok (.lcmp, 1) := dk_148 (dk_at dksX2_in_0 9 rfl rfl)
theorem dX2_in_10 : decode cX2_in 10 = .ok (.ifCond .gt 7, 3) := dk_157 0 7 (dk_at dksX2_in_0 10 rfl rfl)
theorem dX2_in_13 : decode cX2_in 13 = .ok (.iconst 1, 1) := dk_4 (dk_at dksX2_in_0 13 rfl rfl)
theorem dX2_in_14 : decode cX2_in 14 = .ok (.goto 4, 3) := dk_167 0 4 (dk_at dksX2_in_0 14 rfl rfl)
theorem dX2_in_17 : decode cX2_in 17 = .ok (.iconst 0, 1) := dk_3 (dk_at dksX2_in_0 17 rfl rfl)
theorem dX2_in_18 : decode cX2_in 18 = .ok (.ireturn, 1) := dk_172 (dk_at dksX2_in_0 18 rfl rfl)
abbrev cX2_blank : ByteArray := prog_11_method_5_code
def yX2_blank : MethodName := ⟨RX2, "blank", "()I"⟩
def dkwX2_blank_0 : List UInt8 := [42, 180, 0, 65, 60, 42, 3, 181, 0, 65, 27, 172]
abbrev dktX2_blank_0 : List UInt8 := dkwX2_blank_0 ++ []
theorem dksX2_blank_0 : cX2_blank.data.toList.drop 0 = dktX2_blank_0 := by decide +kernel
theorem dX2_blank_0 : decode cX2_blank 0 = .ok (.aload_n 0, 1) := dk_42 (dk_at dksX2_blank_0 0 rfl rfl)
theorem dX2_blank_1 : decode cX2_blank 1 = .ok (.getfield 65, 3) := dk_180 0 65 (dk_at dksX2_blank_0 1 rfl rfl)
theorem dX2_blank_4 : decode cX2_blank 4 = .ok (.istore_n 1, 1) := dk_60 (dk_at dksX2_blank_0 4 rfl rfl)
theorem dX2_blank_5 : decode cX2_blank 5 = .ok (.aload_n 0, 1) := dk_42 (dk_at dksX2_blank_0 5 rfl rfl)
theorem dX2_blank_6 : decode cX2_blank 6 = .ok (.iconst 0, 1) := dk_3 (dk_at dksX2_blank_0 6 rfl rfl)
theorem dX2_blank_7 : decode cX2_blank 7 = .ok (.putfield 65, 3) := dk_181 0 65 (dk_at dksX2_blank_0 7 rfl rfl)
theorem dX2_blank_10 : decode cX2_blank 10 = .ok (.iload_n 1, 1) := dk_27 (dk_at dksX2_blank_0 10 rfl rfl)
theorem dX2_blank_11 : decode cX2_blank 11 = .ok (.ireturn, 1) := dk_172 (dk_at dksX2_blank_0 11 rfl rfl)
abbrev cX2_fault : ByteArray := prog_11_method_8_code
def yX2_fault : MethodName := ⟨RX2, "fault", "()I"⟩
theorem dX2_fault_0 : decode cX2_fault 0 = .ok (.aload_n 0, 1) := by decide +kernel
theorem dX2_fault_1 : decode cX2_fault 1 = .ok (.invokevirtual 74, 3) := by decide +kernel
theorem dX2_fault_4 : decode cX2_fault 4 = .ok (.ireturn, 1) := by decide +kernel
abbrev cX2_faultOf : ByteArray := prog_11_method_7_code
def yX2_faultOf : MethodName := ⟨RX2, "faultOf", "()I"⟩
def dkwX2_faultOf_2 : List UInt8 := [60, 132, 2, 1, 167, 255, 209, 28, 172]
abbrev dktX2_faultOf_2 : List UInt8 := dkwX2_faultOf_2 ++ []
def dkwX2_faultOf_1 : List UInt8 := [153, 0, 31, 27, 28, 16, 6, 162, 0, 15, 42, 180, 0, 7, 28, 46, 16, 48, 100, 167, 0, 4, 3, 96]
abbrev dktX2_faultOf_1 : List UInt8 := dkwX2_faultOf_1 ++ dktX2_faultOf_2
def dkwX2_faultOf_0 : List UInt8 := [3, 60, 3, 61, 28, 42, 180, 0, 65, 162, 0, 45, 28, 42, 180, 0, 7, 28, 46, 27, 184, 0, 70]
abbrev dktX2_faultOf_0 : List UInt8 := dkwX2_faultOf_0 ++ dktX2_faultOf_1
theorem dksX2_faultOf_0 : cX2_faultOf.data.toList.drop 0 = dktX2_faultOf_0 := by decide +kernel
theorem dksX2_faultOf_1 : cX2_faultOf.data.toList.drop 23 = dktX2_faultOf_1 := dk_seg dksX2_faultOf_0 23 rfl rfl
theorem dksX2_faultOf_2 : cX2_faultOf.data.toList.drop 47 = dktX2_faultOf_2 := dk_seg dksX2_faultOf_1 24 rfl rfl
theorem dX2_faultOf_0 : decode cX2_faultOf 0 = .ok (.iconst 0, 1) := dk_3 (dk_at dksX2_faultOf_0 0 rfl rfl)
theorem dX2_faultOf_1 : decode cX2_faultOf 1 = .ok (.istore_n 1, 1) := dk_60 (dk_at dksX2_faultOf_0 1 rfl rfl)
theorem dX2_faultOf_2 : decode cX2_faultOf 2 = .ok (.iconst 0, 1) := dk_3 (dk_at dksX2_faultOf_0 2 rfl rfl)
theorem dX2_faultOf_3 : decode cX2_faultOf 3 = .ok (.istore_n 2, 1) := dk_61 (dk_at dksX2_faultOf_0 3 rfl rfl)
theorem dX2_faultOf_4 : decode cX2_faultOf 4 = .ok (.iload_n 2, 1) := dk_28 (dk_at dksX2_faultOf_0 4 rfl rfl)
theorem dX2_faultOf_5 : decode cX2_faultOf 5 = .ok (.aload_n 0, 1) := dk_42 (dk_at dksX2_faultOf_0 5 rfl rfl)
theorem dX2_faultOf_6 : decode cX2_faultOf 6 = .ok (.getfield 65, 3) := dk_180 0 65 (dk_at dksX2_faultOf_0 6 rfl rfl)
theorem dX2_faultOf_9 : decode cX2_faultOf 9 = .ok (.if_icmp .ge 45, 3) := dk_162 0 45 (dk_at dksX2_faultOf_0 9 rfl rfl)
theorem dX2_faultOf_12 : decode cX2_faultOf 12 = .ok (.iload_n 2, 1) := dk_28 (dk_at dksX2_faultOf_0 12 rfl rfl)
theorem dX2_faultOf_13 : decode cX2_faultOf 13 = .ok (.aload_n 0, 1) := dk_42 (dk_at dksX2_faultOf_0 13 rfl rfl)
theorem dX2_faultOf_14 : decode cX2_faultOf 14 = .ok (.getfield 7, 3) := dk_180 0 7 (dk_at dksX2_faultOf_0 14 rfl rfl)
theorem dX2_faultOf_17 : decode cX2_faultOf 17 = .ok (.iload_n 2, 1) := dk_28 (dk_at dksX2_faultOf_0 17 rfl rfl)
theorem dX2_faultOf_18 : decode cX2_faultOf 18 = .ok (.iaload, 1) := dk_46 (dk_at dksX2_faultOf_0 18 rfl rfl)
theorem dX2_faultOf_19 : decode cX2_faultOf 19 = .ok (.iload_n 1, 1) := dk_27 (dk_at dksX2_faultOf_0 19 rfl rfl)
theorem dX2_faultOf_20 : decode cX2_faultOf 20 = .ok (.invokestatic 70, 3) := dk_184 0 70 (dk_at dksX2_faultOf_0 20 rfl rfl)
theorem dX2_faultOf_23 : decode cX2_faultOf 23 = .ok (.ifCond .eq 31, 3) := dk_153 0 31 (dk_at dksX2_faultOf_1 0 rfl rfl)
theorem dX2_faultOf_26 : decode cX2_faultOf 26 = .ok (.iload_n 1, 1) := dk_27 (dk_at dksX2_faultOf_1 3 rfl rfl)
theorem dX2_faultOf_27 : decode cX2_faultOf 27 = .ok (.iload_n 2, 1) := dk_28 (dk_at dksX2_faultOf_1 4 rfl rfl)
theorem dX2_faultOf_28 : decode cX2_faultOf 28 = .ok (.bipush 6, 2) := dk_16 6 (dk_at dksX2_faultOf_1 5 rfl rfl)
theorem dX2_faultOf_30 : decode cX2_faultOf 30 = .ok (.if_icmp .ge 15, 3) := dk_162 0 15 (dk_at dksX2_faultOf_1 7 rfl rfl)
theorem dX2_faultOf_33 : decode cX2_faultOf 33 = .ok (.aload_n 0, 1) := dk_42 (dk_at dksX2_faultOf_1 10 rfl rfl)
theorem dX2_faultOf_34 : decode cX2_faultOf 34 = .ok (.getfield 7, 3) := dk_180 0 7 (dk_at dksX2_faultOf_1 11 rfl rfl)
theorem dX2_faultOf_37 : decode cX2_faultOf 37 = .ok (.iload_n 2, 1) := dk_28 (dk_at dksX2_faultOf_1 14 rfl rfl)
theorem dX2_faultOf_38 : decode cX2_faultOf 38 = .ok (.iaload, 1) := dk_46 (dk_at dksX2_faultOf_1 15 rfl rfl)
theorem dX2_faultOf_39 : decode cX2_faultOf 39 = .ok (.bipush 48, 2) := dk_16 48 (dk_at dksX2_faultOf_1 16 rfl rfl)
theorem dX2_faultOf_41 : decode cX2_faultOf 41 = .ok (.isub, 1) := dk_100 (dk_at dksX2_faultOf_1 18 rfl rfl)
theorem dX2_faultOf_42 : decode cX2_faultOf 42 = .ok (.goto 4, 3) := dk_167 0 4 (dk_at dksX2_faultOf_1 19 rfl rfl)
theorem dX2_faultOf_45 : decode cX2_faultOf 45 = .ok (.iconst 0, 1) := dk_3 (dk_at dksX2_faultOf_1 22 rfl rfl)
theorem dX2_faultOf_46 : decode cX2_faultOf 46 = .ok (.iadd, 1) := dk_96 (dk_at dksX2_faultOf_1 23 rfl rfl)
theorem dX2_faultOf_47 : decode cX2_faultOf 47 = .ok (.istore_n 1, 1) := dk_60 (dk_at dksX2_faultOf_2 0 rfl rfl)
theorem dX2_faultOf_48 : decode cX2_faultOf 48 = .ok (.iinc 2 1, 3) := dk_132 2 1 (dk_at dksX2_faultOf_2 1 rfl rfl)
theorem dX2_faultOf_51 : decode cX2_faultOf 51 = .ok (.goto (-47), 3) := dk_167 255 209 (dk_at dksX2_faultOf_2 4 rfl rfl)
theorem dX2_faultOf_54 : decode cX2_faultOf 54 = .ok (.iload_n 2, 1) := dk_28 (dk_at dksX2_faultOf_2 7 rfl rfl)
theorem dX2_faultOf_55 : decode cX2_faultOf 55 = .ok (.ireturn, 1) := dk_172 (dk_at dksX2_faultOf_2 8 rfl rfl)
abbrev cX2_isGood : ByteArray := prog_11_method_6_code
def yX2_isGood : MethodName := ⟨RX2, "isGood", "(III)Z"⟩
def dkwX2_isGood_3 : List UInt8 := [16, 7, 160, 0, 19, 29, 133, 10, 20, 0, 68, 184, 0, 61, 153, 0, 7, 4, 167, 0, 4, 3, 172]
abbrev dktX2_isGood_3 : List UInt8 := dkwX2_isGood_3 ++ []
def dkwX2_isGood_2 : List UInt8 := [3, 172, 26, 16, 6, 160, 0, 17, 27, 16, 59, 160, 0, 7, 4, 167, 0, 30, 3, 167, 0, 26, 26]
abbrev dktX2_isGood_2 : List UInt8 := dkwX2_isGood_2 ++ dktX2_isGood_3
def dkwX2_isGood_1 : List UInt8 := [29, 96, 16, 10, 163, 0, 20, 26, 8, 161, 0, 11, 28, 29, 96, 16, 10, 160, 0, 7, 4, 167, 0, 4]
abbrev dktX2_isGood_1 : List UInt8 := dkwX2_isGood_1 ++ dktX2_isGood_2
def dkwX2_isGood_0 : List UInt8 := [27, 16, 48, 100, 62, 26, 16, 6, 162, 0, 42, 29, 133, 9, 20, 0, 68, 184, 0, 61, 153, 0, 28, 28]
abbrev dktX2_isGood_0 : List UInt8 := dkwX2_isGood_0 ++ dktX2_isGood_1
theorem dksX2_isGood_0 : cX2_isGood.data.toList.drop 0 = dktX2_isGood_0 := by decide +kernel
theorem dksX2_isGood_1 : cX2_isGood.data.toList.drop 24 = dktX2_isGood_1 := dk_seg dksX2_isGood_0 24 rfl rfl
theorem dksX2_isGood_2 : cX2_isGood.data.toList.drop 48 = dktX2_isGood_2 := dk_seg dksX2_isGood_1 24 rfl rfl
theorem dksX2_isGood_3 : cX2_isGood.data.toList.drop 71 = dktX2_isGood_3 := dk_seg dksX2_isGood_2 23 rfl rfl
theorem dX2_isGood_0 : decode cX2_isGood 0 = .ok (.iload_n 1, 1) := dk_27 (dk_at dksX2_isGood_0 0 rfl rfl)
theorem dX2_isGood_1 : decode cX2_isGood 1 = .ok (.bipush 48, 2) := dk_16 48 (dk_at dksX2_isGood_0 1 rfl rfl)
theorem dX2_isGood_3 : decode cX2_isGood 3 = .ok (.isub, 1) := dk_100 (dk_at dksX2_isGood_0 3 rfl rfl)
theorem dX2_isGood_4 : decode cX2_isGood 4 = .ok (.istore_n 3, 1) := dk_62 (dk_at dksX2_isGood_0 4 rfl rfl)
theorem dX2_isGood_5 : decode cX2_isGood 5 = .ok (.iload_n 0, 1) := dk_26 (dk_at dksX2_isGood_0 5 rfl rfl)
theorem dX2_isGood_6 : decode cX2_isGood 6 = .ok (.bipush 6, 2) := dk_16 6 (dk_at dksX2_isGood_0 6 rfl rfl)
theorem dX2_isGood_8 : decode cX2_isGood 8 = .ok (.if_icmp .ge 42, 3) := dk_162 0 42 (dk_at dksX2_isGood_0 8 rfl rfl)
theorem dX2_isGood_11 : decode cX2_isGood 11 = .ok (.iload_n 3, 1) := dk_29 (dk_at dksX2_isGood_0 11 rfl rfl)
theorem dX2_isGood_12 : decode cX2_isGood 12 = .ok (.i2l, 1) := dk_133 (dk_at dksX2_isGood_0 12 rfl rfl)
theorem dX2_isGood_13 : decode cX2_isGood 13 = .ok (.lconst 0, 1) := dk_9 (dk_at dksX2_isGood_0 13 rfl rfl)
theorem dX2_isGood_14 : decode cX2_isGood 14 = .ok (.ldc2_w 68, 3) := dk_20 0 68 (dk_at dksX2_isGood_0 14 rfl rfl)
theorem dX2_isGood_17 : decode cX2_isGood 17 = .ok (.invokestatic 61, 3) := dk_184 0 61 (dk_at dksX2_isGood_0 17 rfl rfl)
theorem dX2_isGood_20 : decode cX2_isGood 20 = .ok (.ifCond .eq 28, 3) := dk_153 0 28 (dk_at dksX2_isGood_0 20 rfl rfl)
theorem dX2_isGood_23 : decode cX2_isGood 23 = .ok (.iload_n 2, 1) := dk_28 (dk_at dksX2_isGood_0 23 rfl rfl)
theorem dX2_isGood_24 : decode cX2_isGood 24 = .ok (.iload_n 3, 1) := dk_29 (dk_at dksX2_isGood_1 0 rfl rfl)
theorem dX2_isGood_25 : decode cX2_isGood 25 = .ok (.iadd, 1) := dk_96 (dk_at dksX2_isGood_1 1 rfl rfl)
theorem dX2_isGood_26 : decode cX2_isGood 26 = .ok (.bipush 10, 2) := dk_16 10 (dk_at dksX2_isGood_1 2 rfl rfl)
theorem dX2_isGood_28 : decode cX2_isGood 28 = .ok (.if_icmp .gt 20, 3) := dk_163 0 20 (dk_at dksX2_isGood_1 4 rfl rfl)
theorem dX2_isGood_31 : decode cX2_isGood 31 = .ok (.iload_n 0, 1) := dk_26 (dk_at dksX2_isGood_1 7 rfl rfl)
theorem dX2_isGood_32 : decode cX2_isGood 32 = .ok (.iconst 5, 1) := dk_8 (dk_at dksX2_isGood_1 8 rfl rfl)
theorem dX2_isGood_33 : decode cX2_isGood 33 = .ok (.if_icmp .lt 11, 3) := dk_161 0 11 (dk_at dksX2_isGood_1 9 rfl rfl)
theorem dX2_isGood_36 : decode cX2_isGood 36 = .ok (.iload_n 2, 1) := dk_28 (dk_at dksX2_isGood_1 12 rfl rfl)
theorem dX2_isGood_37 : decode cX2_isGood 37 = .ok (.iload_n 3, 1) := dk_29 (dk_at dksX2_isGood_1 13 rfl rfl)
theorem dX2_isGood_38 : decode cX2_isGood 38 = .ok (.iadd, 1) := dk_96 (dk_at dksX2_isGood_1 14 rfl rfl)
theorem dX2_isGood_39 : decode cX2_isGood 39 = .ok (.bipush 10, 2) := dk_16 10 (dk_at dksX2_isGood_1 15 rfl rfl)
theorem dX2_isGood_41 : decode cX2_isGood 41 = .ok (.if_icmp .ne 7, 3) := dk_160 0 7 (dk_at dksX2_isGood_1 17 rfl rfl)
theorem dX2_isGood_44 : decode cX2_isGood 44 = .ok (.iconst 1, 1) := dk_4 (dk_at dksX2_isGood_1 20 rfl rfl)
theorem dX2_isGood_45 : decode cX2_isGood 45 = .ok (.goto 4, 3) := dk_167 0 4 (dk_at dksX2_isGood_1 21 rfl rfl)
theorem dX2_isGood_48 : decode cX2_isGood 48 = .ok (.iconst 0, 1) := dk_3 (dk_at dksX2_isGood_2 0 rfl rfl)
theorem dX2_isGood_49 : decode cX2_isGood 49 = .ok (.ireturn, 1) := dk_172 (dk_at dksX2_isGood_2 1 rfl rfl)
theorem dX2_isGood_50 : decode cX2_isGood 50 = .ok (.iload_n 0, 1) := dk_26 (dk_at dksX2_isGood_2 2 rfl rfl)
theorem dX2_isGood_51 : decode cX2_isGood 51 = .ok (.bipush 6, 2) := dk_16 6 (dk_at dksX2_isGood_2 3 rfl rfl)
theorem dX2_isGood_53 : decode cX2_isGood 53 = .ok (.if_icmp .ne 17, 3) := dk_160 0 17 (dk_at dksX2_isGood_2 5 rfl rfl)
theorem dX2_isGood_56 : decode cX2_isGood 56 = .ok (.iload_n 1, 1) := dk_27 (dk_at dksX2_isGood_2 8 rfl rfl)
theorem dX2_isGood_57 : decode cX2_isGood 57 = .ok (.bipush 59, 2) := dk_16 59 (dk_at dksX2_isGood_2 9 rfl rfl)
theorem dX2_isGood_59 : decode cX2_isGood 59 = .ok (.if_icmp .ne 7, 3) := dk_160 0 7 (dk_at dksX2_isGood_2 11 rfl rfl)
theorem dX2_isGood_62 : decode cX2_isGood 62 = .ok (.iconst 1, 1) := dk_4 (dk_at dksX2_isGood_2 14 rfl rfl)
theorem dX2_isGood_63 : decode cX2_isGood 63 = .ok (.goto 30, 3) := dk_167 0 30 (dk_at dksX2_isGood_2 15 rfl rfl)
theorem dX2_isGood_66 : decode cX2_isGood 66 = .ok (.iconst 0, 1) := dk_3 (dk_at dksX2_isGood_2 18 rfl rfl)
theorem dX2_isGood_67 : decode cX2_isGood 67 = .ok (.goto 26, 3) := dk_167 0 26 (dk_at dksX2_isGood_2 19 rfl rfl)
theorem dX2_isGood_70 : decode cX2_isGood 70 = .ok (.iload_n 0, 1) := dk_26 (dk_at dksX2_isGood_2 22 rfl rfl)
theorem dX2_isGood_71 : decode cX2_isGood 71 = .ok (.bipush 7, 2) := dk_16 7 (dk_at dksX2_isGood_3 0 rfl rfl)
theorem dX2_isGood_73 : decode cX2_isGood 73 = .ok (.if_icmp .ne 19, 3) := dk_160 0 19 (dk_at dksX2_isGood_3 2 rfl rfl)
theorem dX2_isGood_76 : decode cX2_isGood 76 = .ok (.iload_n 3, 1) := dk_29 (dk_at dksX2_isGood_3 5 rfl rfl)
theorem dX2_isGood_77 : decode cX2_isGood 77 = .ok (.i2l, 1) := dk_133 (dk_at dksX2_isGood_3 6 rfl rfl)
theorem dX2_isGood_78 : decode cX2_isGood 78 = .ok (.lconst 1, 1) := dk_10 (dk_at dksX2_isGood_3 7 rfl rfl)
theorem dX2_isGood_79 : decode cX2_isGood 79 = .ok (.ldc2_w 68, 3) := dk_20 0 68 (dk_at dksX2_isGood_3 8 rfl rfl)
theorem dX2_isGood_82 : decode cX2_isGood 82 = .ok (.invokestatic 61, 3) := dk_184 0 61 (dk_at dksX2_isGood_3 11 rfl rfl)
theorem dX2_isGood_85 : decode cX2_isGood 85 = .ok (.ifCond .eq 7, 3) := dk_153 0 7 (dk_at dksX2_isGood_3 14 rfl rfl)
theorem dX2_isGood_88 : decode cX2_isGood 88 = .ok (.iconst 1, 1) := dk_4 (dk_at dksX2_isGood_3 17 rfl rfl)
theorem dX2_isGood_89 : decode cX2_isGood 89 = .ok (.goto 4, 3) := dk_167 0 4 (dk_at dksX2_isGood_3 18 rfl rfl)
theorem dX2_isGood_92 : decode cX2_isGood 92 = .ok (.iconst 0, 1) := dk_3 (dk_at dksX2_isGood_3 21 rfl rfl)
theorem dX2_isGood_93 : decode cX2_isGood 93 = .ok (.ireturn, 1) := dk_172 (dk_at dksX2_isGood_3 22 rfl rfl)
abbrev cX2_law : ByteArray := prog_11_method_9_code
def yX2_law : MethodName := ⟨RX2, "law", "()I"⟩
def dkwX2_law_4 : List UInt8 := [180, 0, 78, 172]
abbrev dktX2_law_4 : List UInt8 := dkwX2_law_4 ++ []
def dkwX2_law_3 : List UInt8 := [181, 0, 84, 42, 3, 181, 0, 87, 42, 89, 180, 0, 90, 4, 96, 181, 0, 90, 42, 3, 181, 0, 65, 42]
abbrev dktX2_law_3 : List UInt8 := dkwX2_law_3 ++ dktX2_law_4
def dkwX2_law_2 : List UInt8 := [167, 255, 232, 42, 42, 180, 0, 7, 16, 7, 46, 16, 48, 100, 181, 0, 78, 42, 3, 181, 0, 81, 42, 3]
abbrev dktX2_law_2 : List UInt8 := dkwX2_law_2 ++ dktX2_law_3
def dkwX2_law_1 : List UInt8 := [16, 6, 162, 0, 24, 42, 180, 0, 13, 27, 42, 180, 0, 7, 27, 46, 16, 48, 100, 79, 132, 1, 1]
abbrev dktX2_law_1 : List UInt8 := dkwX2_law_1 ++ dktX2_law_2
def dkwX2_law_0 : List UInt8 := [42, 180, 0, 65, 16, 8, 160, 0, 12, 42, 182, 0, 74, 16, 8, 162, 0, 6, 16, 153, 172, 3, 60, 27]
abbrev dktX2_law_0 : List UInt8 := dkwX2_law_0 ++ dktX2_law_1
theorem dksX2_law_0 : cX2_law.data.toList.drop 0 = dktX2_law_0 := by decide +kernel
theorem dksX2_law_1 : cX2_law.data.toList.drop 24 = dktX2_law_1 := dk_seg dksX2_law_0 24 rfl rfl
theorem dksX2_law_2 : cX2_law.data.toList.drop 47 = dktX2_law_2 := dk_seg dksX2_law_1 23 rfl rfl
theorem dksX2_law_3 : cX2_law.data.toList.drop 71 = dktX2_law_3 := dk_seg dksX2_law_2 24 rfl rfl
theorem dksX2_law_4 : cX2_law.data.toList.drop 95 = dktX2_law_4 := dk_seg dksX2_law_3 24 rfl rfl
theorem dX2_law_0 : decode cX2_law 0 = .ok (.aload_n 0, 1) := dk_42 (dk_at dksX2_law_0 0 rfl rfl)
theorem dX2_law_1 : decode cX2_law 1 = .ok (.getfield 65, 3) := dk_180 0 65 (dk_at dksX2_law_0 1 rfl rfl)
theorem dX2_law_4 : decode cX2_law 4 = .ok (.bipush 8, 2) := dk_16 8 (dk_at dksX2_law_0 4 rfl rfl)
theorem dX2_law_6 : decode cX2_law 6 = .ok (.if_icmp .ne 12, 3) := dk_160 0 12 (dk_at dksX2_law_0 6 rfl rfl)
theorem dX2_law_9 : decode cX2_law 9 = .ok (.aload_n 0, 1) := dk_42 (dk_at dksX2_law_0 9 rfl rfl)
theorem dX2_law_10 : decode cX2_law 10 = .ok (.invokevirtual 74, 3) := dk_182 0 74 (dk_at dksX2_law_0 10 rfl rfl)
theorem dX2_law_13 : decode cX2_law 13 = .ok (.bipush 8, 2) := dk_16 8 (dk_at dksX2_law_0 13 rfl rfl)
theorem dX2_law_15 : decode cX2_law 15 = .ok (.if_icmp .ge 6, 3) := dk_162 0 6 (dk_at dksX2_law_0 15 rfl rfl)
theorem dX2_law_18 : decode cX2_law 18 = .ok (.bipush (-103), 2) := dk_16 153 (dk_at dksX2_law_0 18 rfl rfl)
theorem dX2_law_20 : decode cX2_law 20 = .ok (.ireturn, 1) := dk_172 (dk_at dksX2_law_0 20 rfl rfl)
theorem dX2_law_21 : decode cX2_law 21 = .ok (.iconst 0, 1) := dk_3 (dk_at dksX2_law_0 21 rfl rfl)
theorem dX2_law_22 : decode cX2_law 22 = .ok (.istore_n 1, 1) := dk_60 (dk_at dksX2_law_0 22 rfl rfl)
theorem dX2_law_23 : decode cX2_law 23 = .ok (.iload_n 1, 1) := dk_27 (dk_at dksX2_law_0 23 rfl rfl)
theorem dX2_law_24 : decode cX2_law 24 = .ok (.bipush 6, 2) := dk_16 6 (dk_at dksX2_law_1 0 rfl rfl)
theorem dX2_law_26 : decode cX2_law 26 = .ok (.if_icmp .ge 24, 3) := dk_162 0 24 (dk_at dksX2_law_1 2 rfl rfl)
theorem dX2_law_29 : decode cX2_law 29 = .ok (.aload_n 0, 1) := dk_42 (dk_at dksX2_law_1 5 rfl rfl)
theorem dX2_law_30 : decode cX2_law 30 = .ok (.getfield 13, 3) := dk_180 0 13 (dk_at dksX2_law_1 6 rfl rfl)
theorem dX2_law_33 : decode cX2_law 33 = .ok (.iload_n 1, 1) := dk_27 (dk_at dksX2_law_1 9 rfl rfl)
theorem dX2_law_34 : decode cX2_law 34 = .ok (.aload_n 0, 1) := dk_42 (dk_at dksX2_law_1 10 rfl rfl)
theorem dX2_law_35 : decode cX2_law 35 = .ok (.getfield 7, 3) := dk_180 0 7 (dk_at dksX2_law_1 11 rfl rfl)
theorem dX2_law_38 : decode cX2_law 38 = .ok (.iload_n 1, 1) := dk_27 (dk_at dksX2_law_1 14 rfl rfl)
theorem dX2_law_39 : decode cX2_law 39 = .ok (.iaload, 1) := dk_46 (dk_at dksX2_law_1 15 rfl rfl)
theorem dX2_law_40 : decode cX2_law 40 = .ok (.bipush 48, 2) := dk_16 48 (dk_at dksX2_law_1 16 rfl rfl)
theorem dX2_law_42 : decode cX2_law 42 = .ok (.isub, 1) := dk_100 (dk_at dksX2_law_1 18 rfl rfl)
theorem dX2_law_43 : decode cX2_law 43 = .ok (.iastore, 1) := dk_79 (dk_at dksX2_law_1 19 rfl rfl)
theorem dX2_law_44 : decode cX2_law 44 = .ok (.iinc 1 1, 3) := dk_132 1 1 (dk_at dksX2_law_1 20 rfl rfl)
theorem dX2_law_47 : decode cX2_law 47 = .ok (.goto (-24), 3) := dk_167 255 232 (dk_at dksX2_law_2 0 rfl rfl)
theorem dX2_law_50 : decode cX2_law 50 = .ok (.aload_n 0, 1) := dk_42 (dk_at dksX2_law_2 3 rfl rfl)
theorem dX2_law_51 : decode cX2_law 51 = .ok (.aload_n 0, 1) := dk_42 (dk_at dksX2_law_2 4 rfl rfl)
theorem dX2_law_52 : decode cX2_law 52 = .ok (.getfield 7, 3) := dk_180 0 7 (dk_at dksX2_law_2 5 rfl rfl)
theorem dX2_law_55 : decode cX2_law 55 = .ok (.bipush 7, 2) := dk_16 7 (dk_at dksX2_law_2 8 rfl rfl)
theorem dX2_law_57 : decode cX2_law 57 = .ok (.iaload, 1) := dk_46 (dk_at dksX2_law_2 10 rfl rfl)
theorem dX2_law_58 : decode cX2_law 58 = .ok (.bipush 48, 2) := dk_16 48 (dk_at dksX2_law_2 11 rfl rfl)
theorem dX2_law_60 : decode cX2_law 60 = .ok (.isub, 1) := dk_100 (dk_at dksX2_law_2 13 rfl rfl)
theorem dX2_law_61 : decode cX2_law 61 = .ok (.putfield 78, 3) := dk_181 0 78 (dk_at dksX2_law_2 14 rfl rfl)
theorem dX2_law_64 : decode cX2_law 64 = .ok (.aload_n 0, 1) := dk_42 (dk_at dksX2_law_2 17 rfl rfl)
theorem dX2_law_65 : decode cX2_law 65 = .ok (.iconst 0, 1) := dk_3 (dk_at dksX2_law_2 18 rfl rfl)
theorem dX2_law_66 : decode cX2_law 66 = .ok (.putfield 81, 3) := dk_181 0 81 (dk_at dksX2_law_2 19 rfl rfl)
theorem dX2_law_69 : decode cX2_law 69 = .ok (.aload_n 0, 1) := dk_42 (dk_at dksX2_law_2 22 rfl rfl)
theorem dX2_law_70 : decode cX2_law 70 = .ok (.iconst 0, 1) := dk_3 (dk_at dksX2_law_2 23 rfl rfl)
theorem dX2_law_71 : decode cX2_law 71 = .ok (.putfield 84, 3) := dk_181 0 84 (dk_at dksX2_law_3 0 rfl rfl)
theorem dX2_law_74 : decode cX2_law 74 = .ok (.aload_n 0, 1) := dk_42 (dk_at dksX2_law_3 3 rfl rfl)
theorem dX2_law_75 : decode cX2_law 75 = .ok (.iconst 0, 1) := dk_3 (dk_at dksX2_law_3 4 rfl rfl)
theorem dX2_law_76 : decode cX2_law 76 = .ok (.putfield 87, 3) := dk_181 0 87 (dk_at dksX2_law_3 5 rfl rfl)
theorem dX2_law_79 : decode cX2_law 79 = .ok (.aload_n 0, 1) := dk_42 (dk_at dksX2_law_3 8 rfl rfl)
theorem dX2_law_80 : decode cX2_law 80 = .ok (.dup, 1) := dk_89 (dk_at dksX2_law_3 9 rfl rfl)
theorem dX2_law_81 : decode cX2_law 81 = .ok (.getfield 90, 3) := dk_180 0 90 (dk_at dksX2_law_3 10 rfl rfl)
theorem dX2_law_84 : decode cX2_law 84 = .ok (.iconst 1, 1) := dk_4 (dk_at dksX2_law_3 13 rfl rfl)
theorem dX2_law_85 : decode cX2_law 85 = .ok (.iadd, 1) := dk_96 (dk_at dksX2_law_3 14 rfl rfl)
theorem dX2_law_86 : decode cX2_law 86 = .ok (.putfield 90, 3) := dk_181 0 90 (dk_at dksX2_law_3 15 rfl rfl)
theorem dX2_law_89 : decode cX2_law 89 = .ok (.aload_n 0, 1) := dk_42 (dk_at dksX2_law_3 18 rfl rfl)
theorem dX2_law_90 : decode cX2_law 90 = .ok (.iconst 0, 1) := dk_3 (dk_at dksX2_law_3 19 rfl rfl)
theorem dX2_law_91 : decode cX2_law 91 = .ok (.putfield 65, 3) := dk_181 0 65 (dk_at dksX2_law_3 20 rfl rfl)
theorem dX2_law_94 : decode cX2_law 94 = .ok (.aload_n 0, 1) := dk_42 (dk_at dksX2_law_3 23 rfl rfl)
theorem dX2_law_95 : decode cX2_law 95 = .ok (.getfield 78, 3) := dk_180 0 78 (dk_at dksX2_law_4 0 rfl rfl)
theorem dX2_law_98 : decode cX2_law 98 = .ok (.ireturn, 1) := dk_172 (dk_at dksX2_law_4 3 rfl rfl)
abbrev cX2_under : ByteArray := prog_11_method_15_code
def yX2_under : MethodName := ⟨RX2, "under", "(II)I"⟩
def dkwX2_under_1 : List UInt8 := [182, 0, 103, 167, 0, 5, 16, 154, 172]
abbrev dktX2_under_1 : List UInt8 := dkwX2_under_1 ++ []
def dkwX2_under_0 : List UInt8 := [27, 184, 0, 99, 154, 0, 6, 16, 155, 172, 28, 133, 9, 10, 184, 0, 61, 153, 0, 12, 42, 27, 28]
abbrev dktX2_under_0 : List UInt8 := dkwX2_under_0 ++ dktX2_under_1
theorem dksX2_under_0 : cX2_under.data.toList.drop 0 = dktX2_under_0 := by decide +kernel
theorem dksX2_under_1 : cX2_under.data.toList.drop 23 = dktX2_under_1 := dk_seg dksX2_under_0 23 rfl rfl
theorem dX2_under_0 : decode cX2_under 0 = .ok (.iload_n 1, 1) := dk_27 (dk_at dksX2_under_0 0 rfl rfl)
theorem dX2_under_1 : decode cX2_under 1 = .ok (.invokestatic 99, 3) := dk_184 0 99 (dk_at dksX2_under_0 1 rfl rfl)
theorem dX2_under_4 : decode cX2_under 4 = .ok (.ifCond .ne 6, 3) := dk_154 0 6 (dk_at dksX2_under_0 4 rfl rfl)
theorem dX2_under_7 : decode cX2_under 7 = .ok (.bipush (-101), 2) := dk_16 155 (dk_at dksX2_under_0 7 rfl rfl)
theorem dX2_under_9 : decode cX2_under 9 = .ok (.ireturn, 1) := dk_172 (dk_at dksX2_under_0 9 rfl rfl)
theorem dX2_under_10 : decode cX2_under 10 = .ok (.iload_n 2, 1) := dk_28 (dk_at dksX2_under_0 10 rfl rfl)
theorem dX2_under_11 : decode cX2_under 11 = .ok (.i2l, 1) := dk_133 (dk_at dksX2_under_0 11 rfl rfl)
theorem dX2_under_12 : decode cX2_under 12 = .ok (.lconst 0, 1) := dk_9 (dk_at dksX2_under_0 12 rfl rfl)
theorem dX2_under_13 : decode cX2_under 13 = .ok (.lconst 1, 1) := dk_10 (dk_at dksX2_under_0 13 rfl rfl)
theorem dX2_under_14 : decode cX2_under 14 = .ok (.invokestatic 61, 3) := dk_184 0 61 (dk_at dksX2_under_0 14 rfl rfl)
theorem dX2_under_17 : decode cX2_under 17 = .ok (.ifCond .eq 12, 3) := dk_153 0 12 (dk_at dksX2_under_0 17 rfl rfl)
theorem dX2_under_20 : decode cX2_under 20 = .ok (.aload_n 0, 1) := dk_42 (dk_at dksX2_under_0 20 rfl rfl)
theorem dX2_under_21 : decode cX2_under 21 = .ok (.iload_n 1, 1) := dk_27 (dk_at dksX2_under_0 21 rfl rfl)
theorem dX2_under_22 : decode cX2_under 22 = .ok (.iload_n 2, 1) := dk_28 (dk_at dksX2_under_0 22 rfl rfl)
theorem dX2_under_23 : decode cX2_under 23 = .ok (.invokevirtual 103, 3) := dk_182 0 103 (dk_at dksX2_under_1 0 rfl rfl)
theorem dX2_under_26 : decode cX2_under 26 = .ok (.goto 5, 3) := dk_167 0 5 (dk_at dksX2_under_1 3 rfl rfl)
theorem dX2_under_29 : decode cX2_under 29 = .ok (.bipush (-102), 2) := dk_16 154 (dk_at dksX2_under_1 6 rfl rfl)
theorem dX2_under_31 : decode cX2_under 31 = .ok (.ireturn, 1) := dk_172 (dk_at dksX2_under_1 8 rfl rfl)
abbrev cX2_isLetter : ByteArray := prog_11_method_11_code
def yX2_isLetter : MethodName := ⟨RX2, "isLetter", "(I)Z"⟩
def dkwX2_isLetter_0 : List UInt8 := [26, 133, 9, 20, 0, 93, 184, 0, 61, 172]
abbrev dktX2_isLetter_0 : List UInt8 := dkwX2_isLetter_0 ++ []
theorem dksX2_isLetter_0 : cX2_isLetter.data.toList.drop 0 = dktX2_isLetter_0 := by decide +kernel
theorem dX2_isLetter_0 : decode cX2_isLetter 0 = .ok (.iload_n 0, 1) := dk_26 (dk_at dksX2_isLetter_0 0 rfl rfl)
theorem dX2_isLetter_1 : decode cX2_isLetter 1 = .ok (.i2l, 1) := dk_133 (dk_at dksX2_isLetter_0 1 rfl rfl)
theorem dX2_isLetter_2 : decode cX2_isLetter 2 = .ok (.lconst 0, 1) := dk_9 (dk_at dksX2_isLetter_0 2 rfl rfl)
theorem dX2_isLetter_3 : decode cX2_isLetter 3 = .ok (.ldc2_w 93, 3) := dk_20 0 93 (dk_at dksX2_isLetter_0 3 rfl rfl)
theorem dX2_isLetter_6 : decode cX2_isLetter 6 = .ok (.invokestatic 61, 3) := dk_184 0 61 (dk_at dksX2_isLetter_0 6 rfl rfl)
theorem dX2_isLetter_9 : decode cX2_isLetter 9 = .ok (.ireturn, 1) := dk_172 (dk_at dksX2_isLetter_0 9 rfl rfl)
abbrev cX2_tellUnder : ByteArray := prog_11_method_14_code
def yX2_tellUnder : MethodName := ⟨RX2, "tellUnder", "(II)I"⟩
def dkwX2_tellUnder_0 : List UInt8 := [28, 154, 0, 12, 42, 180, 0, 13, 27, 46, 167, 0, 12, 42, 42, 180, 0, 19, 27, 182, 0, 95, 172]
abbrev dktX2_tellUnder_0 : List UInt8 := dkwX2_tellUnder_0 ++ []
theorem dksX2_tellUnder_0 : cX2_tellUnder.data.toList.drop 0 = dktX2_tellUnder_0 := by decide +kernel
theorem dX2_tellUnder_0 : decode cX2_tellUnder 0 = .ok (.iload_n 2, 1) := dk_28 (dk_at dksX2_tellUnder_0 0 rfl rfl)
theorem dX2_tellUnder_1 : decode cX2_tellUnder 1 = .ok (.ifCond .ne 12, 3) := dk_154 0 12 (dk_at dksX2_tellUnder_0 1 rfl rfl)
theorem dX2_tellUnder_4 : decode cX2_tellUnder 4 = .ok (.aload_n 0, 1) := dk_42 (dk_at dksX2_tellUnder_0 4 rfl rfl)
theorem dX2_tellUnder_5 : decode cX2_tellUnder 5 = .ok (.getfield 13, 3) := dk_180 0 13 (dk_at dksX2_tellUnder_0 5 rfl rfl)
theorem dX2_tellUnder_8 : decode cX2_tellUnder 8 = .ok (.iload_n 1, 1) := dk_27 (dk_at dksX2_tellUnder_0 8 rfl rfl)
theorem dX2_tellUnder_9 : decode cX2_tellUnder 9 = .ok (.iaload, 1) := dk_46 (dk_at dksX2_tellUnder_0 9 rfl rfl)
theorem dX2_tellUnder_10 : decode cX2_tellUnder 10 = .ok (.goto 12, 3) := dk_167 0 12 (dk_at dksX2_tellUnder_0 10 rfl rfl)
theorem dX2_tellUnder_13 : decode cX2_tellUnder 13 = .ok (.aload_n 0, 1) := dk_42 (dk_at dksX2_tellUnder_0 13 rfl rfl)
theorem dX2_tellUnder_14 : decode cX2_tellUnder 14 = .ok (.aload_n 0, 1) := dk_42 (dk_at dksX2_tellUnder_0 14 rfl rfl)
theorem dX2_tellUnder_15 : decode cX2_tellUnder 15 = .ok (.getfield 19, 3) := dk_180 0 19 (dk_at dksX2_tellUnder_0 15 rfl rfl)
theorem dX2_tellUnder_18 : decode cX2_tellUnder 18 = .ok (.iload_n 1, 1) := dk_27 (dk_at dksX2_tellUnder_0 18 rfl rfl)
theorem dX2_tellUnder_19 : decode cX2_tellUnder 19 = .ok (.invokevirtual 95, 3) := dk_182 0 95 (dk_at dksX2_tellUnder_0 19 rfl rfl)
theorem dX2_tellUnder_22 : decode cX2_tellUnder 22 = .ok (.ireturn, 1) := dk_172 (dk_at dksX2_tellUnder_0 22 rfl rfl)
abbrev cX2_fullness : ByteArray := prog_11_method_13_code
def yX2_fullness : MethodName := ⟨RX2, "fullness", "([II)I"⟩
def dkwX2_fullness_1 : List UInt8 := [62, 132, 4, 1, 167, 255, 233, 29, 172]
abbrev dktX2_fullness_1 : List UInt8 := dkwX2_fullness_1 ++ []
def dkwX2_fullness_0 : List UInt8 := [3, 62, 3, 54, 4, 21, 4, 42, 180, 0, 81, 162, 0, 20, 29, 43, 21, 4, 46, 28, 122, 4, 126, 96]
abbrev dktX2_fullness_0 : List UInt8 := dkwX2_fullness_0 ++ dktX2_fullness_1
theorem dksX2_fullness_0 : cX2_fullness.data.toList.drop 0 = dktX2_fullness_0 := by decide +kernel
theorem dksX2_fullness_1 : cX2_fullness.data.toList.drop 24 = dktX2_fullness_1 := dk_seg dksX2_fullness_0 24 rfl rfl
theorem dX2_fullness_0 : decode cX2_fullness 0 = .ok (.iconst 0, 1) := dk_3 (dk_at dksX2_fullness_0 0 rfl rfl)
theorem dX2_fullness_1 : decode cX2_fullness 1 = .ok (.istore_n 3, 1) := dk_62 (dk_at dksX2_fullness_0 1 rfl rfl)
theorem dX2_fullness_2 : decode cX2_fullness 2 = .ok (.iconst 0, 1) := dk_3 (dk_at dksX2_fullness_0 2 rfl rfl)
theorem dX2_fullness_3 : decode cX2_fullness 3 = .ok (.istore 4, 2) := dk_54 4 (dk_at dksX2_fullness_0 3 rfl rfl)
theorem dX2_fullness_5 : decode cX2_fullness 5 = .ok (.iload 4, 2) := dk_21 4 (dk_at dksX2_fullness_0 5 rfl rfl)
theorem dX2_fullness_7 : decode cX2_fullness 7 = .ok (.aload_n 0, 1) := dk_42 (dk_at dksX2_fullness_0 7 rfl rfl)
theorem dX2_fullness_8 : decode cX2_fullness 8 = .ok (.getfield 81, 3) := dk_180 0 81 (dk_at dksX2_fullness_0 8 rfl rfl)
theorem dX2_fullness_11 : decode cX2_fullness 11 = .ok (.if_icmp .ge 20, 3) := dk_162 0 20 (dk_at dksX2_fullness_0 11 rfl rfl)
theorem dX2_fullness_14 : decode cX2_fullness 14 = .ok (.iload_n 3, 1) := dk_29 (dk_at dksX2_fullness_0 14 rfl rfl)
theorem dX2_fullness_15 : decode cX2_fullness 15 = .ok (.aload_n 1, 1) := dk_43 (dk_at dksX2_fullness_0 15 rfl rfl)
theorem dX2_fullness_16 : decode cX2_fullness 16 = .ok (.iload 4, 2) := dk_21 4 (dk_at dksX2_fullness_0 16 rfl rfl)
theorem dX2_fullness_18 : decode cX2_fullness 18 = .ok (.iaload, 1) := dk_46 (dk_at dksX2_fullness_0 18 rfl rfl)
theorem dX2_fullness_19 : decode cX2_fullness 19 = .ok (.iload_n 2, 1) := dk_28 (dk_at dksX2_fullness_0 19 rfl rfl)
theorem dX2_fullness_20 : decode cX2_fullness 20 = .ok (.ishr, 1) := dk_122 (dk_at dksX2_fullness_0 20 rfl rfl)
theorem dX2_fullness_21 : decode cX2_fullness 21 = .ok (.iconst 1, 1) := dk_4 (dk_at dksX2_fullness_0 21 rfl rfl)
theorem dX2_fullness_22 : decode cX2_fullness 22 = .ok (.iand, 1) := dk_126 (dk_at dksX2_fullness_0 22 rfl rfl)
theorem dX2_fullness_23 : decode cX2_fullness 23 = .ok (.iadd, 1) := dk_96 (dk_at dksX2_fullness_0 23 rfl rfl)
theorem dX2_fullness_24 : decode cX2_fullness 24 = .ok (.istore_n 3, 1) := dk_62 (dk_at dksX2_fullness_1 0 rfl rfl)
theorem dX2_fullness_25 : decode cX2_fullness 25 = .ok (.iinc 4 1, 3) := dk_132 4 1 (dk_at dksX2_fullness_1 1 rfl rfl)
theorem dX2_fullness_28 : decode cX2_fullness 28 = .ok (.goto (-23), 3) := dk_167 255 233 (dk_at dksX2_fullness_1 4 rfl rfl)
theorem dX2_fullness_31 : decode cX2_fullness 31 = .ok (.iload_n 3, 1) := dk_29 (dk_at dksX2_fullness_1 7 rfl rfl)
theorem dX2_fullness_32 : decode cX2_fullness 32 = .ok (.ireturn, 1) := dk_172 (dk_at dksX2_fullness_1 8 rfl rfl)
abbrev cX2_file : ByteArray := prog_11_method_16_code
def yX2_file : MethodName := ⟨RX2, "file", "(II)I"⟩
def dkwX2_file_5 : List UInt8 := [42, 180, 0, 81, 4, 100, 172]
abbrev dktX2_file_5 : List UInt8 := dkwX2_file_5 ++ []
def dkwX2_file_4 : List UInt8 := [4, 28, 120, 79, 42, 180, 0, 22, 42, 180, 0, 81, 3, 79, 42, 89, 180, 0, 81, 4, 96, 181, 0, 81]
abbrev dktX2_file_4 : List UInt8 := dkwX2_file_4 ++ dktX2_file_5
def dkwX2_file_3 : List UInt8 := [27, 79, 42, 180, 0, 16, 5, 42, 180, 0, 81, 104, 4, 96, 2, 79, 42, 180, 0, 19, 42, 180, 0, 81]
abbrev dktX2_file_3 : List UInt8 := dkwX2_file_3 ++ dktX2_file_4
def dkwX2_file_2 : List UInt8 := [16, 153, 172, 42, 180, 0, 81, 8, 160, 0, 6, 16, 152, 172, 42, 180, 0, 16, 5, 42, 180, 0, 81, 104]
abbrev dktX2_file_2 : List UInt8 := dkwX2_file_2 ++ dktX2_file_3
def dkwX2_file_1 : List UInt8 := [172, 42, 182, 0, 109, 154, 0, 19, 42, 42, 180, 0, 19, 28, 182, 0, 95, 42, 180, 0, 78, 161, 0, 6]
abbrev dktX2_file_1 : List UInt8 := dkwX2_file_1 ++ dktX2_file_2
def dkwX2_file_0 : List UInt8 := [27, 133, 9, 20, 0, 107, 184, 0, 61, 154, 0, 6, 16, 154, 172, 28, 184, 0, 99, 154, 0, 6, 16, 155]
abbrev dktX2_file_0 : List UInt8 := dkwX2_file_0 ++ dktX2_file_1
theorem dksX2_file_0 : cX2_file.data.toList.drop 0 = dktX2_file_0 := by decide +kernel
theorem dksX2_file_1 : cX2_file.data.toList.drop 24 = dktX2_file_1 := dk_seg dksX2_file_0 24 rfl rfl
theorem dksX2_file_2 : cX2_file.data.toList.drop 48 = dktX2_file_2 := dk_seg dksX2_file_1 24 rfl rfl
theorem dksX2_file_3 : cX2_file.data.toList.drop 72 = dktX2_file_3 := dk_seg dksX2_file_2 24 rfl rfl
theorem dksX2_file_4 : cX2_file.data.toList.drop 96 = dktX2_file_4 := dk_seg dksX2_file_3 24 rfl rfl
theorem dksX2_file_5 : cX2_file.data.toList.drop 120 = dktX2_file_5 := dk_seg dksX2_file_4 24 rfl rfl
theorem dX2_file_0 : decode cX2_file 0 = .ok (.iload_n 1, 1) := dk_27 (dk_at dksX2_file_0 0 rfl rfl)
theorem dX2_file_1 : decode cX2_file 1 = .ok (.i2l, 1) := dk_133 (dk_at dksX2_file_0 1 rfl rfl)
theorem dX2_file_2 : decode cX2_file 2 = .ok (.lconst 0, 1) := dk_9 (dk_at dksX2_file_0 2 rfl rfl)
theorem dX2_file_3 : decode cX2_file 3 = .ok (.ldc2_w 107, 3) := dk_20 0 107 (dk_at dksX2_file_0 3 rfl rfl)
theorem dX2_file_6 : decode cX2_file 6 = .ok (.invokestatic 61, 3) := dk_184 0 61 (dk_at dksX2_file_0 6 rfl rfl)
theorem dX2_file_9 : decode cX2_file 9 = .ok (.ifCond .ne 6, 3) := dk_154 0 6 (dk_at dksX2_file_0 9 rfl rfl)
theorem dX2_file_12 : decode cX2_file 12 = .ok (.bipush (-102), 2) := dk_16 154 (dk_at dksX2_file_0 12 rfl rfl)
theorem dX2_file_14 : decode cX2_file 14 = .ok (.ireturn, 1) := dk_172 (dk_at dksX2_file_0 14 rfl rfl)
theorem dX2_file_15 : decode cX2_file 15 = .ok (.iload_n 2, 1) := dk_28 (dk_at dksX2_file_0 15 rfl rfl)
theorem dX2_file_16 : decode cX2_file 16 = .ok (.invokestatic 99, 3) := dk_184 0 99 (dk_at dksX2_file_0 16 rfl rfl)
theorem dX2_file_19 : decode cX2_file 19 = .ok (.ifCond .ne 6, 3) := dk_154 0 6 (dk_at dksX2_file_0 19 rfl rfl)
theorem dX2_file_22 : decode cX2_file 22 = .ok (.bipush (-101), 2) := dk_16 155 (dk_at dksX2_file_0 22 rfl rfl)
theorem dX2_file_24 : decode cX2_file 24 = .ok (.ireturn, 1) := dk_172 (dk_at dksX2_file_1 0 rfl rfl)
theorem dX2_file_25 : decode cX2_file 25 = .ok (.aload_n 0, 1) := dk_42 (dk_at dksX2_file_1 1 rfl rfl)
theorem dX2_file_26 : decode cX2_file 26 = .ok (.invokevirtual 109, 3) := dk_182 0 109 (dk_at dksX2_file_1 2 rfl rfl)
theorem dX2_file_29 : decode cX2_file 29 = .ok (.ifCond .ne 19, 3) := dk_154 0 19 (dk_at dksX2_file_1 5 rfl rfl)
theorem dX2_file_32 : decode cX2_file 32 = .ok (.aload_n 0, 1) := dk_42 (dk_at dksX2_file_1 8 rfl rfl)
theorem dX2_file_33 : decode cX2_file 33 = .ok (.aload_n 0, 1) := dk_42 (dk_at dksX2_file_1 9 rfl rfl)
theorem dX2_file_34 : decode cX2_file 34 = .ok (.getfield 19, 3) := dk_180 0 19 (dk_at dksX2_file_1 10 rfl rfl)
theorem dX2_file_37 : decode cX2_file 37 = .ok (.iload_n 2, 1) := dk_28 (dk_at dksX2_file_1 13 rfl rfl)
theorem dX2_file_38 : decode cX2_file 38 = .ok (.invokevirtual 95, 3) := dk_182 0 95 (dk_at dksX2_file_1 14 rfl rfl)
theorem dX2_file_41 : decode cX2_file 41 = .ok (.aload_n 0, 1) := dk_42 (dk_at dksX2_file_1 17 rfl rfl)
theorem dX2_file_42 : decode cX2_file 42 = .ok (.getfield 78, 3) := dk_180 0 78 (dk_at dksX2_file_1 18 rfl rfl)
theorem dX2_file_45 : decode cX2_file 45 = .ok (.if_icmp .lt 6, 3) := dk_161 0 6 (dk_at dksX2_file_1 21 rfl rfl)
theorem dX2_file_48 : decode cX2_file 48 = .ok (.bipush (-103), 2) := dk_16 153 (dk_at dksX2_file_2 0 rfl rfl)
theorem dX2_file_50 : decode cX2_file 50 = .ok (.ireturn, 1) := dk_172 (dk_at dksX2_file_2 2 rfl rfl)
theorem dX2_file_51 : decode cX2_file 51 = .ok (.aload_n 0, 1) := dk_42 (dk_at dksX2_file_2 3 rfl rfl)
theorem dX2_file_52 : decode cX2_file 52 = .ok (.getfield 81, 3) := dk_180 0 81 (dk_at dksX2_file_2 4 rfl rfl)
theorem dX2_file_55 : decode cX2_file 55 = .ok (.iconst 5, 1) := dk_8 (dk_at dksX2_file_2 7 rfl rfl)
theorem dX2_file_56 : decode cX2_file 56 = .ok (.if_icmp .ne 6, 3) := dk_160 0 6 (dk_at dksX2_file_2 8 rfl rfl)
theorem dX2_file_59 : decode cX2_file 59 = .ok (.bipush (-104), 2) := dk_16 152 (dk_at dksX2_file_2 11 rfl rfl)
theorem dX2_file_61 : decode cX2_file 61 = .ok (.ireturn, 1) := dk_172 (dk_at dksX2_file_2 13 rfl rfl)
theorem dX2_file_62 : decode cX2_file 62 = .ok (.aload_n 0, 1) := dk_42 (dk_at dksX2_file_2 14 rfl rfl)
theorem dX2_file_63 : decode cX2_file 63 = .ok (.getfield 16, 3) := dk_180 0 16 (dk_at dksX2_file_2 15 rfl rfl)
theorem dX2_file_66 : decode cX2_file 66 = .ok (.iconst 2, 1) := dk_5 (dk_at dksX2_file_2 18 rfl rfl)
theorem dX2_file_67 : decode cX2_file 67 = .ok (.aload_n 0, 1) := dk_42 (dk_at dksX2_file_2 19 rfl rfl)
theorem dX2_file_68 : decode cX2_file 68 = .ok (.getfield 81, 3) := dk_180 0 81 (dk_at dksX2_file_2 20 rfl rfl)
theorem dX2_file_71 : decode cX2_file 71 = .ok (.imul, 1) := dk_104 (dk_at dksX2_file_2 23 rfl rfl)
theorem dX2_file_72 : decode cX2_file 72 = .ok (.iload_n 1, 1) := dk_27 (dk_at dksX2_file_3 0 rfl rfl)
theorem dX2_file_73 : decode cX2_file 73 = .ok (.iastore, 1) := dk_79 (dk_at dksX2_file_3 1 rfl rfl)
theorem dX2_file_74 : decode cX2_file 74 = .ok (.aload_n 0, 1) := dk_42 (dk_at dksX2_file_3 2 rfl rfl)
theorem dX2_file_75 : decode cX2_file 75 = .ok (.getfield 16, 3) := dk_180 0 16 (dk_at dksX2_file_3 3 rfl rfl)
theorem dX2_file_78 : decode cX2_file 78 = .ok (.iconst 2, 1) := dk_5 (dk_at dksX2_file_3 6 rfl rfl)
theorem dX2_file_79 : decode cX2_file 79 = .ok (.aload_n 0, 1) := dk_42 (dk_at dksX2_file_3 7 rfl rfl)
theorem dX2_file_80 : decode cX2_file 80 = .ok (.getfield 81, 3) := dk_180 0 81 (dk_at dksX2_file_3 8 rfl rfl)
theorem dX2_file_83 : decode cX2_file 83 = .ok (.imul, 1) := dk_104 (dk_at dksX2_file_3 11 rfl rfl)
theorem dX2_file_84 : decode cX2_file 84 = .ok (.iconst 1, 1) := dk_4 (dk_at dksX2_file_3 12 rfl rfl)
theorem dX2_file_85 : decode cX2_file 85 = .ok (.iadd, 1) := dk_96 (dk_at dksX2_file_3 13 rfl rfl)
theorem dX2_file_86 : decode cX2_file 86 = .ok (.iconst (-1), 1) := dk_2 (dk_at dksX2_file_3 14 rfl rfl)
theorem dX2_file_87 : decode cX2_file 87 = .ok (.iastore, 1) := dk_79 (dk_at dksX2_file_3 15 rfl rfl)
theorem dX2_file_88 : decode cX2_file 88 = .ok (.aload_n 0, 1) := dk_42 (dk_at dksX2_file_3 16 rfl rfl)
theorem dX2_file_89 : decode cX2_file 89 = .ok (.getfield 19, 3) := dk_180 0 19 (dk_at dksX2_file_3 17 rfl rfl)
theorem dX2_file_92 : decode cX2_file 92 = .ok (.aload_n 0, 1) := dk_42 (dk_at dksX2_file_3 20 rfl rfl)
theorem dX2_file_93 : decode cX2_file 93 = .ok (.getfield 81, 3) := dk_180 0 81 (dk_at dksX2_file_3 21 rfl rfl)
theorem dX2_file_96 : decode cX2_file 96 = .ok (.iconst 1, 1) := dk_4 (dk_at dksX2_file_4 0 rfl rfl)
theorem dX2_file_97 : decode cX2_file 97 = .ok (.iload_n 2, 1) := dk_28 (dk_at dksX2_file_4 1 rfl rfl)
theorem dX2_file_98 : decode cX2_file 98 = .ok (.ishl, 1) := dk_120 (dk_at dksX2_file_4 2 rfl rfl)
theorem dX2_file_99 : decode cX2_file 99 = .ok (.iastore, 1) := dk_79 (dk_at dksX2_file_4 3 rfl rfl)
theorem dX2_file_100 : decode cX2_file 100 = .ok (.aload_n 0, 1) := dk_42 (dk_at dksX2_file_4 4 rfl rfl)
theorem dX2_file_101 : decode cX2_file 101 = .ok (.getfield 22, 3) := dk_180 0 22 (dk_at dksX2_file_4 5 rfl rfl)
theorem dX2_file_104 : decode cX2_file 104 = .ok (.aload_n 0, 1) := dk_42 (dk_at dksX2_file_4 8 rfl rfl)
theorem dX2_file_105 : decode cX2_file 105 = .ok (.getfield 81, 3) := dk_180 0 81 (dk_at dksX2_file_4 9 rfl rfl)
theorem dX2_file_108 : decode cX2_file 108 = .ok (.iconst 0, 1) := dk_3 (dk_at dksX2_file_4 12 rfl rfl)
theorem dX2_file_109 : decode cX2_file 109 = .ok (.iastore, 1) := dk_79 (dk_at dksX2_file_4 13 rfl rfl)
theorem dX2_file_110 : decode cX2_file 110 = .ok (.aload_n 0, 1) := dk_42 (dk_at dksX2_file_4 14 rfl rfl)
theorem dX2_file_111 : decode cX2_file 111 = .ok (.dup, 1) := dk_89 (dk_at dksX2_file_4 15 rfl rfl)
theorem dX2_file_112 : decode cX2_file 112 = .ok (.getfield 81, 3) := dk_180 0 81 (dk_at dksX2_file_4 16 rfl rfl)
theorem dX2_file_115 : decode cX2_file 115 = .ok (.iconst 1, 1) := dk_4 (dk_at dksX2_file_4 19 rfl rfl)
theorem dX2_file_116 : decode cX2_file 116 = .ok (.iadd, 1) := dk_96 (dk_at dksX2_file_4 20 rfl rfl)
theorem dX2_file_117 : decode cX2_file 117 = .ok (.putfield 81, 3) := dk_181 0 81 (dk_at dksX2_file_4 21 rfl rfl)
theorem dX2_file_120 : decode cX2_file 120 = .ok (.aload_n 0, 1) := dk_42 (dk_at dksX2_file_5 0 rfl rfl)
theorem dX2_file_121 : decode cX2_file 121 = .ok (.getfield 81, 3) := dk_180 0 81 (dk_at dksX2_file_5 1 rfl rfl)
theorem dX2_file_124 : decode cX2_file 124 = .ok (.iconst 1, 1) := dk_4 (dk_at dksX2_file_5 4 rfl rfl)
theorem dX2_file_125 : decode cX2_file 125 = .ok (.isub, 1) := dk_100 (dk_at dksX2_file_5 5 rfl rfl)
theorem dX2_file_126 : decode cX2_file 126 = .ok (.ireturn, 1) := dk_172 (dk_at dksX2_file_5 6 rfl rfl)
abbrev cX2_lacks : ByteArray := prog_11_method_10_code
def yX2_lacks : MethodName := ⟨RX2, "lacks", "()Z"⟩
def dkwX2_lacks_0 : List UInt8 := [42, 180, 0, 78, 154, 0, 7, 4, 167, 0, 4, 3, 172]
abbrev dktX2_lacks_0 : List UInt8 := dkwX2_lacks_0 ++ []
theorem dksX2_lacks_0 : cX2_lacks.data.toList.drop 0 = dktX2_lacks_0 := by decide +kernel
theorem dX2_lacks_0 : decode cX2_lacks 0 = .ok (.aload_n 0, 1) := dk_42 (dk_at dksX2_lacks_0 0 rfl rfl)
theorem dX2_lacks_1 : decode cX2_lacks 1 = .ok (.getfield 78, 3) := dk_180 0 78 (dk_at dksX2_lacks_0 1 rfl rfl)
theorem dX2_lacks_4 : decode cX2_lacks 4 = .ok (.ifCond .ne 7, 3) := dk_154 0 7 (dk_at dksX2_lacks_0 4 rfl rfl)
theorem dX2_lacks_7 : decode cX2_lacks 7 = .ok (.iconst 1, 1) := dk_4 (dk_at dksX2_lacks_0 7 rfl rfl)
theorem dX2_lacks_8 : decode cX2_lacks 8 = .ok (.goto 4, 3) := dk_167 0 4 (dk_at dksX2_lacks_0 8 rfl rfl)
theorem dX2_lacks_11 : decode cX2_lacks 11 = .ok (.iconst 0, 1) := dk_3 (dk_at dksX2_lacks_0 11 rfl rfl)
theorem dX2_lacks_12 : decode cX2_lacks 12 = .ok (.ireturn, 1) := dk_172 (dk_at dksX2_lacks_0 12 rfl rfl)
abbrev cX2_about : ByteArray := prog_11_method_19_code
def yX2_about : MethodName := ⟨RX2, "about", "(II)I"⟩
def dkwX2_about_0 : List UInt8 := [42, 27, 182, 0, 117, 153, 0, 12, 42, 27, 28, 182, 0, 120, 167, 0, 5, 16, 155, 172]
abbrev dktX2_about_0 : List UInt8 := dkwX2_about_0 ++ []
theorem dksX2_about_0 : cX2_about.data.toList.drop 0 = dktX2_about_0 := by decide +kernel
theorem dX2_about_0 : decode cX2_about 0 = .ok (.aload_n 0, 1) := dk_42 (dk_at dksX2_about_0 0 rfl rfl)
theorem dX2_about_1 : decode cX2_about 1 = .ok (.iload_n 1, 1) := dk_27 (dk_at dksX2_about_0 1 rfl rfl)
theorem dX2_about_2 : decode cX2_about 2 = .ok (.invokevirtual 117, 3) := dk_182 0 117 (dk_at dksX2_about_0 2 rfl rfl)
theorem dX2_about_5 : decode cX2_about 5 = .ok (.ifCond .eq 12, 3) := dk_153 0 12 (dk_at dksX2_about_0 5 rfl rfl)
theorem dX2_about_8 : decode cX2_about 8 = .ok (.aload_n 0, 1) := dk_42 (dk_at dksX2_about_0 8 rfl rfl)
theorem dX2_about_9 : decode cX2_about 9 = .ok (.iload_n 1, 1) := dk_27 (dk_at dksX2_about_0 9 rfl rfl)
theorem dX2_about_10 : decode cX2_about 10 = .ok (.iload_n 2, 1) := dk_28 (dk_at dksX2_about_0 10 rfl rfl)
theorem dX2_about_11 : decode cX2_about 11 = .ok (.invokevirtual 120, 3) := dk_182 0 120 (dk_at dksX2_about_0 11 rfl rfl)
theorem dX2_about_14 : decode cX2_about 14 = .ok (.goto 5, 3) := dk_167 0 5 (dk_at dksX2_about_0 14 rfl rfl)
theorem dX2_about_17 : decode cX2_about 17 = .ok (.bipush (-101), 2) := dk_16 155 (dk_at dksX2_about_0 17 rfl rfl)
theorem dX2_about_19 : decode cX2_about 19 = .ok (.ireturn, 1) := dk_172 (dk_at dksX2_about_0 19 rfl rfl)
abbrev cX2_isFile : ByteArray := prog_11_method_12_code
def yX2_isFile : MethodName := ⟨RX2, "isFile", "(I)Z"⟩
def dkwX2_isFile_0 : List UInt8 := [27, 133, 9, 42, 180, 0, 81, 4, 100, 133, 184, 0, 61, 172]
abbrev dktX2_isFile_0 : List UInt8 := dkwX2_isFile_0 ++ []
theorem dksX2_isFile_0 : cX2_isFile.data.toList.drop 0 = dktX2_isFile_0 := by decide +kernel
theorem dX2_isFile_0 : decode cX2_isFile 0 = .ok (.iload_n 1, 1) := dk_27 (dk_at dksX2_isFile_0 0 rfl rfl)
theorem dX2_isFile_1 : decode cX2_isFile 1 = .ok (.i2l, 1) := dk_133 (dk_at dksX2_isFile_0 1 rfl rfl)
theorem dX2_isFile_2 : decode cX2_isFile 2 = .ok (.lconst 0, 1) := dk_9 (dk_at dksX2_isFile_0 2 rfl rfl)
theorem dX2_isFile_3 : decode cX2_isFile 3 = .ok (.aload_n 0, 1) := dk_42 (dk_at dksX2_isFile_0 3 rfl rfl)
theorem dX2_isFile_4 : decode cX2_isFile 4 = .ok (.getfield 81, 3) := dk_180 0 81 (dk_at dksX2_isFile_0 4 rfl rfl)
theorem dX2_isFile_7 : decode cX2_isFile 7 = .ok (.iconst 1, 1) := dk_4 (dk_at dksX2_isFile_0 7 rfl rfl)
theorem dX2_isFile_8 : decode cX2_isFile 8 = .ok (.isub, 1) := dk_100 (dk_at dksX2_isFile_0 8 rfl rfl)
theorem dX2_isFile_9 : decode cX2_isFile 9 = .ok (.i2l, 1) := dk_133 (dk_at dksX2_isFile_0 9 rfl rfl)
theorem dX2_isFile_10 : decode cX2_isFile 10 = .ok (.invokestatic 61, 3) := dk_184 0 61 (dk_at dksX2_isFile_0 10 rfl rfl)
theorem dX2_isFile_13 : decode cX2_isFile 13 = .ok (.ireturn, 1) := dk_172 (dk_at dksX2_isFile_0 13 rfl rfl)
abbrev cX2_tell : ByteArray := prog_11_method_18_code
def yX2_tell : MethodName := ⟨RX2, "tell", "(II)I"⟩
def dkwX2_tell_4 : List UInt8 := [172, 42, 27, 182, 0, 113, 172, 16, 154, 172]
abbrev dktX2_tell_4 : List UInt8 := dkwX2_tell_4 ++ []
def dkwX2_tell_3 : List UInt8 := [96, 46, 172, 42, 180, 0, 22, 27, 46, 172, 42, 180, 0, 19, 27, 46, 154, 0, 7, 3, 167, 0, 4, 4]
abbrev dktX2_tell_3 : List UInt8 := dkwX2_tell_3 ++ dktX2_tell_4
def dkwX2_tell_2 : List UInt8 := [42, 180, 0, 16, 5, 27, 104, 46, 172, 42, 180, 0, 19, 27, 46, 172, 42, 180, 0, 16, 5, 27, 104, 4]
abbrev dktX2_tell_2 : List UInt8 := dkwX2_tell_2 ++ dktX2_tell_3
def dkwX2_tell_1 : List UInt8 := [170, 0, 0, 0, 0, 0, 94, 0, 0, 0, 0, 0, 0, 0, 5, 0, 0, 0, 39, 0, 0, 0, 48, 0, 0, 0, 55, 0, 0, 0, 66, 0, 0, 0, 73, 0, 0, 0, 88]
abbrev dktX2_tell_1 : List UInt8 := dkwX2_tell_1 ++ dktX2_tell_2
def dkwX2_tell_0 : List UInt8 := [28]
abbrev dktX2_tell_0 : List UInt8 := dkwX2_tell_0 ++ dktX2_tell_1
theorem dksX2_tell_0 : cX2_tell.data.toList.drop 0 = dktX2_tell_0 := by decide +kernel
theorem dksX2_tell_1 : cX2_tell.data.toList.drop 1 = dktX2_tell_1 := dk_seg dksX2_tell_0 1 rfl rfl
theorem dksX2_tell_2 : cX2_tell.data.toList.drop 40 = dktX2_tell_2 := dk_seg dksX2_tell_1 39 rfl rfl
theorem dksX2_tell_3 : cX2_tell.data.toList.drop 64 = dktX2_tell_3 := dk_seg dksX2_tell_2 24 rfl rfl
theorem dksX2_tell_4 : cX2_tell.data.toList.drop 88 = dktX2_tell_4 := dk_seg dksX2_tell_3 24 rfl rfl
theorem dX2_tell_0 : decode cX2_tell 0 = .ok (.iload_n 2, 1) := dk_28 (dk_at dksX2_tell_0 0 rfl rfl)
theorem dX2_tell_1 : decode cX2_tell 1 = .ok (.tableswitch 94 0 5 #[39, 48, 55, 66, 73, 88], 39) := by decide +kernel
theorem dX2_tell_40 : decode cX2_tell 40 = .ok (.aload_n 0, 1) := dk_42 (dk_at dksX2_tell_2 0 rfl rfl)
theorem dX2_tell_41 : decode cX2_tell 41 = .ok (.getfield 16, 3) := dk_180 0 16 (dk_at dksX2_tell_2 1 rfl rfl)
theorem dX2_tell_44 : decode cX2_tell 44 = .ok (.iconst 2, 1) := dk_5 (dk_at dksX2_tell_2 4 rfl rfl)
theorem dX2_tell_45 : decode cX2_tell 45 = .ok (.iload_n 1, 1) := dk_27 (dk_at dksX2_tell_2 5 rfl rfl)
theorem dX2_tell_46 : decode cX2_tell 46 = .ok (.imul, 1) := dk_104 (dk_at dksX2_tell_2 6 rfl rfl)
theorem dX2_tell_47 : decode cX2_tell 47 = .ok (.iaload, 1) := dk_46 (dk_at dksX2_tell_2 7 rfl rfl)
theorem dX2_tell_48 : decode cX2_tell 48 = .ok (.ireturn, 1) := dk_172 (dk_at dksX2_tell_2 8 rfl rfl)
theorem dX2_tell_49 : decode cX2_tell 49 = .ok (.aload_n 0, 1) := dk_42 (dk_at dksX2_tell_2 9 rfl rfl)
theorem dX2_tell_50 : decode cX2_tell 50 = .ok (.getfield 19, 3) := dk_180 0 19 (dk_at dksX2_tell_2 10 rfl rfl)
theorem dX2_tell_53 : decode cX2_tell 53 = .ok (.iload_n 1, 1) := dk_27 (dk_at dksX2_tell_2 13 rfl rfl)
theorem dX2_tell_54 : decode cX2_tell 54 = .ok (.iaload, 1) := dk_46 (dk_at dksX2_tell_2 14 rfl rfl)
theorem dX2_tell_55 : decode cX2_tell 55 = .ok (.ireturn, 1) := dk_172 (dk_at dksX2_tell_2 15 rfl rfl)
theorem dX2_tell_56 : decode cX2_tell 56 = .ok (.aload_n 0, 1) := dk_42 (dk_at dksX2_tell_2 16 rfl rfl)
theorem dX2_tell_57 : decode cX2_tell 57 = .ok (.getfield 16, 3) := dk_180 0 16 (dk_at dksX2_tell_2 17 rfl rfl)
theorem dX2_tell_60 : decode cX2_tell 60 = .ok (.iconst 2, 1) := dk_5 (dk_at dksX2_tell_2 20 rfl rfl)
theorem dX2_tell_61 : decode cX2_tell 61 = .ok (.iload_n 1, 1) := dk_27 (dk_at dksX2_tell_2 21 rfl rfl)
theorem dX2_tell_62 : decode cX2_tell 62 = .ok (.imul, 1) := dk_104 (dk_at dksX2_tell_2 22 rfl rfl)
theorem dX2_tell_63 : decode cX2_tell 63 = .ok (.iconst 1, 1) := dk_4 (dk_at dksX2_tell_2 23 rfl rfl)
theorem dX2_tell_64 : decode cX2_tell 64 = .ok (.iadd, 1) := dk_96 (dk_at dksX2_tell_3 0 rfl rfl)
theorem dX2_tell_65 : decode cX2_tell 65 = .ok (.iaload, 1) := dk_46 (dk_at dksX2_tell_3 1 rfl rfl)
theorem dX2_tell_66 : decode cX2_tell 66 = .ok (.ireturn, 1) := dk_172 (dk_at dksX2_tell_3 2 rfl rfl)
theorem dX2_tell_67 : decode cX2_tell 67 = .ok (.aload_n 0, 1) := dk_42 (dk_at dksX2_tell_3 3 rfl rfl)
theorem dX2_tell_68 : decode cX2_tell 68 = .ok (.getfield 22, 3) := dk_180 0 22 (dk_at dksX2_tell_3 4 rfl rfl)
theorem dX2_tell_71 : decode cX2_tell 71 = .ok (.iload_n 1, 1) := dk_27 (dk_at dksX2_tell_3 7 rfl rfl)
theorem dX2_tell_72 : decode cX2_tell 72 = .ok (.iaload, 1) := dk_46 (dk_at dksX2_tell_3 8 rfl rfl)
theorem dX2_tell_73 : decode cX2_tell 73 = .ok (.ireturn, 1) := dk_172 (dk_at dksX2_tell_3 9 rfl rfl)
theorem dX2_tell_74 : decode cX2_tell 74 = .ok (.aload_n 0, 1) := dk_42 (dk_at dksX2_tell_3 10 rfl rfl)
theorem dX2_tell_75 : decode cX2_tell 75 = .ok (.getfield 19, 3) := dk_180 0 19 (dk_at dksX2_tell_3 11 rfl rfl)
theorem dX2_tell_78 : decode cX2_tell 78 = .ok (.iload_n 1, 1) := dk_27 (dk_at dksX2_tell_3 14 rfl rfl)
theorem dX2_tell_79 : decode cX2_tell 79 = .ok (.iaload, 1) := dk_46 (dk_at dksX2_tell_3 15 rfl rfl)
theorem dX2_tell_80 : decode cX2_tell 80 = .ok (.ifCond .ne 7, 3) := dk_154 0 7 (dk_at dksX2_tell_3 16 rfl rfl)
theorem dX2_tell_83 : decode cX2_tell 83 = .ok (.iconst 0, 1) := dk_3 (dk_at dksX2_tell_3 19 rfl rfl)
theorem dX2_tell_84 : decode cX2_tell 84 = .ok (.goto 4, 3) := dk_167 0 4 (dk_at dksX2_tell_3 20 rfl rfl)
theorem dX2_tell_87 : decode cX2_tell 87 = .ok (.iconst 1, 1) := dk_4 (dk_at dksX2_tell_3 23 rfl rfl)
theorem dX2_tell_88 : decode cX2_tell 88 = .ok (.ireturn, 1) := dk_172 (dk_at dksX2_tell_4 0 rfl rfl)
theorem dX2_tell_89 : decode cX2_tell 89 = .ok (.aload_n 0, 1) := dk_42 (dk_at dksX2_tell_4 1 rfl rfl)
theorem dX2_tell_90 : decode cX2_tell 90 = .ok (.iload_n 1, 1) := dk_27 (dk_at dksX2_tell_4 2 rfl rfl)
theorem dX2_tell_91 : decode cX2_tell 91 = .ok (.invokevirtual 113, 3) := dk_182 0 113 (dk_at dksX2_tell_4 3 rfl rfl)
theorem dX2_tell_94 : decode cX2_tell 94 = .ok (.ireturn, 1) := dk_172 (dk_at dksX2_tell_4 6 rfl rfl)
theorem dX2_tell_95 : decode cX2_tell 95 = .ok (.bipush (-102), 2) := dk_16 154 (dk_at dksX2_tell_4 7 rfl rfl)
theorem dX2_tell_97 : decode cX2_tell 97 = .ok (.ireturn, 1) := dk_172 (dk_at dksX2_tell_4 9 rfl rfl)
abbrev cX2_namesOf : ByteArray := prog_11_method_17_code
def yX2_namesOf : MethodName := ⟨RX2, "namesOf", "(I)I"⟩
def dkwX2_namesOf_1 : List UInt8 := [6, 167, 0, 4, 5, 172]
abbrev dktX2_namesOf_1 : List UInt8 := dkwX2_namesOf_1 ++ []
def dkwX2_namesOf_0 : List UInt8 := [42, 180, 0, 16, 5, 27, 104, 46, 61, 28, 4, 160, 0, 8, 16, 6, 167, 0, 13, 28, 5, 164, 0, 7]
abbrev dktX2_namesOf_0 : List UInt8 := dkwX2_namesOf_0 ++ dktX2_namesOf_1
theorem dksX2_namesOf_0 : cX2_namesOf.data.toList.drop 0 = dktX2_namesOf_0 := by decide +kernel
theorem dksX2_namesOf_1 : cX2_namesOf.data.toList.drop 24 = dktX2_namesOf_1 := dk_seg dksX2_namesOf_0 24 rfl rfl
theorem dX2_namesOf_0 : decode cX2_namesOf 0 = .ok (.aload_n 0, 1) := dk_42 (dk_at dksX2_namesOf_0 0 rfl rfl)
theorem dX2_namesOf_1 : decode cX2_namesOf 1 = .ok (.getfield 16, 3) := dk_180 0 16 (dk_at dksX2_namesOf_0 1 rfl rfl)
theorem dX2_namesOf_4 : decode cX2_namesOf 4 = .ok (.iconst 2, 1) := dk_5 (dk_at dksX2_namesOf_0 4 rfl rfl)
theorem dX2_namesOf_5 : decode cX2_namesOf 5 = .ok (.iload_n 1, 1) := dk_27 (dk_at dksX2_namesOf_0 5 rfl rfl)
theorem dX2_namesOf_6 : decode cX2_namesOf 6 = .ok (.imul, 1) := dk_104 (dk_at dksX2_namesOf_0 6 rfl rfl)
theorem dX2_namesOf_7 : decode cX2_namesOf 7 = .ok (.iaload, 1) := dk_46 (dk_at dksX2_namesOf_0 7 rfl rfl)
theorem dX2_namesOf_8 : decode cX2_namesOf 8 = .ok (.istore_n 2, 1) := dk_61 (dk_at dksX2_namesOf_0 8 rfl rfl)
theorem dX2_namesOf_9 : decode cX2_namesOf 9 = .ok (.iload_n 2, 1) := dk_28 (dk_at dksX2_namesOf_0 9 rfl rfl)
theorem dX2_namesOf_10 : decode cX2_namesOf 10 = .ok (.iconst 1, 1) := dk_4 (dk_at dksX2_namesOf_0 10 rfl rfl)
theorem dX2_namesOf_11 : decode cX2_namesOf 11 = .ok (.if_icmp .ne 8, 3) := dk_160 0 8 (dk_at dksX2_namesOf_0 11 rfl rfl)
theorem dX2_namesOf_14 : decode cX2_namesOf 14 = .ok (.bipush 6, 2) := dk_16 6 (dk_at dksX2_namesOf_0 14 rfl rfl)
theorem dX2_namesOf_16 : decode cX2_namesOf 16 = .ok (.goto 13, 3) := dk_167 0 13 (dk_at dksX2_namesOf_0 16 rfl rfl)
theorem dX2_namesOf_19 : decode cX2_namesOf 19 = .ok (.iload_n 2, 1) := dk_28 (dk_at dksX2_namesOf_0 19 rfl rfl)
theorem dX2_namesOf_20 : decode cX2_namesOf 20 = .ok (.iconst 2, 1) := dk_5 (dk_at dksX2_namesOf_0 20 rfl rfl)
theorem dX2_namesOf_21 : decode cX2_namesOf 21 = .ok (.if_icmp .le 7, 3) := dk_164 0 7 (dk_at dksX2_namesOf_0 21 rfl rfl)
theorem dX2_namesOf_24 : decode cX2_namesOf 24 = .ok (.iconst 3, 1) := dk_6 (dk_at dksX2_namesOf_1 0 rfl rfl)
theorem dX2_namesOf_25 : decode cX2_namesOf 25 = .ok (.goto 4, 3) := dk_167 0 4 (dk_at dksX2_namesOf_1 1 rfl rfl)
theorem dX2_namesOf_28 : decode cX2_namesOf 28 = .ok (.iconst 2, 1) := dk_5 (dk_at dksX2_namesOf_1 4 rfl rfl)
theorem dX2_namesOf_29 : decode cX2_namesOf 29 = .ok (.ireturn, 1) := dk_172 (dk_at dksX2_namesOf_1 5 rfl rfl)
abbrev cX2_as : ByteArray := prog_11_method_20_code
def yX2_as : MethodName := ⟨RX2, "as", "(II)I"⟩
def dkwX2_as_3 : List UInt8 := [2, 172]
abbrev dktX2_as_3 : List UInt8 := dkwX2_as_3 ++ []
def dkwX2_as_2 : List UInt8 := [160, 0, 12, 29, 7, 160, 0, 7, 4, 167, 0, 4, 3, 54, 4, 21, 4, 153, 0, 7, 27, 167, 0, 4]
abbrev dktX2_as_2 : List UInt8 := dkwX2_as_2 ++ dktX2_as_3
def dkwX2_as_1 : List UInt8 := [16, 154, 172, 42, 180, 0, 16, 5, 27, 104, 46, 62, 28, 153, 0, 18, 28, 29, 159, 0, 13, 28, 6]
abbrev dktX2_as_1 : List UInt8 := dkwX2_as_1 ++ dktX2_as_2
def dkwX2_as_0 : List UInt8 := [42, 27, 182, 0, 117, 154, 0, 6, 16, 155, 172, 28, 133, 9, 20, 0, 107, 184, 0, 61, 154, 0, 6]
abbrev dktX2_as_0 : List UInt8 := dkwX2_as_0 ++ dktX2_as_1
theorem dksX2_as_0 : cX2_as.data.toList.drop 0 = dktX2_as_0 := by decide +kernel
theorem dksX2_as_1 : cX2_as.data.toList.drop 23 = dktX2_as_1 := dk_seg dksX2_as_0 23 rfl rfl
theorem dksX2_as_2 : cX2_as.data.toList.drop 46 = dktX2_as_2 := dk_seg dksX2_as_1 23 rfl rfl
theorem dksX2_as_3 : cX2_as.data.toList.drop 70 = dktX2_as_3 := dk_seg dksX2_as_2 24 rfl rfl
theorem dX2_as_0 : decode cX2_as 0 = .ok (.aload_n 0, 1) := dk_42 (dk_at dksX2_as_0 0 rfl rfl)
theorem dX2_as_1 : decode cX2_as 1 = .ok (.iload_n 1, 1) := dk_27 (dk_at dksX2_as_0 1 rfl rfl)
theorem dX2_as_2 : decode cX2_as 2 = .ok (.invokevirtual 117, 3) := dk_182 0 117 (dk_at dksX2_as_0 2 rfl rfl)
theorem dX2_as_5 : decode cX2_as 5 = .ok (.ifCond .ne 6, 3) := dk_154 0 6 (dk_at dksX2_as_0 5 rfl rfl)
theorem dX2_as_8 : decode cX2_as 8 = .ok (.bipush (-101), 2) := dk_16 155 (dk_at dksX2_as_0 8 rfl rfl)
theorem dX2_as_10 : decode cX2_as 10 = .ok (.ireturn, 1) := dk_172 (dk_at dksX2_as_0 10 rfl rfl)
theorem dX2_as_11 : decode cX2_as 11 = .ok (.iload_n 2, 1) := dk_28 (dk_at dksX2_as_0 11 rfl rfl)
theorem dX2_as_12 : decode cX2_as 12 = .ok (.i2l, 1) := dk_133 (dk_at dksX2_as_0 12 rfl rfl)
theorem dX2_as_13 : decode cX2_as 13 = .ok (.lconst 0, 1) := dk_9 (dk_at dksX2_as_0 13 rfl rfl)
theorem dX2_as_14 : decode cX2_as 14 = .ok (.ldc2_w 107, 3) := dk_20 0 107 (dk_at dksX2_as_0 14 rfl rfl)
theorem dX2_as_17 : decode cX2_as 17 = .ok (.invokestatic 61, 3) := dk_184 0 61 (dk_at dksX2_as_0 17 rfl rfl)
theorem dX2_as_20 : decode cX2_as 20 = .ok (.ifCond .ne 6, 3) := dk_154 0 6 (dk_at dksX2_as_0 20 rfl rfl)
theorem dX2_as_23 : decode cX2_as 23 = .ok (.bipush (-102), 2) := dk_16 154 (dk_at dksX2_as_1 0 rfl rfl)
theorem dX2_as_25 : decode cX2_as 25 = .ok (.ireturn, 1) := dk_172 (dk_at dksX2_as_1 2 rfl rfl)
theorem dX2_as_26 : decode cX2_as 26 = .ok (.aload_n 0, 1) := dk_42 (dk_at dksX2_as_1 3 rfl rfl)
theorem dX2_as_27 : decode cX2_as 27 = .ok (.getfield 16, 3) := dk_180 0 16 (dk_at dksX2_as_1 4 rfl rfl)
theorem dX2_as_30 : decode cX2_as 30 = .ok (.iconst 2, 1) := dk_5 (dk_at dksX2_as_1 7 rfl rfl)
theorem dX2_as_31 : decode cX2_as 31 = .ok (.iload_n 1, 1) := dk_27 (dk_at dksX2_as_1 8 rfl rfl)
theorem dX2_as_32 : decode cX2_as 32 = .ok (.imul, 1) := dk_104 (dk_at dksX2_as_1 9 rfl rfl)
theorem dX2_as_33 : decode cX2_as 33 = .ok (.iaload, 1) := dk_46 (dk_at dksX2_as_1 10 rfl rfl)
theorem dX2_as_34 : decode cX2_as 34 = .ok (.istore_n 3, 1) := dk_62 (dk_at dksX2_as_1 11 rfl rfl)
theorem dX2_as_35 : decode cX2_as 35 = .ok (.iload_n 2, 1) := dk_28 (dk_at dksX2_as_1 12 rfl rfl)
theorem dX2_as_36 : decode cX2_as 36 = .ok (.ifCond .eq 18, 3) := dk_153 0 18 (dk_at dksX2_as_1 13 rfl rfl)
theorem dX2_as_39 : decode cX2_as 39 = .ok (.iload_n 2, 1) := dk_28 (dk_at dksX2_as_1 16 rfl rfl)
theorem dX2_as_40 : decode cX2_as 40 = .ok (.iload_n 3, 1) := dk_29 (dk_at dksX2_as_1 17 rfl rfl)
theorem dX2_as_41 : decode cX2_as 41 = .ok (.if_icmp .eq 13, 3) := dk_159 0 13 (dk_at dksX2_as_1 18 rfl rfl)
theorem dX2_as_44 : decode cX2_as 44 = .ok (.iload_n 2, 1) := dk_28 (dk_at dksX2_as_1 21 rfl rfl)
theorem dX2_as_45 : decode cX2_as 45 = .ok (.iconst 3, 1) := dk_6 (dk_at dksX2_as_1 22 rfl rfl)
theorem dX2_as_46 : decode cX2_as 46 = .ok (.if_icmp .ne 12, 3) := dk_160 0 12 (dk_at dksX2_as_2 0 rfl rfl)
theorem dX2_as_49 : decode cX2_as 49 = .ok (.iload_n 3, 1) := dk_29 (dk_at dksX2_as_2 3 rfl rfl)
theorem dX2_as_50 : decode cX2_as 50 = .ok (.iconst 4, 1) := dk_7 (dk_at dksX2_as_2 4 rfl rfl)
theorem dX2_as_51 : decode cX2_as 51 = .ok (.if_icmp .ne 7, 3) := dk_160 0 7 (dk_at dksX2_as_2 5 rfl rfl)
theorem dX2_as_54 : decode cX2_as 54 = .ok (.iconst 1, 1) := dk_4 (dk_at dksX2_as_2 8 rfl rfl)
theorem dX2_as_55 : decode cX2_as 55 = .ok (.goto 4, 3) := dk_167 0 4 (dk_at dksX2_as_2 9 rfl rfl)
theorem dX2_as_58 : decode cX2_as 58 = .ok (.iconst 0, 1) := dk_3 (dk_at dksX2_as_2 12 rfl rfl)
theorem dX2_as_59 : decode cX2_as 59 = .ok (.istore 4, 2) := dk_54 4 (dk_at dksX2_as_2 13 rfl rfl)
theorem dX2_as_61 : decode cX2_as 61 = .ok (.iload 4, 2) := dk_21 4 (dk_at dksX2_as_2 15 rfl rfl)
theorem dX2_as_63 : decode cX2_as 63 = .ok (.ifCond .eq 7, 3) := dk_153 0 7 (dk_at dksX2_as_2 17 rfl rfl)
theorem dX2_as_66 : decode cX2_as 66 = .ok (.iload_n 1, 1) := dk_27 (dk_at dksX2_as_2 20 rfl rfl)
theorem dX2_as_67 : decode cX2_as 67 = .ok (.goto 4, 3) := dk_167 0 4 (dk_at dksX2_as_2 21 rfl rfl)
theorem dX2_as_70 : decode cX2_as 70 = .ok (.iconst (-1), 1) := dk_2 (dk_at dksX2_as_3 0 rfl rfl)
theorem dX2_as_71 : decode cX2_as 71 = .ok (.ireturn, 1) := dk_172 (dk_at dksX2_as_3 1 rfl rfl)
abbrev cX2_copy : ByteArray := prog_11_method_22_code
def yX2_copy : MethodName := ⟨RX2, "copy", "(II)I"⟩
def dkwX2_copy_2 : List UInt8 := [184, 0, 123, 172]
abbrev dktX2_copy_2 : List UInt8 := dkwX2_copy_2 ++ []
def dkwX2_copy_1 : List UInt8 := [154, 0, 6, 16, 153, 172, 42, 180, 0, 19, 27, 92, 46, 4, 28, 120, 128, 79, 42, 180, 0, 19, 27, 46]
abbrev dktX2_copy_1 : List UInt8 := dkwX2_copy_1 ++ dktX2_copy_2
def dkwX2_copy_0 : List UInt8 := [42, 27, 182, 0, 117, 153, 0, 10, 28, 184, 0, 99, 154, 0, 6, 16, 155, 172, 42, 27, 28, 182, 0, 126]
abbrev dktX2_copy_0 : List UInt8 := dkwX2_copy_0 ++ dktX2_copy_1
theorem dksX2_copy_0 : cX2_copy.data.toList.drop 0 = dktX2_copy_0 := by decide +kernel
theorem dksX2_copy_1 : cX2_copy.data.toList.drop 24 = dktX2_copy_1 := dk_seg dksX2_copy_0 24 rfl rfl
theorem dksX2_copy_2 : cX2_copy.data.toList.drop 48 = dktX2_copy_2 := dk_seg dksX2_copy_1 24 rfl rfl
theorem dX2_copy_0 : decode cX2_copy 0 = .ok (.aload_n 0, 1) := dk_42 (dk_at dksX2_copy_0 0 rfl rfl)
theorem dX2_copy_1 : decode cX2_copy 1 = .ok (.iload_n 1, 1) := dk_27 (dk_at dksX2_copy_0 1 rfl rfl)
theorem dX2_copy_2 : decode cX2_copy 2 = .ok (.invokevirtual 117, 3) := dk_182 0 117 (dk_at dksX2_copy_0 2 rfl rfl)
theorem dX2_copy_5 : decode cX2_copy 5 = .ok (.ifCond .eq 10, 3) := dk_153 0 10 (dk_at dksX2_copy_0 5 rfl rfl)
theorem dX2_copy_8 : decode cX2_copy 8 = .ok (.iload_n 2, 1) := dk_28 (dk_at dksX2_copy_0 8 rfl rfl)
theorem dX2_copy_9 : decode cX2_copy 9 = .ok (.invokestatic 99, 3) := dk_184 0 99 (dk_at dksX2_copy_0 9 rfl rfl)
theorem dX2_copy_12 : decode cX2_copy 12 = .ok (.ifCond .ne 6, 3) := dk_154 0 6 (dk_at dksX2_copy_0 12 rfl rfl)
theorem dX2_copy_15 : decode cX2_copy 15 = .ok (.bipush (-101), 2) := dk_16 155 (dk_at dksX2_copy_0 15 rfl rfl)
theorem dX2_copy_17 : decode cX2_copy 17 = .ok (.ireturn, 1) := dk_172 (dk_at dksX2_copy_0 17 rfl rfl)
theorem dX2_copy_18 : decode cX2_copy 18 = .ok (.aload_n 0, 1) := dk_42 (dk_at dksX2_copy_0 18 rfl rfl)
theorem dX2_copy_19 : decode cX2_copy 19 = .ok (.iload_n 1, 1) := dk_27 (dk_at dksX2_copy_0 19 rfl rfl)
theorem dX2_copy_20 : decode cX2_copy 20 = .ok (.iload_n 2, 1) := dk_28 (dk_at dksX2_copy_0 20 rfl rfl)
theorem dX2_copy_21 : decode cX2_copy 21 = .ok (.invokevirtual 126, 3) := dk_182 0 126 (dk_at dksX2_copy_0 21 rfl rfl)
theorem dX2_copy_24 : decode cX2_copy 24 = .ok (.ifCond .ne 6, 3) := dk_154 0 6 (dk_at dksX2_copy_1 0 rfl rfl)
theorem dX2_copy_27 : decode cX2_copy 27 = .ok (.bipush (-103), 2) := dk_16 153 (dk_at dksX2_copy_1 3 rfl rfl)
theorem dX2_copy_29 : decode cX2_copy 29 = .ok (.ireturn, 1) := dk_172 (dk_at dksX2_copy_1 5 rfl rfl)
theorem dX2_copy_30 : decode cX2_copy 30 = .ok (.aload_n 0, 1) := dk_42 (dk_at dksX2_copy_1 6 rfl rfl)
theorem dX2_copy_31 : decode cX2_copy 31 = .ok (.getfield 19, 3) := dk_180 0 19 (dk_at dksX2_copy_1 7 rfl rfl)
theorem dX2_copy_34 : decode cX2_copy 34 = .ok (.iload_n 1, 1) := dk_27 (dk_at dksX2_copy_1 10 rfl rfl)
theorem dX2_copy_35 : decode cX2_copy 35 = .ok (.dup2, 1) := dk_92 (dk_at dksX2_copy_1 11 rfl rfl)
theorem dX2_copy_36 : decode cX2_copy 36 = .ok (.iaload, 1) := dk_46 (dk_at dksX2_copy_1 12 rfl rfl)
theorem dX2_copy_37 : decode cX2_copy 37 = .ok (.iconst 1, 1) := dk_4 (dk_at dksX2_copy_1 13 rfl rfl)
theorem dX2_copy_38 : decode cX2_copy 38 = .ok (.iload_n 2, 1) := dk_28 (dk_at dksX2_copy_1 14 rfl rfl)
theorem dX2_copy_39 : decode cX2_copy 39 = .ok (.ishl, 1) := dk_120 (dk_at dksX2_copy_1 15 rfl rfl)
theorem dX2_copy_40 : decode cX2_copy 40 = .ok (.ior, 1) := dk_128 (dk_at dksX2_copy_1 16 rfl rfl)
theorem dX2_copy_41 : decode cX2_copy 41 = .ok (.iastore, 1) := dk_79 (dk_at dksX2_copy_1 17 rfl rfl)
theorem dX2_copy_42 : decode cX2_copy 42 = .ok (.aload_n 0, 1) := dk_42 (dk_at dksX2_copy_1 18 rfl rfl)
theorem dX2_copy_43 : decode cX2_copy 43 = .ok (.getfield 19, 3) := dk_180 0 19 (dk_at dksX2_copy_1 19 rfl rfl)
theorem dX2_copy_46 : decode cX2_copy 46 = .ok (.iload_n 1, 1) := dk_27 (dk_at dksX2_copy_1 22 rfl rfl)
theorem dX2_copy_47 : decode cX2_copy 47 = .ok (.iaload, 1) := dk_46 (dk_at dksX2_copy_1 23 rfl rfl)
theorem dX2_copy_48 : decode cX2_copy 48 = .ok (.invokestatic 123, 3) := dk_184 0 123 (dk_at dksX2_copy_2 0 rfl rfl)
theorem dX2_copy_51 : decode cX2_copy 51 = .ok (.ireturn, 1) := dk_172 (dk_at dksX2_copy_2 3 rfl rfl)
abbrev cX2_mayCopy : ByteArray := prog_11_method_21_code
def yX2_mayCopy : MethodName := ⟨RX2, "mayCopy", "(II)Z"⟩
def dkwX2_mayCopy_2 : List UInt8 := [167, 0, 4, 3, 172]
abbrev dktX2_mayCopy_2 : List UInt8 := dkwX2_mayCopy_2 ++ []
def dkwX2_mayCopy_1 : List UInt8 := [27, 182, 0, 113, 162, 0, 23, 42, 42, 180, 0, 19, 28, 182, 0, 95, 42, 180, 0, 78, 162, 0, 7, 4]
abbrev dktX2_mayCopy_1 : List UInt8 := dkwX2_mayCopy_1 ++ dktX2_mayCopy_2
def dkwX2_mayCopy_0 : List UInt8 := [42, 180, 0, 19, 27, 46, 62, 29, 153, 0, 43, 29, 28, 122, 4, 126, 154, 0, 35, 29, 184, 0, 123, 42]
abbrev dktX2_mayCopy_0 : List UInt8 := dkwX2_mayCopy_0 ++ dktX2_mayCopy_1
theorem dksX2_mayCopy_0 : cX2_mayCopy.data.toList.drop 0 = dktX2_mayCopy_0 := by decide +kernel
theorem dksX2_mayCopy_1 : cX2_mayCopy.data.toList.drop 24 = dktX2_mayCopy_1 := dk_seg dksX2_mayCopy_0 24 rfl rfl
theorem dksX2_mayCopy_2 : cX2_mayCopy.data.toList.drop 48 = dktX2_mayCopy_2 := dk_seg dksX2_mayCopy_1 24 rfl rfl
theorem dX2_mayCopy_0 : decode cX2_mayCopy 0 = .ok (.aload_n 0, 1) := dk_42 (dk_at dksX2_mayCopy_0 0 rfl rfl)
theorem dX2_mayCopy_1 : decode cX2_mayCopy 1 = .ok (.getfield 19, 3) := dk_180 0 19 (dk_at dksX2_mayCopy_0 1 rfl rfl)
theorem dX2_mayCopy_4 : decode cX2_mayCopy 4 = .ok (.iload_n 1, 1) := dk_27 (dk_at dksX2_mayCopy_0 4 rfl rfl)
theorem dX2_mayCopy_5 : decode cX2_mayCopy 5 = .ok (.iaload, 1) := dk_46 (dk_at dksX2_mayCopy_0 5 rfl rfl)
theorem dX2_mayCopy_6 : decode cX2_mayCopy 6 = .ok (.istore_n 3, 1) := dk_62 (dk_at dksX2_mayCopy_0 6 rfl rfl)
theorem dX2_mayCopy_7 : decode cX2_mayCopy 7 = .ok (.iload_n 3, 1) := dk_29 (dk_at dksX2_mayCopy_0 7 rfl rfl)
theorem dX2_mayCopy_8 : decode cX2_mayCopy 8 = .ok (.ifCond .eq 43, 3) := dk_153 0 43 (dk_at dksX2_mayCopy_0 8 rfl rfl)
theorem dX2_mayCopy_11 : decode cX2_mayCopy 11 = .ok (.iload_n 3, 1) := dk_29 (dk_at dksX2_mayCopy_0 11 rfl rfl)
theorem dX2_mayCopy_12 : decode cX2_mayCopy 12 = .ok (.iload_n 2, 1) := dk_28 (dk_at dksX2_mayCopy_0 12 rfl rfl)
theorem dX2_mayCopy_13 : decode cX2_mayCopy 13 = .ok (.ishr, 1) := dk_122 (dk_at dksX2_mayCopy_0 13 rfl rfl)
theorem dX2_mayCopy_14 : decode cX2_mayCopy 14 = .ok (.iconst 1, 1) := dk_4 (dk_at dksX2_mayCopy_0 14 rfl rfl)
theorem dX2_mayCopy_15 : decode cX2_mayCopy 15 = .ok (.iand, 1) := dk_126 (dk_at dksX2_mayCopy_0 15 rfl rfl)
theorem dX2_mayCopy_16 : decode cX2_mayCopy 16 = .ok (.ifCond .ne 35, 3) := dk_154 0 35 (dk_at dksX2_mayCopy_0 16 rfl rfl)
theorem dX2_mayCopy_19 : decode cX2_mayCopy 19 = .ok (.iload_n 3, 1) := dk_29 (dk_at dksX2_mayCopy_0 19 rfl rfl)
theorem dX2_mayCopy_20 : decode cX2_mayCopy 20 = .ok (.invokestatic 123, 3) := dk_184 0 123 (dk_at dksX2_mayCopy_0 20 rfl rfl)
theorem dX2_mayCopy_23 : decode cX2_mayCopy 23 = .ok (.aload_n 0, 1) := dk_42 (dk_at dksX2_mayCopy_0 23 rfl rfl)
theorem dX2_mayCopy_24 : decode cX2_mayCopy 24 = .ok (.iload_n 1, 1) := dk_27 (dk_at dksX2_mayCopy_1 0 rfl rfl)
theorem dX2_mayCopy_25 : decode cX2_mayCopy 25 = .ok (.invokevirtual 113, 3) := dk_182 0 113 (dk_at dksX2_mayCopy_1 1 rfl rfl)
theorem dX2_mayCopy_28 : decode cX2_mayCopy 28 = .ok (.if_icmp .ge 23, 3) := dk_162 0 23 (dk_at dksX2_mayCopy_1 4 rfl rfl)
theorem dX2_mayCopy_31 : decode cX2_mayCopy 31 = .ok (.aload_n 0, 1) := dk_42 (dk_at dksX2_mayCopy_1 7 rfl rfl)
theorem dX2_mayCopy_32 : decode cX2_mayCopy 32 = .ok (.aload_n 0, 1) := dk_42 (dk_at dksX2_mayCopy_1 8 rfl rfl)
theorem dX2_mayCopy_33 : decode cX2_mayCopy 33 = .ok (.getfield 19, 3) := dk_180 0 19 (dk_at dksX2_mayCopy_1 9 rfl rfl)
theorem dX2_mayCopy_36 : decode cX2_mayCopy 36 = .ok (.iload_n 2, 1) := dk_28 (dk_at dksX2_mayCopy_1 12 rfl rfl)
theorem dX2_mayCopy_37 : decode cX2_mayCopy 37 = .ok (.invokevirtual 95, 3) := dk_182 0 95 (dk_at dksX2_mayCopy_1 13 rfl rfl)
theorem dX2_mayCopy_40 : decode cX2_mayCopy 40 = .ok (.aload_n 0, 1) := dk_42 (dk_at dksX2_mayCopy_1 16 rfl rfl)
theorem dX2_mayCopy_41 : decode cX2_mayCopy 41 = .ok (.getfield 78, 3) := dk_180 0 78 (dk_at dksX2_mayCopy_1 17 rfl rfl)
theorem dX2_mayCopy_44 : decode cX2_mayCopy 44 = .ok (.if_icmp .ge 7, 3) := dk_162 0 7 (dk_at dksX2_mayCopy_1 20 rfl rfl)
theorem dX2_mayCopy_47 : decode cX2_mayCopy 47 = .ok (.iconst 1, 1) := dk_4 (dk_at dksX2_mayCopy_1 23 rfl rfl)
theorem dX2_mayCopy_48 : decode cX2_mayCopy 48 = .ok (.goto 4, 3) := dk_167 0 4 (dk_at dksX2_mayCopy_2 0 rfl rfl)
theorem dX2_mayCopy_51 : decode cX2_mayCopy 51 = .ok (.iconst 0, 1) := dk_3 (dk_at dksX2_mayCopy_2 3 rfl rfl)
theorem dX2_mayCopy_52 : decode cX2_mayCopy 52 = .ok (.ireturn, 1) := dk_172 (dk_at dksX2_mayCopy_2 4 rfl rfl)
abbrev cX2_ones : ByteArray := prog_11_method_3_code
def yX2_ones : MethodName := ⟨RX2, "ones", "(I)I"⟩
def dkwX2_ones_1 : List UInt8 := [27, 172]
abbrev dktX2_ones_1 : List UInt8 := dkwX2_ones_1 ++ []
def dkwX2_ones_0 : List UInt8 := [3, 60, 3, 61, 28, 16, 6, 162, 0, 17, 27, 26, 28, 122, 4, 126, 96, 60, 132, 2, 1, 167, 255, 239]
abbrev dktX2_ones_0 : List UInt8 := dkwX2_ones_0 ++ dktX2_ones_1
theorem dksX2_ones_0 : cX2_ones.data.toList.drop 0 = dktX2_ones_0 := by decide +kernel
theorem dksX2_ones_1 : cX2_ones.data.toList.drop 24 = dktX2_ones_1 := dk_seg dksX2_ones_0 24 rfl rfl
theorem dX2_ones_0 : decode cX2_ones 0 = .ok (.iconst 0, 1) := dk_3 (dk_at dksX2_ones_0 0 rfl rfl)
theorem dX2_ones_1 : decode cX2_ones 1 = .ok (.istore_n 1, 1) := dk_60 (dk_at dksX2_ones_0 1 rfl rfl)
theorem dX2_ones_2 : decode cX2_ones 2 = .ok (.iconst 0, 1) := dk_3 (dk_at dksX2_ones_0 2 rfl rfl)
theorem dX2_ones_3 : decode cX2_ones 3 = .ok (.istore_n 2, 1) := dk_61 (dk_at dksX2_ones_0 3 rfl rfl)
theorem dX2_ones_4 : decode cX2_ones 4 = .ok (.iload_n 2, 1) := dk_28 (dk_at dksX2_ones_0 4 rfl rfl)
theorem dX2_ones_5 : decode cX2_ones 5 = .ok (.bipush 6, 2) := dk_16 6 (dk_at dksX2_ones_0 5 rfl rfl)
theorem dX2_ones_7 : decode cX2_ones 7 = .ok (.if_icmp .ge 17, 3) := dk_162 0 17 (dk_at dksX2_ones_0 7 rfl rfl)
theorem dX2_ones_10 : decode cX2_ones 10 = .ok (.iload_n 1, 1) := dk_27 (dk_at dksX2_ones_0 10 rfl rfl)
theorem dX2_ones_11 : decode cX2_ones 11 = .ok (.iload_n 0, 1) := dk_26 (dk_at dksX2_ones_0 11 rfl rfl)
theorem dX2_ones_12 : decode cX2_ones 12 = .ok (.iload_n 2, 1) := dk_28 (dk_at dksX2_ones_0 12 rfl rfl)
theorem dX2_ones_13 : decode cX2_ones 13 = .ok (.ishr, 1) := dk_122 (dk_at dksX2_ones_0 13 rfl rfl)
theorem dX2_ones_14 : decode cX2_ones 14 = .ok (.iconst 1, 1) := dk_4 (dk_at dksX2_ones_0 14 rfl rfl)
theorem dX2_ones_15 : decode cX2_ones 15 = .ok (.iand, 1) := dk_126 (dk_at dksX2_ones_0 15 rfl rfl)
theorem dX2_ones_16 : decode cX2_ones 16 = .ok (.iadd, 1) := dk_96 (dk_at dksX2_ones_0 16 rfl rfl)
theorem dX2_ones_17 : decode cX2_ones 17 = .ok (.istore_n 1, 1) := dk_60 (dk_at dksX2_ones_0 17 rfl rfl)
theorem dX2_ones_18 : decode cX2_ones 18 = .ok (.iinc 2 1, 3) := dk_132 2 1 (dk_at dksX2_ones_0 18 rfl rfl)
theorem dX2_ones_21 : decode cX2_ones 21 = .ok (.goto (-17), 3) := dk_167 255 239 (dk_at dksX2_ones_0 21 rfl rfl)
theorem dX2_ones_24 : decode cX2_ones 24 = .ok (.iload_n 1, 1) := dk_27 (dk_at dksX2_ones_1 0 rfl rfl)
theorem dX2_ones_25 : decode cX2_ones 25 = .ok (.ireturn, 1) := dk_172 (dk_at dksX2_ones_1 1 rfl rfl)
abbrev cX2_rename : ByteArray := prog_11_method_24_code
def yX2_rename : MethodName := ⟨RX2, "rename", "(III)I"⟩
def dkwX2_rename_3 : List UInt8 := [180, 0, 19, 29, 182, 0, 95, 172]
abbrev dktX2_rename_3 : List UInt8 := dkwX2_rename_3 ++ []
def dkwX2_rename_2 : List UInt8 := [180, 0, 19, 27, 42, 180, 0, 19, 27, 46, 4, 28, 120, 2, 130, 126, 4, 29, 120, 128, 79, 42, 42]
abbrev dktX2_rename_2 : List UInt8 := dkwX2_rename_2 ++ dktX2_rename_3
def dkwX2_rename_1 : List UInt8 := [160, 0, 6, 16, 155, 172, 42, 42, 180, 0, 19, 27, 28, 29, 182, 0, 130, 154, 0, 6, 16, 153, 172, 42]
abbrev dktX2_rename_1 : List UInt8 := dkwX2_rename_1 ++ dktX2_rename_2
def dkwX2_rename_0 : List UInt8 := [42, 27, 182, 0, 117, 153, 0, 22, 28, 184, 0, 99, 153, 0, 15, 29, 184, 0, 99, 153, 0, 8, 28, 29]
abbrev dktX2_rename_0 : List UInt8 := dkwX2_rename_0 ++ dktX2_rename_1
theorem dksX2_rename_0 : cX2_rename.data.toList.drop 0 = dktX2_rename_0 := by decide +kernel
theorem dksX2_rename_1 : cX2_rename.data.toList.drop 24 = dktX2_rename_1 := dk_seg dksX2_rename_0 24 rfl rfl
theorem dksX2_rename_2 : cX2_rename.data.toList.drop 48 = dktX2_rename_2 := dk_seg dksX2_rename_1 24 rfl rfl
theorem dksX2_rename_3 : cX2_rename.data.toList.drop 71 = dktX2_rename_3 := dk_seg dksX2_rename_2 23 rfl rfl
theorem dX2_rename_0 : decode cX2_rename 0 = .ok (.aload_n 0, 1) := dk_42 (dk_at dksX2_rename_0 0 rfl rfl)
theorem dX2_rename_1 : decode cX2_rename 1 = .ok (.iload_n 1, 1) := dk_27 (dk_at dksX2_rename_0 1 rfl rfl)
theorem dX2_rename_2 : decode cX2_rename 2 = .ok (.invokevirtual 117, 3) := dk_182 0 117 (dk_at dksX2_rename_0 2 rfl rfl)
theorem dX2_rename_5 : decode cX2_rename 5 = .ok (.ifCond .eq 22, 3) := dk_153 0 22 (dk_at dksX2_rename_0 5 rfl rfl)
theorem dX2_rename_8 : decode cX2_rename 8 = .ok (.iload_n 2, 1) := dk_28 (dk_at dksX2_rename_0 8 rfl rfl)
theorem dX2_rename_9 : decode cX2_rename 9 = .ok (.invokestatic 99, 3) := dk_184 0 99 (dk_at dksX2_rename_0 9 rfl rfl)
theorem dX2_rename_12 : decode cX2_rename 12 = .ok (.ifCond .eq 15, 3) := dk_153 0 15 (dk_at dksX2_rename_0 12 rfl rfl)
theorem dX2_rename_15 : decode cX2_rename 15 = .ok (.iload_n 3, 1) := dk_29 (dk_at dksX2_rename_0 15 rfl rfl)
theorem dX2_rename_16 : decode cX2_rename 16 = .ok (.invokestatic 99, 3) := dk_184 0 99 (dk_at dksX2_rename_0 16 rfl rfl)
theorem dX2_rename_19 : decode cX2_rename 19 = .ok (.ifCond .eq 8, 3) := dk_153 0 8 (dk_at dksX2_rename_0 19 rfl rfl)
theorem dX2_rename_22 : decode cX2_rename 22 = .ok (.iload_n 2, 1) := dk_28 (dk_at dksX2_rename_0 22 rfl rfl)
theorem dX2_rename_23 : decode cX2_rename 23 = .ok (.iload_n 3, 1) := dk_29 (dk_at dksX2_rename_0 23 rfl rfl)
theorem dX2_rename_24 : decode cX2_rename 24 = .ok (.if_icmp .ne 6, 3) := dk_160 0 6 (dk_at dksX2_rename_1 0 rfl rfl)
theorem dX2_rename_27 : decode cX2_rename 27 = .ok (.bipush (-101), 2) := dk_16 155 (dk_at dksX2_rename_1 3 rfl rfl)
theorem dX2_rename_29 : decode cX2_rename 29 = .ok (.ireturn, 1) := dk_172 (dk_at dksX2_rename_1 5 rfl rfl)
theorem dX2_rename_30 : decode cX2_rename 30 = .ok (.aload_n 0, 1) := dk_42 (dk_at dksX2_rename_1 6 rfl rfl)
theorem dX2_rename_31 : decode cX2_rename 31 = .ok (.aload_n 0, 1) := dk_42 (dk_at dksX2_rename_1 7 rfl rfl)
theorem dX2_rename_32 : decode cX2_rename 32 = .ok (.getfield 19, 3) := dk_180 0 19 (dk_at dksX2_rename_1 8 rfl rfl)
theorem dX2_rename_35 : decode cX2_rename 35 = .ok (.iload_n 1, 1) := dk_27 (dk_at dksX2_rename_1 11 rfl rfl)
theorem dX2_rename_36 : decode cX2_rename 36 = .ok (.iload_n 2, 1) := dk_28 (dk_at dksX2_rename_1 12 rfl rfl)
theorem dX2_rename_37 : decode cX2_rename 37 = .ok (.iload_n 3, 1) := dk_29 (dk_at dksX2_rename_1 13 rfl rfl)
theorem dX2_rename_38 : decode cX2_rename 38 = .ok (.invokevirtual 130, 3) := dk_182 0 130 (dk_at dksX2_rename_1 14 rfl rfl)
theorem dX2_rename_41 : decode cX2_rename 41 = .ok (.ifCond .ne 6, 3) := dk_154 0 6 (dk_at dksX2_rename_1 17 rfl rfl)
theorem dX2_rename_44 : decode cX2_rename 44 = .ok (.bipush (-103), 2) := dk_16 153 (dk_at dksX2_rename_1 20 rfl rfl)
theorem dX2_rename_46 : decode cX2_rename 46 = .ok (.ireturn, 1) := dk_172 (dk_at dksX2_rename_1 22 rfl rfl)
theorem dX2_rename_47 : decode cX2_rename 47 = .ok (.aload_n 0, 1) := dk_42 (dk_at dksX2_rename_1 23 rfl rfl)
theorem dX2_rename_48 : decode cX2_rename 48 = .ok (.getfield 19, 3) := dk_180 0 19 (dk_at dksX2_rename_2 0 rfl rfl)
theorem dX2_rename_51 : decode cX2_rename 51 = .ok (.iload_n 1, 1) := dk_27 (dk_at dksX2_rename_2 3 rfl rfl)
theorem dX2_rename_52 : decode cX2_rename 52 = .ok (.aload_n 0, 1) := dk_42 (dk_at dksX2_rename_2 4 rfl rfl)
theorem dX2_rename_53 : decode cX2_rename 53 = .ok (.getfield 19, 3) := dk_180 0 19 (dk_at dksX2_rename_2 5 rfl rfl)
theorem dX2_rename_56 : decode cX2_rename 56 = .ok (.iload_n 1, 1) := dk_27 (dk_at dksX2_rename_2 8 rfl rfl)
theorem dX2_rename_57 : decode cX2_rename 57 = .ok (.iaload, 1) := dk_46 (dk_at dksX2_rename_2 9 rfl rfl)
theorem dX2_rename_58 : decode cX2_rename 58 = .ok (.iconst 1, 1) := dk_4 (dk_at dksX2_rename_2 10 rfl rfl)
theorem dX2_rename_59 : decode cX2_rename 59 = .ok (.iload_n 2, 1) := dk_28 (dk_at dksX2_rename_2 11 rfl rfl)
theorem dX2_rename_60 : decode cX2_rename 60 = .ok (.ishl, 1) := dk_120 (dk_at dksX2_rename_2 12 rfl rfl)
theorem dX2_rename_61 : decode cX2_rename 61 = .ok (.iconst (-1), 1) := dk_2 (dk_at dksX2_rename_2 13 rfl rfl)
theorem dX2_rename_62 : decode cX2_rename 62 = .ok (.ixor, 1) := dk_130 (dk_at dksX2_rename_2 14 rfl rfl)
theorem dX2_rename_63 : decode cX2_rename 63 = .ok (.iand, 1) := dk_126 (dk_at dksX2_rename_2 15 rfl rfl)
theorem dX2_rename_64 : decode cX2_rename 64 = .ok (.iconst 1, 1) := dk_4 (dk_at dksX2_rename_2 16 rfl rfl)
theorem dX2_rename_65 : decode cX2_rename 65 = .ok (.iload_n 3, 1) := dk_29 (dk_at dksX2_rename_2 17 rfl rfl)
theorem dX2_rename_66 : decode cX2_rename 66 = .ok (.ishl, 1) := dk_120 (dk_at dksX2_rename_2 18 rfl rfl)
theorem dX2_rename_67 : decode cX2_rename 67 = .ok (.ior, 1) := dk_128 (dk_at dksX2_rename_2 19 rfl rfl)
theorem dX2_rename_68 : decode cX2_rename 68 = .ok (.iastore, 1) := dk_79 (dk_at dksX2_rename_2 20 rfl rfl)
theorem dX2_rename_69 : decode cX2_rename 69 = .ok (.aload_n 0, 1) := dk_42 (dk_at dksX2_rename_2 21 rfl rfl)
theorem dX2_rename_70 : decode cX2_rename 70 = .ok (.aload_n 0, 1) := dk_42 (dk_at dksX2_rename_2 22 rfl rfl)
theorem dX2_rename_71 : decode cX2_rename 71 = .ok (.getfield 19, 3) := dk_180 0 19 (dk_at dksX2_rename_3 0 rfl rfl)
theorem dX2_rename_74 : decode cX2_rename 74 = .ok (.iload_n 3, 1) := dk_29 (dk_at dksX2_rename_3 3 rfl rfl)
theorem dX2_rename_75 : decode cX2_rename 75 = .ok (.invokevirtual 95, 3) := dk_182 0 95 (dk_at dksX2_rename_3 4 rfl rfl)
theorem dX2_rename_78 : decode cX2_rename 78 = .ok (.ireturn, 1) := dk_172 (dk_at dksX2_rename_3 7 rfl rfl)
abbrev cX2_mayRename : ByteArray := prog_11_method_23_code
def yX2_mayRename : MethodName := ⟨RX2, "mayRename", "([IIII)Z"⟩
def dkwX2_mayRename_1 : List UInt8 := [21, 4, 182, 0, 95, 42, 180, 0, 78, 162, 0, 7, 4, 167, 0, 4, 3, 172]
abbrev dktX2_mayRename_1 : List UInt8 := dkwX2_mayRename_1 ++ []
def dkwX2_mayRename_0 : List UInt8 := [43, 28, 46, 29, 122, 4, 126, 4, 160, 0, 32, 43, 28, 46, 21, 4, 122, 4, 126, 154, 0, 21, 42, 43]
abbrev dktX2_mayRename_0 : List UInt8 := dkwX2_mayRename_0 ++ dktX2_mayRename_1
theorem dksX2_mayRename_0 : cX2_mayRename.data.toList.drop 0 = dktX2_mayRename_0 := by decide +kernel
theorem dksX2_mayRename_1 : cX2_mayRename.data.toList.drop 24 = dktX2_mayRename_1 := dk_seg dksX2_mayRename_0 24 rfl rfl
theorem dX2_mayRename_0 : decode cX2_mayRename 0 = .ok (.aload_n 1, 1) := dk_43 (dk_at dksX2_mayRename_0 0 rfl rfl)
theorem dX2_mayRename_1 : decode cX2_mayRename 1 = .ok (.iload_n 2, 1) := dk_28 (dk_at dksX2_mayRename_0 1 rfl rfl)
theorem dX2_mayRename_2 : decode cX2_mayRename 2 = .ok (.iaload, 1) := dk_46 (dk_at dksX2_mayRename_0 2 rfl rfl)
theorem dX2_mayRename_3 : decode cX2_mayRename 3 = .ok (.iload_n 3, 1) := dk_29 (dk_at dksX2_mayRename_0 3 rfl rfl)
theorem dX2_mayRename_4 : decode cX2_mayRename 4 = .ok (.ishr, 1) := dk_122 (dk_at dksX2_mayRename_0 4 rfl rfl)
theorem dX2_mayRename_5 : decode cX2_mayRename 5 = .ok (.iconst 1, 1) := dk_4 (dk_at dksX2_mayRename_0 5 rfl rfl)
theorem dX2_mayRename_6 : decode cX2_mayRename 6 = .ok (.iand, 1) := dk_126 (dk_at dksX2_mayRename_0 6 rfl rfl)
theorem dX2_mayRename_7 : decode cX2_mayRename 7 = .ok (.iconst 1, 1) := dk_4 (dk_at dksX2_mayRename_0 7 rfl rfl)
theorem dX2_mayRename_8 : decode cX2_mayRename 8 = .ok (.if_icmp .ne 32, 3) := dk_160 0 32 (dk_at dksX2_mayRename_0 8 rfl rfl)
theorem dX2_mayRename_11 : decode cX2_mayRename 11 = .ok (.aload_n 1, 1) := dk_43 (dk_at dksX2_mayRename_0 11 rfl rfl)
theorem dX2_mayRename_12 : decode cX2_mayRename 12 = .ok (.iload_n 2, 1) := dk_28 (dk_at dksX2_mayRename_0 12 rfl rfl)
theorem dX2_mayRename_13 : decode cX2_mayRename 13 = .ok (.iaload, 1) := dk_46 (dk_at dksX2_mayRename_0 13 rfl rfl)
theorem dX2_mayRename_14 : decode cX2_mayRename 14 = .ok (.iload 4, 2) := dk_21 4 (dk_at dksX2_mayRename_0 14 rfl rfl)
theorem dX2_mayRename_16 : decode cX2_mayRename 16 = .ok (.ishr, 1) := dk_122 (dk_at dksX2_mayRename_0 16 rfl rfl)
theorem dX2_mayRename_17 : decode cX2_mayRename 17 = .ok (.iconst 1, 1) := dk_4 (dk_at dksX2_mayRename_0 17 rfl rfl)
theorem dX2_mayRename_18 : decode cX2_mayRename 18 = .ok (.iand, 1) := dk_126 (dk_at dksX2_mayRename_0 18 rfl rfl)
theorem dX2_mayRename_19 : decode cX2_mayRename 19 = .ok (.ifCond .ne 21, 3) := dk_154 0 21 (dk_at dksX2_mayRename_0 19 rfl rfl)
theorem dX2_mayRename_22 : decode cX2_mayRename 22 = .ok (.aload_n 0, 1) := dk_42 (dk_at dksX2_mayRename_0 22 rfl rfl)
theorem dX2_mayRename_23 : decode cX2_mayRename 23 = .ok (.aload_n 1, 1) := dk_43 (dk_at dksX2_mayRename_0 23 rfl rfl)
theorem dX2_mayRename_24 : decode cX2_mayRename 24 = .ok (.iload 4, 2) := dk_21 4 (dk_at dksX2_mayRename_1 0 rfl rfl)
theorem dX2_mayRename_26 : decode cX2_mayRename 26 = .ok (.invokevirtual 95, 3) := dk_182 0 95 (dk_at dksX2_mayRename_1 2 rfl rfl)
theorem dX2_mayRename_29 : decode cX2_mayRename 29 = .ok (.aload_n 0, 1) := dk_42 (dk_at dksX2_mayRename_1 5 rfl rfl)
theorem dX2_mayRename_30 : decode cX2_mayRename 30 = .ok (.getfield 78, 3) := dk_180 0 78 (dk_at dksX2_mayRename_1 6 rfl rfl)
theorem dX2_mayRename_33 : decode cX2_mayRename 33 = .ok (.if_icmp .ge 7, 3) := dk_162 0 7 (dk_at dksX2_mayRename_1 9 rfl rfl)
theorem dX2_mayRename_36 : decode cX2_mayRename 36 = .ok (.iconst 1, 1) := dk_4 (dk_at dksX2_mayRename_1 12 rfl rfl)
theorem dX2_mayRename_37 : decode cX2_mayRename 37 = .ok (.goto 4, 3) := dk_167 0 4 (dk_at dksX2_mayRename_1 13 rfl rfl)
theorem dX2_mayRename_40 : decode cX2_mayRename 40 = .ok (.iconst 0, 1) := dk_3 (dk_at dksX2_mayRename_1 16 rfl rfl)
theorem dX2_mayRename_41 : decode cX2_mayRename 41 = .ok (.ireturn, 1) := dk_172 (dk_at dksX2_mayRename_1 17 rfl rfl)
abbrev cX2_point : ByteArray := prog_11_method_25_code
def yX2_point : MethodName := ⟨RX2, "point", "(II)I"⟩
def dkwX2_point_2 : List UInt8 := [104, 4, 96, 46, 62, 42, 180, 0, 16, 5, 27, 104, 4, 96, 28, 79, 29, 172]
abbrev dktX2_point_2 : List UInt8 := dkwX2_point_2 ++ []
def dkwX2_point_1 : List UInt8 := [160, 0, 6, 16, 155, 172, 42, 180, 0, 19, 27, 46, 154, 0, 6, 16, 153, 172, 42, 180, 0, 16, 5, 27]
abbrev dktX2_point_1 : List UInt8 := dkwX2_point_1 ++ dktX2_point_2
def dkwX2_point_0 : List UInt8 := [42, 27, 182, 0, 117, 153, 0, 21, 28, 2, 159, 0, 11, 42, 28, 182, 0, 117, 153, 0, 8, 27, 28]
abbrev dktX2_point_0 : List UInt8 := dkwX2_point_0 ++ dktX2_point_1
theorem dksX2_point_0 : cX2_point.data.toList.drop 0 = dktX2_point_0 := by decide +kernel
theorem dksX2_point_1 : cX2_point.data.toList.drop 23 = dktX2_point_1 := dk_seg dksX2_point_0 23 rfl rfl
theorem dksX2_point_2 : cX2_point.data.toList.drop 47 = dktX2_point_2 := dk_seg dksX2_point_1 24 rfl rfl
theorem dX2_point_0 : decode cX2_point 0 = .ok (.aload_n 0, 1) := dk_42 (dk_at dksX2_point_0 0 rfl rfl)
theorem dX2_point_1 : decode cX2_point 1 = .ok (.iload_n 1, 1) := dk_27 (dk_at dksX2_point_0 1 rfl rfl)
theorem dX2_point_2 : decode cX2_point 2 = .ok (.invokevirtual 117, 3) := dk_182 0 117 (dk_at dksX2_point_0 2 rfl rfl)
theorem dX2_point_5 : decode cX2_point 5 = .ok (.ifCond .eq 21, 3) := dk_153 0 21 (dk_at dksX2_point_0 5 rfl rfl)
theorem dX2_point_8 : decode cX2_point 8 = .ok (.iload_n 2, 1) := dk_28 (dk_at dksX2_point_0 8 rfl rfl)
theorem dX2_point_9 : decode cX2_point 9 = .ok (.iconst (-1), 1) := dk_2 (dk_at dksX2_point_0 9 rfl rfl)
theorem dX2_point_10 : decode cX2_point 10 = .ok (.if_icmp .eq 11, 3) := dk_159 0 11 (dk_at dksX2_point_0 10 rfl rfl)
theorem dX2_point_13 : decode cX2_point 13 = .ok (.aload_n 0, 1) := dk_42 (dk_at dksX2_point_0 13 rfl rfl)
theorem dX2_point_14 : decode cX2_point 14 = .ok (.iload_n 2, 1) := dk_28 (dk_at dksX2_point_0 14 rfl rfl)
theorem dX2_point_15 : decode cX2_point 15 = .ok (.invokevirtual 117, 3) := dk_182 0 117 (dk_at dksX2_point_0 15 rfl rfl)
theorem dX2_point_18 : decode cX2_point 18 = .ok (.ifCond .eq 8, 3) := dk_153 0 8 (dk_at dksX2_point_0 18 rfl rfl)
theorem dX2_point_21 : decode cX2_point 21 = .ok (.iload_n 1, 1) := dk_27 (dk_at dksX2_point_0 21 rfl rfl)
theorem dX2_point_22 : decode cX2_point 22 = .ok (.iload_n 2, 1) := dk_28 (dk_at dksX2_point_0 22 rfl rfl)
theorem dX2_point_23 : decode cX2_point 23 = .ok (.if_icmp .ne 6, 3) := dk_160 0 6 (dk_at dksX2_point_1 0 rfl rfl)
theorem dX2_point_26 : decode cX2_point 26 = .ok (.bipush (-101), 2) := dk_16 155 (dk_at dksX2_point_1 3 rfl rfl)
theorem dX2_point_28 : decode cX2_point 28 = .ok (.ireturn, 1) := dk_172 (dk_at dksX2_point_1 5 rfl rfl)
theorem dX2_point_29 : decode cX2_point 29 = .ok (.aload_n 0, 1) := dk_42 (dk_at dksX2_point_1 6 rfl rfl)
theorem dX2_point_30 : decode cX2_point 30 = .ok (.getfield 19, 3) := dk_180 0 19 (dk_at dksX2_point_1 7 rfl rfl)
theorem dX2_point_33 : decode cX2_point 33 = .ok (.iload_n 1, 1) := dk_27 (dk_at dksX2_point_1 10 rfl rfl)
theorem dX2_point_34 : decode cX2_point 34 = .ok (.iaload, 1) := dk_46 (dk_at dksX2_point_1 11 rfl rfl)
theorem dX2_point_35 : decode cX2_point 35 = .ok (.ifCond .ne 6, 3) := dk_154 0 6 (dk_at dksX2_point_1 12 rfl rfl)
theorem dX2_point_38 : decode cX2_point 38 = .ok (.bipush (-103), 2) := dk_16 153 (dk_at dksX2_point_1 15 rfl rfl)
theorem dX2_point_40 : decode cX2_point 40 = .ok (.ireturn, 1) := dk_172 (dk_at dksX2_point_1 17 rfl rfl)
theorem dX2_point_41 : decode cX2_point 41 = .ok (.aload_n 0, 1) := dk_42 (dk_at dksX2_point_1 18 rfl rfl)
theorem dX2_point_42 : decode cX2_point 42 = .ok (.getfield 16, 3) := dk_180 0 16 (dk_at dksX2_point_1 19 rfl rfl)
theorem dX2_point_45 : decode cX2_point 45 = .ok (.iconst 2, 1) := dk_5 (dk_at dksX2_point_1 22 rfl rfl)
theorem dX2_point_46 : decode cX2_point 46 = .ok (.iload_n 1, 1) := dk_27 (dk_at dksX2_point_1 23 rfl rfl)
theorem dX2_point_47 : decode cX2_point 47 = .ok (.imul, 1) := dk_104 (dk_at dksX2_point_2 0 rfl rfl)
theorem dX2_point_48 : decode cX2_point 48 = .ok (.iconst 1, 1) := dk_4 (dk_at dksX2_point_2 1 rfl rfl)
theorem dX2_point_49 : decode cX2_point 49 = .ok (.iadd, 1) := dk_96 (dk_at dksX2_point_2 2 rfl rfl)
theorem dX2_point_50 : decode cX2_point 50 = .ok (.iaload, 1) := dk_46 (dk_at dksX2_point_2 3 rfl rfl)
theorem dX2_point_51 : decode cX2_point 51 = .ok (.istore_n 3, 1) := dk_62 (dk_at dksX2_point_2 4 rfl rfl)
theorem dX2_point_52 : decode cX2_point 52 = .ok (.aload_n 0, 1) := dk_42 (dk_at dksX2_point_2 5 rfl rfl)
theorem dX2_point_53 : decode cX2_point 53 = .ok (.getfield 16, 3) := dk_180 0 16 (dk_at dksX2_point_2 6 rfl rfl)
theorem dX2_point_56 : decode cX2_point 56 = .ok (.iconst 2, 1) := dk_5 (dk_at dksX2_point_2 9 rfl rfl)
theorem dX2_point_57 : decode cX2_point 57 = .ok (.iload_n 1, 1) := dk_27 (dk_at dksX2_point_2 10 rfl rfl)
theorem dX2_point_58 : decode cX2_point 58 = .ok (.imul, 1) := dk_104 (dk_at dksX2_point_2 11 rfl rfl)
theorem dX2_point_59 : decode cX2_point 59 = .ok (.iconst 1, 1) := dk_4 (dk_at dksX2_point_2 12 rfl rfl)
theorem dX2_point_60 : decode cX2_point 60 = .ok (.iadd, 1) := dk_96 (dk_at dksX2_point_2 13 rfl rfl)
theorem dX2_point_61 : decode cX2_point 61 = .ok (.iload_n 2, 1) := dk_28 (dk_at dksX2_point_2 14 rfl rfl)
theorem dX2_point_62 : decode cX2_point 62 = .ok (.iastore, 1) := dk_79 (dk_at dksX2_point_2 15 rfl rfl)
theorem dX2_point_63 : decode cX2_point 63 = .ok (.iload_n 3, 1) := dk_29 (dk_at dksX2_point_2 16 rfl rfl)
theorem dX2_point_64 : decode cX2_point 64 = .ok (.ireturn, 1) := dk_172 (dk_at dksX2_point_2 17 rfl rfl)
abbrev cX2_burn : ByteArray := prog_11_method_31_code
def yX2_burn : MethodName := ⟨RX2, "burn", "(I)I"⟩
def dkwX2_burn_3 : List UInt8 := [4, 96, 181, 0, 84, 28, 172]
abbrev dktX2_burn_3 : List UInt8 := dkwX2_burn_3 ++ []
def dkwX2_burn_2 : List UInt8 := [79, 42, 180, 0, 22, 29, 42, 180, 0, 28, 29, 46, 79, 132, 3, 1, 167, 255, 224, 42, 89, 180, 0, 84]
abbrev dktX2_burn_2 : List UInt8 := dkwX2_burn_2 ++ dktX2_burn_3
def dkwX2_burn_1 : List UInt8 := [42, 27, 182, 0, 147, 61, 3, 62, 29, 8, 162, 0, 33, 42, 180, 0, 19, 29, 42, 180, 0, 25, 29, 46]
abbrev dktX2_burn_1 : List UInt8 := dkwX2_burn_1 ++ dktX2_burn_2
def dkwX2_burn_0 : List UInt8 := [27, 184, 0, 99, 154, 0, 6, 16, 155, 172, 42, 182, 0, 109, 153, 0, 6, 16, 153, 172, 42, 182, 0, 144]
abbrev dktX2_burn_0 : List UInt8 := dkwX2_burn_0 ++ dktX2_burn_1
theorem dksX2_burn_0 : cX2_burn.data.toList.drop 0 = dktX2_burn_0 := by decide +kernel
theorem dksX2_burn_1 : cX2_burn.data.toList.drop 24 = dktX2_burn_1 := dk_seg dksX2_burn_0 24 rfl rfl
theorem dksX2_burn_2 : cX2_burn.data.toList.drop 48 = dktX2_burn_2 := dk_seg dksX2_burn_1 24 rfl rfl
theorem dksX2_burn_3 : cX2_burn.data.toList.drop 72 = dktX2_burn_3 := dk_seg dksX2_burn_2 24 rfl rfl
theorem dX2_burn_0 : decode cX2_burn 0 = .ok (.iload_n 1, 1) := dk_27 (dk_at dksX2_burn_0 0 rfl rfl)
theorem dX2_burn_1 : decode cX2_burn 1 = .ok (.invokestatic 99, 3) := dk_184 0 99 (dk_at dksX2_burn_0 1 rfl rfl)
theorem dX2_burn_4 : decode cX2_burn 4 = .ok (.ifCond .ne 6, 3) := dk_154 0 6 (dk_at dksX2_burn_0 4 rfl rfl)
theorem dX2_burn_7 : decode cX2_burn 7 = .ok (.bipush (-101), 2) := dk_16 155 (dk_at dksX2_burn_0 7 rfl rfl)
theorem dX2_burn_9 : decode cX2_burn 9 = .ok (.ireturn, 1) := dk_172 (dk_at dksX2_burn_0 9 rfl rfl)
theorem dX2_burn_10 : decode cX2_burn 10 = .ok (.aload_n 0, 1) := dk_42 (dk_at dksX2_burn_0 10 rfl rfl)
theorem dX2_burn_11 : decode cX2_burn 11 = .ok (.invokevirtual 109, 3) := dk_182 0 109 (dk_at dksX2_burn_0 11 rfl rfl)
theorem dX2_burn_14 : decode cX2_burn 14 = .ok (.ifCond .eq 6, 3) := dk_153 0 6 (dk_at dksX2_burn_0 14 rfl rfl)
theorem dX2_burn_17 : decode cX2_burn 17 = .ok (.bipush (-103), 2) := dk_16 153 (dk_at dksX2_burn_0 17 rfl rfl)
theorem dX2_burn_19 : decode cX2_burn 19 = .ok (.ireturn, 1) := dk_172 (dk_at dksX2_burn_0 19 rfl rfl)
theorem dX2_burn_20 : decode cX2_burn 20 = .ok (.aload_n 0, 1) := dk_42 (dk_at dksX2_burn_0 20 rfl rfl)
theorem dX2_burn_21 : decode cX2_burn 21 = .ok (.invokevirtual 144, 3) := dk_182 0 144 (dk_at dksX2_burn_0 21 rfl rfl)
theorem dX2_burn_24 : decode cX2_burn 24 = .ok (.aload_n 0, 1) := dk_42 (dk_at dksX2_burn_1 0 rfl rfl)
theorem dX2_burn_25 : decode cX2_burn 25 = .ok (.iload_n 1, 1) := dk_27 (dk_at dksX2_burn_1 1 rfl rfl)
theorem dX2_burn_26 : decode cX2_burn 26 = .ok (.invokevirtual 147, 3) := dk_182 0 147 (dk_at dksX2_burn_1 2 rfl rfl)
theorem dX2_burn_29 : decode cX2_burn 29 = .ok (.istore_n 2, 1) := dk_61 (dk_at dksX2_burn_1 5 rfl rfl)
theorem dX2_burn_30 : decode cX2_burn 30 = .ok (.iconst 0, 1) := dk_3 (dk_at dksX2_burn_1 6 rfl rfl)
theorem dX2_burn_31 : decode cX2_burn 31 = .ok (.istore_n 3, 1) := dk_62 (dk_at dksX2_burn_1 7 rfl rfl)
theorem dX2_burn_32 : decode cX2_burn 32 = .ok (.iload_n 3, 1) := dk_29 (dk_at dksX2_burn_1 8 rfl rfl)
theorem dX2_burn_33 : decode cX2_burn 33 = .ok (.iconst 5, 1) := dk_8 (dk_at dksX2_burn_1 9 rfl rfl)
theorem dX2_burn_34 : decode cX2_burn 34 = .ok (.if_icmp .ge 33, 3) := dk_162 0 33 (dk_at dksX2_burn_1 10 rfl rfl)
theorem dX2_burn_37 : decode cX2_burn 37 = .ok (.aload_n 0, 1) := dk_42 (dk_at dksX2_burn_1 13 rfl rfl)
theorem dX2_burn_38 : decode cX2_burn 38 = .ok (.getfield 19, 3) := dk_180 0 19 (dk_at dksX2_burn_1 14 rfl rfl)
theorem dX2_burn_41 : decode cX2_burn 41 = .ok (.iload_n 3, 1) := dk_29 (dk_at dksX2_burn_1 17 rfl rfl)
theorem dX2_burn_42 : decode cX2_burn 42 = .ok (.aload_n 0, 1) := dk_42 (dk_at dksX2_burn_1 18 rfl rfl)
theorem dX2_burn_43 : decode cX2_burn 43 = .ok (.getfield 25, 3) := dk_180 0 25 (dk_at dksX2_burn_1 19 rfl rfl)
theorem dX2_burn_46 : decode cX2_burn 46 = .ok (.iload_n 3, 1) := dk_29 (dk_at dksX2_burn_1 22 rfl rfl)
theorem dX2_burn_47 : decode cX2_burn 47 = .ok (.iaload, 1) := dk_46 (dk_at dksX2_burn_1 23 rfl rfl)
theorem dX2_burn_48 : decode cX2_burn 48 = .ok (.iastore, 1) := dk_79 (dk_at dksX2_burn_2 0 rfl rfl)
theorem dX2_burn_49 : decode cX2_burn 49 = .ok (.aload_n 0, 1) := dk_42 (dk_at dksX2_burn_2 1 rfl rfl)
theorem dX2_burn_50 : decode cX2_burn 50 = .ok (.getfield 22, 3) := dk_180 0 22 (dk_at dksX2_burn_2 2 rfl rfl)
theorem dX2_burn_53 : decode cX2_burn 53 = .ok (.iload_n 3, 1) := dk_29 (dk_at dksX2_burn_2 5 rfl rfl)
theorem dX2_burn_54 : decode cX2_burn 54 = .ok (.aload_n 0, 1) := dk_42 (dk_at dksX2_burn_2 6 rfl rfl)
theorem dX2_burn_55 : decode cX2_burn 55 = .ok (.getfield 28, 3) := dk_180 0 28 (dk_at dksX2_burn_2 7 rfl rfl)
theorem dX2_burn_58 : decode cX2_burn 58 = .ok (.iload_n 3, 1) := dk_29 (dk_at dksX2_burn_2 10 rfl rfl)
theorem dX2_burn_59 : decode cX2_burn 59 = .ok (.iaload, 1) := dk_46 (dk_at dksX2_burn_2 11 rfl rfl)
theorem dX2_burn_60 : decode cX2_burn 60 = .ok (.iastore, 1) := dk_79 (dk_at dksX2_burn_2 12 rfl rfl)
theorem dX2_burn_61 : decode cX2_burn 61 = .ok (.iinc 3 1, 3) := dk_132 3 1 (dk_at dksX2_burn_2 13 rfl rfl)
theorem dX2_burn_64 : decode cX2_burn 64 = .ok (.goto (-32), 3) := dk_167 255 224 (dk_at dksX2_burn_2 16 rfl rfl)
theorem dX2_burn_67 : decode cX2_burn 67 = .ok (.aload_n 0, 1) := dk_42 (dk_at dksX2_burn_2 19 rfl rfl)
theorem dX2_burn_68 : decode cX2_burn 68 = .ok (.dup, 1) := dk_89 (dk_at dksX2_burn_2 20 rfl rfl)
theorem dX2_burn_69 : decode cX2_burn 69 = .ok (.getfield 84, 3) := dk_180 0 84 (dk_at dksX2_burn_2 21 rfl rfl)
theorem dX2_burn_72 : decode cX2_burn 72 = .ok (.iconst 1, 1) := dk_4 (dk_at dksX2_burn_3 0 rfl rfl)
theorem dX2_burn_73 : decode cX2_burn 73 = .ok (.iadd, 1) := dk_96 (dk_at dksX2_burn_3 1 rfl rfl)
theorem dX2_burn_74 : decode cX2_burn 74 = .ok (.putfield 84, 3) := dk_181 0 84 (dk_at dksX2_burn_3 2 rfl rfl)
theorem dX2_burn_77 : decode cX2_burn 77 = .ok (.iload_n 2, 1) := dk_28 (dk_at dksX2_burn_3 5 rfl rfl)
theorem dX2_burn_78 : decode cX2_burn 78 = .ok (.ireturn, 1) := dk_172 (dk_at dksX2_burn_3 6 rfl rfl)
abbrev cX2_asItIs : ByteArray := prog_11_method_26_code
def yX2_asItIs : MethodName := ⟨RX2, "asItIs", "()V"⟩
def dkwX2_asItIs_1 : List UInt8 := [42, 180, 0, 22, 27, 46, 79, 132, 1, 1, 167, 255, 224, 177]
abbrev dktX2_asItIs_1 : List UInt8 := dkwX2_asItIs_1 ++ []
def dkwX2_asItIs_0 : List UInt8 := [3, 60, 27, 8, 162, 0, 33, 42, 180, 0, 25, 27, 42, 180, 0, 19, 27, 46, 79, 42, 180, 0, 28, 27]
abbrev dktX2_asItIs_0 : List UInt8 := dkwX2_asItIs_0 ++ dktX2_asItIs_1
theorem dksX2_asItIs_0 : cX2_asItIs.data.toList.drop 0 = dktX2_asItIs_0 := by decide +kernel
theorem dksX2_asItIs_1 : cX2_asItIs.data.toList.drop 24 = dktX2_asItIs_1 := dk_seg dksX2_asItIs_0 24 rfl rfl
theorem dX2_asItIs_0 : decode cX2_asItIs 0 = .ok (.iconst 0, 1) := dk_3 (dk_at dksX2_asItIs_0 0 rfl rfl)
theorem dX2_asItIs_1 : decode cX2_asItIs 1 = .ok (.istore_n 1, 1) := dk_60 (dk_at dksX2_asItIs_0 1 rfl rfl)
theorem dX2_asItIs_2 : decode cX2_asItIs 2 = .ok (.iload_n 1, 1) := dk_27 (dk_at dksX2_asItIs_0 2 rfl rfl)
theorem dX2_asItIs_3 : decode cX2_asItIs 3 = .ok (.iconst 5, 1) := dk_8 (dk_at dksX2_asItIs_0 3 rfl rfl)
theorem dX2_asItIs_4 : decode cX2_asItIs 4 = .ok (.if_icmp .ge 33, 3) := dk_162 0 33 (dk_at dksX2_asItIs_0 4 rfl rfl)
theorem dX2_asItIs_7 : decode cX2_asItIs 7 = .ok (.aload_n 0, 1) := dk_42 (dk_at dksX2_asItIs_0 7 rfl rfl)
theorem dX2_asItIs_8 : decode cX2_asItIs 8 = .ok (.getfield 25, 3) := dk_180 0 25 (dk_at dksX2_asItIs_0 8 rfl rfl)
theorem dX2_asItIs_11 : decode cX2_asItIs 11 = .ok (.iload_n 1, 1) := dk_27 (dk_at dksX2_asItIs_0 11 rfl rfl)
theorem dX2_asItIs_12 : decode cX2_asItIs 12 = .ok (.aload_n 0, 1) := dk_42 (dk_at dksX2_asItIs_0 12 rfl rfl)
theorem dX2_asItIs_13 : decode cX2_asItIs 13 = .ok (.getfield 19, 3) := dk_180 0 19 (dk_at dksX2_asItIs_0 13 rfl rfl)
theorem dX2_asItIs_16 : decode cX2_asItIs 16 = .ok (.iload_n 1, 1) := dk_27 (dk_at dksX2_asItIs_0 16 rfl rfl)
theorem dX2_asItIs_17 : decode cX2_asItIs 17 = .ok (.iaload, 1) := dk_46 (dk_at dksX2_asItIs_0 17 rfl rfl)
theorem dX2_asItIs_18 : decode cX2_asItIs 18 = .ok (.iastore, 1) := dk_79 (dk_at dksX2_asItIs_0 18 rfl rfl)
theorem dX2_asItIs_19 : decode cX2_asItIs 19 = .ok (.aload_n 0, 1) := dk_42 (dk_at dksX2_asItIs_0 19 rfl rfl)
theorem dX2_asItIs_20 : decode cX2_asItIs 20 = .ok (.getfield 28, 3) := dk_180 0 28 (dk_at dksX2_asItIs_0 20 rfl rfl)
theorem dX2_asItIs_23 : decode cX2_asItIs 23 = .ok (.iload_n 1, 1) := dk_27 (dk_at dksX2_asItIs_0 23 rfl rfl)
theorem dX2_asItIs_24 : decode cX2_asItIs 24 = .ok (.aload_n 0, 1) := dk_42 (dk_at dksX2_asItIs_1 0 rfl rfl)
theorem dX2_asItIs_25 : decode cX2_asItIs 25 = .ok (.getfield 22, 3) := dk_180 0 22 (dk_at dksX2_asItIs_1 1 rfl rfl)
theorem dX2_asItIs_28 : decode cX2_asItIs 28 = .ok (.iload_n 1, 1) := dk_27 (dk_at dksX2_asItIs_1 4 rfl rfl)
theorem dX2_asItIs_29 : decode cX2_asItIs 29 = .ok (.iaload, 1) := dk_46 (dk_at dksX2_asItIs_1 5 rfl rfl)
theorem dX2_asItIs_30 : decode cX2_asItIs 30 = .ok (.iastore, 1) := dk_79 (dk_at dksX2_asItIs_1 6 rfl rfl)
theorem dX2_asItIs_31 : decode cX2_asItIs 31 = .ok (.iinc 1 1, 3) := dk_132 1 1 (dk_at dksX2_asItIs_1 7 rfl rfl)
theorem dX2_asItIs_34 : decode cX2_asItIs 34 = .ok (.goto (-32), 3) := dk_167 255 224 (dk_at dksX2_asItIs_1 10 rfl rfl)
theorem dX2_asItIs_37 : decode cX2_asItIs 37 = .ok (.return_, 1) := dk_177 (dk_at dksX2_asItIs_1 13 rfl rfl)
abbrev cX2_pass : ByteArray := prog_11_method_30_code
def yX2_pass : MethodName := ⟨RX2, "pass", "(I)I"⟩
def dkwX2_pass_5 : List UInt8 := [182, 0, 140, 132, 3, 1, 167, 255, 219, 28, 172]
abbrev dktX2_pass_5 : List UInt8 := dkwX2_pass_5 ++ []
def dkwX2_pass_4 : List UInt8 := [42, 180, 0, 16, 5, 29, 104, 46, 4, 160, 0, 17, 42, 180, 0, 25, 29, 46, 153, 0, 8, 42, 29]
abbrev dktX2_pass_4 : List UInt8 := dkwX2_pass_4 ++ dktX2_pass_5
def dkwX2_pass_3 : List UInt8 := [28, 21, 4, 184, 0, 123, 96, 61, 132, 3, 1, 167, 255, 216, 3, 62, 29, 42, 180, 0, 81, 162, 0, 35]
abbrev dktX2_pass_3 : List UInt8 := dkwX2_pass_3 ++ dktX2_pass_4
def dkwX2_pass_2 : List UInt8 := [162, 0, 38, 42, 29, 27, 182, 0, 137, 54, 4, 42, 180, 0, 25, 29, 92, 46, 21, 4, 2, 130, 126, 79]
abbrev dktX2_pass_2 : List UInt8 := dkwX2_pass_2 ++ dktX2_pass_3
def dkwX2_pass_1 : List UInt8 := [28, 46, 167, 0, 4, 3, 79, 132, 2, 1, 167, 255, 224, 3, 61, 3, 62, 29, 42, 180, 0, 81]
abbrev dktX2_pass_1 : List UInt8 := dkwX2_pass_1 ++ dktX2_pass_2
def dkwX2_pass_0 : List UInt8 := [3, 61, 28, 8, 162, 0, 33, 42, 180, 0, 31, 28, 28, 42, 180, 0, 81, 162, 0, 12, 42, 180, 0, 25]
abbrev dktX2_pass_0 : List UInt8 := dkwX2_pass_0 ++ dktX2_pass_1
theorem dksX2_pass_0 : cX2_pass.data.toList.drop 0 = dktX2_pass_0 := by decide +kernel
theorem dksX2_pass_1 : cX2_pass.data.toList.drop 24 = dktX2_pass_1 := dk_seg dksX2_pass_0 24 rfl rfl
theorem dksX2_pass_2 : cX2_pass.data.toList.drop 46 = dktX2_pass_2 := dk_seg dksX2_pass_1 22 rfl rfl
theorem dksX2_pass_3 : cX2_pass.data.toList.drop 70 = dktX2_pass_3 := dk_seg dksX2_pass_2 24 rfl rfl
theorem dksX2_pass_4 : cX2_pass.data.toList.drop 94 = dktX2_pass_4 := dk_seg dksX2_pass_3 24 rfl rfl
theorem dksX2_pass_5 : cX2_pass.data.toList.drop 117 = dktX2_pass_5 := dk_seg dksX2_pass_4 23 rfl rfl
theorem dX2_pass_0 : decode cX2_pass 0 = .ok (.iconst 0, 1) := dk_3 (dk_at dksX2_pass_0 0 rfl rfl)
theorem dX2_pass_1 : decode cX2_pass 1 = .ok (.istore_n 2, 1) := dk_61 (dk_at dksX2_pass_0 1 rfl rfl)
theorem dX2_pass_2 : decode cX2_pass 2 = .ok (.iload_n 2, 1) := dk_28 (dk_at dksX2_pass_0 2 rfl rfl)
theorem dX2_pass_3 : decode cX2_pass 3 = .ok (.iconst 5, 1) := dk_8 (dk_at dksX2_pass_0 3 rfl rfl)
theorem dX2_pass_4 : decode cX2_pass 4 = .ok (.if_icmp .ge 33, 3) := dk_162 0 33 (dk_at dksX2_pass_0 4 rfl rfl)
theorem dX2_pass_7 : decode cX2_pass 7 = .ok (.aload_n 0, 1) := dk_42 (dk_at dksX2_pass_0 7 rfl rfl)
theorem dX2_pass_8 : decode cX2_pass 8 = .ok (.getfield 31, 3) := dk_180 0 31 (dk_at dksX2_pass_0 8 rfl rfl)
theorem dX2_pass_11 : decode cX2_pass 11 = .ok (.iload_n 2, 1) := dk_28 (dk_at dksX2_pass_0 11 rfl rfl)
theorem dX2_pass_12 : decode cX2_pass 12 = .ok (.iload_n 2, 1) := dk_28 (dk_at dksX2_pass_0 12 rfl rfl)
theorem dX2_pass_13 : decode cX2_pass 13 = .ok (.aload_n 0, 1) := dk_42 (dk_at dksX2_pass_0 13 rfl rfl)
theorem dX2_pass_14 : decode cX2_pass 14 = .ok (.getfield 81, 3) := dk_180 0 81 (dk_at dksX2_pass_0 14 rfl rfl)
theorem dX2_pass_17 : decode cX2_pass 17 = .ok (.if_icmp .ge 12, 3) := dk_162 0 12 (dk_at dksX2_pass_0 17 rfl rfl)
theorem dX2_pass_20 : decode cX2_pass 20 = .ok (.aload_n 0, 1) := dk_42 (dk_at dksX2_pass_0 20 rfl rfl)
theorem dX2_pass_21 : decode cX2_pass 21 = .ok (.getfield 25, 3) := dk_180 0 25 (dk_at dksX2_pass_0 21 rfl rfl)
theorem dX2_pass_24 : decode cX2_pass 24 = .ok (.iload_n 2, 1) := dk_28 (dk_at dksX2_pass_1 0 rfl rfl)
theorem dX2_pass_25 : decode cX2_pass 25 = .ok (.iaload, 1) := dk_46 (dk_at dksX2_pass_1 1 rfl rfl)
theorem dX2_pass_26 : decode cX2_pass 26 = .ok (.goto 4, 3) := dk_167 0 4 (dk_at dksX2_pass_1 2 rfl rfl)
theorem dX2_pass_29 : decode cX2_pass 29 = .ok (.iconst 0, 1) := dk_3 (dk_at dksX2_pass_1 5 rfl rfl)
theorem dX2_pass_30 : decode cX2_pass 30 = .ok (.iastore, 1) := dk_79 (dk_at dksX2_pass_1 6 rfl rfl)
theorem dX2_pass_31 : decode cX2_pass 31 = .ok (.iinc 2 1, 3) := dk_132 2 1 (dk_at dksX2_pass_1 7 rfl rfl)
theorem dX2_pass_34 : decode cX2_pass 34 = .ok (.goto (-32), 3) := dk_167 255 224 (dk_at dksX2_pass_1 10 rfl rfl)
theorem dX2_pass_37 : decode cX2_pass 37 = .ok (.iconst 0, 1) := dk_3 (dk_at dksX2_pass_1 13 rfl rfl)
theorem dX2_pass_38 : decode cX2_pass 38 = .ok (.istore_n 2, 1) := dk_61 (dk_at dksX2_pass_1 14 rfl rfl)
theorem dX2_pass_39 : decode cX2_pass 39 = .ok (.iconst 0, 1) := dk_3 (dk_at dksX2_pass_1 15 rfl rfl)
theorem dX2_pass_40 : decode cX2_pass 40 = .ok (.istore_n 3, 1) := dk_62 (dk_at dksX2_pass_1 16 rfl rfl)
theorem dX2_pass_41 : decode cX2_pass 41 = .ok (.iload_n 3, 1) := dk_29 (dk_at dksX2_pass_1 17 rfl rfl)
theorem dX2_pass_42 : decode cX2_pass 42 = .ok (.aload_n 0, 1) := dk_42 (dk_at dksX2_pass_1 18 rfl rfl)
theorem dX2_pass_43 : decode cX2_pass 43 = .ok (.getfield 81, 3) := dk_180 0 81 (dk_at dksX2_pass_1 19 rfl rfl)
theorem dX2_pass_46 : decode cX2_pass 46 = .ok (.if_icmp .ge 38, 3) := dk_162 0 38 (dk_at dksX2_pass_2 0 rfl rfl)
theorem dX2_pass_49 : decode cX2_pass 49 = .ok (.aload_n 0, 1) := dk_42 (dk_at dksX2_pass_2 3 rfl rfl)
theorem dX2_pass_50 : decode cX2_pass 50 = .ok (.iload_n 3, 1) := dk_29 (dk_at dksX2_pass_2 4 rfl rfl)
theorem dX2_pass_51 : decode cX2_pass 51 = .ok (.iload_n 1, 1) := dk_27 (dk_at dksX2_pass_2 5 rfl rfl)
theorem dX2_pass_52 : decode cX2_pass 52 = .ok (.invokevirtual 137, 3) := dk_182 0 137 (dk_at dksX2_pass_2 6 rfl rfl)
theorem dX2_pass_55 : decode cX2_pass 55 = .ok (.istore 4, 2) := dk_54 4 (dk_at dksX2_pass_2 9 rfl rfl)
theorem dX2_pass_57 : decode cX2_pass 57 = .ok (.aload_n 0, 1) := dk_42 (dk_at dksX2_pass_2 11 rfl rfl)
theorem dX2_pass_58 : decode cX2_pass 58 = .ok (.getfield 25, 3) := dk_180 0 25 (dk_at dksX2_pass_2 12 rfl rfl)
theorem dX2_pass_61 : decode cX2_pass 61 = .ok (.iload_n 3, 1) := dk_29 (dk_at dksX2_pass_2 15 rfl rfl)
theorem dX2_pass_62 : decode cX2_pass 62 = .ok (.dup2, 1) := dk_92 (dk_at dksX2_pass_2 16 rfl rfl)
theorem dX2_pass_63 : decode cX2_pass 63 = .ok (.iaload, 1) := dk_46 (dk_at dksX2_pass_2 17 rfl rfl)
theorem dX2_pass_64 : decode cX2_pass 64 = .ok (.iload 4, 2) := dk_21 4 (dk_at dksX2_pass_2 18 rfl rfl)
theorem dX2_pass_66 : decode cX2_pass 66 = .ok (.iconst (-1), 1) := dk_2 (dk_at dksX2_pass_2 20 rfl rfl)
theorem dX2_pass_67 : decode cX2_pass 67 = .ok (.ixor, 1) := dk_130 (dk_at dksX2_pass_2 21 rfl rfl)
theorem dX2_pass_68 : decode cX2_pass 68 = .ok (.iand, 1) := dk_126 (dk_at dksX2_pass_2 22 rfl rfl)
theorem dX2_pass_69 : decode cX2_pass 69 = .ok (.iastore, 1) := dk_79 (dk_at dksX2_pass_2 23 rfl rfl)
theorem dX2_pass_70 : decode cX2_pass 70 = .ok (.iload_n 2, 1) := dk_28 (dk_at dksX2_pass_3 0 rfl rfl)
theorem dX2_pass_71 : decode cX2_pass 71 = .ok (.iload 4, 2) := dk_21 4 (dk_at dksX2_pass_3 1 rfl rfl)
theorem dX2_pass_73 : decode cX2_pass 73 = .ok (.invokestatic 123, 3) := dk_184 0 123 (dk_at dksX2_pass_3 3 rfl rfl)
theorem dX2_pass_76 : decode cX2_pass 76 = .ok (.iadd, 1) := dk_96 (dk_at dksX2_pass_3 6 rfl rfl)
theorem dX2_pass_77 : decode cX2_pass 77 = .ok (.istore_n 2, 1) := dk_61 (dk_at dksX2_pass_3 7 rfl rfl)
theorem dX2_pass_78 : decode cX2_pass 78 = .ok (.iinc 3 1, 3) := dk_132 3 1 (dk_at dksX2_pass_3 8 rfl rfl)
theorem dX2_pass_81 : decode cX2_pass 81 = .ok (.goto (-40), 3) := dk_167 255 216 (dk_at dksX2_pass_3 11 rfl rfl)
theorem dX2_pass_84 : decode cX2_pass 84 = .ok (.iconst 0, 1) := dk_3 (dk_at dksX2_pass_3 14 rfl rfl)
theorem dX2_pass_85 : decode cX2_pass 85 = .ok (.istore_n 3, 1) := dk_62 (dk_at dksX2_pass_3 15 rfl rfl)
theorem dX2_pass_86 : decode cX2_pass 86 = .ok (.iload_n 3, 1) := dk_29 (dk_at dksX2_pass_3 16 rfl rfl)
theorem dX2_pass_87 : decode cX2_pass 87 = .ok (.aload_n 0, 1) := dk_42 (dk_at dksX2_pass_3 17 rfl rfl)
theorem dX2_pass_88 : decode cX2_pass 88 = .ok (.getfield 81, 3) := dk_180 0 81 (dk_at dksX2_pass_3 18 rfl rfl)
theorem dX2_pass_91 : decode cX2_pass 91 = .ok (.if_icmp .ge 35, 3) := dk_162 0 35 (dk_at dksX2_pass_3 21 rfl rfl)
theorem dX2_pass_94 : decode cX2_pass 94 = .ok (.aload_n 0, 1) := dk_42 (dk_at dksX2_pass_4 0 rfl rfl)
theorem dX2_pass_95 : decode cX2_pass 95 = .ok (.getfield 16, 3) := dk_180 0 16 (dk_at dksX2_pass_4 1 rfl rfl)
theorem dX2_pass_98 : decode cX2_pass 98 = .ok (.iconst 2, 1) := dk_5 (dk_at dksX2_pass_4 4 rfl rfl)
theorem dX2_pass_99 : decode cX2_pass 99 = .ok (.iload_n 3, 1) := dk_29 (dk_at dksX2_pass_4 5 rfl rfl)
theorem dX2_pass_100 : decode cX2_pass 100 = .ok (.imul, 1) := dk_104 (dk_at dksX2_pass_4 6 rfl rfl)
theorem dX2_pass_101 : decode cX2_pass 101 = .ok (.iaload, 1) := dk_46 (dk_at dksX2_pass_4 7 rfl rfl)
theorem dX2_pass_102 : decode cX2_pass 102 = .ok (.iconst 1, 1) := dk_4 (dk_at dksX2_pass_4 8 rfl rfl)
theorem dX2_pass_103 : decode cX2_pass 103 = .ok (.if_icmp .ne 17, 3) := dk_160 0 17 (dk_at dksX2_pass_4 9 rfl rfl)
theorem dX2_pass_106 : decode cX2_pass 106 = .ok (.aload_n 0, 1) := dk_42 (dk_at dksX2_pass_4 12 rfl rfl)
theorem dX2_pass_107 : decode cX2_pass 107 = .ok (.getfield 25, 3) := dk_180 0 25 (dk_at dksX2_pass_4 13 rfl rfl)
theorem dX2_pass_110 : decode cX2_pass 110 = .ok (.iload_n 3, 1) := dk_29 (dk_at dksX2_pass_4 16 rfl rfl)
theorem dX2_pass_111 : decode cX2_pass 111 = .ok (.iaload, 1) := dk_46 (dk_at dksX2_pass_4 17 rfl rfl)
theorem dX2_pass_112 : decode cX2_pass 112 = .ok (.ifCond .eq 8, 3) := dk_153 0 8 (dk_at dksX2_pass_4 18 rfl rfl)
theorem dX2_pass_115 : decode cX2_pass 115 = .ok (.aload_n 0, 1) := dk_42 (dk_at dksX2_pass_4 21 rfl rfl)
theorem dX2_pass_116 : decode cX2_pass 116 = .ok (.iload_n 3, 1) := dk_29 (dk_at dksX2_pass_4 22 rfl rfl)
theorem dX2_pass_117 : decode cX2_pass 117 = .ok (.invokevirtual 140, 3) := dk_182 0 140 (dk_at dksX2_pass_5 0 rfl rfl)
theorem dX2_pass_120 : decode cX2_pass 120 = .ok (.iinc 3 1, 3) := dk_132 3 1 (dk_at dksX2_pass_5 3 rfl rfl)
theorem dX2_pass_123 : decode cX2_pass 123 = .ok (.goto (-37), 3) := dk_167 255 219 (dk_at dksX2_pass_5 6 rfl rfl)
theorem dX2_pass_126 : decode cX2_pass 126 = .ok (.iload_n 2, 1) := dk_28 (dk_at dksX2_pass_5 9 rfl rfl)
theorem dX2_pass_127 : decode cX2_pass 127 = .ok (.ireturn, 1) := dk_172 (dk_at dksX2_pass_5 10 rfl rfl)
abbrev cX2_burnsOf : ByteArray := prog_11_method_28_code
def yX2_burnsOf : MethodName := ⟨RX2, "burnsOf", "(II)I"⟩
def dkwX2_burnsOf_6 : List UInt8 := [128, 172]
abbrev dktX2_burnsOf_6 : List UInt8 := dkwX2_burnsOf_6 ++ []
def dkwX2_burnsOf_5 : List UInt8 := [180, 0, 16, 5, 27, 104, 46, 7, 160, 0, 15, 42, 180, 0, 31, 27, 46, 21, 5, 126, 167, 0, 4, 3]
abbrev dktX2_burnsOf_5 : List UInt8 := dkwX2_burnsOf_5 ++ dktX2_burnsOf_6
def dkwX2_burnsOf_4 : List UInt8 := [167, 0, 4, 3, 96, 79, 3, 172, 4, 28, 4, 96, 16, 6, 112, 120, 54, 5, 4, 28, 120, 42]
abbrev dktX2_burnsOf_4 : List UInt8 := dkwX2_burnsOf_4 ++ dktX2_burnsOf_5
def dkwX2_burnsOf_3 : List UInt8 := [54, 4, 29, 153, 0, 8, 21, 4, 153, 0, 24, 42, 180, 0, 28, 27, 92, 46, 21, 4, 153, 0, 7, 4]
abbrev dktX2_burnsOf_3 : List UInt8 := dkwX2_burnsOf_3 ++ dktX2_burnsOf_4
def dkwX2_burnsOf_2 : List UInt8 := [160, 0, 7, 5, 167, 0, 4, 4, 162, 0, 15, 42, 27, 182, 0, 134, 153, 0, 7, 4, 167, 0, 4, 3]
abbrev dktX2_burnsOf_2 : List UInt8 := dkwX2_burnsOf_2 ++ dktX2_burnsOf_3
def dkwX2_burnsOf_1 : List UInt8 := [27, 46, 4, 28, 120, 160, 0, 41, 42, 180, 0, 28, 27, 46, 42, 180, 0, 16, 5, 27, 104, 46, 5]
abbrev dktX2_burnsOf_1 : List UInt8 := dkwX2_burnsOf_1 ++ dktX2_burnsOf_2
def dkwX2_burnsOf_0 : List UInt8 := [42, 180, 0, 31, 27, 46, 28, 122, 4, 126, 4, 160, 0, 7, 4, 167, 0, 4, 3, 62, 42, 180, 0, 31]
abbrev dktX2_burnsOf_0 : List UInt8 := dkwX2_burnsOf_0 ++ dktX2_burnsOf_1
theorem dksX2_burnsOf_0 : cX2_burnsOf.data.toList.drop 0 = dktX2_burnsOf_0 := by decide +kernel
theorem dksX2_burnsOf_1 : cX2_burnsOf.data.toList.drop 24 = dktX2_burnsOf_1 := dk_seg dksX2_burnsOf_0 24 rfl rfl
theorem dksX2_burnsOf_2 : cX2_burnsOf.data.toList.drop 47 = dktX2_burnsOf_2 := dk_seg dksX2_burnsOf_1 23 rfl rfl
theorem dksX2_burnsOf_3 : cX2_burnsOf.data.toList.drop 71 = dktX2_burnsOf_3 := dk_seg dksX2_burnsOf_2 24 rfl rfl
theorem dksX2_burnsOf_4 : cX2_burnsOf.data.toList.drop 95 = dktX2_burnsOf_4 := dk_seg dksX2_burnsOf_3 24 rfl rfl
theorem dksX2_burnsOf_5 : cX2_burnsOf.data.toList.drop 117 = dktX2_burnsOf_5 := dk_seg dksX2_burnsOf_4 22 rfl rfl
theorem dksX2_burnsOf_6 : cX2_burnsOf.data.toList.drop 141 = dktX2_burnsOf_6 := dk_seg dksX2_burnsOf_5 24 rfl rfl
theorem dX2_burnsOf_0 : decode cX2_burnsOf 0 = .ok (.aload_n 0, 1) := dk_42 (dk_at dksX2_burnsOf_0 0 rfl rfl)
theorem dX2_burnsOf_1 : decode cX2_burnsOf 1 = .ok (.getfield 31, 3) := dk_180 0 31 (dk_at dksX2_burnsOf_0 1 rfl rfl)
theorem dX2_burnsOf_4 : decode cX2_burnsOf 4 = .ok (.iload_n 1, 1) := dk_27 (dk_at dksX2_burnsOf_0 4 rfl rfl)
theorem dX2_burnsOf_5 : decode cX2_burnsOf 5 = .ok (.iaload, 1) := dk_46 (dk_at dksX2_burnsOf_0 5 rfl rfl)
theorem dX2_burnsOf_6 : decode cX2_burnsOf 6 = .ok (.iload_n 2, 1) := dk_28 (dk_at dksX2_burnsOf_0 6 rfl rfl)
theorem dX2_burnsOf_7 : decode cX2_burnsOf 7 = .ok (.ishr, 1) := dk_122 (dk_at dksX2_burnsOf_0 7 rfl rfl)
theorem dX2_burnsOf_8 : decode cX2_burnsOf 8 = .ok (.iconst 1, 1) := dk_4 (dk_at dksX2_burnsOf_0 8 rfl rfl)
theorem dX2_burnsOf_9 : decode cX2_burnsOf 9 = .ok (.iand, 1) := dk_126 (dk_at dksX2_burnsOf_0 9 rfl rfl)
theorem dX2_burnsOf_10 : decode cX2_burnsOf 10 = .ok (.iconst 1, 1) := dk_4 (dk_at dksX2_burnsOf_0 10 rfl rfl)
theorem dX2_burnsOf_11 : decode cX2_burnsOf 11 = .ok (.if_icmp .ne 7, 3) := dk_160 0 7 (dk_at dksX2_burnsOf_0 11 rfl rfl)
theorem dX2_burnsOf_14 : decode cX2_burnsOf 14 = .ok (.iconst 1, 1) := dk_4 (dk_at dksX2_burnsOf_0 14 rfl rfl)
theorem dX2_burnsOf_15 : decode cX2_burnsOf 15 = .ok (.goto 4, 3) := dk_167 0 4 (dk_at dksX2_burnsOf_0 15 rfl rfl)
theorem dX2_burnsOf_18 : decode cX2_burnsOf 18 = .ok (.iconst 0, 1) := dk_3 (dk_at dksX2_burnsOf_0 18 rfl rfl)
theorem dX2_burnsOf_19 : decode cX2_burnsOf 19 = .ok (.istore_n 3, 1) := dk_62 (dk_at dksX2_burnsOf_0 19 rfl rfl)
theorem dX2_burnsOf_20 : decode cX2_burnsOf 20 = .ok (.aload_n 0, 1) := dk_42 (dk_at dksX2_burnsOf_0 20 rfl rfl)
theorem dX2_burnsOf_21 : decode cX2_burnsOf 21 = .ok (.getfield 31, 3) := dk_180 0 31 (dk_at dksX2_burnsOf_0 21 rfl rfl)
theorem dX2_burnsOf_24 : decode cX2_burnsOf 24 = .ok (.iload_n 1, 1) := dk_27 (dk_at dksX2_burnsOf_1 0 rfl rfl)
theorem dX2_burnsOf_25 : decode cX2_burnsOf 25 = .ok (.iaload, 1) := dk_46 (dk_at dksX2_burnsOf_1 1 rfl rfl)
theorem dX2_burnsOf_26 : decode cX2_burnsOf 26 = .ok (.iconst 1, 1) := dk_4 (dk_at dksX2_burnsOf_1 2 rfl rfl)
theorem dX2_burnsOf_27 : decode cX2_burnsOf 27 = .ok (.iload_n 2, 1) := dk_28 (dk_at dksX2_burnsOf_1 3 rfl rfl)
theorem dX2_burnsOf_28 : decode cX2_burnsOf 28 = .ok (.ishl, 1) := dk_120 (dk_at dksX2_burnsOf_1 4 rfl rfl)
theorem dX2_burnsOf_29 : decode cX2_burnsOf 29 = .ok (.if_icmp .ne 41, 3) := dk_160 0 41 (dk_at dksX2_burnsOf_1 5 rfl rfl)
theorem dX2_burnsOf_32 : decode cX2_burnsOf 32 = .ok (.aload_n 0, 1) := dk_42 (dk_at dksX2_burnsOf_1 8 rfl rfl)
theorem dX2_burnsOf_33 : decode cX2_burnsOf 33 = .ok (.getfield 28, 3) := dk_180 0 28 (dk_at dksX2_burnsOf_1 9 rfl rfl)
theorem dX2_burnsOf_36 : decode cX2_burnsOf 36 = .ok (.iload_n 1, 1) := dk_27 (dk_at dksX2_burnsOf_1 12 rfl rfl)
theorem dX2_burnsOf_37 : decode cX2_burnsOf 37 = .ok (.iaload, 1) := dk_46 (dk_at dksX2_burnsOf_1 13 rfl rfl)
theorem dX2_burnsOf_38 : decode cX2_burnsOf 38 = .ok (.aload_n 0, 1) := dk_42 (dk_at dksX2_burnsOf_1 14 rfl rfl)
theorem dX2_burnsOf_39 : decode cX2_burnsOf 39 = .ok (.getfield 16, 3) := dk_180 0 16 (dk_at dksX2_burnsOf_1 15 rfl rfl)
theorem dX2_burnsOf_42 : decode cX2_burnsOf 42 = .ok (.iconst 2, 1) := dk_5 (dk_at dksX2_burnsOf_1 18 rfl rfl)
theorem dX2_burnsOf_43 : decode cX2_burnsOf 43 = .ok (.iload_n 1, 1) := dk_27 (dk_at dksX2_burnsOf_1 19 rfl rfl)
theorem dX2_burnsOf_44 : decode cX2_burnsOf 44 = .ok (.imul, 1) := dk_104 (dk_at dksX2_burnsOf_1 20 rfl rfl)
theorem dX2_burnsOf_45 : decode cX2_burnsOf 45 = .ok (.iaload, 1) := dk_46 (dk_at dksX2_burnsOf_1 21 rfl rfl)
theorem dX2_burnsOf_46 : decode cX2_burnsOf 46 = .ok (.iconst 2, 1) := dk_5 (dk_at dksX2_burnsOf_1 22 rfl rfl)
theorem dX2_burnsOf_47 : decode cX2_burnsOf 47 = .ok (.if_icmp .ne 7, 3) := dk_160 0 7 (dk_at dksX2_burnsOf_2 0 rfl rfl)
theorem dX2_burnsOf_50 : decode cX2_burnsOf 50 = .ok (.iconst 2, 1) := dk_5 (dk_at dksX2_burnsOf_2 3 rfl rfl)
theorem dX2_burnsOf_51 : decode cX2_burnsOf 51 = .ok (.goto 4, 3) := dk_167 0 4 (dk_at dksX2_burnsOf_2 4 rfl rfl)
theorem dX2_burnsOf_54 : decode cX2_burnsOf 54 = .ok (.iconst 1, 1) := dk_4 (dk_at dksX2_burnsOf_2 7 rfl rfl)
theorem dX2_burnsOf_55 : decode cX2_burnsOf 55 = .ok (.if_icmp .ge 15, 3) := dk_162 0 15 (dk_at dksX2_burnsOf_2 8 rfl rfl)
theorem dX2_burnsOf_58 : decode cX2_burnsOf 58 = .ok (.aload_n 0, 1) := dk_42 (dk_at dksX2_burnsOf_2 11 rfl rfl)
theorem dX2_burnsOf_59 : decode cX2_burnsOf 59 = .ok (.iload_n 1, 1) := dk_27 (dk_at dksX2_burnsOf_2 12 rfl rfl)
theorem dX2_burnsOf_60 : decode cX2_burnsOf 60 = .ok (.invokevirtual 134, 3) := dk_182 0 134 (dk_at dksX2_burnsOf_2 13 rfl rfl)
theorem dX2_burnsOf_63 : decode cX2_burnsOf 63 = .ok (.ifCond .eq 7, 3) := dk_153 0 7 (dk_at dksX2_burnsOf_2 16 rfl rfl)
theorem dX2_burnsOf_66 : decode cX2_burnsOf 66 = .ok (.iconst 1, 1) := dk_4 (dk_at dksX2_burnsOf_2 19 rfl rfl)
theorem dX2_burnsOf_67 : decode cX2_burnsOf 67 = .ok (.goto 4, 3) := dk_167 0 4 (dk_at dksX2_burnsOf_2 20 rfl rfl)
theorem dX2_burnsOf_70 : decode cX2_burnsOf 70 = .ok (.iconst 0, 1) := dk_3 (dk_at dksX2_burnsOf_2 23 rfl rfl)
theorem dX2_burnsOf_71 : decode cX2_burnsOf 71 = .ok (.istore 4, 2) := dk_54 4 (dk_at dksX2_burnsOf_3 0 rfl rfl)
theorem dX2_burnsOf_73 : decode cX2_burnsOf 73 = .ok (.iload_n 3, 1) := dk_29 (dk_at dksX2_burnsOf_3 2 rfl rfl)
theorem dX2_burnsOf_74 : decode cX2_burnsOf 74 = .ok (.ifCond .eq 8, 3) := dk_153 0 8 (dk_at dksX2_burnsOf_3 3 rfl rfl)
theorem dX2_burnsOf_77 : decode cX2_burnsOf 77 = .ok (.iload 4, 2) := dk_21 4 (dk_at dksX2_burnsOf_3 6 rfl rfl)
theorem dX2_burnsOf_79 : decode cX2_burnsOf 79 = .ok (.ifCond .eq 24, 3) := dk_153 0 24 (dk_at dksX2_burnsOf_3 8 rfl rfl)
theorem dX2_burnsOf_82 : decode cX2_burnsOf 82 = .ok (.aload_n 0, 1) := dk_42 (dk_at dksX2_burnsOf_3 11 rfl rfl)
theorem dX2_burnsOf_83 : decode cX2_burnsOf 83 = .ok (.getfield 28, 3) := dk_180 0 28 (dk_at dksX2_burnsOf_3 12 rfl rfl)
theorem dX2_burnsOf_86 : decode cX2_burnsOf 86 = .ok (.iload_n 1, 1) := dk_27 (dk_at dksX2_burnsOf_3 15 rfl rfl)
theorem dX2_burnsOf_87 : decode cX2_burnsOf 87 = .ok (.dup2, 1) := dk_92 (dk_at dksX2_burnsOf_3 16 rfl rfl)
theorem dX2_burnsOf_88 : decode cX2_burnsOf 88 = .ok (.iaload, 1) := dk_46 (dk_at dksX2_burnsOf_3 17 rfl rfl)
theorem dX2_burnsOf_89 : decode cX2_burnsOf 89 = .ok (.iload 4, 2) := dk_21 4 (dk_at dksX2_burnsOf_3 18 rfl rfl)
theorem dX2_burnsOf_91 : decode cX2_burnsOf 91 = .ok (.ifCond .eq 7, 3) := dk_153 0 7 (dk_at dksX2_burnsOf_3 20 rfl rfl)
theorem dX2_burnsOf_94 : decode cX2_burnsOf 94 = .ok (.iconst 1, 1) := dk_4 (dk_at dksX2_burnsOf_3 23 rfl rfl)
theorem dX2_burnsOf_95 : decode cX2_burnsOf 95 = .ok (.goto 4, 3) := dk_167 0 4 (dk_at dksX2_burnsOf_4 0 rfl rfl)
theorem dX2_burnsOf_98 : decode cX2_burnsOf 98 = .ok (.iconst 0, 1) := dk_3 (dk_at dksX2_burnsOf_4 3 rfl rfl)
theorem dX2_burnsOf_99 : decode cX2_burnsOf 99 = .ok (.iadd, 1) := dk_96 (dk_at dksX2_burnsOf_4 4 rfl rfl)
theorem dX2_burnsOf_100 : decode cX2_burnsOf 100 = .ok (.iastore, 1) := dk_79 (dk_at dksX2_burnsOf_4 5 rfl rfl)
theorem dX2_burnsOf_101 : decode cX2_burnsOf 101 = .ok (.iconst 0, 1) := dk_3 (dk_at dksX2_burnsOf_4 6 rfl rfl)
theorem dX2_burnsOf_102 : decode cX2_burnsOf 102 = .ok (.ireturn, 1) := dk_172 (dk_at dksX2_burnsOf_4 7 rfl rfl)
theorem dX2_burnsOf_103 : decode cX2_burnsOf 103 = .ok (.iconst 1, 1) := dk_4 (dk_at dksX2_burnsOf_4 8 rfl rfl)
theorem dX2_burnsOf_104 : decode cX2_burnsOf 104 = .ok (.iload_n 2, 1) := dk_28 (dk_at dksX2_burnsOf_4 9 rfl rfl)
theorem dX2_burnsOf_105 : decode cX2_burnsOf 105 = .ok (.iconst 1, 1) := dk_4 (dk_at dksX2_burnsOf_4 10 rfl rfl)
theorem dX2_burnsOf_106 : decode cX2_burnsOf 106 = .ok (.iadd, 1) := dk_96 (dk_at dksX2_burnsOf_4 11 rfl rfl)
theorem dX2_burnsOf_107 : decode cX2_burnsOf 107 = .ok (.bipush 6, 2) := dk_16 6 (dk_at dksX2_burnsOf_4 12 rfl rfl)
theorem dX2_burnsOf_109 : decode cX2_burnsOf 109 = .ok (.irem, 1) := dk_112 (dk_at dksX2_burnsOf_4 14 rfl rfl)
theorem dX2_burnsOf_110 : decode cX2_burnsOf 110 = .ok (.ishl, 1) := dk_120 (dk_at dksX2_burnsOf_4 15 rfl rfl)
theorem dX2_burnsOf_111 : decode cX2_burnsOf 111 = .ok (.istore 5, 2) := dk_54 5 (dk_at dksX2_burnsOf_4 16 rfl rfl)
theorem dX2_burnsOf_113 : decode cX2_burnsOf 113 = .ok (.iconst 1, 1) := dk_4 (dk_at dksX2_burnsOf_4 18 rfl rfl)
theorem dX2_burnsOf_114 : decode cX2_burnsOf 114 = .ok (.iload_n 2, 1) := dk_28 (dk_at dksX2_burnsOf_4 19 rfl rfl)
theorem dX2_burnsOf_115 : decode cX2_burnsOf 115 = .ok (.ishl, 1) := dk_120 (dk_at dksX2_burnsOf_4 20 rfl rfl)
theorem dX2_burnsOf_116 : decode cX2_burnsOf 116 = .ok (.aload_n 0, 1) := dk_42 (dk_at dksX2_burnsOf_4 21 rfl rfl)
theorem dX2_burnsOf_117 : decode cX2_burnsOf 117 = .ok (.getfield 16, 3) := dk_180 0 16 (dk_at dksX2_burnsOf_5 0 rfl rfl)
theorem dX2_burnsOf_120 : decode cX2_burnsOf 120 = .ok (.iconst 2, 1) := dk_5 (dk_at dksX2_burnsOf_5 3 rfl rfl)
theorem dX2_burnsOf_121 : decode cX2_burnsOf 121 = .ok (.iload_n 1, 1) := dk_27 (dk_at dksX2_burnsOf_5 4 rfl rfl)
theorem dX2_burnsOf_122 : decode cX2_burnsOf 122 = .ok (.imul, 1) := dk_104 (dk_at dksX2_burnsOf_5 5 rfl rfl)
theorem dX2_burnsOf_123 : decode cX2_burnsOf 123 = .ok (.iaload, 1) := dk_46 (dk_at dksX2_burnsOf_5 6 rfl rfl)
theorem dX2_burnsOf_124 : decode cX2_burnsOf 124 = .ok (.iconst 4, 1) := dk_7 (dk_at dksX2_burnsOf_5 7 rfl rfl)
theorem dX2_burnsOf_125 : decode cX2_burnsOf 125 = .ok (.if_icmp .ne 15, 3) := dk_160 0 15 (dk_at dksX2_burnsOf_5 8 rfl rfl)
theorem dX2_burnsOf_128 : decode cX2_burnsOf 128 = .ok (.aload_n 0, 1) := dk_42 (dk_at dksX2_burnsOf_5 11 rfl rfl)
theorem dX2_burnsOf_129 : decode cX2_burnsOf 129 = .ok (.getfield 31, 3) := dk_180 0 31 (dk_at dksX2_burnsOf_5 12 rfl rfl)
theorem dX2_burnsOf_132 : decode cX2_burnsOf 132 = .ok (.iload_n 1, 1) := dk_27 (dk_at dksX2_burnsOf_5 15 rfl rfl)
theorem dX2_burnsOf_133 : decode cX2_burnsOf 133 = .ok (.iaload, 1) := dk_46 (dk_at dksX2_burnsOf_5 16 rfl rfl)
theorem dX2_burnsOf_134 : decode cX2_burnsOf 134 = .ok (.iload 5, 2) := dk_21 5 (dk_at dksX2_burnsOf_5 17 rfl rfl)
theorem dX2_burnsOf_136 : decode cX2_burnsOf 136 = .ok (.iand, 1) := dk_126 (dk_at dksX2_burnsOf_5 19 rfl rfl)
theorem dX2_burnsOf_137 : decode cX2_burnsOf 137 = .ok (.goto 4, 3) := dk_167 0 4 (dk_at dksX2_burnsOf_5 20 rfl rfl)
theorem dX2_burnsOf_140 : decode cX2_burnsOf 140 = .ok (.iconst 0, 1) := dk_3 (dk_at dksX2_burnsOf_5 23 rfl rfl)
theorem dX2_burnsOf_141 : decode cX2_burnsOf 141 = .ok (.ior, 1) := dk_128 (dk_at dksX2_burnsOf_6 0 rfl rfl)
theorem dX2_burnsOf_142 : decode cX2_burnsOf 142 = .ok (.ireturn, 1) := dk_172 (dk_at dksX2_burnsOf_6 1 rfl rfl)
abbrev cX2_isPointedAt : ByteArray := prog_11_method_27_code
def yX2_isPointedAt : MethodName := ⟨RX2, "isPointedAt", "(I)Z"⟩
def dkwX2_isPointedAt_2 : List UInt8 := [132, 3, 1, 167, 255, 212, 28, 172]
abbrev dktX2_isPointedAt_2 : List UInt8 := dkwX2_isPointedAt_2 ++ []
def dkwX2_isPointedAt_1 : List UInt8 := [153, 0, 21, 42, 180, 0, 16, 5, 29, 104, 4, 96, 46, 27, 160, 0, 7, 4, 167, 0, 4, 3, 61]
abbrev dktX2_isPointedAt_1 : List UInt8 := dkwX2_isPointedAt_1 ++ dktX2_isPointedAt_2
def dkwX2_isPointedAt_0 : List UInt8 := [3, 61, 3, 62, 29, 42, 180, 0, 81, 162, 0, 42, 28, 154, 0, 26, 42, 180, 0, 31, 29, 46]
abbrev dktX2_isPointedAt_0 : List UInt8 := dkwX2_isPointedAt_0 ++ dktX2_isPointedAt_1
theorem dksX2_isPointedAt_0 : cX2_isPointedAt.data.toList.drop 0 = dktX2_isPointedAt_0 := by decide +kernel
theorem dksX2_isPointedAt_1 : cX2_isPointedAt.data.toList.drop 22 = dktX2_isPointedAt_1 := dk_seg dksX2_isPointedAt_0 22 rfl rfl
theorem dksX2_isPointedAt_2 : cX2_isPointedAt.data.toList.drop 45 = dktX2_isPointedAt_2 := dk_seg dksX2_isPointedAt_1 23 rfl rfl
theorem dX2_isPointedAt_0 : decode cX2_isPointedAt 0 = .ok (.iconst 0, 1) := dk_3 (dk_at dksX2_isPointedAt_0 0 rfl rfl)
theorem dX2_isPointedAt_1 : decode cX2_isPointedAt 1 = .ok (.istore_n 2, 1) := dk_61 (dk_at dksX2_isPointedAt_0 1 rfl rfl)
theorem dX2_isPointedAt_2 : decode cX2_isPointedAt 2 = .ok (.iconst 0, 1) := dk_3 (dk_at dksX2_isPointedAt_0 2 rfl rfl)
theorem dX2_isPointedAt_3 : decode cX2_isPointedAt 3 = .ok (.istore_n 3, 1) := dk_62 (dk_at dksX2_isPointedAt_0 3 rfl rfl)
theorem dX2_isPointedAt_4 : decode cX2_isPointedAt 4 = .ok (.iload_n 3, 1) := dk_29 (dk_at dksX2_isPointedAt_0 4 rfl rfl)
theorem dX2_isPointedAt_5 : decode cX2_isPointedAt 5 = .ok (.aload_n 0, 1) := dk_42 (dk_at dksX2_isPointedAt_0 5 rfl rfl)
theorem dX2_isPointedAt_6 : decode cX2_isPointedAt 6 = .ok (.getfield 81, 3) := dk_180 0 81 (dk_at dksX2_isPointedAt_0 6 rfl rfl)
theorem dX2_isPointedAt_9 : decode cX2_isPointedAt 9 = .ok (.if_icmp .ge 42, 3) := dk_162 0 42 (dk_at dksX2_isPointedAt_0 9 rfl rfl)
theorem dX2_isPointedAt_12 : decode cX2_isPointedAt 12 = .ok (.iload_n 2, 1) := dk_28 (dk_at dksX2_isPointedAt_0 12 rfl rfl)
theorem dX2_isPointedAt_13 : decode cX2_isPointedAt 13 = .ok (.ifCond .ne 26, 3) := dk_154 0 26 (dk_at dksX2_isPointedAt_0 13 rfl rfl)
theorem dX2_isPointedAt_16 : decode cX2_isPointedAt 16 = .ok (.aload_n 0, 1) := dk_42 (dk_at dksX2_isPointedAt_0 16 rfl rfl)
theorem dX2_isPointedAt_17 : decode cX2_isPointedAt 17 = .ok (.getfield 31, 3) := dk_180 0 31 (dk_at dksX2_isPointedAt_0 17 rfl rfl)
theorem dX2_isPointedAt_20 : decode cX2_isPointedAt 20 = .ok (.iload_n 3, 1) := dk_29 (dk_at dksX2_isPointedAt_0 20 rfl rfl)
theorem dX2_isPointedAt_21 : decode cX2_isPointedAt 21 = .ok (.iaload, 1) := dk_46 (dk_at dksX2_isPointedAt_0 21 rfl rfl)
theorem dX2_isPointedAt_22 : decode cX2_isPointedAt 22 = .ok (.ifCond .eq 21, 3) := dk_153 0 21 (dk_at dksX2_isPointedAt_1 0 rfl rfl)
theorem dX2_isPointedAt_25 : decode cX2_isPointedAt 25 = .ok (.aload_n 0, 1) := dk_42 (dk_at dksX2_isPointedAt_1 3 rfl rfl)
theorem dX2_isPointedAt_26 : decode cX2_isPointedAt 26 = .ok (.getfield 16, 3) := dk_180 0 16 (dk_at dksX2_isPointedAt_1 4 rfl rfl)
theorem dX2_isPointedAt_29 : decode cX2_isPointedAt 29 = .ok (.iconst 2, 1) := dk_5 (dk_at dksX2_isPointedAt_1 7 rfl rfl)
theorem dX2_isPointedAt_30 : decode cX2_isPointedAt 30 = .ok (.iload_n 3, 1) := dk_29 (dk_at dksX2_isPointedAt_1 8 rfl rfl)
theorem dX2_isPointedAt_31 : decode cX2_isPointedAt 31 = .ok (.imul, 1) := dk_104 (dk_at dksX2_isPointedAt_1 9 rfl rfl)
theorem dX2_isPointedAt_32 : decode cX2_isPointedAt 32 = .ok (.iconst 1, 1) := dk_4 (dk_at dksX2_isPointedAt_1 10 rfl rfl)
theorem dX2_isPointedAt_33 : decode cX2_isPointedAt 33 = .ok (.iadd, 1) := dk_96 (dk_at dksX2_isPointedAt_1 11 rfl rfl)
theorem dX2_isPointedAt_34 : decode cX2_isPointedAt 34 = .ok (.iaload, 1) := dk_46 (dk_at dksX2_isPointedAt_1 12 rfl rfl)
theorem dX2_isPointedAt_35 : decode cX2_isPointedAt 35 = .ok (.iload_n 1, 1) := dk_27 (dk_at dksX2_isPointedAt_1 13 rfl rfl)
theorem dX2_isPointedAt_36 : decode cX2_isPointedAt 36 = .ok (.if_icmp .ne 7, 3) := dk_160 0 7 (dk_at dksX2_isPointedAt_1 14 rfl rfl)
theorem dX2_isPointedAt_39 : decode cX2_isPointedAt 39 = .ok (.iconst 1, 1) := dk_4 (dk_at dksX2_isPointedAt_1 17 rfl rfl)
theorem dX2_isPointedAt_40 : decode cX2_isPointedAt 40 = .ok (.goto 4, 3) := dk_167 0 4 (dk_at dksX2_isPointedAt_1 18 rfl rfl)
theorem dX2_isPointedAt_43 : decode cX2_isPointedAt 43 = .ok (.iconst 0, 1) := dk_3 (dk_at dksX2_isPointedAt_1 21 rfl rfl)
theorem dX2_isPointedAt_44 : decode cX2_isPointedAt 44 = .ok (.istore_n 2, 1) := dk_61 (dk_at dksX2_isPointedAt_1 22 rfl rfl)
theorem dX2_isPointedAt_45 : decode cX2_isPointedAt 45 = .ok (.iinc 3 1, 3) := dk_132 3 1 (dk_at dksX2_isPointedAt_2 0 rfl rfl)
theorem dX2_isPointedAt_48 : decode cX2_isPointedAt 48 = .ok (.goto (-44), 3) := dk_167 255 212 (dk_at dksX2_isPointedAt_2 3 rfl rfl)
theorem dX2_isPointedAt_51 : decode cX2_isPointedAt 51 = .ok (.iload_n 2, 1) := dk_28 (dk_at dksX2_isPointedAt_2 6 rfl rfl)
theorem dX2_isPointedAt_52 : decode cX2_isPointedAt 52 = .ok (.ireturn, 1) := dk_172 (dk_at dksX2_isPointedAt_2 7 rfl rfl)
abbrev cX2_spread : ByteArray := prog_11_method_29_code
def yX2_spread : MethodName := ⟨RX2, "spread", "(I)V"⟩
def dkwX2_spread_2 : List UInt8 := [128, 79, 177, 132, 2, 1, 167, 255, 205, 177]
abbrev dktX2_spread_2 : List UInt8 := dkwX2_spread_2 ++ []
def dkwX2_spread_1 : List UInt8 := [180, 0, 25, 28, 182, 0, 95, 42, 180, 0, 78, 162, 0, 16, 42, 180, 0, 25, 27, 92, 46, 4, 28, 120]
abbrev dktX2_spread_1 : List UInt8 := dkwX2_spread_1 ++ dktX2_spread_2
def dkwX2_spread_0 : List UInt8 := [3, 61, 28, 16, 6, 162, 0, 51, 42, 180, 0, 25, 27, 46, 28, 122, 4, 126, 154, 0, 32, 42, 42]
abbrev dktX2_spread_0 : List UInt8 := dkwX2_spread_0 ++ dktX2_spread_1
theorem dksX2_spread_0 : cX2_spread.data.toList.drop 0 = dktX2_spread_0 := by decide +kernel
theorem dksX2_spread_1 : cX2_spread.data.toList.drop 23 = dktX2_spread_1 := dk_seg dksX2_spread_0 23 rfl rfl
theorem dksX2_spread_2 : cX2_spread.data.toList.drop 47 = dktX2_spread_2 := dk_seg dksX2_spread_1 24 rfl rfl
theorem dX2_spread_0 : decode cX2_spread 0 = .ok (.iconst 0, 1) := dk_3 (dk_at dksX2_spread_0 0 rfl rfl)
theorem dX2_spread_1 : decode cX2_spread 1 = .ok (.istore_n 2, 1) := dk_61 (dk_at dksX2_spread_0 1 rfl rfl)
theorem dX2_spread_2 : decode cX2_spread 2 = .ok (.iload_n 2, 1) := dk_28 (dk_at dksX2_spread_0 2 rfl rfl)
theorem dX2_spread_3 : decode cX2_spread 3 = .ok (.bipush 6, 2) := dk_16 6 (dk_at dksX2_spread_0 3 rfl rfl)
theorem dX2_spread_5 : decode cX2_spread 5 = .ok (.if_icmp .ge 51, 3) := dk_162 0 51 (dk_at dksX2_spread_0 5 rfl rfl)
theorem dX2_spread_8 : decode cX2_spread 8 = .ok (.aload_n 0, 1) := dk_42 (dk_at dksX2_spread_0 8 rfl rfl)
theorem dX2_spread_9 : decode cX2_spread 9 = .ok (.getfield 25, 3) := dk_180 0 25 (dk_at dksX2_spread_0 9 rfl rfl)
theorem dX2_spread_12 : decode cX2_spread 12 = .ok (.iload_n 1, 1) := dk_27 (dk_at dksX2_spread_0 12 rfl rfl)
theorem dX2_spread_13 : decode cX2_spread 13 = .ok (.iaload, 1) := dk_46 (dk_at dksX2_spread_0 13 rfl rfl)
theorem dX2_spread_14 : decode cX2_spread 14 = .ok (.iload_n 2, 1) := dk_28 (dk_at dksX2_spread_0 14 rfl rfl)
theorem dX2_spread_15 : decode cX2_spread 15 = .ok (.ishr, 1) := dk_122 (dk_at dksX2_spread_0 15 rfl rfl)
theorem dX2_spread_16 : decode cX2_spread 16 = .ok (.iconst 1, 1) := dk_4 (dk_at dksX2_spread_0 16 rfl rfl)
theorem dX2_spread_17 : decode cX2_spread 17 = .ok (.iand, 1) := dk_126 (dk_at dksX2_spread_0 17 rfl rfl)
theorem dX2_spread_18 : decode cX2_spread 18 = .ok (.ifCond .ne 32, 3) := dk_154 0 32 (dk_at dksX2_spread_0 18 rfl rfl)
theorem dX2_spread_21 : decode cX2_spread 21 = .ok (.aload_n 0, 1) := dk_42 (dk_at dksX2_spread_0 21 rfl rfl)
theorem dX2_spread_22 : decode cX2_spread 22 = .ok (.aload_n 0, 1) := dk_42 (dk_at dksX2_spread_0 22 rfl rfl)
theorem dX2_spread_23 : decode cX2_spread 23 = .ok (.getfield 25, 3) := dk_180 0 25 (dk_at dksX2_spread_1 0 rfl rfl)
theorem dX2_spread_26 : decode cX2_spread 26 = .ok (.iload_n 2, 1) := dk_28 (dk_at dksX2_spread_1 3 rfl rfl)
theorem dX2_spread_27 : decode cX2_spread 27 = .ok (.invokevirtual 95, 3) := dk_182 0 95 (dk_at dksX2_spread_1 4 rfl rfl)
theorem dX2_spread_30 : decode cX2_spread 30 = .ok (.aload_n 0, 1) := dk_42 (dk_at dksX2_spread_1 7 rfl rfl)
theorem dX2_spread_31 : decode cX2_spread 31 = .ok (.getfield 78, 3) := dk_180 0 78 (dk_at dksX2_spread_1 8 rfl rfl)
theorem dX2_spread_34 : decode cX2_spread 34 = .ok (.if_icmp .ge 16, 3) := dk_162 0 16 (dk_at dksX2_spread_1 11 rfl rfl)
theorem dX2_spread_37 : decode cX2_spread 37 = .ok (.aload_n 0, 1) := dk_42 (dk_at dksX2_spread_1 14 rfl rfl)
theorem dX2_spread_38 : decode cX2_spread 38 = .ok (.getfield 25, 3) := dk_180 0 25 (dk_at dksX2_spread_1 15 rfl rfl)
theorem dX2_spread_41 : decode cX2_spread 41 = .ok (.iload_n 1, 1) := dk_27 (dk_at dksX2_spread_1 18 rfl rfl)
theorem dX2_spread_42 : decode cX2_spread 42 = .ok (.dup2, 1) := dk_92 (dk_at dksX2_spread_1 19 rfl rfl)
theorem dX2_spread_43 : decode cX2_spread 43 = .ok (.iaload, 1) := dk_46 (dk_at dksX2_spread_1 20 rfl rfl)
theorem dX2_spread_44 : decode cX2_spread 44 = .ok (.iconst 1, 1) := dk_4 (dk_at dksX2_spread_1 21 rfl rfl)
theorem dX2_spread_45 : decode cX2_spread 45 = .ok (.iload_n 2, 1) := dk_28 (dk_at dksX2_spread_1 22 rfl rfl)
theorem dX2_spread_46 : decode cX2_spread 46 = .ok (.ishl, 1) := dk_120 (dk_at dksX2_spread_1 23 rfl rfl)
theorem dX2_spread_47 : decode cX2_spread 47 = .ok (.ior, 1) := dk_128 (dk_at dksX2_spread_2 0 rfl rfl)
theorem dX2_spread_48 : decode cX2_spread 48 = .ok (.iastore, 1) := dk_79 (dk_at dksX2_spread_2 1 rfl rfl)
theorem dX2_spread_49 : decode cX2_spread 49 = .ok (.return_, 1) := dk_177 (dk_at dksX2_spread_2 2 rfl rfl)
theorem dX2_spread_50 : decode cX2_spread 50 = .ok (.iinc 2 1, 3) := dk_132 2 1 (dk_at dksX2_spread_2 3 rfl rfl)
theorem dX2_spread_53 : decode cX2_spread 53 = .ok (.goto (-51), 3) := dk_167 255 205 (dk_at dksX2_spread_2 6 rfl rfl)
theorem dX2_spread_56 : decode cX2_spread 56 = .ok (.return_, 1) := dk_177 (dk_at dksX2_spread_2 9 rfl rfl)
abbrev cX2_odds : ByteArray := prog_11_method_36_code
def yX2_odds : MethodName := ⟨RX2, "odds", "(III)I"⟩
def dkwX2_odds_1 : List UInt8 := [133, 9, 10, 184, 0, 61, 153, 0, 13, 42, 27, 28, 29, 182, 0, 160, 167, 0, 5, 16, 154, 172]
abbrev dktX2_odds_1 : List UInt8 := dkwX2_odds_1 ++ []
def dkwX2_odds_0 : List UInt8 := [42, 27, 182, 0, 117, 154, 0, 6, 16, 155, 172, 28, 133, 9, 20, 0, 107, 184, 0, 61, 153, 0, 23, 29]
abbrev dktX2_odds_0 : List UInt8 := dkwX2_odds_0 ++ dktX2_odds_1
theorem dksX2_odds_0 : cX2_odds.data.toList.drop 0 = dktX2_odds_0 := by decide +kernel
theorem dksX2_odds_1 : cX2_odds.data.toList.drop 24 = dktX2_odds_1 := dk_seg dksX2_odds_0 24 rfl rfl
theorem dX2_odds_0 : decode cX2_odds 0 = .ok (.aload_n 0, 1) := dk_42 (dk_at dksX2_odds_0 0 rfl rfl)
theorem dX2_odds_1 : decode cX2_odds 1 = .ok (.iload_n 1, 1) := dk_27 (dk_at dksX2_odds_0 1 rfl rfl)
theorem dX2_odds_2 : decode cX2_odds 2 = .ok (.invokevirtual 117, 3) := dk_182 0 117 (dk_at dksX2_odds_0 2 rfl rfl)
theorem dX2_odds_5 : decode cX2_odds 5 = .ok (.ifCond .ne 6, 3) := dk_154 0 6 (dk_at dksX2_odds_0 5 rfl rfl)
theorem dX2_odds_8 : decode cX2_odds 8 = .ok (.bipush (-101), 2) := dk_16 155 (dk_at dksX2_odds_0 8 rfl rfl)
theorem dX2_odds_10 : decode cX2_odds 10 = .ok (.ireturn, 1) := dk_172 (dk_at dksX2_odds_0 10 rfl rfl)
theorem dX2_odds_11 : decode cX2_odds 11 = .ok (.iload_n 2, 1) := dk_28 (dk_at dksX2_odds_0 11 rfl rfl)
theorem dX2_odds_12 : decode cX2_odds 12 = .ok (.i2l, 1) := dk_133 (dk_at dksX2_odds_0 12 rfl rfl)
theorem dX2_odds_13 : decode cX2_odds 13 = .ok (.lconst 0, 1) := dk_9 (dk_at dksX2_odds_0 13 rfl rfl)
theorem dX2_odds_14 : decode cX2_odds 14 = .ok (.ldc2_w 107, 3) := dk_20 0 107 (dk_at dksX2_odds_0 14 rfl rfl)
theorem dX2_odds_17 : decode cX2_odds 17 = .ok (.invokestatic 61, 3) := dk_184 0 61 (dk_at dksX2_odds_0 17 rfl rfl)
theorem dX2_odds_20 : decode cX2_odds 20 = .ok (.ifCond .eq 23, 3) := dk_153 0 23 (dk_at dksX2_odds_0 20 rfl rfl)
theorem dX2_odds_23 : decode cX2_odds 23 = .ok (.iload_n 3, 1) := dk_29 (dk_at dksX2_odds_0 23 rfl rfl)
theorem dX2_odds_24 : decode cX2_odds 24 = .ok (.i2l, 1) := dk_133 (dk_at dksX2_odds_1 0 rfl rfl)
theorem dX2_odds_25 : decode cX2_odds 25 = .ok (.lconst 0, 1) := dk_9 (dk_at dksX2_odds_1 1 rfl rfl)
theorem dX2_odds_26 : decode cX2_odds 26 = .ok (.lconst 1, 1) := dk_10 (dk_at dksX2_odds_1 2 rfl rfl)
theorem dX2_odds_27 : decode cX2_odds 27 = .ok (.invokestatic 61, 3) := dk_184 0 61 (dk_at dksX2_odds_1 3 rfl rfl)
theorem dX2_odds_30 : decode cX2_odds 30 = .ok (.ifCond .eq 13, 3) := dk_153 0 13 (dk_at dksX2_odds_1 6 rfl rfl)
theorem dX2_odds_33 : decode cX2_odds 33 = .ok (.aload_n 0, 1) := dk_42 (dk_at dksX2_odds_1 9 rfl rfl)
theorem dX2_odds_34 : decode cX2_odds 34 = .ok (.iload_n 1, 1) := dk_27 (dk_at dksX2_odds_1 10 rfl rfl)
theorem dX2_odds_35 : decode cX2_odds 35 = .ok (.iload_n 2, 1) := dk_28 (dk_at dksX2_odds_1 11 rfl rfl)
theorem dX2_odds_36 : decode cX2_odds 36 = .ok (.iload_n 3, 1) := dk_29 (dk_at dksX2_odds_1 12 rfl rfl)
theorem dX2_odds_37 : decode cX2_odds 37 = .ok (.invokevirtual 160, 3) := dk_182 0 160 (dk_at dksX2_odds_1 13 rfl rfl)
theorem dX2_odds_40 : decode cX2_odds 40 = .ok (.goto 5, 3) := dk_167 0 5 (dk_at dksX2_odds_1 16 rfl rfl)
theorem dX2_odds_43 : decode cX2_odds 43 = .ok (.bipush (-102), 2) := dk_16 154 (dk_at dksX2_odds_1 19 rfl rfl)
theorem dX2_odds_45 : decode cX2_odds 45 = .ok (.ireturn, 1) := dk_172 (dk_at dksX2_odds_1 21 rfl rfl)
abbrev cX2_oddsOf : ByteArray := prog_11_method_35_code
def yX2_oddsOf : MethodName := ⟨RX2, "oddsOf", "(III)I"⟩
def dkwX2_oddsOf_0 : List UInt8 := [42, 27, 28, 182, 0, 153, 16, 10, 28, 184, 0, 150, 29, 184, 0, 156, 172]
abbrev dktX2_oddsOf_0 : List UInt8 := dkwX2_oddsOf_0 ++ []
theorem dksX2_oddsOf_0 : cX2_oddsOf.data.toList.drop 0 = dktX2_oddsOf_0 := by decide +kernel
theorem dX2_oddsOf_0 : decode cX2_oddsOf 0 = .ok (.aload_n 0, 1) := dk_42 (dk_at dksX2_oddsOf_0 0 rfl rfl)
theorem dX2_oddsOf_1 : decode cX2_oddsOf 1 = .ok (.iload_n 1, 1) := dk_27 (dk_at dksX2_oddsOf_0 1 rfl rfl)
theorem dX2_oddsOf_2 : decode cX2_oddsOf 2 = .ok (.iload_n 2, 1) := dk_28 (dk_at dksX2_oddsOf_0 2 rfl rfl)
theorem dX2_oddsOf_3 : decode cX2_oddsOf 3 = .ok (.invokevirtual 153, 3) := dk_182 0 153 (dk_at dksX2_oddsOf_0 3 rfl rfl)
theorem dX2_oddsOf_6 : decode cX2_oddsOf 6 = .ok (.bipush 10, 2) := dk_16 10 (dk_at dksX2_oddsOf_0 6 rfl rfl)
theorem dX2_oddsOf_8 : decode cX2_oddsOf 8 = .ok (.iload_n 2, 1) := dk_28 (dk_at dksX2_oddsOf_0 8 rfl rfl)
theorem dX2_oddsOf_9 : decode cX2_oddsOf 9 = .ok (.invokestatic 150, 3) := dk_184 0 150 (dk_at dksX2_oddsOf_0 9 rfl rfl)
theorem dX2_oddsOf_12 : decode cX2_oddsOf 12 = .ok (.iload_n 3, 1) := dk_29 (dk_at dksX2_oddsOf_0 12 rfl rfl)
theorem dX2_oddsOf_13 : decode cX2_oddsOf 13 = .ok (.invokestatic 156, 3) := dk_184 0 156 (dk_at dksX2_oddsOf_0 13 rfl rfl)
theorem dX2_oddsOf_16 : decode cX2_oddsOf 16 = .ok (.ireturn, 1) := dk_172 (dk_at dksX2_oddsOf_0 16 rfl rfl)
abbrev cX2_livesOf : ByteArray := prog_11_method_33_code
def yX2_livesOf : MethodName := ⟨RX2, "livesOf", "(II)I"⟩
def dkwX2_livesOf_5 : List UInt8 := [167, 0, 4, 3, 96, 62, 132, 4, 1, 167, 255, 134, 29, 172]
abbrev dktX2_livesOf_5 : List UInt8 := dkwX2_livesOf_5 ++ []
def dkwX2_livesOf_4 : List UInt8 := [16, 6, 108, 54, 6, 132, 7, 1, 167, 255, 229, 29, 42, 180, 0, 25, 27, 46, 153, 0, 8, 21, 5]
abbrev dktX2_livesOf_4 : List UInt8 := dkwX2_livesOf_4 ++ dktX2_livesOf_5
def dkwX2_livesOf_3 : List UInt8 := [54, 6, 3, 54, 7, 21, 7, 28, 162, 0, 27, 42, 21, 6, 16, 6, 112, 182, 0, 147, 54, 8, 21, 6]
abbrev dktX2_livesOf_3 : List UInt8 := dkwX2_livesOf_3 ++ dktX2_livesOf_4
def dkwX2_livesOf_2 : List UInt8 := [21, 6, 16, 6, 108, 54, 6, 132, 7, 1, 167, 255, 225, 21, 5, 158, 0, 62, 42, 182, 0, 144, 21, 4]
abbrev dktX2_livesOf_2 : List UInt8 := dkwX2_livesOf_2 ++ dktX2_livesOf_3
def dkwX2_livesOf_1 : List UInt8 := [54, 7, 21, 7, 28, 162, 0, 31, 21, 5, 42, 180, 0, 13, 21, 6, 16, 6, 112, 46, 104, 54, 5]
abbrev dktX2_livesOf_1 : List UInt8 := dkwX2_livesOf_1 ++ dktX2_livesOf_2
def dkwX2_livesOf_0 : List UInt8 := [3, 62, 3, 54, 4, 21, 4, 16, 6, 28, 184, 0, 150, 162, 0, 117, 4, 54, 5, 21, 4, 54, 6, 3]
abbrev dktX2_livesOf_0 : List UInt8 := dkwX2_livesOf_0 ++ dktX2_livesOf_1
theorem dksX2_livesOf_0 : cX2_livesOf.data.toList.drop 0 = dktX2_livesOf_0 := by decide +kernel
theorem dksX2_livesOf_1 : cX2_livesOf.data.toList.drop 24 = dktX2_livesOf_1 := dk_seg dksX2_livesOf_0 24 rfl rfl
theorem dksX2_livesOf_2 : cX2_livesOf.data.toList.drop 47 = dktX2_livesOf_2 := dk_seg dksX2_livesOf_1 23 rfl rfl
theorem dksX2_livesOf_3 : cX2_livesOf.data.toList.drop 71 = dktX2_livesOf_3 := dk_seg dksX2_livesOf_2 24 rfl rfl
theorem dksX2_livesOf_4 : cX2_livesOf.data.toList.drop 95 = dktX2_livesOf_4 := dk_seg dksX2_livesOf_3 24 rfl rfl
theorem dksX2_livesOf_5 : cX2_livesOf.data.toList.drop 118 = dktX2_livesOf_5 := dk_seg dksX2_livesOf_4 23 rfl rfl
theorem dX2_livesOf_0 : decode cX2_livesOf 0 = .ok (.iconst 0, 1) := dk_3 (dk_at dksX2_livesOf_0 0 rfl rfl)
theorem dX2_livesOf_1 : decode cX2_livesOf 1 = .ok (.istore_n 3, 1) := dk_62 (dk_at dksX2_livesOf_0 1 rfl rfl)
theorem dX2_livesOf_2 : decode cX2_livesOf 2 = .ok (.iconst 0, 1) := dk_3 (dk_at dksX2_livesOf_0 2 rfl rfl)
theorem dX2_livesOf_3 : decode cX2_livesOf 3 = .ok (.istore 4, 2) := dk_54 4 (dk_at dksX2_livesOf_0 3 rfl rfl)
theorem dX2_livesOf_5 : decode cX2_livesOf 5 = .ok (.iload 4, 2) := dk_21 4 (dk_at dksX2_livesOf_0 5 rfl rfl)
theorem dX2_livesOf_7 : decode cX2_livesOf 7 = .ok (.bipush 6, 2) := dk_16 6 (dk_at dksX2_livesOf_0 7 rfl rfl)
theorem dX2_livesOf_9 : decode cX2_livesOf 9 = .ok (.iload_n 2, 1) := dk_28 (dk_at dksX2_livesOf_0 9 rfl rfl)
theorem dX2_livesOf_10 : decode cX2_livesOf 10 = .ok (.invokestatic 150, 3) := dk_184 0 150 (dk_at dksX2_livesOf_0 10 rfl rfl)
theorem dX2_livesOf_13 : decode cX2_livesOf 13 = .ok (.if_icmp .ge 117, 3) := dk_162 0 117 (dk_at dksX2_livesOf_0 13 rfl rfl)
theorem dX2_livesOf_16 : decode cX2_livesOf 16 = .ok (.iconst 1, 1) := dk_4 (dk_at dksX2_livesOf_0 16 rfl rfl)
theorem dX2_livesOf_17 : decode cX2_livesOf 17 = .ok (.istore 5, 2) := dk_54 5 (dk_at dksX2_livesOf_0 17 rfl rfl)
theorem dX2_livesOf_19 : decode cX2_livesOf 19 = .ok (.iload 4, 2) := dk_21 4 (dk_at dksX2_livesOf_0 19 rfl rfl)
theorem dX2_livesOf_21 : decode cX2_livesOf 21 = .ok (.istore 6, 2) := dk_54 6 (dk_at dksX2_livesOf_0 21 rfl rfl)
theorem dX2_livesOf_23 : decode cX2_livesOf 23 = .ok (.iconst 0, 1) := dk_3 (dk_at dksX2_livesOf_0 23 rfl rfl)
theorem dX2_livesOf_24 : decode cX2_livesOf 24 = .ok (.istore 7, 2) := dk_54 7 (dk_at dksX2_livesOf_1 0 rfl rfl)
theorem dX2_livesOf_26 : decode cX2_livesOf 26 = .ok (.iload 7, 2) := dk_21 7 (dk_at dksX2_livesOf_1 2 rfl rfl)
theorem dX2_livesOf_28 : decode cX2_livesOf 28 = .ok (.iload_n 2, 1) := dk_28 (dk_at dksX2_livesOf_1 4 rfl rfl)
theorem dX2_livesOf_29 : decode cX2_livesOf 29 = .ok (.if_icmp .ge 31, 3) := dk_162 0 31 (dk_at dksX2_livesOf_1 5 rfl rfl)
theorem dX2_livesOf_32 : decode cX2_livesOf 32 = .ok (.iload 5, 2) := dk_21 5 (dk_at dksX2_livesOf_1 8 rfl rfl)
theorem dX2_livesOf_34 : decode cX2_livesOf 34 = .ok (.aload_n 0, 1) := dk_42 (dk_at dksX2_livesOf_1 10 rfl rfl)
theorem dX2_livesOf_35 : decode cX2_livesOf 35 = .ok (.getfield 13, 3) := dk_180 0 13 (dk_at dksX2_livesOf_1 11 rfl rfl)
theorem dX2_livesOf_38 : decode cX2_livesOf 38 = .ok (.iload 6, 2) := dk_21 6 (dk_at dksX2_livesOf_1 14 rfl rfl)
theorem dX2_livesOf_40 : decode cX2_livesOf 40 = .ok (.bipush 6, 2) := dk_16 6 (dk_at dksX2_livesOf_1 16 rfl rfl)
theorem dX2_livesOf_42 : decode cX2_livesOf 42 = .ok (.irem, 1) := dk_112 (dk_at dksX2_livesOf_1 18 rfl rfl)
theorem dX2_livesOf_43 : decode cX2_livesOf 43 = .ok (.iaload, 1) := dk_46 (dk_at dksX2_livesOf_1 19 rfl rfl)
theorem dX2_livesOf_44 : decode cX2_livesOf 44 = .ok (.imul, 1) := dk_104 (dk_at dksX2_livesOf_1 20 rfl rfl)
theorem dX2_livesOf_45 : decode cX2_livesOf 45 = .ok (.istore 5, 2) := dk_54 5 (dk_at dksX2_livesOf_1 21 rfl rfl)
theorem dX2_livesOf_47 : decode cX2_livesOf 47 = .ok (.iload 6, 2) := dk_21 6 (dk_at dksX2_livesOf_2 0 rfl rfl)
theorem dX2_livesOf_49 : decode cX2_livesOf 49 = .ok (.bipush 6, 2) := dk_16 6 (dk_at dksX2_livesOf_2 2 rfl rfl)
theorem dX2_livesOf_51 : decode cX2_livesOf 51 = .ok (.idiv, 1) := dk_108 (dk_at dksX2_livesOf_2 4 rfl rfl)
theorem dX2_livesOf_52 : decode cX2_livesOf 52 = .ok (.istore 6, 2) := dk_54 6 (dk_at dksX2_livesOf_2 5 rfl rfl)
theorem dX2_livesOf_54 : decode cX2_livesOf 54 = .ok (.iinc 7 1, 3) := dk_132 7 1 (dk_at dksX2_livesOf_2 7 rfl rfl)
theorem dX2_livesOf_57 : decode cX2_livesOf 57 = .ok (.goto (-31), 3) := dk_167 255 225 (dk_at dksX2_livesOf_2 10 rfl rfl)
theorem dX2_livesOf_60 : decode cX2_livesOf 60 = .ok (.iload 5, 2) := dk_21 5 (dk_at dksX2_livesOf_2 13 rfl rfl)
theorem dX2_livesOf_62 : decode cX2_livesOf 62 = .ok (.ifCond .le 62, 3) := dk_158 0 62 (dk_at dksX2_livesOf_2 15 rfl rfl)
theorem dX2_livesOf_65 : decode cX2_livesOf 65 = .ok (.aload_n 0, 1) := dk_42 (dk_at dksX2_livesOf_2 18 rfl rfl)
theorem dX2_livesOf_66 : decode cX2_livesOf 66 = .ok (.invokevirtual 144, 3) := dk_182 0 144 (dk_at dksX2_livesOf_2 19 rfl rfl)
theorem dX2_livesOf_69 : decode cX2_livesOf 69 = .ok (.iload 4, 2) := dk_21 4 (dk_at dksX2_livesOf_2 22 rfl rfl)
theorem dX2_livesOf_71 : decode cX2_livesOf 71 = .ok (.istore 6, 2) := dk_54 6 (dk_at dksX2_livesOf_3 0 rfl rfl)
theorem dX2_livesOf_73 : decode cX2_livesOf 73 = .ok (.iconst 0, 1) := dk_3 (dk_at dksX2_livesOf_3 2 rfl rfl)
theorem dX2_livesOf_74 : decode cX2_livesOf 74 = .ok (.istore 7, 2) := dk_54 7 (dk_at dksX2_livesOf_3 3 rfl rfl)
theorem dX2_livesOf_76 : decode cX2_livesOf 76 = .ok (.iload 7, 2) := dk_21 7 (dk_at dksX2_livesOf_3 5 rfl rfl)
theorem dX2_livesOf_78 : decode cX2_livesOf 78 = .ok (.iload_n 2, 1) := dk_28 (dk_at dksX2_livesOf_3 7 rfl rfl)
theorem dX2_livesOf_79 : decode cX2_livesOf 79 = .ok (.if_icmp .ge 27, 3) := dk_162 0 27 (dk_at dksX2_livesOf_3 8 rfl rfl)
theorem dX2_livesOf_82 : decode cX2_livesOf 82 = .ok (.aload_n 0, 1) := dk_42 (dk_at dksX2_livesOf_3 11 rfl rfl)
theorem dX2_livesOf_83 : decode cX2_livesOf 83 = .ok (.iload 6, 2) := dk_21 6 (dk_at dksX2_livesOf_3 12 rfl rfl)
theorem dX2_livesOf_85 : decode cX2_livesOf 85 = .ok (.bipush 6, 2) := dk_16 6 (dk_at dksX2_livesOf_3 14 rfl rfl)
theorem dX2_livesOf_87 : decode cX2_livesOf 87 = .ok (.irem, 1) := dk_112 (dk_at dksX2_livesOf_3 16 rfl rfl)
theorem dX2_livesOf_88 : decode cX2_livesOf 88 = .ok (.invokevirtual 147, 3) := dk_182 0 147 (dk_at dksX2_livesOf_3 17 rfl rfl)
theorem dX2_livesOf_91 : decode cX2_livesOf 91 = .ok (.istore 8, 2) := dk_54 8 (dk_at dksX2_livesOf_3 20 rfl rfl)
theorem dX2_livesOf_93 : decode cX2_livesOf 93 = .ok (.iload 6, 2) := dk_21 6 (dk_at dksX2_livesOf_3 22 rfl rfl)
theorem dX2_livesOf_95 : decode cX2_livesOf 95 = .ok (.bipush 6, 2) := dk_16 6 (dk_at dksX2_livesOf_4 0 rfl rfl)
theorem dX2_livesOf_97 : decode cX2_livesOf 97 = .ok (.idiv, 1) := dk_108 (dk_at dksX2_livesOf_4 2 rfl rfl)
theorem dX2_livesOf_98 : decode cX2_livesOf 98 = .ok (.istore 6, 2) := dk_54 6 (dk_at dksX2_livesOf_4 3 rfl rfl)
theorem dX2_livesOf_100 : decode cX2_livesOf 100 = .ok (.iinc 7 1, 3) := dk_132 7 1 (dk_at dksX2_livesOf_4 5 rfl rfl)
theorem dX2_livesOf_103 : decode cX2_livesOf 103 = .ok (.goto (-27), 3) := dk_167 255 229 (dk_at dksX2_livesOf_4 8 rfl rfl)
theorem dX2_livesOf_106 : decode cX2_livesOf 106 = .ok (.iload_n 3, 1) := dk_29 (dk_at dksX2_livesOf_4 11 rfl rfl)
theorem dX2_livesOf_107 : decode cX2_livesOf 107 = .ok (.aload_n 0, 1) := dk_42 (dk_at dksX2_livesOf_4 12 rfl rfl)
theorem dX2_livesOf_108 : decode cX2_livesOf 108 = .ok (.getfield 25, 3) := dk_180 0 25 (dk_at dksX2_livesOf_4 13 rfl rfl)
theorem dX2_livesOf_111 : decode cX2_livesOf 111 = .ok (.iload_n 1, 1) := dk_27 (dk_at dksX2_livesOf_4 16 rfl rfl)
theorem dX2_livesOf_112 : decode cX2_livesOf 112 = .ok (.iaload, 1) := dk_46 (dk_at dksX2_livesOf_4 17 rfl rfl)
theorem dX2_livesOf_113 : decode cX2_livesOf 113 = .ok (.ifCond .eq 8, 3) := dk_153 0 8 (dk_at dksX2_livesOf_4 18 rfl rfl)
theorem dX2_livesOf_116 : decode cX2_livesOf 116 = .ok (.iload 5, 2) := dk_21 5 (dk_at dksX2_livesOf_4 21 rfl rfl)
theorem dX2_livesOf_118 : decode cX2_livesOf 118 = .ok (.goto 4, 3) := dk_167 0 4 (dk_at dksX2_livesOf_5 0 rfl rfl)
theorem dX2_livesOf_121 : decode cX2_livesOf 121 = .ok (.iconst 0, 1) := dk_3 (dk_at dksX2_livesOf_5 3 rfl rfl)
theorem dX2_livesOf_122 : decode cX2_livesOf 122 = .ok (.iadd, 1) := dk_96 (dk_at dksX2_livesOf_5 4 rfl rfl)
theorem dX2_livesOf_123 : decode cX2_livesOf 123 = .ok (.istore_n 3, 1) := dk_62 (dk_at dksX2_livesOf_5 5 rfl rfl)
theorem dX2_livesOf_124 : decode cX2_livesOf 124 = .ok (.iinc 4 1, 3) := dk_132 4 1 (dk_at dksX2_livesOf_5 6 rfl rfl)
theorem dX2_livesOf_127 : decode cX2_livesOf 127 = .ok (.goto (-122), 3) := dk_167 255 134 (dk_at dksX2_livesOf_5 9 rfl rfl)
theorem dX2_livesOf_130 : decode cX2_livesOf 130 = .ok (.iload_n 3, 1) := dk_29 (dk_at dksX2_livesOf_5 12 rfl rfl)
theorem dX2_livesOf_131 : decode cX2_livesOf 131 = .ok (.ireturn, 1) := dk_172 (dk_at dksX2_livesOf_5 13 rfl rfl)
abbrev cX2_power : ByteArray := prog_11_method_32_code
def yX2_power : MethodName := ⟨RX2, "power", "(II)I"⟩
def dkwX2_power_0 : List UInt8 := [4, 61, 3, 62, 29, 27, 162, 0, 13, 28, 26, 104, 61, 132, 3, 1, 167, 255, 244, 28, 172]
abbrev dktX2_power_0 : List UInt8 := dkwX2_power_0 ++ []
theorem dksX2_power_0 : cX2_power.data.toList.drop 0 = dktX2_power_0 := by decide +kernel
theorem dX2_power_0 : decode cX2_power 0 = .ok (.iconst 1, 1) := dk_4 (dk_at dksX2_power_0 0 rfl rfl)
theorem dX2_power_1 : decode cX2_power 1 = .ok (.istore_n 2, 1) := dk_61 (dk_at dksX2_power_0 1 rfl rfl)
theorem dX2_power_2 : decode cX2_power 2 = .ok (.iconst 0, 1) := dk_3 (dk_at dksX2_power_0 2 rfl rfl)
theorem dX2_power_3 : decode cX2_power 3 = .ok (.istore_n 3, 1) := dk_62 (dk_at dksX2_power_0 3 rfl rfl)
theorem dX2_power_4 : decode cX2_power 4 = .ok (.iload_n 3, 1) := dk_29 (dk_at dksX2_power_0 4 rfl rfl)
theorem dX2_power_5 : decode cX2_power 5 = .ok (.iload_n 1, 1) := dk_27 (dk_at dksX2_power_0 5 rfl rfl)
theorem dX2_power_6 : decode cX2_power 6 = .ok (.if_icmp .ge 13, 3) := dk_162 0 13 (dk_at dksX2_power_0 6 rfl rfl)
theorem dX2_power_9 : decode cX2_power 9 = .ok (.iload_n 2, 1) := dk_28 (dk_at dksX2_power_0 9 rfl rfl)
theorem dX2_power_10 : decode cX2_power 10 = .ok (.iload_n 0, 1) := dk_26 (dk_at dksX2_power_0 10 rfl rfl)
theorem dX2_power_11 : decode cX2_power 11 = .ok (.imul, 1) := dk_104 (dk_at dksX2_power_0 11 rfl rfl)
theorem dX2_power_12 : decode cX2_power 12 = .ok (.istore_n 2, 1) := dk_61 (dk_at dksX2_power_0 12 rfl rfl)
theorem dX2_power_13 : decode cX2_power 13 = .ok (.iinc 3 1, 3) := dk_132 3 1 (dk_at dksX2_power_0 13 rfl rfl)
theorem dX2_power_16 : decode cX2_power 16 = .ok (.goto (-12), 3) := dk_167 255 244 (dk_at dksX2_power_0 16 rfl rfl)
theorem dX2_power_19 : decode cX2_power 19 = .ok (.iload_n 2, 1) := dk_28 (dk_at dksX2_power_0 19 rfl rfl)
theorem dX2_power_20 : decode cX2_power 20 = .ok (.ireturn, 1) := dk_172 (dk_at dksX2_power_0 20 rfl rfl)
abbrev cX2_term : ByteArray := prog_11_method_34_code
def yX2_term : MethodName := ⟨RX2, "term", "(III)I"⟩
def dkwX2_term_1 : List UInt8 := [28, 154, 0, 10, 26, 21, 4, 108, 167, 0, 7, 27, 21, 4, 108, 172]
abbrev dktX2_term_1 : List UInt8 := dkwX2_term_1 ++ []
def dkwX2_term_0 : List UInt8 := [26, 62, 27, 54, 4, 29, 153, 0, 18, 21, 4, 29, 112, 54, 5, 29, 54, 4, 21, 5, 62, 167, 255, 240]
abbrev dktX2_term_0 : List UInt8 := dkwX2_term_0 ++ dktX2_term_1
theorem dksX2_term_0 : cX2_term.data.toList.drop 0 = dktX2_term_0 := by decide +kernel
theorem dksX2_term_1 : cX2_term.data.toList.drop 24 = dktX2_term_1 := dk_seg dksX2_term_0 24 rfl rfl
theorem dX2_term_0 : decode cX2_term 0 = .ok (.iload_n 0, 1) := dk_26 (dk_at dksX2_term_0 0 rfl rfl)
theorem dX2_term_1 : decode cX2_term 1 = .ok (.istore_n 3, 1) := dk_62 (dk_at dksX2_term_0 1 rfl rfl)
theorem dX2_term_2 : decode cX2_term 2 = .ok (.iload_n 1, 1) := dk_27 (dk_at dksX2_term_0 2 rfl rfl)
theorem dX2_term_3 : decode cX2_term 3 = .ok (.istore 4, 2) := dk_54 4 (dk_at dksX2_term_0 3 rfl rfl)
theorem dX2_term_5 : decode cX2_term 5 = .ok (.iload_n 3, 1) := dk_29 (dk_at dksX2_term_0 5 rfl rfl)
theorem dX2_term_6 : decode cX2_term 6 = .ok (.ifCond .eq 18, 3) := dk_153 0 18 (dk_at dksX2_term_0 6 rfl rfl)
theorem dX2_term_9 : decode cX2_term 9 = .ok (.iload 4, 2) := dk_21 4 (dk_at dksX2_term_0 9 rfl rfl)
theorem dX2_term_11 : decode cX2_term 11 = .ok (.iload_n 3, 1) := dk_29 (dk_at dksX2_term_0 11 rfl rfl)
theorem dX2_term_12 : decode cX2_term 12 = .ok (.irem, 1) := dk_112 (dk_at dksX2_term_0 12 rfl rfl)
theorem dX2_term_13 : decode cX2_term 13 = .ok (.istore 5, 2) := dk_54 5 (dk_at dksX2_term_0 13 rfl rfl)
theorem dX2_term_15 : decode cX2_term 15 = .ok (.iload_n 3, 1) := dk_29 (dk_at dksX2_term_0 15 rfl rfl)
theorem dX2_term_16 : decode cX2_term 16 = .ok (.istore 4, 2) := dk_54 4 (dk_at dksX2_term_0 16 rfl rfl)
theorem dX2_term_18 : decode cX2_term 18 = .ok (.iload 5, 2) := dk_21 5 (dk_at dksX2_term_0 18 rfl rfl)
theorem dX2_term_20 : decode cX2_term 20 = .ok (.istore_n 3, 1) := dk_62 (dk_at dksX2_term_0 20 rfl rfl)
theorem dX2_term_21 : decode cX2_term 21 = .ok (.goto (-16), 3) := dk_167 255 240 (dk_at dksX2_term_0 21 rfl rfl)
theorem dX2_term_24 : decode cX2_term 24 = .ok (.iload_n 2, 1) := dk_28 (dk_at dksX2_term_1 0 rfl rfl)
theorem dX2_term_25 : decode cX2_term 25 = .ok (.ifCond .ne 10, 3) := dk_154 0 10 (dk_at dksX2_term_1 1 rfl rfl)
theorem dX2_term_28 : decode cX2_term 28 = .ok (.iload_n 0, 1) := dk_26 (dk_at dksX2_term_1 4 rfl rfl)
theorem dX2_term_29 : decode cX2_term 29 = .ok (.iload 4, 2) := dk_21 4 (dk_at dksX2_term_1 5 rfl rfl)
theorem dX2_term_31 : decode cX2_term 31 = .ok (.idiv, 1) := dk_108 (dk_at dksX2_term_1 7 rfl rfl)
theorem dX2_term_32 : decode cX2_term 32 = .ok (.goto 7, 3) := dk_167 0 7 (dk_at dksX2_term_1 8 rfl rfl)
theorem dX2_term_35 : decode cX2_term 35 = .ok (.iload_n 1, 1) := dk_27 (dk_at dksX2_term_1 11 rfl rfl)
theorem dX2_term_36 : decode cX2_term 36 = .ok (.iload 4, 2) := dk_21 4 (dk_at dksX2_term_1 12 rfl rfl)
theorem dX2_term_38 : decode cX2_term 38 = .ok (.idiv, 1) := dk_108 (dk_at dksX2_term_1 14 rfl rfl)
theorem dX2_term_39 : decode cX2_term 39 = .ok (.ireturn, 1) := dk_172 (dk_at dksX2_term_1 15 rfl rfl)
abbrev cX2_where : ByteArray := prog_11_method_38_code
def yX2_where : MethodName := ⟨RX2, "where", "(II)I"⟩
def dkwX2_where_1 : List UInt8 := [27, 28, 182, 0, 163, 167, 0, 5, 16, 154, 172]
abbrev dktX2_where_1 : List UInt8 := dkwX2_where_1 ++ []
def dkwX2_where_0 : List UInt8 := [42, 27, 182, 0, 117, 154, 0, 6, 16, 155, 172, 28, 133, 9, 20, 0, 107, 184, 0, 61, 153, 0, 12, 42]
abbrev dktX2_where_0 : List UInt8 := dkwX2_where_0 ++ dktX2_where_1
theorem dksX2_where_0 : cX2_where.data.toList.drop 0 = dktX2_where_0 := by decide +kernel
theorem dksX2_where_1 : cX2_where.data.toList.drop 24 = dktX2_where_1 := dk_seg dksX2_where_0 24 rfl rfl
theorem dX2_where_0 : decode cX2_where 0 = .ok (.aload_n 0, 1) := dk_42 (dk_at dksX2_where_0 0 rfl rfl)
theorem dX2_where_1 : decode cX2_where 1 = .ok (.iload_n 1, 1) := dk_27 (dk_at dksX2_where_0 1 rfl rfl)
theorem dX2_where_2 : decode cX2_where 2 = .ok (.invokevirtual 117, 3) := dk_182 0 117 (dk_at dksX2_where_0 2 rfl rfl)
theorem dX2_where_5 : decode cX2_where 5 = .ok (.ifCond .ne 6, 3) := dk_154 0 6 (dk_at dksX2_where_0 5 rfl rfl)
theorem dX2_where_8 : decode cX2_where 8 = .ok (.bipush (-101), 2) := dk_16 155 (dk_at dksX2_where_0 8 rfl rfl)
theorem dX2_where_10 : decode cX2_where 10 = .ok (.ireturn, 1) := dk_172 (dk_at dksX2_where_0 10 rfl rfl)
theorem dX2_where_11 : decode cX2_where 11 = .ok (.iload_n 2, 1) := dk_28 (dk_at dksX2_where_0 11 rfl rfl)
theorem dX2_where_12 : decode cX2_where 12 = .ok (.i2l, 1) := dk_133 (dk_at dksX2_where_0 12 rfl rfl)
theorem dX2_where_13 : decode cX2_where 13 = .ok (.lconst 0, 1) := dk_9 (dk_at dksX2_where_0 13 rfl rfl)
theorem dX2_where_14 : decode cX2_where 14 = .ok (.ldc2_w 107, 3) := dk_20 0 107 (dk_at dksX2_where_0 14 rfl rfl)
theorem dX2_where_17 : decode cX2_where 17 = .ok (.invokestatic 61, 3) := dk_184 0 61 (dk_at dksX2_where_0 17 rfl rfl)
theorem dX2_where_20 : decode cX2_where 20 = .ok (.ifCond .eq 12, 3) := dk_153 0 12 (dk_at dksX2_where_0 20 rfl rfl)
theorem dX2_where_23 : decode cX2_where 23 = .ok (.aload_n 0, 1) := dk_42 (dk_at dksX2_where_0 23 rfl rfl)
theorem dX2_where_24 : decode cX2_where 24 = .ok (.iload_n 1, 1) := dk_27 (dk_at dksX2_where_1 0 rfl rfl)
theorem dX2_where_25 : decode cX2_where 25 = .ok (.iload_n 2, 1) := dk_28 (dk_at dksX2_where_1 1 rfl rfl)
theorem dX2_where_26 : decode cX2_where 26 = .ok (.invokevirtual 163, 3) := dk_182 0 163 (dk_at dksX2_where_1 2 rfl rfl)
theorem dX2_where_29 : decode cX2_where 29 = .ok (.goto 5, 3) := dk_167 0 5 (dk_at dksX2_where_1 5 rfl rfl)
theorem dX2_where_32 : decode cX2_where 32 = .ok (.bipush (-102), 2) := dk_16 154 (dk_at dksX2_where_1 8 rfl rfl)
theorem dX2_where_34 : decode cX2_where 34 = .ok (.ireturn, 1) := dk_172 (dk_at dksX2_where_1 10 rfl rfl)
abbrev cX2_whereOf : ByteArray := prog_11_method_37_code
def yX2_whereOf : MethodName := ⟨RX2, "whereOf", "(II)I"⟩
def dkwX2_whereOf_4 : List UInt8 := [62, 132, 5, 1, 167, 255, 172, 21, 4, 172]
abbrev dktX2_whereOf_4 : List UInt8 := dkwX2_whereOf_4 ++ []
def dkwX2_whereOf_3 : List UInt8 := [164, 0, 8, 21, 5, 167, 0, 5, 21, 4, 54, 4, 21, 6, 29, 164, 0, 8, 21, 6, 167, 0, 4, 29]
abbrev dktX2_whereOf_3 : List UInt8 := dkwX2_whereOf_3 ++ dktX2_whereOf_4
def dkwX2_whereOf_2 : List UInt8 := [182, 0, 153, 54, 6, 42, 180, 0, 19, 27, 92, 46, 4, 21, 5, 120, 2, 130, 126, 79, 21, 6, 29]
abbrev dktX2_whereOf_2 : List UInt8 := dkwX2_whereOf_2 ++ dktX2_whereOf_3
def dkwX2_whereOf_1 : List UInt8 := [182, 0, 126, 153, 0, 67, 42, 180, 0, 19, 27, 92, 46, 4, 21, 5, 120, 128, 79, 42, 27, 28]
abbrev dktX2_whereOf_1 : List UInt8 := dkwX2_whereOf_1 ++ dktX2_whereOf_2
def dkwX2_whereOf_0 : List UInt8 := [42, 27, 28, 182, 0, 153, 62, 2, 54, 4, 3, 54, 5, 21, 5, 16, 6, 162, 0, 83, 42, 27, 21, 5]
abbrev dktX2_whereOf_0 : List UInt8 := dkwX2_whereOf_0 ++ dktX2_whereOf_1
theorem dksX2_whereOf_0 : cX2_whereOf.data.toList.drop 0 = dktX2_whereOf_0 := by decide +kernel
theorem dksX2_whereOf_1 : cX2_whereOf.data.toList.drop 24 = dktX2_whereOf_1 := dk_seg dksX2_whereOf_0 24 rfl rfl
theorem dksX2_whereOf_2 : cX2_whereOf.data.toList.drop 46 = dktX2_whereOf_2 := dk_seg dksX2_whereOf_1 22 rfl rfl
theorem dksX2_whereOf_3 : cX2_whereOf.data.toList.drop 69 = dktX2_whereOf_3 := dk_seg dksX2_whereOf_2 23 rfl rfl
theorem dksX2_whereOf_4 : cX2_whereOf.data.toList.drop 93 = dktX2_whereOf_4 := dk_seg dksX2_whereOf_3 24 rfl rfl
theorem dX2_whereOf_0 : decode cX2_whereOf 0 = .ok (.aload_n 0, 1) := dk_42 (dk_at dksX2_whereOf_0 0 rfl rfl)
theorem dX2_whereOf_1 : decode cX2_whereOf 1 = .ok (.iload_n 1, 1) := dk_27 (dk_at dksX2_whereOf_0 1 rfl rfl)
theorem dX2_whereOf_2 : decode cX2_whereOf 2 = .ok (.iload_n 2, 1) := dk_28 (dk_at dksX2_whereOf_0 2 rfl rfl)
theorem dX2_whereOf_3 : decode cX2_whereOf 3 = .ok (.invokevirtual 153, 3) := dk_182 0 153 (dk_at dksX2_whereOf_0 3 rfl rfl)
theorem dX2_whereOf_6 : decode cX2_whereOf 6 = .ok (.istore_n 3, 1) := dk_62 (dk_at dksX2_whereOf_0 6 rfl rfl)
theorem dX2_whereOf_7 : decode cX2_whereOf 7 = .ok (.iconst (-1), 1) := dk_2 (dk_at dksX2_whereOf_0 7 rfl rfl)
theorem dX2_whereOf_8 : decode cX2_whereOf 8 = .ok (.istore 4, 2) := dk_54 4 (dk_at dksX2_whereOf_0 8 rfl rfl)
theorem dX2_whereOf_10 : decode cX2_whereOf 10 = .ok (.iconst 0, 1) := dk_3 (dk_at dksX2_whereOf_0 10 rfl rfl)
theorem dX2_whereOf_11 : decode cX2_whereOf 11 = .ok (.istore 5, 2) := dk_54 5 (dk_at dksX2_whereOf_0 11 rfl rfl)
theorem dX2_whereOf_13 : decode cX2_whereOf 13 = .ok (.iload 5, 2) := dk_21 5 (dk_at dksX2_whereOf_0 13 rfl rfl)
theorem dX2_whereOf_15 : decode cX2_whereOf 15 = .ok (.bipush 6, 2) := dk_16 6 (dk_at dksX2_whereOf_0 15 rfl rfl)
theorem dX2_whereOf_17 : decode cX2_whereOf 17 = .ok (.if_icmp .ge 83, 3) := dk_162 0 83 (dk_at dksX2_whereOf_0 17 rfl rfl)
theorem dX2_whereOf_20 : decode cX2_whereOf 20 = .ok (.aload_n 0, 1) := dk_42 (dk_at dksX2_whereOf_0 20 rfl rfl)
theorem dX2_whereOf_21 : decode cX2_whereOf 21 = .ok (.iload_n 1, 1) := dk_27 (dk_at dksX2_whereOf_0 21 rfl rfl)
theorem dX2_whereOf_22 : decode cX2_whereOf 22 = .ok (.iload 5, 2) := dk_21 5 (dk_at dksX2_whereOf_0 22 rfl rfl)
theorem dX2_whereOf_24 : decode cX2_whereOf 24 = .ok (.invokevirtual 126, 3) := dk_182 0 126 (dk_at dksX2_whereOf_1 0 rfl rfl)
theorem dX2_whereOf_27 : decode cX2_whereOf 27 = .ok (.ifCond .eq 67, 3) := dk_153 0 67 (dk_at dksX2_whereOf_1 3 rfl rfl)
theorem dX2_whereOf_30 : decode cX2_whereOf 30 = .ok (.aload_n 0, 1) := dk_42 (dk_at dksX2_whereOf_1 6 rfl rfl)
theorem dX2_whereOf_31 : decode cX2_whereOf 31 = .ok (.getfield 19, 3) := dk_180 0 19 (dk_at dksX2_whereOf_1 7 rfl rfl)
theorem dX2_whereOf_34 : decode cX2_whereOf 34 = .ok (.iload_n 1, 1) := dk_27 (dk_at dksX2_whereOf_1 10 rfl rfl)
theorem dX2_whereOf_35 : decode cX2_whereOf 35 = .ok (.dup2, 1) := dk_92 (dk_at dksX2_whereOf_1 11 rfl rfl)
theorem dX2_whereOf_36 : decode cX2_whereOf 36 = .ok (.iaload, 1) := dk_46 (dk_at dksX2_whereOf_1 12 rfl rfl)
theorem dX2_whereOf_37 : decode cX2_whereOf 37 = .ok (.iconst 1, 1) := dk_4 (dk_at dksX2_whereOf_1 13 rfl rfl)
theorem dX2_whereOf_38 : decode cX2_whereOf 38 = .ok (.iload 5, 2) := dk_21 5 (dk_at dksX2_whereOf_1 14 rfl rfl)
theorem dX2_whereOf_40 : decode cX2_whereOf 40 = .ok (.ishl, 1) := dk_120 (dk_at dksX2_whereOf_1 16 rfl rfl)
theorem dX2_whereOf_41 : decode cX2_whereOf 41 = .ok (.ior, 1) := dk_128 (dk_at dksX2_whereOf_1 17 rfl rfl)
theorem dX2_whereOf_42 : decode cX2_whereOf 42 = .ok (.iastore, 1) := dk_79 (dk_at dksX2_whereOf_1 18 rfl rfl)
theorem dX2_whereOf_43 : decode cX2_whereOf 43 = .ok (.aload_n 0, 1) := dk_42 (dk_at dksX2_whereOf_1 19 rfl rfl)
theorem dX2_whereOf_44 : decode cX2_whereOf 44 = .ok (.iload_n 1, 1) := dk_27 (dk_at dksX2_whereOf_1 20 rfl rfl)
theorem dX2_whereOf_45 : decode cX2_whereOf 45 = .ok (.iload_n 2, 1) := dk_28 (dk_at dksX2_whereOf_1 21 rfl rfl)
theorem dX2_whereOf_46 : decode cX2_whereOf 46 = .ok (.invokevirtual 153, 3) := dk_182 0 153 (dk_at dksX2_whereOf_2 0 rfl rfl)
theorem dX2_whereOf_49 : decode cX2_whereOf 49 = .ok (.istore 6, 2) := dk_54 6 (dk_at dksX2_whereOf_2 3 rfl rfl)
theorem dX2_whereOf_51 : decode cX2_whereOf 51 = .ok (.aload_n 0, 1) := dk_42 (dk_at dksX2_whereOf_2 5 rfl rfl)
theorem dX2_whereOf_52 : decode cX2_whereOf 52 = .ok (.getfield 19, 3) := dk_180 0 19 (dk_at dksX2_whereOf_2 6 rfl rfl)
theorem dX2_whereOf_55 : decode cX2_whereOf 55 = .ok (.iload_n 1, 1) := dk_27 (dk_at dksX2_whereOf_2 9 rfl rfl)
theorem dX2_whereOf_56 : decode cX2_whereOf 56 = .ok (.dup2, 1) := dk_92 (dk_at dksX2_whereOf_2 10 rfl rfl)
theorem dX2_whereOf_57 : decode cX2_whereOf 57 = .ok (.iaload, 1) := dk_46 (dk_at dksX2_whereOf_2 11 rfl rfl)
theorem dX2_whereOf_58 : decode cX2_whereOf 58 = .ok (.iconst 1, 1) := dk_4 (dk_at dksX2_whereOf_2 12 rfl rfl)
theorem dX2_whereOf_59 : decode cX2_whereOf 59 = .ok (.iload 5, 2) := dk_21 5 (dk_at dksX2_whereOf_2 13 rfl rfl)
theorem dX2_whereOf_61 : decode cX2_whereOf 61 = .ok (.ishl, 1) := dk_120 (dk_at dksX2_whereOf_2 15 rfl rfl)
theorem dX2_whereOf_62 : decode cX2_whereOf 62 = .ok (.iconst (-1), 1) := dk_2 (dk_at dksX2_whereOf_2 16 rfl rfl)
theorem dX2_whereOf_63 : decode cX2_whereOf 63 = .ok (.ixor, 1) := dk_130 (dk_at dksX2_whereOf_2 17 rfl rfl)
theorem dX2_whereOf_64 : decode cX2_whereOf 64 = .ok (.iand, 1) := dk_126 (dk_at dksX2_whereOf_2 18 rfl rfl)
theorem dX2_whereOf_65 : decode cX2_whereOf 65 = .ok (.iastore, 1) := dk_79 (dk_at dksX2_whereOf_2 19 rfl rfl)
theorem dX2_whereOf_66 : decode cX2_whereOf 66 = .ok (.iload 6, 2) := dk_21 6 (dk_at dksX2_whereOf_2 20 rfl rfl)
theorem dX2_whereOf_68 : decode cX2_whereOf 68 = .ok (.iload_n 3, 1) := dk_29 (dk_at dksX2_whereOf_2 22 rfl rfl)
theorem dX2_whereOf_69 : decode cX2_whereOf 69 = .ok (.if_icmp .le 8, 3) := dk_164 0 8 (dk_at dksX2_whereOf_3 0 rfl rfl)
theorem dX2_whereOf_72 : decode cX2_whereOf 72 = .ok (.iload 5, 2) := dk_21 5 (dk_at dksX2_whereOf_3 3 rfl rfl)
theorem dX2_whereOf_74 : decode cX2_whereOf 74 = .ok (.goto 5, 3) := dk_167 0 5 (dk_at dksX2_whereOf_3 5 rfl rfl)
theorem dX2_whereOf_77 : decode cX2_whereOf 77 = .ok (.iload 4, 2) := dk_21 4 (dk_at dksX2_whereOf_3 8 rfl rfl)
theorem dX2_whereOf_79 : decode cX2_whereOf 79 = .ok (.istore 4, 2) := dk_54 4 (dk_at dksX2_whereOf_3 10 rfl rfl)
theorem dX2_whereOf_81 : decode cX2_whereOf 81 = .ok (.iload 6, 2) := dk_21 6 (dk_at dksX2_whereOf_3 12 rfl rfl)
theorem dX2_whereOf_83 : decode cX2_whereOf 83 = .ok (.iload_n 3, 1) := dk_29 (dk_at dksX2_whereOf_3 14 rfl rfl)
theorem dX2_whereOf_84 : decode cX2_whereOf 84 = .ok (.if_icmp .le 8, 3) := dk_164 0 8 (dk_at dksX2_whereOf_3 15 rfl rfl)
theorem dX2_whereOf_87 : decode cX2_whereOf 87 = .ok (.iload 6, 2) := dk_21 6 (dk_at dksX2_whereOf_3 18 rfl rfl)
theorem dX2_whereOf_89 : decode cX2_whereOf 89 = .ok (.goto 4, 3) := dk_167 0 4 (dk_at dksX2_whereOf_3 20 rfl rfl)
theorem dX2_whereOf_92 : decode cX2_whereOf 92 = .ok (.iload_n 3, 1) := dk_29 (dk_at dksX2_whereOf_3 23 rfl rfl)
theorem dX2_whereOf_93 : decode cX2_whereOf 93 = .ok (.istore_n 3, 1) := dk_62 (dk_at dksX2_whereOf_4 0 rfl rfl)
theorem dX2_whereOf_94 : decode cX2_whereOf 94 = .ok (.iinc 5 1, 3) := dk_132 5 1 (dk_at dksX2_whereOf_4 1 rfl rfl)
theorem dX2_whereOf_97 : decode cX2_whereOf 97 = .ok (.goto (-84), 3) := dk_167 255 172 (dk_at dksX2_whereOf_4 4 rfl rfl)
theorem dX2_whereOf_100 : decode cX2_whereOf 100 = .ok (.iload 4, 2) := dk_21 4 (dk_at dksX2_whereOf_4 7 rfl rfl)
theorem dX2_whereOf_102 : decode cX2_whereOf 102 = .ok (.ireturn, 1) := dk_172 (dk_at dksX2_whereOf_4 9 rfl rfl)
abbrev cX2_sure : ByteArray := prog_11_method_40_code
def yX2_sure : MethodName := ⟨RX2, "sure", "(III)I"⟩
def dkwX2_sure_6 : List UInt8 := [132, 4, 1, 167, 255, 181, 2, 172]
abbrev dktX2_sure_6 : List UInt8 := dkwX2_sure_6 ++ []
def dkwX2_sure_5 : List UInt8 := [182, 0, 169, 153, 0, 15, 29, 154, 0, 8, 21, 4, 167, 0, 5, 21, 5, 172, 132, 5, 1, 167, 255, 204]
abbrev dktX2_sure_5 : List UInt8 := dkwX2_sure_5 ++ dktX2_sure_6
def dkwX2_sure_4 : List UInt8 := [21, 5, 184, 0, 123, 21, 4, 160, 0, 35, 42, 21, 5, 27, 7, 160, 0, 7, 4, 167, 0, 4, 3, 28]
abbrev dktX2_sure_4 : List UInt8 := dkwX2_sure_4 ++ dktX2_sure_5
def dkwX2_sure_3 : List UInt8 := [21, 4, 27, 154, 0, 7, 5, 167, 0, 4, 6, 163, 0, 67, 4, 54, 5, 21, 5, 16, 64, 162, 0, 51]
abbrev dktX2_sure_3 : List UInt8 := dkwX2_sure_3 ++ dktX2_sure_4
def dkwX2_sure_2 : List UInt8 := [180, 0, 166, 16, 30, 160, 0, 6, 16, 153, 172, 42, 89, 180, 0, 166, 4, 96, 181, 0, 166, 4, 54, 4]
abbrev dktX2_sure_2 : List UInt8 := dkwX2_sure_2 ++ dktX2_sure_3
def dkwX2_sure_1 : List UInt8 := [153, 0, 13, 29, 133, 9, 10, 184, 0, 61, 154, 0, 6, 16, 154, 172, 42, 182, 0, 109, 154, 0, 12, 42]
abbrev dktX2_sure_1 : List UInt8 := dkwX2_sure_1 ++ dktX2_sure_2
def dkwX2_sure_0 : List UInt8 := [27, 153, 0, 13, 27, 6, 159, 0, 8, 27, 7, 160, 0, 25, 28, 133, 9, 20, 0, 107, 184, 0, 61]
abbrev dktX2_sure_0 : List UInt8 := dkwX2_sure_0 ++ dktX2_sure_1
theorem dksX2_sure_0 : cX2_sure.data.toList.drop 0 = dktX2_sure_0 := by decide +kernel
theorem dksX2_sure_1 : cX2_sure.data.toList.drop 23 = dktX2_sure_1 := dk_seg dksX2_sure_0 23 rfl rfl
theorem dksX2_sure_2 : cX2_sure.data.toList.drop 47 = dktX2_sure_2 := dk_seg dksX2_sure_1 24 rfl rfl
theorem dksX2_sure_3 : cX2_sure.data.toList.drop 71 = dktX2_sure_3 := dk_seg dksX2_sure_2 24 rfl rfl
theorem dksX2_sure_4 : cX2_sure.data.toList.drop 95 = dktX2_sure_4 := dk_seg dksX2_sure_3 24 rfl rfl
theorem dksX2_sure_5 : cX2_sure.data.toList.drop 119 = dktX2_sure_5 := dk_seg dksX2_sure_4 24 rfl rfl
theorem dksX2_sure_6 : cX2_sure.data.toList.drop 143 = dktX2_sure_6 := dk_seg dksX2_sure_5 24 rfl rfl
theorem dX2_sure_0 : decode cX2_sure 0 = .ok (.iload_n 1, 1) := dk_27 (dk_at dksX2_sure_0 0 rfl rfl)
theorem dX2_sure_1 : decode cX2_sure 1 = .ok (.ifCond .eq 13, 3) := dk_153 0 13 (dk_at dksX2_sure_0 1 rfl rfl)
theorem dX2_sure_4 : decode cX2_sure 4 = .ok (.iload_n 1, 1) := dk_27 (dk_at dksX2_sure_0 4 rfl rfl)
theorem dX2_sure_5 : decode cX2_sure 5 = .ok (.iconst 3, 1) := dk_6 (dk_at dksX2_sure_0 5 rfl rfl)
theorem dX2_sure_6 : decode cX2_sure 6 = .ok (.if_icmp .eq 8, 3) := dk_159 0 8 (dk_at dksX2_sure_0 6 rfl rfl)
theorem dX2_sure_9 : decode cX2_sure 9 = .ok (.iload_n 1, 1) := dk_27 (dk_at dksX2_sure_0 9 rfl rfl)
theorem dX2_sure_10 : decode cX2_sure 10 = .ok (.iconst 4, 1) := dk_7 (dk_at dksX2_sure_0 10 rfl rfl)
theorem dX2_sure_11 : decode cX2_sure 11 = .ok (.if_icmp .ne 25, 3) := dk_160 0 25 (dk_at dksX2_sure_0 11 rfl rfl)
theorem dX2_sure_14 : decode cX2_sure 14 = .ok (.iload_n 2, 1) := dk_28 (dk_at dksX2_sure_0 14 rfl rfl)
theorem dX2_sure_15 : decode cX2_sure 15 = .ok (.i2l, 1) := dk_133 (dk_at dksX2_sure_0 15 rfl rfl)
theorem dX2_sure_16 : decode cX2_sure 16 = .ok (.lconst 0, 1) := dk_9 (dk_at dksX2_sure_0 16 rfl rfl)
theorem dX2_sure_17 : decode cX2_sure 17 = .ok (.ldc2_w 107, 3) := dk_20 0 107 (dk_at dksX2_sure_0 17 rfl rfl)
theorem dX2_sure_20 : decode cX2_sure 20 = .ok (.invokestatic 61, 3) := dk_184 0 61 (dk_at dksX2_sure_0 20 rfl rfl)
theorem dX2_sure_23 : decode cX2_sure 23 = .ok (.ifCond .eq 13, 3) := dk_153 0 13 (dk_at dksX2_sure_1 0 rfl rfl)
theorem dX2_sure_26 : decode cX2_sure 26 = .ok (.iload_n 3, 1) := dk_29 (dk_at dksX2_sure_1 3 rfl rfl)
theorem dX2_sure_27 : decode cX2_sure 27 = .ok (.i2l, 1) := dk_133 (dk_at dksX2_sure_1 4 rfl rfl)
theorem dX2_sure_28 : decode cX2_sure 28 = .ok (.lconst 0, 1) := dk_9 (dk_at dksX2_sure_1 5 rfl rfl)
theorem dX2_sure_29 : decode cX2_sure 29 = .ok (.lconst 1, 1) := dk_10 (dk_at dksX2_sure_1 6 rfl rfl)
theorem dX2_sure_30 : decode cX2_sure 30 = .ok (.invokestatic 61, 3) := dk_184 0 61 (dk_at dksX2_sure_1 7 rfl rfl)
theorem dX2_sure_33 : decode cX2_sure 33 = .ok (.ifCond .ne 6, 3) := dk_154 0 6 (dk_at dksX2_sure_1 10 rfl rfl)
theorem dX2_sure_36 : decode cX2_sure 36 = .ok (.bipush (-102), 2) := dk_16 154 (dk_at dksX2_sure_1 13 rfl rfl)
theorem dX2_sure_38 : decode cX2_sure 38 = .ok (.ireturn, 1) := dk_172 (dk_at dksX2_sure_1 15 rfl rfl)
theorem dX2_sure_39 : decode cX2_sure 39 = .ok (.aload_n 0, 1) := dk_42 (dk_at dksX2_sure_1 16 rfl rfl)
theorem dX2_sure_40 : decode cX2_sure 40 = .ok (.invokevirtual 109, 3) := dk_182 0 109 (dk_at dksX2_sure_1 17 rfl rfl)
theorem dX2_sure_43 : decode cX2_sure 43 = .ok (.ifCond .ne 12, 3) := dk_154 0 12 (dk_at dksX2_sure_1 20 rfl rfl)
theorem dX2_sure_46 : decode cX2_sure 46 = .ok (.aload_n 0, 1) := dk_42 (dk_at dksX2_sure_1 23 rfl rfl)
theorem dX2_sure_47 : decode cX2_sure 47 = .ok (.getfield 166, 3) := dk_180 0 166 (dk_at dksX2_sure_2 0 rfl rfl)
theorem dX2_sure_50 : decode cX2_sure 50 = .ok (.bipush 30, 2) := dk_16 30 (dk_at dksX2_sure_2 3 rfl rfl)
theorem dX2_sure_52 : decode cX2_sure 52 = .ok (.if_icmp .ne 6, 3) := dk_160 0 6 (dk_at dksX2_sure_2 5 rfl rfl)
theorem dX2_sure_55 : decode cX2_sure 55 = .ok (.bipush (-103), 2) := dk_16 153 (dk_at dksX2_sure_2 8 rfl rfl)
theorem dX2_sure_57 : decode cX2_sure 57 = .ok (.ireturn, 1) := dk_172 (dk_at dksX2_sure_2 10 rfl rfl)
theorem dX2_sure_58 : decode cX2_sure 58 = .ok (.aload_n 0, 1) := dk_42 (dk_at dksX2_sure_2 11 rfl rfl)
theorem dX2_sure_59 : decode cX2_sure 59 = .ok (.dup, 1) := dk_89 (dk_at dksX2_sure_2 12 rfl rfl)
theorem dX2_sure_60 : decode cX2_sure 60 = .ok (.getfield 166, 3) := dk_180 0 166 (dk_at dksX2_sure_2 13 rfl rfl)
theorem dX2_sure_63 : decode cX2_sure 63 = .ok (.iconst 1, 1) := dk_4 (dk_at dksX2_sure_2 16 rfl rfl)
theorem dX2_sure_64 : decode cX2_sure 64 = .ok (.iadd, 1) := dk_96 (dk_at dksX2_sure_2 17 rfl rfl)
theorem dX2_sure_65 : decode cX2_sure 65 = .ok (.putfield 166, 3) := dk_181 0 166 (dk_at dksX2_sure_2 18 rfl rfl)
theorem dX2_sure_68 : decode cX2_sure 68 = .ok (.iconst 1, 1) := dk_4 (dk_at dksX2_sure_2 21 rfl rfl)
theorem dX2_sure_69 : decode cX2_sure 69 = .ok (.istore 4, 2) := dk_54 4 (dk_at dksX2_sure_2 22 rfl rfl)
theorem dX2_sure_71 : decode cX2_sure 71 = .ok (.iload 4, 2) := dk_21 4 (dk_at dksX2_sure_3 0 rfl rfl)
theorem dX2_sure_73 : decode cX2_sure 73 = .ok (.iload_n 1, 1) := dk_27 (dk_at dksX2_sure_3 2 rfl rfl)
theorem dX2_sure_74 : decode cX2_sure 74 = .ok (.ifCond .ne 7, 3) := dk_154 0 7 (dk_at dksX2_sure_3 3 rfl rfl)
theorem dX2_sure_77 : decode cX2_sure 77 = .ok (.iconst 2, 1) := dk_5 (dk_at dksX2_sure_3 6 rfl rfl)
theorem dX2_sure_78 : decode cX2_sure 78 = .ok (.goto 4, 3) := dk_167 0 4 (dk_at dksX2_sure_3 7 rfl rfl)
theorem dX2_sure_81 : decode cX2_sure 81 = .ok (.iconst 3, 1) := dk_6 (dk_at dksX2_sure_3 10 rfl rfl)
theorem dX2_sure_82 : decode cX2_sure 82 = .ok (.if_icmp .gt 67, 3) := dk_163 0 67 (dk_at dksX2_sure_3 11 rfl rfl)
theorem dX2_sure_85 : decode cX2_sure 85 = .ok (.iconst 1, 1) := dk_4 (dk_at dksX2_sure_3 14 rfl rfl)
theorem dX2_sure_86 : decode cX2_sure 86 = .ok (.istore 5, 2) := dk_54 5 (dk_at dksX2_sure_3 15 rfl rfl)
theorem dX2_sure_88 : decode cX2_sure 88 = .ok (.iload 5, 2) := dk_21 5 (dk_at dksX2_sure_3 17 rfl rfl)
theorem dX2_sure_90 : decode cX2_sure 90 = .ok (.bipush 64, 2) := dk_16 64 (dk_at dksX2_sure_3 19 rfl rfl)
theorem dX2_sure_92 : decode cX2_sure 92 = .ok (.if_icmp .ge 51, 3) := dk_162 0 51 (dk_at dksX2_sure_3 21 rfl rfl)
theorem dX2_sure_95 : decode cX2_sure 95 = .ok (.iload 5, 2) := dk_21 5 (dk_at dksX2_sure_4 0 rfl rfl)
theorem dX2_sure_97 : decode cX2_sure 97 = .ok (.invokestatic 123, 3) := dk_184 0 123 (dk_at dksX2_sure_4 2 rfl rfl)
theorem dX2_sure_100 : decode cX2_sure 100 = .ok (.iload 4, 2) := dk_21 4 (dk_at dksX2_sure_4 5 rfl rfl)
theorem dX2_sure_102 : decode cX2_sure 102 = .ok (.if_icmp .ne 35, 3) := dk_160 0 35 (dk_at dksX2_sure_4 7 rfl rfl)
theorem dX2_sure_105 : decode cX2_sure 105 = .ok (.aload_n 0, 1) := dk_42 (dk_at dksX2_sure_4 10 rfl rfl)
theorem dX2_sure_106 : decode cX2_sure 106 = .ok (.iload 5, 2) := dk_21 5 (dk_at dksX2_sure_4 11 rfl rfl)
theorem dX2_sure_108 : decode cX2_sure 108 = .ok (.iload_n 1, 1) := dk_27 (dk_at dksX2_sure_4 13 rfl rfl)
theorem dX2_sure_109 : decode cX2_sure 109 = .ok (.iconst 4, 1) := dk_7 (dk_at dksX2_sure_4 14 rfl rfl)
theorem dX2_sure_110 : decode cX2_sure 110 = .ok (.if_icmp .ne 7, 3) := dk_160 0 7 (dk_at dksX2_sure_4 15 rfl rfl)
theorem dX2_sure_113 : decode cX2_sure 113 = .ok (.iconst 1, 1) := dk_4 (dk_at dksX2_sure_4 18 rfl rfl)
theorem dX2_sure_114 : decode cX2_sure 114 = .ok (.goto 4, 3) := dk_167 0 4 (dk_at dksX2_sure_4 19 rfl rfl)
theorem dX2_sure_117 : decode cX2_sure 117 = .ok (.iconst 0, 1) := dk_3 (dk_at dksX2_sure_4 22 rfl rfl)
theorem dX2_sure_118 : decode cX2_sure 118 = .ok (.iload_n 2, 1) := dk_28 (dk_at dksX2_sure_4 23 rfl rfl)
theorem dX2_sure_119 : decode cX2_sure 119 = .ok (.invokevirtual 169, 3) := dk_182 0 169 (dk_at dksX2_sure_5 0 rfl rfl)
theorem dX2_sure_122 : decode cX2_sure 122 = .ok (.ifCond .eq 15, 3) := dk_153 0 15 (dk_at dksX2_sure_5 3 rfl rfl)
theorem dX2_sure_125 : decode cX2_sure 125 = .ok (.iload_n 3, 1) := dk_29 (dk_at dksX2_sure_5 6 rfl rfl)
theorem dX2_sure_126 : decode cX2_sure 126 = .ok (.ifCond .ne 8, 3) := dk_154 0 8 (dk_at dksX2_sure_5 7 rfl rfl)
theorem dX2_sure_129 : decode cX2_sure 129 = .ok (.iload 4, 2) := dk_21 4 (dk_at dksX2_sure_5 10 rfl rfl)
theorem dX2_sure_131 : decode cX2_sure 131 = .ok (.goto 5, 3) := dk_167 0 5 (dk_at dksX2_sure_5 12 rfl rfl)
theorem dX2_sure_134 : decode cX2_sure 134 = .ok (.iload 5, 2) := dk_21 5 (dk_at dksX2_sure_5 15 rfl rfl)
theorem dX2_sure_136 : decode cX2_sure 136 = .ok (.ireturn, 1) := dk_172 (dk_at dksX2_sure_5 17 rfl rfl)
theorem dX2_sure_137 : decode cX2_sure 137 = .ok (.iinc 5 1, 3) := dk_132 5 1 (dk_at dksX2_sure_5 18 rfl rfl)
theorem dX2_sure_140 : decode cX2_sure 140 = .ok (.goto (-52), 3) := dk_167 255 204 (dk_at dksX2_sure_5 21 rfl rfl)
theorem dX2_sure_143 : decode cX2_sure 143 = .ok (.iinc 4 1, 3) := dk_132 4 1 (dk_at dksX2_sure_6 0 rfl rfl)
theorem dX2_sure_146 : decode cX2_sure 146 = .ok (.goto (-75), 3) := dk_167 255 181 (dk_at dksX2_sure_6 3 rfl rfl)
theorem dX2_sure_149 : decode cX2_sure 149 = .ok (.iconst (-1), 1) := dk_2 (dk_at dksX2_sure_6 6 rfl rfl)
theorem dX2_sure_150 : decode cX2_sure 150 = .ok (.ireturn, 1) := dk_172 (dk_at dksX2_sure_6 7 rfl rfl)
abbrev cX2_isSure : ByteArray := prog_11_method_39_code
def yX2_isSure : MethodName := ⟨RX2, "isSure", "(IZI)Z"⟩
def dkwX2_isSure_7 : List UInt8 := [54, 4, 132, 5, 1, 167, 255, 92, 21, 4, 172]
abbrev dktX2_isSure_7 : List UInt8 := dkwX2_isSure_7 ++ []
def dkwX2_isSure_6 : List UInt8 := [54, 7, 132, 9, 1, 167, 255, 144, 21, 8, 153, 0, 8, 21, 7, 153, 0, 7, 4, 167, 0, 4, 3]
abbrev dktX2_isSure_6 : List UInt8 := dkwX2_isSure_6 ++ dktX2_isSure_7
def dkwX2_isSure_5 : List UInt8 := [153, 0, 21, 28, 153, 0, 17, 4, 21, 10, 4, 96, 16, 6, 112, 120, 2, 130, 167, 0, 4, 2, 126]
abbrev dktX2_isSure_5 : List UInt8 := dkwX2_isSure_5 ++ dktX2_isSure_6
def dkwX2_isSure_4 : List UInt8 := [21, 7, 21, 11, 153, 0, 12, 4, 21, 10, 120, 2, 130, 167, 0, 4, 2, 126, 54, 7, 21, 7, 21, 11]
abbrev dktX2_isSure_4 : List UInt8 := dkwX2_isSure_4 ++ dktX2_isSure_5
def dkwX2_isSure_3 : List UInt8 := [167, 0, 4, 3, 54, 8, 21, 7, 21, 10, 122, 4, 126, 4, 160, 0, 7, 4, 167, 0, 4, 3, 54, 11]
abbrev dktX2_isSure_3 : List UInt8 := dkwX2_isSure_3 ++ dktX2_isSure_4
def dkwX2_isSure_2 : List UInt8 := [21, 6, 16, 6, 108, 54, 6, 21, 8, 153, 0, 17, 42, 180, 0, 13, 21, 10, 46, 158, 0, 7, 4]
abbrev dktX2_isSure_2 : List UInt8 := dkwX2_isSure_2 ++ dktX2_isSure_3
def dkwX2_isSure_1 : List UInt8 := [54, 6, 27, 54, 7, 4, 54, 8, 3, 54, 9, 21, 9, 29, 162, 0, 112, 21, 6, 16, 6, 112, 54, 10]
abbrev dktX2_isSure_1 : List UInt8 := dkwX2_isSure_1 ++ dktX2_isSure_2
def dkwX2_isSure_0 : List UInt8 := [4, 54, 4, 3, 54, 5, 21, 5, 16, 6, 29, 184, 0, 150, 162, 0, 159, 21, 4, 153, 0, 154, 21, 5]
abbrev dktX2_isSure_0 : List UInt8 := dkwX2_isSure_0 ++ dktX2_isSure_1
theorem dksX2_isSure_0 : cX2_isSure.data.toList.drop 0 = dktX2_isSure_0 := by decide +kernel
theorem dksX2_isSure_1 : cX2_isSure.data.toList.drop 24 = dktX2_isSure_1 := dk_seg dksX2_isSure_0 24 rfl rfl
theorem dksX2_isSure_2 : cX2_isSure.data.toList.drop 48 = dktX2_isSure_2 := dk_seg dksX2_isSure_1 24 rfl rfl
theorem dksX2_isSure_3 : cX2_isSure.data.toList.drop 71 = dktX2_isSure_3 := dk_seg dksX2_isSure_2 23 rfl rfl
theorem dksX2_isSure_4 : cX2_isSure.data.toList.drop 95 = dktX2_isSure_4 := dk_seg dksX2_isSure_3 24 rfl rfl
theorem dksX2_isSure_5 : cX2_isSure.data.toList.drop 119 = dktX2_isSure_5 := dk_seg dksX2_isSure_4 24 rfl rfl
theorem dksX2_isSure_6 : cX2_isSure.data.toList.drop 142 = dktX2_isSure_6 := dk_seg dksX2_isSure_5 23 rfl rfl
theorem dksX2_isSure_7 : cX2_isSure.data.toList.drop 165 = dktX2_isSure_7 := dk_seg dksX2_isSure_6 23 rfl rfl
theorem dX2_isSure_0 : decode cX2_isSure 0 = .ok (.iconst 1, 1) := dk_4 (dk_at dksX2_isSure_0 0 rfl rfl)
theorem dX2_isSure_1 : decode cX2_isSure 1 = .ok (.istore 4, 2) := dk_54 4 (dk_at dksX2_isSure_0 1 rfl rfl)
theorem dX2_isSure_3 : decode cX2_isSure 3 = .ok (.iconst 0, 1) := dk_3 (dk_at dksX2_isSure_0 3 rfl rfl)
theorem dX2_isSure_4 : decode cX2_isSure 4 = .ok (.istore 5, 2) := dk_54 5 (dk_at dksX2_isSure_0 4 rfl rfl)
theorem dX2_isSure_6 : decode cX2_isSure 6 = .ok (.iload 5, 2) := dk_21 5 (dk_at dksX2_isSure_0 6 rfl rfl)
theorem dX2_isSure_8 : decode cX2_isSure 8 = .ok (.bipush 6, 2) := dk_16 6 (dk_at dksX2_isSure_0 8 rfl rfl)
theorem dX2_isSure_10 : decode cX2_isSure 10 = .ok (.iload_n 3, 1) := dk_29 (dk_at dksX2_isSure_0 10 rfl rfl)
theorem dX2_isSure_11 : decode cX2_isSure 11 = .ok (.invokestatic 150, 3) := dk_184 0 150 (dk_at dksX2_isSure_0 11 rfl rfl)
theorem dX2_isSure_14 : decode cX2_isSure 14 = .ok (.if_icmp .ge 159, 3) := dk_162 0 159 (dk_at dksX2_isSure_0 14 rfl rfl)
theorem dX2_isSure_17 : decode cX2_isSure 17 = .ok (.iload 4, 2) := dk_21 4 (dk_at dksX2_isSure_0 17 rfl rfl)
theorem dX2_isSure_19 : decode cX2_isSure 19 = .ok (.ifCond .eq 154, 3) := dk_153 0 154 (dk_at dksX2_isSure_0 19 rfl rfl)
theorem dX2_isSure_22 : decode cX2_isSure 22 = .ok (.iload 5, 2) := dk_21 5 (dk_at dksX2_isSure_0 22 rfl rfl)
theorem dX2_isSure_24 : decode cX2_isSure 24 = .ok (.istore 6, 2) := dk_54 6 (dk_at dksX2_isSure_1 0 rfl rfl)
theorem dX2_isSure_26 : decode cX2_isSure 26 = .ok (.iload_n 1, 1) := dk_27 (dk_at dksX2_isSure_1 2 rfl rfl)
theorem dX2_isSure_27 : decode cX2_isSure 27 = .ok (.istore 7, 2) := dk_54 7 (dk_at dksX2_isSure_1 3 rfl rfl)
theorem dX2_isSure_29 : decode cX2_isSure 29 = .ok (.iconst 1, 1) := dk_4 (dk_at dksX2_isSure_1 5 rfl rfl)
theorem dX2_isSure_30 : decode cX2_isSure 30 = .ok (.istore 8, 2) := dk_54 8 (dk_at dksX2_isSure_1 6 rfl rfl)
theorem dX2_isSure_32 : decode cX2_isSure 32 = .ok (.iconst 0, 1) := dk_3 (dk_at dksX2_isSure_1 8 rfl rfl)
theorem dX2_isSure_33 : decode cX2_isSure 33 = .ok (.istore 9, 2) := dk_54 9 (dk_at dksX2_isSure_1 9 rfl rfl)
theorem dX2_isSure_35 : decode cX2_isSure 35 = .ok (.iload 9, 2) := dk_21 9 (dk_at dksX2_isSure_1 11 rfl rfl)
theorem dX2_isSure_37 : decode cX2_isSure 37 = .ok (.iload_n 3, 1) := dk_29 (dk_at dksX2_isSure_1 13 rfl rfl)
theorem dX2_isSure_38 : decode cX2_isSure 38 = .ok (.if_icmp .ge 112, 3) := dk_162 0 112 (dk_at dksX2_isSure_1 14 rfl rfl)
theorem dX2_isSure_41 : decode cX2_isSure 41 = .ok (.iload 6, 2) := dk_21 6 (dk_at dksX2_isSure_1 17 rfl rfl)
theorem dX2_isSure_43 : decode cX2_isSure 43 = .ok (.bipush 6, 2) := dk_16 6 (dk_at dksX2_isSure_1 19 rfl rfl)
theorem dX2_isSure_45 : decode cX2_isSure 45 = .ok (.irem, 1) := dk_112 (dk_at dksX2_isSure_1 21 rfl rfl)
theorem dX2_isSure_46 : decode cX2_isSure 46 = .ok (.istore 10, 2) := dk_54 10 (dk_at dksX2_isSure_1 22 rfl rfl)
theorem dX2_isSure_48 : decode cX2_isSure 48 = .ok (.iload 6, 2) := dk_21 6 (dk_at dksX2_isSure_2 0 rfl rfl)
theorem dX2_isSure_50 : decode cX2_isSure 50 = .ok (.bipush 6, 2) := dk_16 6 (dk_at dksX2_isSure_2 2 rfl rfl)
theorem dX2_isSure_52 : decode cX2_isSure 52 = .ok (.idiv, 1) := dk_108 (dk_at dksX2_isSure_2 4 rfl rfl)
theorem dX2_isSure_53 : decode cX2_isSure 53 = .ok (.istore 6, 2) := dk_54 6 (dk_at dksX2_isSure_2 5 rfl rfl)
theorem dX2_isSure_55 : decode cX2_isSure 55 = .ok (.iload 8, 2) := dk_21 8 (dk_at dksX2_isSure_2 7 rfl rfl)
theorem dX2_isSure_57 : decode cX2_isSure 57 = .ok (.ifCond .eq 17, 3) := dk_153 0 17 (dk_at dksX2_isSure_2 9 rfl rfl)
theorem dX2_isSure_60 : decode cX2_isSure 60 = .ok (.aload_n 0, 1) := dk_42 (dk_at dksX2_isSure_2 12 rfl rfl)
theorem dX2_isSure_61 : decode cX2_isSure 61 = .ok (.getfield 13, 3) := dk_180 0 13 (dk_at dksX2_isSure_2 13 rfl rfl)
theorem dX2_isSure_64 : decode cX2_isSure 64 = .ok (.iload 10, 2) := dk_21 10 (dk_at dksX2_isSure_2 16 rfl rfl)
theorem dX2_isSure_66 : decode cX2_isSure 66 = .ok (.iaload, 1) := dk_46 (dk_at dksX2_isSure_2 18 rfl rfl)
theorem dX2_isSure_67 : decode cX2_isSure 67 = .ok (.ifCond .le 7, 3) := dk_158 0 7 (dk_at dksX2_isSure_2 19 rfl rfl)
theorem dX2_isSure_70 : decode cX2_isSure 70 = .ok (.iconst 1, 1) := dk_4 (dk_at dksX2_isSure_2 22 rfl rfl)
theorem dX2_isSure_71 : decode cX2_isSure 71 = .ok (.goto 4, 3) := dk_167 0 4 (dk_at dksX2_isSure_3 0 rfl rfl)
theorem dX2_isSure_74 : decode cX2_isSure 74 = .ok (.iconst 0, 1) := dk_3 (dk_at dksX2_isSure_3 3 rfl rfl)
theorem dX2_isSure_75 : decode cX2_isSure 75 = .ok (.istore 8, 2) := dk_54 8 (dk_at dksX2_isSure_3 4 rfl rfl)
theorem dX2_isSure_77 : decode cX2_isSure 77 = .ok (.iload 7, 2) := dk_21 7 (dk_at dksX2_isSure_3 6 rfl rfl)
theorem dX2_isSure_79 : decode cX2_isSure 79 = .ok (.iload 10, 2) := dk_21 10 (dk_at dksX2_isSure_3 8 rfl rfl)
theorem dX2_isSure_81 : decode cX2_isSure 81 = .ok (.ishr, 1) := dk_122 (dk_at dksX2_isSure_3 10 rfl rfl)
theorem dX2_isSure_82 : decode cX2_isSure 82 = .ok (.iconst 1, 1) := dk_4 (dk_at dksX2_isSure_3 11 rfl rfl)
theorem dX2_isSure_83 : decode cX2_isSure 83 = .ok (.iand, 1) := dk_126 (dk_at dksX2_isSure_3 12 rfl rfl)
theorem dX2_isSure_84 : decode cX2_isSure 84 = .ok (.iconst 1, 1) := dk_4 (dk_at dksX2_isSure_3 13 rfl rfl)
theorem dX2_isSure_85 : decode cX2_isSure 85 = .ok (.if_icmp .ne 7, 3) := dk_160 0 7 (dk_at dksX2_isSure_3 14 rfl rfl)
theorem dX2_isSure_88 : decode cX2_isSure 88 = .ok (.iconst 1, 1) := dk_4 (dk_at dksX2_isSure_3 17 rfl rfl)
theorem dX2_isSure_89 : decode cX2_isSure 89 = .ok (.goto 4, 3) := dk_167 0 4 (dk_at dksX2_isSure_3 18 rfl rfl)
theorem dX2_isSure_92 : decode cX2_isSure 92 = .ok (.iconst 0, 1) := dk_3 (dk_at dksX2_isSure_3 21 rfl rfl)
theorem dX2_isSure_93 : decode cX2_isSure 93 = .ok (.istore 11, 2) := dk_54 11 (dk_at dksX2_isSure_3 22 rfl rfl)
theorem dX2_isSure_95 : decode cX2_isSure 95 = .ok (.iload 7, 2) := dk_21 7 (dk_at dksX2_isSure_4 0 rfl rfl)
theorem dX2_isSure_97 : decode cX2_isSure 97 = .ok (.iload 11, 2) := dk_21 11 (dk_at dksX2_isSure_4 2 rfl rfl)
theorem dX2_isSure_99 : decode cX2_isSure 99 = .ok (.ifCond .eq 12, 3) := dk_153 0 12 (dk_at dksX2_isSure_4 4 rfl rfl)
theorem dX2_isSure_102 : decode cX2_isSure 102 = .ok (.iconst 1, 1) := dk_4 (dk_at dksX2_isSure_4 7 rfl rfl)
theorem dX2_isSure_103 : decode cX2_isSure 103 = .ok (.iload 10, 2) := dk_21 10 (dk_at dksX2_isSure_4 8 rfl rfl)
theorem dX2_isSure_105 : decode cX2_isSure 105 = .ok (.ishl, 1) := dk_120 (dk_at dksX2_isSure_4 10 rfl rfl)
theorem dX2_isSure_106 : decode cX2_isSure 106 = .ok (.iconst (-1), 1) := dk_2 (dk_at dksX2_isSure_4 11 rfl rfl)
theorem dX2_isSure_107 : decode cX2_isSure 107 = .ok (.ixor, 1) := dk_130 (dk_at dksX2_isSure_4 12 rfl rfl)
theorem dX2_isSure_108 : decode cX2_isSure 108 = .ok (.goto 4, 3) := dk_167 0 4 (dk_at dksX2_isSure_4 13 rfl rfl)
theorem dX2_isSure_111 : decode cX2_isSure 111 = .ok (.iconst (-1), 1) := dk_2 (dk_at dksX2_isSure_4 16 rfl rfl)
theorem dX2_isSure_112 : decode cX2_isSure 112 = .ok (.iand, 1) := dk_126 (dk_at dksX2_isSure_4 17 rfl rfl)
theorem dX2_isSure_113 : decode cX2_isSure 113 = .ok (.istore 7, 2) := dk_54 7 (dk_at dksX2_isSure_4 18 rfl rfl)
theorem dX2_isSure_115 : decode cX2_isSure 115 = .ok (.iload 7, 2) := dk_21 7 (dk_at dksX2_isSure_4 20 rfl rfl)
theorem dX2_isSure_117 : decode cX2_isSure 117 = .ok (.iload 11, 2) := dk_21 11 (dk_at dksX2_isSure_4 22 rfl rfl)
theorem dX2_isSure_119 : decode cX2_isSure 119 = .ok (.ifCond .eq 21, 3) := dk_153 0 21 (dk_at dksX2_isSure_5 0 rfl rfl)
theorem dX2_isSure_122 : decode cX2_isSure 122 = .ok (.iload_n 2, 1) := dk_28 (dk_at dksX2_isSure_5 3 rfl rfl)
theorem dX2_isSure_123 : decode cX2_isSure 123 = .ok (.ifCond .eq 17, 3) := dk_153 0 17 (dk_at dksX2_isSure_5 4 rfl rfl)
theorem dX2_isSure_126 : decode cX2_isSure 126 = .ok (.iconst 1, 1) := dk_4 (dk_at dksX2_isSure_5 7 rfl rfl)
theorem dX2_isSure_127 : decode cX2_isSure 127 = .ok (.iload 10, 2) := dk_21 10 (dk_at dksX2_isSure_5 8 rfl rfl)
theorem dX2_isSure_129 : decode cX2_isSure 129 = .ok (.iconst 1, 1) := dk_4 (dk_at dksX2_isSure_5 10 rfl rfl)
theorem dX2_isSure_130 : decode cX2_isSure 130 = .ok (.iadd, 1) := dk_96 (dk_at dksX2_isSure_5 11 rfl rfl)
theorem dX2_isSure_131 : decode cX2_isSure 131 = .ok (.bipush 6, 2) := dk_16 6 (dk_at dksX2_isSure_5 12 rfl rfl)
theorem dX2_isSure_133 : decode cX2_isSure 133 = .ok (.irem, 1) := dk_112 (dk_at dksX2_isSure_5 14 rfl rfl)
theorem dX2_isSure_134 : decode cX2_isSure 134 = .ok (.ishl, 1) := dk_120 (dk_at dksX2_isSure_5 15 rfl rfl)
theorem dX2_isSure_135 : decode cX2_isSure 135 = .ok (.iconst (-1), 1) := dk_2 (dk_at dksX2_isSure_5 16 rfl rfl)
theorem dX2_isSure_136 : decode cX2_isSure 136 = .ok (.ixor, 1) := dk_130 (dk_at dksX2_isSure_5 17 rfl rfl)
theorem dX2_isSure_137 : decode cX2_isSure 137 = .ok (.goto 4, 3) := dk_167 0 4 (dk_at dksX2_isSure_5 18 rfl rfl)
theorem dX2_isSure_140 : decode cX2_isSure 140 = .ok (.iconst (-1), 1) := dk_2 (dk_at dksX2_isSure_5 21 rfl rfl)
theorem dX2_isSure_141 : decode cX2_isSure 141 = .ok (.iand, 1) := dk_126 (dk_at dksX2_isSure_5 22 rfl rfl)
theorem dX2_isSure_142 : decode cX2_isSure 142 = .ok (.istore 7, 2) := dk_54 7 (dk_at dksX2_isSure_6 0 rfl rfl)
theorem dX2_isSure_144 : decode cX2_isSure 144 = .ok (.iinc 9 1, 3) := dk_132 9 1 (dk_at dksX2_isSure_6 2 rfl rfl)
theorem dX2_isSure_147 : decode cX2_isSure 147 = .ok (.goto (-112), 3) := dk_167 255 144 (dk_at dksX2_isSure_6 5 rfl rfl)
theorem dX2_isSure_150 : decode cX2_isSure 150 = .ok (.iload 8, 2) := dk_21 8 (dk_at dksX2_isSure_6 8 rfl rfl)
theorem dX2_isSure_152 : decode cX2_isSure 152 = .ok (.ifCond .eq 8, 3) := dk_153 0 8 (dk_at dksX2_isSure_6 10 rfl rfl)
theorem dX2_isSure_155 : decode cX2_isSure 155 = .ok (.iload 7, 2) := dk_21 7 (dk_at dksX2_isSure_6 13 rfl rfl)
theorem dX2_isSure_157 : decode cX2_isSure 157 = .ok (.ifCond .eq 7, 3) := dk_153 0 7 (dk_at dksX2_isSure_6 15 rfl rfl)
theorem dX2_isSure_160 : decode cX2_isSure 160 = .ok (.iconst 1, 1) := dk_4 (dk_at dksX2_isSure_6 18 rfl rfl)
theorem dX2_isSure_161 : decode cX2_isSure 161 = .ok (.goto 4, 3) := dk_167 0 4 (dk_at dksX2_isSure_6 19 rfl rfl)
theorem dX2_isSure_164 : decode cX2_isSure 164 = .ok (.iconst 0, 1) := dk_3 (dk_at dksX2_isSure_6 22 rfl rfl)
theorem dX2_isSure_165 : decode cX2_isSure 165 = .ok (.istore 4, 2) := dk_54 4 (dk_at dksX2_isSure_7 0 rfl rfl)
theorem dX2_isSure_167 : decode cX2_isSure 167 = .ok (.iinc 5 1, 3) := dk_132 5 1 (dk_at dksX2_isSure_7 2 rfl rfl)
theorem dX2_isSure_170 : decode cX2_isSure 170 = .ok (.goto (-164), 3) := dk_167 255 92 (dk_at dksX2_isSure_7 5 rfl rfl)
theorem dX2_isSure_173 : decode cX2_isSure 173 = .ok (.iload 4, 2) := dk_21 4 (dk_at dksX2_isSure_7 8 rfl rfl)
theorem dX2_isSure_175 : decode cX2_isSure 175 = .ok (.ireturn, 1) := dk_172 (dk_at dksX2_isSure_7 10 rfl rfl)
abbrev cX2_nowhere : ByteArray := prog_11_method_42_code
def yX2_nowhere : MethodName := ⟨RX2, "nowhere", "()I"⟩
theorem dX2_nowhere_0 : decode cX2_nowhere 0 = .ok (.aload_n 0, 1) := by decide +kernel
theorem dX2_nowhere_1 : decode cX2_nowhere 1 = .ok (.invokevirtual 173, 3) := by decide +kernel
theorem dX2_nowhere_4 : decode cX2_nowhere 4 = .ok (.ireturn, 1) := by decide +kernel
abbrev cX2_nowhereOf : ByteArray := prog_11_method_41_code
def yX2_nowhereOf : MethodName := ⟨RX2, "nowhereOf", "()I"⟩
def dkwX2_nowhereOf_2 : List UInt8 := [28, 120, 167, 0, 4, 3, 128, 60, 132, 2, 1, 167, 255, 201, 27, 172]
abbrev dktX2_nowhereOf_2 : List UInt8 := dkwX2_nowhereOf_2 ++ []
def dkwX2_nowhereOf_1 : List UInt8 := [42, 180, 0, 19, 28, 46, 153, 0, 23, 29, 2, 159, 0, 18, 42, 180, 0, 19, 29, 46, 154, 0, 9, 4]
abbrev dktX2_nowhereOf_1 : List UInt8 := dkwX2_nowhereOf_1 ++ dktX2_nowhereOf_2
def dkwX2_nowhereOf_0 : List UInt8 := [3, 60, 3, 61, 28, 42, 180, 0, 81, 162, 0, 53, 42, 180, 0, 16, 5, 28, 104, 4, 96, 46, 62, 27]
abbrev dktX2_nowhereOf_0 : List UInt8 := dkwX2_nowhereOf_0 ++ dktX2_nowhereOf_1
theorem dksX2_nowhereOf_0 : cX2_nowhereOf.data.toList.drop 0 = dktX2_nowhereOf_0 := by decide +kernel
theorem dksX2_nowhereOf_1 : cX2_nowhereOf.data.toList.drop 24 = dktX2_nowhereOf_1 := dk_seg dksX2_nowhereOf_0 24 rfl rfl
theorem dksX2_nowhereOf_2 : cX2_nowhereOf.data.toList.drop 48 = dktX2_nowhereOf_2 := dk_seg dksX2_nowhereOf_1 24 rfl rfl
theorem dX2_nowhereOf_0 : decode cX2_nowhereOf 0 = .ok (.iconst 0, 1) := dk_3 (dk_at dksX2_nowhereOf_0 0 rfl rfl)
theorem dX2_nowhereOf_1 : decode cX2_nowhereOf 1 = .ok (.istore_n 1, 1) := dk_60 (dk_at dksX2_nowhereOf_0 1 rfl rfl)
theorem dX2_nowhereOf_2 : decode cX2_nowhereOf 2 = .ok (.iconst 0, 1) := dk_3 (dk_at dksX2_nowhereOf_0 2 rfl rfl)
theorem dX2_nowhereOf_3 : decode cX2_nowhereOf 3 = .ok (.istore_n 2, 1) := dk_61 (dk_at dksX2_nowhereOf_0 3 rfl rfl)
theorem dX2_nowhereOf_4 : decode cX2_nowhereOf 4 = .ok (.iload_n 2, 1) := dk_28 (dk_at dksX2_nowhereOf_0 4 rfl rfl)
theorem dX2_nowhereOf_5 : decode cX2_nowhereOf 5 = .ok (.aload_n 0, 1) := dk_42 (dk_at dksX2_nowhereOf_0 5 rfl rfl)
theorem dX2_nowhereOf_6 : decode cX2_nowhereOf 6 = .ok (.getfield 81, 3) := dk_180 0 81 (dk_at dksX2_nowhereOf_0 6 rfl rfl)
theorem dX2_nowhereOf_9 : decode cX2_nowhereOf 9 = .ok (.if_icmp .ge 53, 3) := dk_162 0 53 (dk_at dksX2_nowhereOf_0 9 rfl rfl)
theorem dX2_nowhereOf_12 : decode cX2_nowhereOf 12 = .ok (.aload_n 0, 1) := dk_42 (dk_at dksX2_nowhereOf_0 12 rfl rfl)
theorem dX2_nowhereOf_13 : decode cX2_nowhereOf 13 = .ok (.getfield 16, 3) := dk_180 0 16 (dk_at dksX2_nowhereOf_0 13 rfl rfl)
theorem dX2_nowhereOf_16 : decode cX2_nowhereOf 16 = .ok (.iconst 2, 1) := dk_5 (dk_at dksX2_nowhereOf_0 16 rfl rfl)
theorem dX2_nowhereOf_17 : decode cX2_nowhereOf 17 = .ok (.iload_n 2, 1) := dk_28 (dk_at dksX2_nowhereOf_0 17 rfl rfl)
theorem dX2_nowhereOf_18 : decode cX2_nowhereOf 18 = .ok (.imul, 1) := dk_104 (dk_at dksX2_nowhereOf_0 18 rfl rfl)
theorem dX2_nowhereOf_19 : decode cX2_nowhereOf 19 = .ok (.iconst 1, 1) := dk_4 (dk_at dksX2_nowhereOf_0 19 rfl rfl)
theorem dX2_nowhereOf_20 : decode cX2_nowhereOf 20 = .ok (.iadd, 1) := dk_96 (dk_at dksX2_nowhereOf_0 20 rfl rfl)
theorem dX2_nowhereOf_21 : decode cX2_nowhereOf 21 = .ok (.iaload, 1) := dk_46 (dk_at dksX2_nowhereOf_0 21 rfl rfl)
theorem dX2_nowhereOf_22 : decode cX2_nowhereOf 22 = .ok (.istore_n 3, 1) := dk_62 (dk_at dksX2_nowhereOf_0 22 rfl rfl)
theorem dX2_nowhereOf_23 : decode cX2_nowhereOf 23 = .ok (.iload_n 1, 1) := dk_27 (dk_at dksX2_nowhereOf_0 23 rfl rfl)
theorem dX2_nowhereOf_24 : decode cX2_nowhereOf 24 = .ok (.aload_n 0, 1) := dk_42 (dk_at dksX2_nowhereOf_1 0 rfl rfl)
theorem dX2_nowhereOf_25 : decode cX2_nowhereOf 25 = .ok (.getfield 19, 3) := dk_180 0 19 (dk_at dksX2_nowhereOf_1 1 rfl rfl)
theorem dX2_nowhereOf_28 : decode cX2_nowhereOf 28 = .ok (.iload_n 2, 1) := dk_28 (dk_at dksX2_nowhereOf_1 4 rfl rfl)
theorem dX2_nowhereOf_29 : decode cX2_nowhereOf 29 = .ok (.iaload, 1) := dk_46 (dk_at dksX2_nowhereOf_1 5 rfl rfl)
theorem dX2_nowhereOf_30 : decode cX2_nowhereOf 30 = .ok (.ifCond .eq 23, 3) := dk_153 0 23 (dk_at dksX2_nowhereOf_1 6 rfl rfl)
theorem dX2_nowhereOf_33 : decode cX2_nowhereOf 33 = .ok (.iload_n 3, 1) := dk_29 (dk_at dksX2_nowhereOf_1 9 rfl rfl)
theorem dX2_nowhereOf_34 : decode cX2_nowhereOf 34 = .ok (.iconst (-1), 1) := dk_2 (dk_at dksX2_nowhereOf_1 10 rfl rfl)
theorem dX2_nowhereOf_35 : decode cX2_nowhereOf 35 = .ok (.if_icmp .eq 18, 3) := dk_159 0 18 (dk_at dksX2_nowhereOf_1 11 rfl rfl)
theorem dX2_nowhereOf_38 : decode cX2_nowhereOf 38 = .ok (.aload_n 0, 1) := dk_42 (dk_at dksX2_nowhereOf_1 14 rfl rfl)
theorem dX2_nowhereOf_39 : decode cX2_nowhereOf 39 = .ok (.getfield 19, 3) := dk_180 0 19 (dk_at dksX2_nowhereOf_1 15 rfl rfl)
theorem dX2_nowhereOf_42 : decode cX2_nowhereOf 42 = .ok (.iload_n 3, 1) := dk_29 (dk_at dksX2_nowhereOf_1 18 rfl rfl)
theorem dX2_nowhereOf_43 : decode cX2_nowhereOf 43 = .ok (.iaload, 1) := dk_46 (dk_at dksX2_nowhereOf_1 19 rfl rfl)
theorem dX2_nowhereOf_44 : decode cX2_nowhereOf 44 = .ok (.ifCond .ne 9, 3) := dk_154 0 9 (dk_at dksX2_nowhereOf_1 20 rfl rfl)
theorem dX2_nowhereOf_47 : decode cX2_nowhereOf 47 = .ok (.iconst 1, 1) := dk_4 (dk_at dksX2_nowhereOf_1 23 rfl rfl)
theorem dX2_nowhereOf_48 : decode cX2_nowhereOf 48 = .ok (.iload_n 2, 1) := dk_28 (dk_at dksX2_nowhereOf_2 0 rfl rfl)
theorem dX2_nowhereOf_49 : decode cX2_nowhereOf 49 = .ok (.ishl, 1) := dk_120 (dk_at dksX2_nowhereOf_2 1 rfl rfl)
theorem dX2_nowhereOf_50 : decode cX2_nowhereOf 50 = .ok (.goto 4, 3) := dk_167 0 4 (dk_at dksX2_nowhereOf_2 2 rfl rfl)
theorem dX2_nowhereOf_53 : decode cX2_nowhereOf 53 = .ok (.iconst 0, 1) := dk_3 (dk_at dksX2_nowhereOf_2 5 rfl rfl)
theorem dX2_nowhereOf_54 : decode cX2_nowhereOf 54 = .ok (.ior, 1) := dk_128 (dk_at dksX2_nowhereOf_2 6 rfl rfl)
theorem dX2_nowhereOf_55 : decode cX2_nowhereOf 55 = .ok (.istore_n 1, 1) := dk_60 (dk_at dksX2_nowhereOf_2 7 rfl rfl)
theorem dX2_nowhereOf_56 : decode cX2_nowhereOf 56 = .ok (.iinc 2 1, 3) := dk_132 2 1 (dk_at dksX2_nowhereOf_2 8 rfl rfl)
theorem dX2_nowhereOf_59 : decode cX2_nowhereOf 59 = .ok (.goto (-55), 3) := dk_167 255 201 (dk_at dksX2_nowhereOf_2 11 rfl rfl)
theorem dX2_nowhereOf_62 : decode cX2_nowhereOf 62 = .ok (.iload_n 1, 1) := dk_27 (dk_at dksX2_nowhereOf_2 14 rfl rfl)
theorem dX2_nowhereOf_63 : decode cX2_nowhereOf 63 = .ok (.ireturn, 1) := dk_172 (dk_at dksX2_nowhereOf_2 15 rfl rfl)
abbrev cX2_moving : ByteArray := prog_11_method_46_code
def yX2_moving : MethodName := ⟨RX2, "moving", "(I)I"⟩
def dkwX2_moving_2 : List UInt8 := [7, 162, 0, 20, 42, 28, 27, 182, 0, 186, 153, 0, 5, 28, 172, 132, 2, 1, 167, 255, 237, 2, 172]
abbrev dktX2_moving_2 : List UInt8 := dkwX2_moving_2 ++ []
def dkwX2_moving_1 : List UInt8 := [180, 0, 183, 16, 10, 160, 0, 6, 16, 153, 172, 42, 89, 180, 0, 183, 4, 96, 181, 0, 183, 3, 61, 28]
abbrev dktX2_moving_1 : List UInt8 := dkwX2_moving_1 ++ dktX2_moving_2
def dkwX2_moving_0 : List UInt8 := [27, 133, 10, 20, 0, 68, 184, 0, 61, 154, 0, 6, 16, 154, 172, 42, 182, 0, 109, 154, 0, 12, 42]
abbrev dktX2_moving_0 : List UInt8 := dkwX2_moving_0 ++ dktX2_moving_1
theorem dksX2_moving_0 : cX2_moving.data.toList.drop 0 = dktX2_moving_0 := by decide +kernel
theorem dksX2_moving_1 : cX2_moving.data.toList.drop 23 = dktX2_moving_1 := dk_seg dksX2_moving_0 23 rfl rfl
theorem dksX2_moving_2 : cX2_moving.data.toList.drop 47 = dktX2_moving_2 := dk_seg dksX2_moving_1 24 rfl rfl
theorem dX2_moving_0 : decode cX2_moving 0 = .ok (.iload_n 1, 1) := dk_27 (dk_at dksX2_moving_0 0 rfl rfl)
theorem dX2_moving_1 : decode cX2_moving 1 = .ok (.i2l, 1) := dk_133 (dk_at dksX2_moving_0 1 rfl rfl)
theorem dX2_moving_2 : decode cX2_moving 2 = .ok (.lconst 1, 1) := dk_10 (dk_at dksX2_moving_0 2 rfl rfl)
theorem dX2_moving_3 : decode cX2_moving 3 = .ok (.ldc2_w 68, 3) := dk_20 0 68 (dk_at dksX2_moving_0 3 rfl rfl)
theorem dX2_moving_6 : decode cX2_moving 6 = .ok (.invokestatic 61, 3) := dk_184 0 61 (dk_at dksX2_moving_0 6 rfl rfl)
theorem dX2_moving_9 : decode cX2_moving 9 = .ok (.ifCond .ne 6, 3) := dk_154 0 6 (dk_at dksX2_moving_0 9 rfl rfl)
theorem dX2_moving_12 : decode cX2_moving 12 = .ok (.bipush (-102), 2) := dk_16 154 (dk_at dksX2_moving_0 12 rfl rfl)
theorem dX2_moving_14 : decode cX2_moving 14 = .ok (.ireturn, 1) := dk_172 (dk_at dksX2_moving_0 14 rfl rfl)
theorem dX2_moving_15 : decode cX2_moving 15 = .ok (.aload_n 0, 1) := dk_42 (dk_at dksX2_moving_0 15 rfl rfl)
theorem dX2_moving_16 : decode cX2_moving 16 = .ok (.invokevirtual 109, 3) := dk_182 0 109 (dk_at dksX2_moving_0 16 rfl rfl)
theorem dX2_moving_19 : decode cX2_moving 19 = .ok (.ifCond .ne 12, 3) := dk_154 0 12 (dk_at dksX2_moving_0 19 rfl rfl)
theorem dX2_moving_22 : decode cX2_moving 22 = .ok (.aload_n 0, 1) := dk_42 (dk_at dksX2_moving_0 22 rfl rfl)
theorem dX2_moving_23 : decode cX2_moving 23 = .ok (.getfield 183, 3) := dk_180 0 183 (dk_at dksX2_moving_1 0 rfl rfl)
theorem dX2_moving_26 : decode cX2_moving 26 = .ok (.bipush 10, 2) := dk_16 10 (dk_at dksX2_moving_1 3 rfl rfl)
theorem dX2_moving_28 : decode cX2_moving 28 = .ok (.if_icmp .ne 6, 3) := dk_160 0 6 (dk_at dksX2_moving_1 5 rfl rfl)
theorem dX2_moving_31 : decode cX2_moving 31 = .ok (.bipush (-103), 2) := dk_16 153 (dk_at dksX2_moving_1 8 rfl rfl)
theorem dX2_moving_33 : decode cX2_moving 33 = .ok (.ireturn, 1) := dk_172 (dk_at dksX2_moving_1 10 rfl rfl)
theorem dX2_moving_34 : decode cX2_moving 34 = .ok (.aload_n 0, 1) := dk_42 (dk_at dksX2_moving_1 11 rfl rfl)
theorem dX2_moving_35 : decode cX2_moving 35 = .ok (.dup, 1) := dk_89 (dk_at dksX2_moving_1 12 rfl rfl)
theorem dX2_moving_36 : decode cX2_moving 36 = .ok (.getfield 183, 3) := dk_180 0 183 (dk_at dksX2_moving_1 13 rfl rfl)
theorem dX2_moving_39 : decode cX2_moving 39 = .ok (.iconst 1, 1) := dk_4 (dk_at dksX2_moving_1 16 rfl rfl)
theorem dX2_moving_40 : decode cX2_moving 40 = .ok (.iadd, 1) := dk_96 (dk_at dksX2_moving_1 17 rfl rfl)
theorem dX2_moving_41 : decode cX2_moving 41 = .ok (.putfield 183, 3) := dk_181 0 183 (dk_at dksX2_moving_1 18 rfl rfl)
theorem dX2_moving_44 : decode cX2_moving 44 = .ok (.iconst 0, 1) := dk_3 (dk_at dksX2_moving_1 21 rfl rfl)
theorem dX2_moving_45 : decode cX2_moving 45 = .ok (.istore_n 2, 1) := dk_61 (dk_at dksX2_moving_1 22 rfl rfl)
theorem dX2_moving_46 : decode cX2_moving 46 = .ok (.iload_n 2, 1) := dk_28 (dk_at dksX2_moving_1 23 rfl rfl)
theorem dX2_moving_47 : decode cX2_moving 47 = .ok (.iconst 4, 1) := dk_7 (dk_at dksX2_moving_2 0 rfl rfl)
theorem dX2_moving_48 : decode cX2_moving 48 = .ok (.if_icmp .ge 20, 3) := dk_162 0 20 (dk_at dksX2_moving_2 1 rfl rfl)
theorem dX2_moving_51 : decode cX2_moving 51 = .ok (.aload_n 0, 1) := dk_42 (dk_at dksX2_moving_2 4 rfl rfl)
theorem dX2_moving_52 : decode cX2_moving 52 = .ok (.iload_n 2, 1) := dk_28 (dk_at dksX2_moving_2 5 rfl rfl)
theorem dX2_moving_53 : decode cX2_moving 53 = .ok (.iload_n 1, 1) := dk_27 (dk_at dksX2_moving_2 6 rfl rfl)
theorem dX2_moving_54 : decode cX2_moving 54 = .ok (.invokevirtual 186, 3) := dk_182 0 186 (dk_at dksX2_moving_2 7 rfl rfl)
theorem dX2_moving_57 : decode cX2_moving 57 = .ok (.ifCond .eq 5, 3) := dk_153 0 5 (dk_at dksX2_moving_2 10 rfl rfl)
theorem dX2_moving_60 : decode cX2_moving 60 = .ok (.iload_n 2, 1) := dk_28 (dk_at dksX2_moving_2 13 rfl rfl)
theorem dX2_moving_61 : decode cX2_moving 61 = .ok (.ireturn, 1) := dk_172 (dk_at dksX2_moving_2 14 rfl rfl)
theorem dX2_moving_62 : decode cX2_moving 62 = .ok (.iinc 2 1, 3) := dk_132 2 1 (dk_at dksX2_moving_2 15 rfl rfl)
theorem dX2_moving_65 : decode cX2_moving 65 = .ok (.goto (-19), 3) := dk_167 255 237 (dk_at dksX2_moving_2 18 rfl rfl)
theorem dX2_moving_68 : decode cX2_moving 68 = .ok (.iconst (-1), 1) := dk_2 (dk_at dksX2_moving_2 21 rfl rfl)
theorem dX2_moving_69 : decode cX2_moving 69 = .ok (.ireturn, 1) := dk_172 (dk_at dksX2_moving_2 22 rfl rfl)
abbrev cX2_isMovedBy : ByteArray := prog_11_method_45_code
def yX2_isMovedBy : MethodName := ⟨RX2, "isMovedBy", "(II)Z"⟩
def dkwX2_isMovedBy_9 : List UInt8 := [112, 21, 6, 16, 6, 108, 16, 6, 112, 182, 0, 179, 167, 255, 54, 3, 172]
abbrev dktX2_isMovedBy_9 : List UInt8 := dkwX2_isMovedBy_9 ++ []
def dkwX2_isMovedBy_8 : List UInt8 := [29, 155, 0, 35, 42, 180, 0, 34, 29, 46, 4, 100, 54, 6, 42, 21, 6, 16, 36, 108, 21, 6, 16, 6]
abbrev dktX2_isMovedBy_8 : List UInt8 := dkwX2_isMovedBy_8 ++ dktX2_isMovedBy_9
def dkwX2_isMovedBy_7 : List UInt8 := [167, 255, 135, 21, 5, 153, 0, 16, 132, 3, 1, 42, 180, 0, 34, 29, 3, 79, 167, 0, 42, 132, 3, 255]
abbrev dktX2_isMovedBy_7 : List UInt8 := dkwX2_isMovedBy_7 ++ dktX2_isMovedBy_8
def dkwX2_isMovedBy_6 : List UInt8 := [29, 92, 46, 4, 96, 79, 21, 5, 153, 0, 16, 42, 21, 6, 16, 36, 108, 21, 7, 21, 8, 182, 0, 179]
abbrev dktX2_isMovedBy_6 : List UInt8 := dkwX2_isMovedBy_6 ++ dktX2_isMovedBy_7
def dkwX2_isMovedBy_5 : List UInt8 := [16, 36, 108, 21, 7, 21, 8, 182, 0, 130, 153, 0, 7, 4, 167, 0, 4, 3, 54, 5, 42, 180, 0, 34]
abbrev dktX2_isMovedBy_5 : List UInt8 := dkwX2_isMovedBy_5 ++ dktX2_isMovedBy_6
def dkwX2_isMovedBy_4 : List UInt8 := [54, 7, 21, 6, 16, 6, 112, 54, 8, 21, 7, 21, 8, 159, 0, 27, 42, 42, 180, 0, 25, 21, 6]
abbrev dktX2_isMovedBy_4 : List UInt8 := dkwX2_isMovedBy_4 ++ dktX2_isMovedBy_5
def dkwX2_isMovedBy_3 : List UInt8 := [162, 0, 98, 21, 5, 154, 0, 93, 42, 180, 0, 34, 29, 46, 54, 6, 21, 6, 16, 6, 108, 16, 6, 112]
abbrev dktX2_isMovedBy_3 : List UInt8 := dkwX2_isMovedBy_3 ++ dktX2_isMovedBy_4
def dkwX2_isMovedBy_2 : List UInt8 := [162, 0, 122, 21, 4, 27, 29, 100, 163, 0, 114, 42, 180, 0, 34, 29, 46, 16, 36, 42, 180, 0, 81, 104]
abbrev dktX2_isMovedBy_2 : List UInt8 := dkwX2_isMovedBy_2 ++ dktX2_isMovedBy_3
def dkwX2_isMovedBy_1 : List UInt8 := [29, 155, 0, 204, 42, 28, 182, 0, 176, 54, 4, 21, 4, 154, 0, 5, 4, 172, 3, 54, 5, 29, 27]
abbrev dktX2_isMovedBy_1 : List UInt8 := dkwX2_isMovedBy_1 ++ dktX2_isMovedBy_2
def dkwX2_isMovedBy_0 : List UInt8 := [42, 182, 0, 144, 3, 62, 42, 180, 0, 34, 3, 3, 79, 42, 28, 182, 0, 176, 27, 164, 0, 5, 3, 172]
abbrev dktX2_isMovedBy_0 : List UInt8 := dkwX2_isMovedBy_0 ++ dktX2_isMovedBy_1
theorem dksX2_isMovedBy_0 : cX2_isMovedBy.data.toList.drop 0 = dktX2_isMovedBy_0 := by decide +kernel
theorem dksX2_isMovedBy_1 : cX2_isMovedBy.data.toList.drop 24 = dktX2_isMovedBy_1 := dk_seg dksX2_isMovedBy_0 24 rfl rfl
theorem dksX2_isMovedBy_2 : cX2_isMovedBy.data.toList.drop 47 = dktX2_isMovedBy_2 := dk_seg dksX2_isMovedBy_1 23 rfl rfl
theorem dksX2_isMovedBy_3 : cX2_isMovedBy.data.toList.drop 71 = dktX2_isMovedBy_3 := dk_seg dksX2_isMovedBy_2 24 rfl rfl
theorem dksX2_isMovedBy_4 : cX2_isMovedBy.data.toList.drop 95 = dktX2_isMovedBy_4 := dk_seg dksX2_isMovedBy_3 24 rfl rfl
theorem dksX2_isMovedBy_5 : cX2_isMovedBy.data.toList.drop 118 = dktX2_isMovedBy_5 := dk_seg dksX2_isMovedBy_4 23 rfl rfl
theorem dksX2_isMovedBy_6 : cX2_isMovedBy.data.toList.drop 142 = dktX2_isMovedBy_6 := dk_seg dksX2_isMovedBy_5 24 rfl rfl
theorem dksX2_isMovedBy_7 : cX2_isMovedBy.data.toList.drop 166 = dktX2_isMovedBy_7 := dk_seg dksX2_isMovedBy_6 24 rfl rfl
theorem dksX2_isMovedBy_8 : cX2_isMovedBy.data.toList.drop 190 = dktX2_isMovedBy_8 := dk_seg dksX2_isMovedBy_7 24 rfl rfl
theorem dksX2_isMovedBy_9 : cX2_isMovedBy.data.toList.drop 214 = dktX2_isMovedBy_9 := dk_seg dksX2_isMovedBy_8 24 rfl rfl
theorem dX2_isMovedBy_0 : decode cX2_isMovedBy 0 = .ok (.aload_n 0, 1) := dk_42 (dk_at dksX2_isMovedBy_0 0 rfl rfl)
theorem dX2_isMovedBy_1 : decode cX2_isMovedBy 1 = .ok (.invokevirtual 144, 3) := dk_182 0 144 (dk_at dksX2_isMovedBy_0 1 rfl rfl)
theorem dX2_isMovedBy_4 : decode cX2_isMovedBy 4 = .ok (.iconst 0, 1) := dk_3 (dk_at dksX2_isMovedBy_0 4 rfl rfl)
theorem dX2_isMovedBy_5 : decode cX2_isMovedBy 5 = .ok (.istore_n 3, 1) := dk_62 (dk_at dksX2_isMovedBy_0 5 rfl rfl)
theorem dX2_isMovedBy_6 : decode cX2_isMovedBy 6 = .ok (.aload_n 0, 1) := dk_42 (dk_at dksX2_isMovedBy_0 6 rfl rfl)
theorem dX2_isMovedBy_7 : decode cX2_isMovedBy 7 = .ok (.getfield 34, 3) := dk_180 0 34 (dk_at dksX2_isMovedBy_0 7 rfl rfl)
theorem dX2_isMovedBy_10 : decode cX2_isMovedBy 10 = .ok (.iconst 0, 1) := dk_3 (dk_at dksX2_isMovedBy_0 10 rfl rfl)
theorem dX2_isMovedBy_11 : decode cX2_isMovedBy 11 = .ok (.iconst 0, 1) := dk_3 (dk_at dksX2_isMovedBy_0 11 rfl rfl)
theorem dX2_isMovedBy_12 : decode cX2_isMovedBy 12 = .ok (.iastore, 1) := dk_79 (dk_at dksX2_isMovedBy_0 12 rfl rfl)
theorem dX2_isMovedBy_13 : decode cX2_isMovedBy 13 = .ok (.aload_n 0, 1) := dk_42 (dk_at dksX2_isMovedBy_0 13 rfl rfl)
theorem dX2_isMovedBy_14 : decode cX2_isMovedBy 14 = .ok (.iload_n 2, 1) := dk_28 (dk_at dksX2_isMovedBy_0 14 rfl rfl)
theorem dX2_isMovedBy_15 : decode cX2_isMovedBy 15 = .ok (.invokevirtual 176, 3) := dk_182 0 176 (dk_at dksX2_isMovedBy_0 15 rfl rfl)
theorem dX2_isMovedBy_18 : decode cX2_isMovedBy 18 = .ok (.iload_n 1, 1) := dk_27 (dk_at dksX2_isMovedBy_0 18 rfl rfl)
theorem dX2_isMovedBy_19 : decode cX2_isMovedBy 19 = .ok (.if_icmp .le 5, 3) := dk_164 0 5 (dk_at dksX2_isMovedBy_0 19 rfl rfl)
theorem dX2_isMovedBy_22 : decode cX2_isMovedBy 22 = .ok (.iconst 0, 1) := dk_3 (dk_at dksX2_isMovedBy_0 22 rfl rfl)
theorem dX2_isMovedBy_23 : decode cX2_isMovedBy 23 = .ok (.ireturn, 1) := dk_172 (dk_at dksX2_isMovedBy_0 23 rfl rfl)
theorem dX2_isMovedBy_24 : decode cX2_isMovedBy 24 = .ok (.iload_n 3, 1) := dk_29 (dk_at dksX2_isMovedBy_1 0 rfl rfl)
theorem dX2_isMovedBy_25 : decode cX2_isMovedBy 25 = .ok (.ifCond .lt 204, 3) := dk_155 0 204 (dk_at dksX2_isMovedBy_1 1 rfl rfl)
theorem dX2_isMovedBy_28 : decode cX2_isMovedBy 28 = .ok (.aload_n 0, 1) := dk_42 (dk_at dksX2_isMovedBy_1 4 rfl rfl)
theorem dX2_isMovedBy_29 : decode cX2_isMovedBy 29 = .ok (.iload_n 2, 1) := dk_28 (dk_at dksX2_isMovedBy_1 5 rfl rfl)
theorem dX2_isMovedBy_30 : decode cX2_isMovedBy 30 = .ok (.invokevirtual 176, 3) := dk_182 0 176 (dk_at dksX2_isMovedBy_1 6 rfl rfl)
theorem dX2_isMovedBy_33 : decode cX2_isMovedBy 33 = .ok (.istore 4, 2) := dk_54 4 (dk_at dksX2_isMovedBy_1 9 rfl rfl)
theorem dX2_isMovedBy_35 : decode cX2_isMovedBy 35 = .ok (.iload 4, 2) := dk_21 4 (dk_at dksX2_isMovedBy_1 11 rfl rfl)
theorem dX2_isMovedBy_37 : decode cX2_isMovedBy 37 = .ok (.ifCond .ne 5, 3) := dk_154 0 5 (dk_at dksX2_isMovedBy_1 13 rfl rfl)
theorem dX2_isMovedBy_40 : decode cX2_isMovedBy 40 = .ok (.iconst 1, 1) := dk_4 (dk_at dksX2_isMovedBy_1 16 rfl rfl)
theorem dX2_isMovedBy_41 : decode cX2_isMovedBy 41 = .ok (.ireturn, 1) := dk_172 (dk_at dksX2_isMovedBy_1 17 rfl rfl)
theorem dX2_isMovedBy_42 : decode cX2_isMovedBy 42 = .ok (.iconst 0, 1) := dk_3 (dk_at dksX2_isMovedBy_1 18 rfl rfl)
theorem dX2_isMovedBy_43 : decode cX2_isMovedBy 43 = .ok (.istore 5, 2) := dk_54 5 (dk_at dksX2_isMovedBy_1 19 rfl rfl)
theorem dX2_isMovedBy_45 : decode cX2_isMovedBy 45 = .ok (.iload_n 3, 1) := dk_29 (dk_at dksX2_isMovedBy_1 21 rfl rfl)
theorem dX2_isMovedBy_46 : decode cX2_isMovedBy 46 = .ok (.iload_n 1, 1) := dk_27 (dk_at dksX2_isMovedBy_1 22 rfl rfl)
theorem dX2_isMovedBy_47 : decode cX2_isMovedBy 47 = .ok (.if_icmp .ge 122, 3) := dk_162 0 122 (dk_at dksX2_isMovedBy_2 0 rfl rfl)
theorem dX2_isMovedBy_50 : decode cX2_isMovedBy 50 = .ok (.iload 4, 2) := dk_21 4 (dk_at dksX2_isMovedBy_2 3 rfl rfl)
theorem dX2_isMovedBy_52 : decode cX2_isMovedBy 52 = .ok (.iload_n 1, 1) := dk_27 (dk_at dksX2_isMovedBy_2 5 rfl rfl)
theorem dX2_isMovedBy_53 : decode cX2_isMovedBy 53 = .ok (.iload_n 3, 1) := dk_29 (dk_at dksX2_isMovedBy_2 6 rfl rfl)
theorem dX2_isMovedBy_54 : decode cX2_isMovedBy 54 = .ok (.isub, 1) := dk_100 (dk_at dksX2_isMovedBy_2 7 rfl rfl)
theorem dX2_isMovedBy_55 : decode cX2_isMovedBy 55 = .ok (.if_icmp .gt 114, 3) := dk_163 0 114 (dk_at dksX2_isMovedBy_2 8 rfl rfl)
theorem dX2_isMovedBy_58 : decode cX2_isMovedBy 58 = .ok (.aload_n 0, 1) := dk_42 (dk_at dksX2_isMovedBy_2 11 rfl rfl)
theorem dX2_isMovedBy_59 : decode cX2_isMovedBy 59 = .ok (.getfield 34, 3) := dk_180 0 34 (dk_at dksX2_isMovedBy_2 12 rfl rfl)
theorem dX2_isMovedBy_62 : decode cX2_isMovedBy 62 = .ok (.iload_n 3, 1) := dk_29 (dk_at dksX2_isMovedBy_2 15 rfl rfl)
theorem dX2_isMovedBy_63 : decode cX2_isMovedBy 63 = .ok (.iaload, 1) := dk_46 (dk_at dksX2_isMovedBy_2 16 rfl rfl)
theorem dX2_isMovedBy_64 : decode cX2_isMovedBy 64 = .ok (.bipush 36, 2) := dk_16 36 (dk_at dksX2_isMovedBy_2 17 rfl rfl)
theorem dX2_isMovedBy_66 : decode cX2_isMovedBy 66 = .ok (.aload_n 0, 1) := dk_42 (dk_at dksX2_isMovedBy_2 19 rfl rfl)
theorem dX2_isMovedBy_67 : decode cX2_isMovedBy 67 = .ok (.getfield 81, 3) := dk_180 0 81 (dk_at dksX2_isMovedBy_2 20 rfl rfl)
theorem dX2_isMovedBy_70 : decode cX2_isMovedBy 70 = .ok (.imul, 1) := dk_104 (dk_at dksX2_isMovedBy_2 23 rfl rfl)
theorem dX2_isMovedBy_71 : decode cX2_isMovedBy 71 = .ok (.if_icmp .ge 98, 3) := dk_162 0 98 (dk_at dksX2_isMovedBy_3 0 rfl rfl)
theorem dX2_isMovedBy_74 : decode cX2_isMovedBy 74 = .ok (.iload 5, 2) := dk_21 5 (dk_at dksX2_isMovedBy_3 3 rfl rfl)
theorem dX2_isMovedBy_76 : decode cX2_isMovedBy 76 = .ok (.ifCond .ne 93, 3) := dk_154 0 93 (dk_at dksX2_isMovedBy_3 5 rfl rfl)
theorem dX2_isMovedBy_79 : decode cX2_isMovedBy 79 = .ok (.aload_n 0, 1) := dk_42 (dk_at dksX2_isMovedBy_3 8 rfl rfl)
theorem dX2_isMovedBy_80 : decode cX2_isMovedBy 80 = .ok (.getfield 34, 3) := dk_180 0 34 (dk_at dksX2_isMovedBy_3 9 rfl rfl)
theorem dX2_isMovedBy_83 : decode cX2_isMovedBy 83 = .ok (.iload_n 3, 1) := dk_29 (dk_at dksX2_isMovedBy_3 12 rfl rfl)
theorem dX2_isMovedBy_84 : decode cX2_isMovedBy 84 = .ok (.iaload, 1) := dk_46 (dk_at dksX2_isMovedBy_3 13 rfl rfl)
theorem dX2_isMovedBy_85 : decode cX2_isMovedBy 85 = .ok (.istore 6, 2) := dk_54 6 (dk_at dksX2_isMovedBy_3 14 rfl rfl)
theorem dX2_isMovedBy_87 : decode cX2_isMovedBy 87 = .ok (.iload 6, 2) := dk_21 6 (dk_at dksX2_isMovedBy_3 16 rfl rfl)
theorem dX2_isMovedBy_89 : decode cX2_isMovedBy 89 = .ok (.bipush 6, 2) := dk_16 6 (dk_at dksX2_isMovedBy_3 18 rfl rfl)
theorem dX2_isMovedBy_91 : decode cX2_isMovedBy 91 = .ok (.idiv, 1) := dk_108 (dk_at dksX2_isMovedBy_3 20 rfl rfl)
theorem dX2_isMovedBy_92 : decode cX2_isMovedBy 92 = .ok (.bipush 6, 2) := dk_16 6 (dk_at dksX2_isMovedBy_3 21 rfl rfl)
theorem dX2_isMovedBy_94 : decode cX2_isMovedBy 94 = .ok (.irem, 1) := dk_112 (dk_at dksX2_isMovedBy_3 23 rfl rfl)
theorem dX2_isMovedBy_95 : decode cX2_isMovedBy 95 = .ok (.istore 7, 2) := dk_54 7 (dk_at dksX2_isMovedBy_4 0 rfl rfl)
theorem dX2_isMovedBy_97 : decode cX2_isMovedBy 97 = .ok (.iload 6, 2) := dk_21 6 (dk_at dksX2_isMovedBy_4 2 rfl rfl)
theorem dX2_isMovedBy_99 : decode cX2_isMovedBy 99 = .ok (.bipush 6, 2) := dk_16 6 (dk_at dksX2_isMovedBy_4 4 rfl rfl)
theorem dX2_isMovedBy_101 : decode cX2_isMovedBy 101 = .ok (.irem, 1) := dk_112 (dk_at dksX2_isMovedBy_4 6 rfl rfl)
theorem dX2_isMovedBy_102 : decode cX2_isMovedBy 102 = .ok (.istore 8, 2) := dk_54 8 (dk_at dksX2_isMovedBy_4 7 rfl rfl)
theorem dX2_isMovedBy_104 : decode cX2_isMovedBy 104 = .ok (.iload 7, 2) := dk_21 7 (dk_at dksX2_isMovedBy_4 9 rfl rfl)
theorem dX2_isMovedBy_106 : decode cX2_isMovedBy 106 = .ok (.iload 8, 2) := dk_21 8 (dk_at dksX2_isMovedBy_4 11 rfl rfl)
theorem dX2_isMovedBy_108 : decode cX2_isMovedBy 108 = .ok (.if_icmp .eq 27, 3) := dk_159 0 27 (dk_at dksX2_isMovedBy_4 13 rfl rfl)
theorem dX2_isMovedBy_111 : decode cX2_isMovedBy 111 = .ok (.aload_n 0, 1) := dk_42 (dk_at dksX2_isMovedBy_4 16 rfl rfl)
theorem dX2_isMovedBy_112 : decode cX2_isMovedBy 112 = .ok (.aload_n 0, 1) := dk_42 (dk_at dksX2_isMovedBy_4 17 rfl rfl)
theorem dX2_isMovedBy_113 : decode cX2_isMovedBy 113 = .ok (.getfield 25, 3) := dk_180 0 25 (dk_at dksX2_isMovedBy_4 18 rfl rfl)
theorem dX2_isMovedBy_116 : decode cX2_isMovedBy 116 = .ok (.iload 6, 2) := dk_21 6 (dk_at dksX2_isMovedBy_4 21 rfl rfl)
theorem dX2_isMovedBy_118 : decode cX2_isMovedBy 118 = .ok (.bipush 36, 2) := dk_16 36 (dk_at dksX2_isMovedBy_5 0 rfl rfl)
theorem dX2_isMovedBy_120 : decode cX2_isMovedBy 120 = .ok (.idiv, 1) := dk_108 (dk_at dksX2_isMovedBy_5 2 rfl rfl)
theorem dX2_isMovedBy_121 : decode cX2_isMovedBy 121 = .ok (.iload 7, 2) := dk_21 7 (dk_at dksX2_isMovedBy_5 3 rfl rfl)
theorem dX2_isMovedBy_123 : decode cX2_isMovedBy 123 = .ok (.iload 8, 2) := dk_21 8 (dk_at dksX2_isMovedBy_5 5 rfl rfl)
theorem dX2_isMovedBy_125 : decode cX2_isMovedBy 125 = .ok (.invokevirtual 130, 3) := dk_182 0 130 (dk_at dksX2_isMovedBy_5 7 rfl rfl)
theorem dX2_isMovedBy_128 : decode cX2_isMovedBy 128 = .ok (.ifCond .eq 7, 3) := dk_153 0 7 (dk_at dksX2_isMovedBy_5 10 rfl rfl)
theorem dX2_isMovedBy_131 : decode cX2_isMovedBy 131 = .ok (.iconst 1, 1) := dk_4 (dk_at dksX2_isMovedBy_5 13 rfl rfl)
theorem dX2_isMovedBy_132 : decode cX2_isMovedBy 132 = .ok (.goto 4, 3) := dk_167 0 4 (dk_at dksX2_isMovedBy_5 14 rfl rfl)
theorem dX2_isMovedBy_135 : decode cX2_isMovedBy 135 = .ok (.iconst 0, 1) := dk_3 (dk_at dksX2_isMovedBy_5 17 rfl rfl)
theorem dX2_isMovedBy_136 : decode cX2_isMovedBy 136 = .ok (.istore 5, 2) := dk_54 5 (dk_at dksX2_isMovedBy_5 18 rfl rfl)
theorem dX2_isMovedBy_138 : decode cX2_isMovedBy 138 = .ok (.aload_n 0, 1) := dk_42 (dk_at dksX2_isMovedBy_5 20 rfl rfl)
theorem dX2_isMovedBy_139 : decode cX2_isMovedBy 139 = .ok (.getfield 34, 3) := dk_180 0 34 (dk_at dksX2_isMovedBy_5 21 rfl rfl)
theorem dX2_isMovedBy_142 : decode cX2_isMovedBy 142 = .ok (.iload_n 3, 1) := dk_29 (dk_at dksX2_isMovedBy_6 0 rfl rfl)
theorem dX2_isMovedBy_143 : decode cX2_isMovedBy 143 = .ok (.dup2, 1) := dk_92 (dk_at dksX2_isMovedBy_6 1 rfl rfl)
theorem dX2_isMovedBy_144 : decode cX2_isMovedBy 144 = .ok (.iaload, 1) := dk_46 (dk_at dksX2_isMovedBy_6 2 rfl rfl)
theorem dX2_isMovedBy_145 : decode cX2_isMovedBy 145 = .ok (.iconst 1, 1) := dk_4 (dk_at dksX2_isMovedBy_6 3 rfl rfl)
theorem dX2_isMovedBy_146 : decode cX2_isMovedBy 146 = .ok (.iadd, 1) := dk_96 (dk_at dksX2_isMovedBy_6 4 rfl rfl)
theorem dX2_isMovedBy_147 : decode cX2_isMovedBy 147 = .ok (.iastore, 1) := dk_79 (dk_at dksX2_isMovedBy_6 5 rfl rfl)
theorem dX2_isMovedBy_148 : decode cX2_isMovedBy 148 = .ok (.iload 5, 2) := dk_21 5 (dk_at dksX2_isMovedBy_6 6 rfl rfl)
theorem dX2_isMovedBy_150 : decode cX2_isMovedBy 150 = .ok (.ifCond .eq 16, 3) := dk_153 0 16 (dk_at dksX2_isMovedBy_6 8 rfl rfl)
theorem dX2_isMovedBy_153 : decode cX2_isMovedBy 153 = .ok (.aload_n 0, 1) := dk_42 (dk_at dksX2_isMovedBy_6 11 rfl rfl)
theorem dX2_isMovedBy_154 : decode cX2_isMovedBy 154 = .ok (.iload 6, 2) := dk_21 6 (dk_at dksX2_isMovedBy_6 12 rfl rfl)
theorem dX2_isMovedBy_156 : decode cX2_isMovedBy 156 = .ok (.bipush 36, 2) := dk_16 36 (dk_at dksX2_isMovedBy_6 14 rfl rfl)
theorem dX2_isMovedBy_158 : decode cX2_isMovedBy 158 = .ok (.idiv, 1) := dk_108 (dk_at dksX2_isMovedBy_6 16 rfl rfl)
theorem dX2_isMovedBy_159 : decode cX2_isMovedBy 159 = .ok (.iload 7, 2) := dk_21 7 (dk_at dksX2_isMovedBy_6 17 rfl rfl)
theorem dX2_isMovedBy_161 : decode cX2_isMovedBy 161 = .ok (.iload 8, 2) := dk_21 8 (dk_at dksX2_isMovedBy_6 19 rfl rfl)
theorem dX2_isMovedBy_163 : decode cX2_isMovedBy 163 = .ok (.invokevirtual 179, 3) := dk_182 0 179 (dk_at dksX2_isMovedBy_6 21 rfl rfl)
theorem dX2_isMovedBy_166 : decode cX2_isMovedBy 166 = .ok (.goto (-121), 3) := dk_167 255 135 (dk_at dksX2_isMovedBy_7 0 rfl rfl)
theorem dX2_isMovedBy_169 : decode cX2_isMovedBy 169 = .ok (.iload 5, 2) := dk_21 5 (dk_at dksX2_isMovedBy_7 3 rfl rfl)
theorem dX2_isMovedBy_171 : decode cX2_isMovedBy 171 = .ok (.ifCond .eq 16, 3) := dk_153 0 16 (dk_at dksX2_isMovedBy_7 5 rfl rfl)
theorem dX2_isMovedBy_174 : decode cX2_isMovedBy 174 = .ok (.iinc 3 1, 3) := dk_132 3 1 (dk_at dksX2_isMovedBy_7 8 rfl rfl)
theorem dX2_isMovedBy_177 : decode cX2_isMovedBy 177 = .ok (.aload_n 0, 1) := dk_42 (dk_at dksX2_isMovedBy_7 11 rfl rfl)
theorem dX2_isMovedBy_178 : decode cX2_isMovedBy 178 = .ok (.getfield 34, 3) := dk_180 0 34 (dk_at dksX2_isMovedBy_7 12 rfl rfl)
theorem dX2_isMovedBy_181 : decode cX2_isMovedBy 181 = .ok (.iload_n 3, 1) := dk_29 (dk_at dksX2_isMovedBy_7 15 rfl rfl)
theorem dX2_isMovedBy_182 : decode cX2_isMovedBy 182 = .ok (.iconst 0, 1) := dk_3 (dk_at dksX2_isMovedBy_7 16 rfl rfl)
theorem dX2_isMovedBy_183 : decode cX2_isMovedBy 183 = .ok (.iastore, 1) := dk_79 (dk_at dksX2_isMovedBy_7 17 rfl rfl)
theorem dX2_isMovedBy_184 : decode cX2_isMovedBy 184 = .ok (.goto 42, 3) := dk_167 0 42 (dk_at dksX2_isMovedBy_7 18 rfl rfl)
theorem dX2_isMovedBy_187 : decode cX2_isMovedBy 187 = .ok (.iinc 3 (-1), 3) := dk_132 3 255 (dk_at dksX2_isMovedBy_7 21 rfl rfl)
theorem dX2_isMovedBy_190 : decode cX2_isMovedBy 190 = .ok (.iload_n 3, 1) := dk_29 (dk_at dksX2_isMovedBy_8 0 rfl rfl)
theorem dX2_isMovedBy_191 : decode cX2_isMovedBy 191 = .ok (.ifCond .lt 35, 3) := dk_155 0 35 (dk_at dksX2_isMovedBy_8 1 rfl rfl)
theorem dX2_isMovedBy_194 : decode cX2_isMovedBy 194 = .ok (.aload_n 0, 1) := dk_42 (dk_at dksX2_isMovedBy_8 4 rfl rfl)
theorem dX2_isMovedBy_195 : decode cX2_isMovedBy 195 = .ok (.getfield 34, 3) := dk_180 0 34 (dk_at dksX2_isMovedBy_8 5 rfl rfl)
theorem dX2_isMovedBy_198 : decode cX2_isMovedBy 198 = .ok (.iload_n 3, 1) := dk_29 (dk_at dksX2_isMovedBy_8 8 rfl rfl)
theorem dX2_isMovedBy_199 : decode cX2_isMovedBy 199 = .ok (.iaload, 1) := dk_46 (dk_at dksX2_isMovedBy_8 9 rfl rfl)
theorem dX2_isMovedBy_200 : decode cX2_isMovedBy 200 = .ok (.iconst 1, 1) := dk_4 (dk_at dksX2_isMovedBy_8 10 rfl rfl)
theorem dX2_isMovedBy_201 : decode cX2_isMovedBy 201 = .ok (.isub, 1) := dk_100 (dk_at dksX2_isMovedBy_8 11 rfl rfl)
theorem dX2_isMovedBy_202 : decode cX2_isMovedBy 202 = .ok (.istore 6, 2) := dk_54 6 (dk_at dksX2_isMovedBy_8 12 rfl rfl)
theorem dX2_isMovedBy_204 : decode cX2_isMovedBy 204 = .ok (.aload_n 0, 1) := dk_42 (dk_at dksX2_isMovedBy_8 14 rfl rfl)
theorem dX2_isMovedBy_205 : decode cX2_isMovedBy 205 = .ok (.iload 6, 2) := dk_21 6 (dk_at dksX2_isMovedBy_8 15 rfl rfl)
theorem dX2_isMovedBy_207 : decode cX2_isMovedBy 207 = .ok (.bipush 36, 2) := dk_16 36 (dk_at dksX2_isMovedBy_8 17 rfl rfl)
theorem dX2_isMovedBy_209 : decode cX2_isMovedBy 209 = .ok (.idiv, 1) := dk_108 (dk_at dksX2_isMovedBy_8 19 rfl rfl)
theorem dX2_isMovedBy_210 : decode cX2_isMovedBy 210 = .ok (.iload 6, 2) := dk_21 6 (dk_at dksX2_isMovedBy_8 20 rfl rfl)
theorem dX2_isMovedBy_212 : decode cX2_isMovedBy 212 = .ok (.bipush 6, 2) := dk_16 6 (dk_at dksX2_isMovedBy_8 22 rfl rfl)
theorem dX2_isMovedBy_214 : decode cX2_isMovedBy 214 = .ok (.irem, 1) := dk_112 (dk_at dksX2_isMovedBy_9 0 rfl rfl)
theorem dX2_isMovedBy_215 : decode cX2_isMovedBy 215 = .ok (.iload 6, 2) := dk_21 6 (dk_at dksX2_isMovedBy_9 1 rfl rfl)
theorem dX2_isMovedBy_217 : decode cX2_isMovedBy 217 = .ok (.bipush 6, 2) := dk_16 6 (dk_at dksX2_isMovedBy_9 3 rfl rfl)
theorem dX2_isMovedBy_219 : decode cX2_isMovedBy 219 = .ok (.idiv, 1) := dk_108 (dk_at dksX2_isMovedBy_9 5 rfl rfl)
theorem dX2_isMovedBy_220 : decode cX2_isMovedBy 220 = .ok (.bipush 6, 2) := dk_16 6 (dk_at dksX2_isMovedBy_9 6 rfl rfl)
theorem dX2_isMovedBy_222 : decode cX2_isMovedBy 222 = .ok (.irem, 1) := dk_112 (dk_at dksX2_isMovedBy_9 8 rfl rfl)
theorem dX2_isMovedBy_223 : decode cX2_isMovedBy 223 = .ok (.invokevirtual 179, 3) := dk_182 0 179 (dk_at dksX2_isMovedBy_9 9 rfl rfl)
theorem dX2_isMovedBy_226 : decode cX2_isMovedBy 226 = .ok (.goto (-202), 3) := dk_167 255 54 (dk_at dksX2_isMovedBy_9 12 rfl rfl)
theorem dX2_isMovedBy_229 : decode cX2_isMovedBy 229 = .ok (.iconst 0, 1) := dk_3 (dk_at dksX2_isMovedBy_9 15 rfl rfl)
theorem dX2_isMovedBy_230 : decode cX2_isMovedBy 230 = .ok (.ireturn, 1) := dk_172 (dk_at dksX2_isMovedBy_9 16 rfl rfl)
abbrev cX2_above : ByteArray := prog_11_method_43_code
def yX2_above : MethodName := ⟨RX2, "above", "(I)I"⟩
def dkwX2_above_1 : List UInt8 := [27, 164, 0, 10, 21, 4, 27, 100, 167, 0, 4, 3, 96, 61, 132, 3, 1, 167, 255, 219, 28, 172]
abbrev dktX2_above_1 : List UInt8 := dkwX2_above_1 ++ []
def dkwX2_above_0 : List UInt8 := [3, 61, 3, 62, 29, 16, 6, 162, 0, 37, 42, 42, 180, 0, 25, 29, 182, 0, 95, 54, 4, 28, 21, 4]
abbrev dktX2_above_0 : List UInt8 := dkwX2_above_0 ++ dktX2_above_1
theorem dksX2_above_0 : cX2_above.data.toList.drop 0 = dktX2_above_0 := by decide +kernel
theorem dksX2_above_1 : cX2_above.data.toList.drop 24 = dktX2_above_1 := dk_seg dksX2_above_0 24 rfl rfl
theorem dX2_above_0 : decode cX2_above 0 = .ok (.iconst 0, 1) := dk_3 (dk_at dksX2_above_0 0 rfl rfl)
theorem dX2_above_1 : decode cX2_above 1 = .ok (.istore_n 2, 1) := dk_61 (dk_at dksX2_above_0 1 rfl rfl)
theorem dX2_above_2 : decode cX2_above 2 = .ok (.iconst 0, 1) := dk_3 (dk_at dksX2_above_0 2 rfl rfl)
theorem dX2_above_3 : decode cX2_above 3 = .ok (.istore_n 3, 1) := dk_62 (dk_at dksX2_above_0 3 rfl rfl)
theorem dX2_above_4 : decode cX2_above 4 = .ok (.iload_n 3, 1) := dk_29 (dk_at dksX2_above_0 4 rfl rfl)
theorem dX2_above_5 : decode cX2_above 5 = .ok (.bipush 6, 2) := dk_16 6 (dk_at dksX2_above_0 5 rfl rfl)
theorem dX2_above_7 : decode cX2_above 7 = .ok (.if_icmp .ge 37, 3) := dk_162 0 37 (dk_at dksX2_above_0 7 rfl rfl)
theorem dX2_above_10 : decode cX2_above 10 = .ok (.aload_n 0, 1) := dk_42 (dk_at dksX2_above_0 10 rfl rfl)
theorem dX2_above_11 : decode cX2_above 11 = .ok (.aload_n 0, 1) := dk_42 (dk_at dksX2_above_0 11 rfl rfl)
theorem dX2_above_12 : decode cX2_above 12 = .ok (.getfield 25, 3) := dk_180 0 25 (dk_at dksX2_above_0 12 rfl rfl)
theorem dX2_above_15 : decode cX2_above 15 = .ok (.iload_n 3, 1) := dk_29 (dk_at dksX2_above_0 15 rfl rfl)
theorem dX2_above_16 : decode cX2_above 16 = .ok (.invokevirtual 95, 3) := dk_182 0 95 (dk_at dksX2_above_0 16 rfl rfl)
theorem dX2_above_19 : decode cX2_above 19 = .ok (.istore 4, 2) := dk_54 4 (dk_at dksX2_above_0 19 rfl rfl)
theorem dX2_above_21 : decode cX2_above 21 = .ok (.iload_n 2, 1) := dk_28 (dk_at dksX2_above_0 21 rfl rfl)
theorem dX2_above_22 : decode cX2_above 22 = .ok (.iload 4, 2) := dk_21 4 (dk_at dksX2_above_0 22 rfl rfl)
theorem dX2_above_24 : decode cX2_above 24 = .ok (.iload_n 1, 1) := dk_27 (dk_at dksX2_above_1 0 rfl rfl)
theorem dX2_above_25 : decode cX2_above 25 = .ok (.if_icmp .le 10, 3) := dk_164 0 10 (dk_at dksX2_above_1 1 rfl rfl)
theorem dX2_above_28 : decode cX2_above 28 = .ok (.iload 4, 2) := dk_21 4 (dk_at dksX2_above_1 4 rfl rfl)
theorem dX2_above_30 : decode cX2_above 30 = .ok (.iload_n 1, 1) := dk_27 (dk_at dksX2_above_1 6 rfl rfl)
theorem dX2_above_31 : decode cX2_above 31 = .ok (.isub, 1) := dk_100 (dk_at dksX2_above_1 7 rfl rfl)
theorem dX2_above_32 : decode cX2_above 32 = .ok (.goto 4, 3) := dk_167 0 4 (dk_at dksX2_above_1 8 rfl rfl)
theorem dX2_above_35 : decode cX2_above 35 = .ok (.iconst 0, 1) := dk_3 (dk_at dksX2_above_1 11 rfl rfl)
theorem dX2_above_36 : decode cX2_above 36 = .ok (.iadd, 1) := dk_96 (dk_at dksX2_above_1 12 rfl rfl)
theorem dX2_above_37 : decode cX2_above 37 = .ok (.istore_n 2, 1) := dk_61 (dk_at dksX2_above_1 13 rfl rfl)
theorem dX2_above_38 : decode cX2_above 38 = .ok (.iinc 3 1, 3) := dk_132 3 1 (dk_at dksX2_above_1 14 rfl rfl)
theorem dX2_above_41 : decode cX2_above 41 = .ok (.goto (-37), 3) := dk_167 255 219 (dk_at dksX2_above_1 17 rfl rfl)
theorem dX2_above_44 : decode cX2_above 44 = .ok (.iload_n 2, 1) := dk_28 (dk_at dksX2_above_1 20 rfl rfl)
theorem dX2_above_45 : decode cX2_above 45 = .ok (.ireturn, 1) := dk_172 (dk_at dksX2_above_1 21 rfl rfl)
abbrev cX2_renameNow : ByteArray := prog_11_method_44_code
def yX2_renameNow : MethodName := ⟨RX2, "renameNow", "(III)V"⟩
def dkwX2_renameNow_0 : List UInt8 := [42, 180, 0, 25, 27, 42, 180, 0, 25, 27, 46, 4, 28, 120, 2, 130, 126, 4, 29, 120, 128, 79, 177]
abbrev dktX2_renameNow_0 : List UInt8 := dkwX2_renameNow_0 ++ []
theorem dksX2_renameNow_0 : cX2_renameNow.data.toList.drop 0 = dktX2_renameNow_0 := by decide +kernel
theorem dX2_renameNow_0 : decode cX2_renameNow 0 = .ok (.aload_n 0, 1) := dk_42 (dk_at dksX2_renameNow_0 0 rfl rfl)
theorem dX2_renameNow_1 : decode cX2_renameNow 1 = .ok (.getfield 25, 3) := dk_180 0 25 (dk_at dksX2_renameNow_0 1 rfl rfl)
theorem dX2_renameNow_4 : decode cX2_renameNow 4 = .ok (.iload_n 1, 1) := dk_27 (dk_at dksX2_renameNow_0 4 rfl rfl)
theorem dX2_renameNow_5 : decode cX2_renameNow 5 = .ok (.aload_n 0, 1) := dk_42 (dk_at dksX2_renameNow_0 5 rfl rfl)
theorem dX2_renameNow_6 : decode cX2_renameNow 6 = .ok (.getfield 25, 3) := dk_180 0 25 (dk_at dksX2_renameNow_0 6 rfl rfl)
theorem dX2_renameNow_9 : decode cX2_renameNow 9 = .ok (.iload_n 1, 1) := dk_27 (dk_at dksX2_renameNow_0 9 rfl rfl)
theorem dX2_renameNow_10 : decode cX2_renameNow 10 = .ok (.iaload, 1) := dk_46 (dk_at dksX2_renameNow_0 10 rfl rfl)
theorem dX2_renameNow_11 : decode cX2_renameNow 11 = .ok (.iconst 1, 1) := dk_4 (dk_at dksX2_renameNow_0 11 rfl rfl)
theorem dX2_renameNow_12 : decode cX2_renameNow 12 = .ok (.iload_n 2, 1) := dk_28 (dk_at dksX2_renameNow_0 12 rfl rfl)
theorem dX2_renameNow_13 : decode cX2_renameNow 13 = .ok (.ishl, 1) := dk_120 (dk_at dksX2_renameNow_0 13 rfl rfl)
theorem dX2_renameNow_14 : decode cX2_renameNow 14 = .ok (.iconst (-1), 1) := dk_2 (dk_at dksX2_renameNow_0 14 rfl rfl)
theorem dX2_renameNow_15 : decode cX2_renameNow 15 = .ok (.ixor, 1) := dk_130 (dk_at dksX2_renameNow_0 15 rfl rfl)
theorem dX2_renameNow_16 : decode cX2_renameNow 16 = .ok (.iand, 1) := dk_126 (dk_at dksX2_renameNow_0 16 rfl rfl)
theorem dX2_renameNow_17 : decode cX2_renameNow 17 = .ok (.iconst 1, 1) := dk_4 (dk_at dksX2_renameNow_0 17 rfl rfl)
theorem dX2_renameNow_18 : decode cX2_renameNow 18 = .ok (.iload_n 3, 1) := dk_29 (dk_at dksX2_renameNow_0 18 rfl rfl)
theorem dX2_renameNow_19 : decode cX2_renameNow 19 = .ok (.ishl, 1) := dk_120 (dk_at dksX2_renameNow_0 19 rfl rfl)
theorem dX2_renameNow_20 : decode cX2_renameNow 20 = .ok (.ior, 1) := dk_128 (dk_at dksX2_renameNow_0 20 rfl rfl)
theorem dX2_renameNow_21 : decode cX2_renameNow 21 = .ok (.iastore, 1) := dk_79 (dk_at dksX2_renameNow_0 21 rfl rfl)
theorem dX2_renameNow_22 : decode cX2_renameNow 22 = .ok (.return_, 1) := dk_177 (dk_at dksX2_renameNow_0 22 rfl rfl)
abbrev cX2_ashes : ByteArray := prog_11_method_47_code
def yX2_ashes : MethodName := ⟨RX2, "ashes", "(I)I"⟩
def dkwX2_ashes_2 : List UInt8 := [180, 0, 87, 4, 96, 181, 0, 87, 42, 180, 0, 87, 172]
abbrev dktX2_ashes_2 : List UInt8 := dkwX2_ashes_2 ++ []
def dkwX2_ashes_1 : List UInt8 := [180, 0, 87, 8, 160, 0, 6, 16, 152, 172, 42, 180, 0, 37, 42, 180, 0, 87, 27, 79, 42, 89]
abbrev dktX2_ashes_1 : List UInt8 := dkwX2_ashes_1 ++ dktX2_ashes_2
def dkwX2_ashes_0 : List UInt8 := [27, 133, 20, 0, 189, 4, 42, 180, 0, 81, 120, 4, 100, 133, 184, 0, 61, 154, 0, 6, 16, 154, 172, 42]
abbrev dktX2_ashes_0 : List UInt8 := dkwX2_ashes_0 ++ dktX2_ashes_1
theorem dksX2_ashes_0 : cX2_ashes.data.toList.drop 0 = dktX2_ashes_0 := by decide +kernel
theorem dksX2_ashes_1 : cX2_ashes.data.toList.drop 24 = dktX2_ashes_1 := dk_seg dksX2_ashes_0 24 rfl rfl
theorem dksX2_ashes_2 : cX2_ashes.data.toList.drop 46 = dktX2_ashes_2 := dk_seg dksX2_ashes_1 22 rfl rfl
theorem dX2_ashes_0 : decode cX2_ashes 0 = .ok (.iload_n 1, 1) := dk_27 (dk_at dksX2_ashes_0 0 rfl rfl)
theorem dX2_ashes_1 : decode cX2_ashes 1 = .ok (.i2l, 1) := dk_133 (dk_at dksX2_ashes_0 1 rfl rfl)
theorem dX2_ashes_2 : decode cX2_ashes 2 = .ok (.ldc2_w 189, 3) := dk_20 0 189 (dk_at dksX2_ashes_0 2 rfl rfl)
theorem dX2_ashes_5 : decode cX2_ashes 5 = .ok (.iconst 1, 1) := dk_4 (dk_at dksX2_ashes_0 5 rfl rfl)
theorem dX2_ashes_6 : decode cX2_ashes 6 = .ok (.aload_n 0, 1) := dk_42 (dk_at dksX2_ashes_0 6 rfl rfl)
theorem dX2_ashes_7 : decode cX2_ashes 7 = .ok (.getfield 81, 3) := dk_180 0 81 (dk_at dksX2_ashes_0 7 rfl rfl)
theorem dX2_ashes_10 : decode cX2_ashes 10 = .ok (.ishl, 1) := dk_120 (dk_at dksX2_ashes_0 10 rfl rfl)
theorem dX2_ashes_11 : decode cX2_ashes 11 = .ok (.iconst 1, 1) := dk_4 (dk_at dksX2_ashes_0 11 rfl rfl)
theorem dX2_ashes_12 : decode cX2_ashes 12 = .ok (.isub, 1) := dk_100 (dk_at dksX2_ashes_0 12 rfl rfl)
theorem dX2_ashes_13 : decode cX2_ashes 13 = .ok (.i2l, 1) := dk_133 (dk_at dksX2_ashes_0 13 rfl rfl)
theorem dX2_ashes_14 : decode cX2_ashes 14 = .ok (.invokestatic 61, 3) := dk_184 0 61 (dk_at dksX2_ashes_0 14 rfl rfl)
theorem dX2_ashes_17 : decode cX2_ashes 17 = .ok (.ifCond .ne 6, 3) := dk_154 0 6 (dk_at dksX2_ashes_0 17 rfl rfl)
theorem dX2_ashes_20 : decode cX2_ashes 20 = .ok (.bipush (-102), 2) := dk_16 154 (dk_at dksX2_ashes_0 20 rfl rfl)
theorem dX2_ashes_22 : decode cX2_ashes 22 = .ok (.ireturn, 1) := dk_172 (dk_at dksX2_ashes_0 22 rfl rfl)
theorem dX2_ashes_23 : decode cX2_ashes 23 = .ok (.aload_n 0, 1) := dk_42 (dk_at dksX2_ashes_0 23 rfl rfl)
theorem dX2_ashes_24 : decode cX2_ashes 24 = .ok (.getfield 87, 3) := dk_180 0 87 (dk_at dksX2_ashes_1 0 rfl rfl)
theorem dX2_ashes_27 : decode cX2_ashes 27 = .ok (.iconst 5, 1) := dk_8 (dk_at dksX2_ashes_1 3 rfl rfl)
theorem dX2_ashes_28 : decode cX2_ashes 28 = .ok (.if_icmp .ne 6, 3) := dk_160 0 6 (dk_at dksX2_ashes_1 4 rfl rfl)
theorem dX2_ashes_31 : decode cX2_ashes 31 = .ok (.bipush (-104), 2) := dk_16 152 (dk_at dksX2_ashes_1 7 rfl rfl)
theorem dX2_ashes_33 : decode cX2_ashes 33 = .ok (.ireturn, 1) := dk_172 (dk_at dksX2_ashes_1 9 rfl rfl)
theorem dX2_ashes_34 : decode cX2_ashes 34 = .ok (.aload_n 0, 1) := dk_42 (dk_at dksX2_ashes_1 10 rfl rfl)
theorem dX2_ashes_35 : decode cX2_ashes 35 = .ok (.getfield 37, 3) := dk_180 0 37 (dk_at dksX2_ashes_1 11 rfl rfl)
theorem dX2_ashes_38 : decode cX2_ashes 38 = .ok (.aload_n 0, 1) := dk_42 (dk_at dksX2_ashes_1 14 rfl rfl)
theorem dX2_ashes_39 : decode cX2_ashes 39 = .ok (.getfield 87, 3) := dk_180 0 87 (dk_at dksX2_ashes_1 15 rfl rfl)
theorem dX2_ashes_42 : decode cX2_ashes 42 = .ok (.iload_n 1, 1) := dk_27 (dk_at dksX2_ashes_1 18 rfl rfl)
theorem dX2_ashes_43 : decode cX2_ashes 43 = .ok (.iastore, 1) := dk_79 (dk_at dksX2_ashes_1 19 rfl rfl)
theorem dX2_ashes_44 : decode cX2_ashes 44 = .ok (.aload_n 0, 1) := dk_42 (dk_at dksX2_ashes_1 20 rfl rfl)
theorem dX2_ashes_45 : decode cX2_ashes 45 = .ok (.dup, 1) := dk_89 (dk_at dksX2_ashes_1 21 rfl rfl)
theorem dX2_ashes_46 : decode cX2_ashes 46 = .ok (.getfield 87, 3) := dk_180 0 87 (dk_at dksX2_ashes_2 0 rfl rfl)
theorem dX2_ashes_49 : decode cX2_ashes 49 = .ok (.iconst 1, 1) := dk_4 (dk_at dksX2_ashes_2 3 rfl rfl)
theorem dX2_ashes_50 : decode cX2_ashes 50 = .ok (.iadd, 1) := dk_96 (dk_at dksX2_ashes_2 4 rfl rfl)
theorem dX2_ashes_51 : decode cX2_ashes 51 = .ok (.putfield 87, 3) := dk_181 0 87 (dk_at dksX2_ashes_2 5 rfl rfl)
theorem dX2_ashes_54 : decode cX2_ashes 54 = .ok (.aload_n 0, 1) := dk_42 (dk_at dksX2_ashes_2 8 rfl rfl)
theorem dX2_ashes_55 : decode cX2_ashes 55 = .ok (.getfield 87, 3) := dk_180 0 87 (dk_at dksX2_ashes_2 9 rfl rfl)
theorem dX2_ashes_58 : decode cX2_ashes 58 = .ok (.ireturn, 1) := dk_172 (dk_at dksX2_ashes_2 12 rfl rfl)
abbrev cX2_forget : ByteArray := prog_11_method_48_code
def yX2_forget : MethodName := ⟨RX2, "forget", "()I"⟩
def dkwX2_forget_0 : List UInt8 := [42, 180, 0, 87, 60, 42, 3, 181, 0, 87, 27, 172]
abbrev dktX2_forget_0 : List UInt8 := dkwX2_forget_0 ++ []
theorem dksX2_forget_0 : cX2_forget.data.toList.drop 0 = dktX2_forget_0 := by decide +kernel
theorem dX2_forget_0 : decode cX2_forget 0 = .ok (.aload_n 0, 1) := dk_42 (dk_at dksX2_forget_0 0 rfl rfl)
theorem dX2_forget_1 : decode cX2_forget 1 = .ok (.getfield 87, 3) := dk_180 0 87 (dk_at dksX2_forget_0 1 rfl rfl)
theorem dX2_forget_4 : decode cX2_forget 4 = .ok (.istore_n 1, 1) := dk_60 (dk_at dksX2_forget_0 4 rfl rfl)
theorem dX2_forget_5 : decode cX2_forget 5 = .ok (.aload_n 0, 1) := dk_42 (dk_at dksX2_forget_0 5 rfl rfl)
theorem dX2_forget_6 : decode cX2_forget 6 = .ok (.iconst 0, 1) := dk_3 (dk_at dksX2_forget_0 6 rfl rfl)
theorem dX2_forget_7 : decode cX2_forget 7 = .ok (.putfield 87, 3) := dk_181 0 87 (dk_at dksX2_forget_0 7 rfl rfl)
theorem dX2_forget_10 : decode cX2_forget 10 = .ok (.iload_n 1, 1) := dk_27 (dk_at dksX2_forget_0 10 rfl rfl)
theorem dX2_forget_11 : decode cX2_forget 11 = .ok (.ireturn, 1) := dk_172 (dk_at dksX2_forget_0 11 rfl rfl)
abbrev cX2_fits : ByteArray := prog_11_method_52_code
def yX2_fits : MethodName := ⟨RX2, "fits", "()I"⟩
def dkwX2_fits_0 : List UInt8 := [42, 182, 0, 109, 153, 0, 8, 16, 153, 167, 0, 7, 42, 182, 0, 197, 172]
abbrev dktX2_fits_0 : List UInt8 := dkwX2_fits_0 ++ []
theorem dksX2_fits_0 : cX2_fits.data.toList.drop 0 = dktX2_fits_0 := by decide +kernel
theorem dX2_fits_0 : decode cX2_fits 0 = .ok (.aload_n 0, 1) := dk_42 (dk_at dksX2_fits_0 0 rfl rfl)
theorem dX2_fits_1 : decode cX2_fits 1 = .ok (.invokevirtual 109, 3) := dk_182 0 109 (dk_at dksX2_fits_0 1 rfl rfl)
theorem dX2_fits_4 : decode cX2_fits 4 = .ok (.ifCond .eq 8, 3) := dk_153 0 8 (dk_at dksX2_fits_0 4 rfl rfl)
theorem dX2_fits_7 : decode cX2_fits 7 = .ok (.bipush (-103), 2) := dk_16 153 (dk_at dksX2_fits_0 7 rfl rfl)
theorem dX2_fits_9 : decode cX2_fits 9 = .ok (.goto 7, 3) := dk_167 0 7 (dk_at dksX2_fits_0 9 rfl rfl)
theorem dX2_fits_12 : decode cX2_fits 12 = .ok (.aload_n 0, 1) := dk_42 (dk_at dksX2_fits_0 12 rfl rfl)
theorem dX2_fits_13 : decode cX2_fits 13 = .ok (.invokevirtual 197, 3) := dk_182 0 197 (dk_at dksX2_fits_0 13 rfl rfl)
theorem dX2_fits_16 : decode cX2_fits 16 = .ok (.ireturn, 1) := dk_172 (dk_at dksX2_fits_0 16 rfl rfl)
abbrev cX2_layFits : ByteArray := prog_11_method_51_code
def yX2_layFits : MethodName := ⟨RX2, "layFits", "()I"⟩
def dkwX2_layFits_4 : List UInt8 := [172]
abbrev dktX2_layFits_4 : List UInt8 := dkwX2_layFits_4 ++ []
def dkwX2_layFits_3 : List UInt8 := [16, 6, 112, 120, 128, 79, 29, 16, 6, 108, 62, 132, 4, 1, 167, 255, 223, 132, 2, 1, 167, 255, 188, 27]
abbrev dktX2_layFits_3 : List UInt8 := dkwX2_layFits_3 ++ dktX2_layFits_4
def dkwX2_layFits_2 : List UInt8 := [28, 62, 3, 54, 4, 21, 4, 42, 180, 0, 87, 162, 0, 30, 42, 180, 0, 40, 21, 4, 92, 46, 4, 29]
abbrev dktX2_layFits_2 : List UInt8 := dkwX2_layFits_2 ++ dktX2_layFits_3
def dkwX2_layFits_1 : List UInt8 := [28, 16, 6, 42, 180, 0, 87, 184, 0, 150, 162, 0, 61, 42, 28, 182, 0, 194, 153, 0, 47, 132, 1, 1]
abbrev dktX2_layFits_1 : List UInt8 := dkwX2_layFits_1 ++ dktX2_layFits_2
def dkwX2_layFits_0 : List UInt8 := [3, 60, 27, 8, 162, 0, 16, 42, 180, 0, 40, 27, 3, 79, 132, 1, 1, 167, 255, 241, 3, 60, 3, 61]
abbrev dktX2_layFits_0 : List UInt8 := dkwX2_layFits_0 ++ dktX2_layFits_1
theorem dksX2_layFits_0 : cX2_layFits.data.toList.drop 0 = dktX2_layFits_0 := by decide +kernel
theorem dksX2_layFits_1 : cX2_layFits.data.toList.drop 24 = dktX2_layFits_1 := dk_seg dksX2_layFits_0 24 rfl rfl
theorem dksX2_layFits_2 : cX2_layFits.data.toList.drop 48 = dktX2_layFits_2 := dk_seg dksX2_layFits_1 24 rfl rfl
theorem dksX2_layFits_3 : cX2_layFits.data.toList.drop 72 = dktX2_layFits_3 := dk_seg dksX2_layFits_2 24 rfl rfl
theorem dksX2_layFits_4 : cX2_layFits.data.toList.drop 96 = dktX2_layFits_4 := dk_seg dksX2_layFits_3 24 rfl rfl
theorem dX2_layFits_0 : decode cX2_layFits 0 = .ok (.iconst 0, 1) := dk_3 (dk_at dksX2_layFits_0 0 rfl rfl)
theorem dX2_layFits_1 : decode cX2_layFits 1 = .ok (.istore_n 1, 1) := dk_60 (dk_at dksX2_layFits_0 1 rfl rfl)
theorem dX2_layFits_2 : decode cX2_layFits 2 = .ok (.iload_n 1, 1) := dk_27 (dk_at dksX2_layFits_0 2 rfl rfl)
theorem dX2_layFits_3 : decode cX2_layFits 3 = .ok (.iconst 5, 1) := dk_8 (dk_at dksX2_layFits_0 3 rfl rfl)
theorem dX2_layFits_4 : decode cX2_layFits 4 = .ok (.if_icmp .ge 16, 3) := dk_162 0 16 (dk_at dksX2_layFits_0 4 rfl rfl)
theorem dX2_layFits_7 : decode cX2_layFits 7 = .ok (.aload_n 0, 1) := dk_42 (dk_at dksX2_layFits_0 7 rfl rfl)
theorem dX2_layFits_8 : decode cX2_layFits 8 = .ok (.getfield 40, 3) := dk_180 0 40 (dk_at dksX2_layFits_0 8 rfl rfl)
theorem dX2_layFits_11 : decode cX2_layFits 11 = .ok (.iload_n 1, 1) := dk_27 (dk_at dksX2_layFits_0 11 rfl rfl)
theorem dX2_layFits_12 : decode cX2_layFits 12 = .ok (.iconst 0, 1) := dk_3 (dk_at dksX2_layFits_0 12 rfl rfl)
theorem dX2_layFits_13 : decode cX2_layFits 13 = .ok (.iastore, 1) := dk_79 (dk_at dksX2_layFits_0 13 rfl rfl)
theorem dX2_layFits_14 : decode cX2_layFits 14 = .ok (.iinc 1 1, 3) := dk_132 1 1 (dk_at dksX2_layFits_0 14 rfl rfl)
theorem dX2_layFits_17 : decode cX2_layFits 17 = .ok (.goto (-15), 3) := dk_167 255 241 (dk_at dksX2_layFits_0 17 rfl rfl)
theorem dX2_layFits_20 : decode cX2_layFits 20 = .ok (.iconst 0, 1) := dk_3 (dk_at dksX2_layFits_0 20 rfl rfl)
theorem dX2_layFits_21 : decode cX2_layFits 21 = .ok (.istore_n 1, 1) := dk_60 (dk_at dksX2_layFits_0 21 rfl rfl)
theorem dX2_layFits_22 : decode cX2_layFits 22 = .ok (.iconst 0, 1) := dk_3 (dk_at dksX2_layFits_0 22 rfl rfl)
theorem dX2_layFits_23 : decode cX2_layFits 23 = .ok (.istore_n 2, 1) := dk_61 (dk_at dksX2_layFits_0 23 rfl rfl)
theorem dX2_layFits_24 : decode cX2_layFits 24 = .ok (.iload_n 2, 1) := dk_28 (dk_at dksX2_layFits_1 0 rfl rfl)
theorem dX2_layFits_25 : decode cX2_layFits 25 = .ok (.bipush 6, 2) := dk_16 6 (dk_at dksX2_layFits_1 1 rfl rfl)
theorem dX2_layFits_27 : decode cX2_layFits 27 = .ok (.aload_n 0, 1) := dk_42 (dk_at dksX2_layFits_1 3 rfl rfl)
theorem dX2_layFits_28 : decode cX2_layFits 28 = .ok (.getfield 87, 3) := dk_180 0 87 (dk_at dksX2_layFits_1 4 rfl rfl)
theorem dX2_layFits_31 : decode cX2_layFits 31 = .ok (.invokestatic 150, 3) := dk_184 0 150 (dk_at dksX2_layFits_1 7 rfl rfl)
theorem dX2_layFits_34 : decode cX2_layFits 34 = .ok (.if_icmp .ge 61, 3) := dk_162 0 61 (dk_at dksX2_layFits_1 10 rfl rfl)
theorem dX2_layFits_37 : decode cX2_layFits 37 = .ok (.aload_n 0, 1) := dk_42 (dk_at dksX2_layFits_1 13 rfl rfl)
theorem dX2_layFits_38 : decode cX2_layFits 38 = .ok (.iload_n 2, 1) := dk_28 (dk_at dksX2_layFits_1 14 rfl rfl)
theorem dX2_layFits_39 : decode cX2_layFits 39 = .ok (.invokevirtual 194, 3) := dk_182 0 194 (dk_at dksX2_layFits_1 15 rfl rfl)
theorem dX2_layFits_42 : decode cX2_layFits 42 = .ok (.ifCond .eq 47, 3) := dk_153 0 47 (dk_at dksX2_layFits_1 18 rfl rfl)
theorem dX2_layFits_45 : decode cX2_layFits 45 = .ok (.iinc 1 1, 3) := dk_132 1 1 (dk_at dksX2_layFits_1 21 rfl rfl)
theorem dX2_layFits_48 : decode cX2_layFits 48 = .ok (.iload_n 2, 1) := dk_28 (dk_at dksX2_layFits_2 0 rfl rfl)
theorem dX2_layFits_49 : decode cX2_layFits 49 = .ok (.istore_n 3, 1) := dk_62 (dk_at dksX2_layFits_2 1 rfl rfl)
theorem dX2_layFits_50 : decode cX2_layFits 50 = .ok (.iconst 0, 1) := dk_3 (dk_at dksX2_layFits_2 2 rfl rfl)
theorem dX2_layFits_51 : decode cX2_layFits 51 = .ok (.istore 4, 2) := dk_54 4 (dk_at dksX2_layFits_2 3 rfl rfl)
theorem dX2_layFits_53 : decode cX2_layFits 53 = .ok (.iload 4, 2) := dk_21 4 (dk_at dksX2_layFits_2 5 rfl rfl)
theorem dX2_layFits_55 : decode cX2_layFits 55 = .ok (.aload_n 0, 1) := dk_42 (dk_at dksX2_layFits_2 7 rfl rfl)
theorem dX2_layFits_56 : decode cX2_layFits 56 = .ok (.getfield 87, 3) := dk_180 0 87 (dk_at dksX2_layFits_2 8 rfl rfl)
theorem dX2_layFits_59 : decode cX2_layFits 59 = .ok (.if_icmp .ge 30, 3) := dk_162 0 30 (dk_at dksX2_layFits_2 11 rfl rfl)
theorem dX2_layFits_62 : decode cX2_layFits 62 = .ok (.aload_n 0, 1) := dk_42 (dk_at dksX2_layFits_2 14 rfl rfl)
theorem dX2_layFits_63 : decode cX2_layFits 63 = .ok (.getfield 40, 3) := dk_180 0 40 (dk_at dksX2_layFits_2 15 rfl rfl)
theorem dX2_layFits_66 : decode cX2_layFits 66 = .ok (.iload 4, 2) := dk_21 4 (dk_at dksX2_layFits_2 18 rfl rfl)
theorem dX2_layFits_68 : decode cX2_layFits 68 = .ok (.dup2, 1) := dk_92 (dk_at dksX2_layFits_2 20 rfl rfl)
theorem dX2_layFits_69 : decode cX2_layFits 69 = .ok (.iaload, 1) := dk_46 (dk_at dksX2_layFits_2 21 rfl rfl)
theorem dX2_layFits_70 : decode cX2_layFits 70 = .ok (.iconst 1, 1) := dk_4 (dk_at dksX2_layFits_2 22 rfl rfl)
theorem dX2_layFits_71 : decode cX2_layFits 71 = .ok (.iload_n 3, 1) := dk_29 (dk_at dksX2_layFits_2 23 rfl rfl)
theorem dX2_layFits_72 : decode cX2_layFits 72 = .ok (.bipush 6, 2) := dk_16 6 (dk_at dksX2_layFits_3 0 rfl rfl)
theorem dX2_layFits_74 : decode cX2_layFits 74 = .ok (.irem, 1) := dk_112 (dk_at dksX2_layFits_3 2 rfl rfl)
theorem dX2_layFits_75 : decode cX2_layFits 75 = .ok (.ishl, 1) := dk_120 (dk_at dksX2_layFits_3 3 rfl rfl)
theorem dX2_layFits_76 : decode cX2_layFits 76 = .ok (.ior, 1) := dk_128 (dk_at dksX2_layFits_3 4 rfl rfl)
theorem dX2_layFits_77 : decode cX2_layFits 77 = .ok (.iastore, 1) := dk_79 (dk_at dksX2_layFits_3 5 rfl rfl)
theorem dX2_layFits_78 : decode cX2_layFits 78 = .ok (.iload_n 3, 1) := dk_29 (dk_at dksX2_layFits_3 6 rfl rfl)
theorem dX2_layFits_79 : decode cX2_layFits 79 = .ok (.bipush 6, 2) := dk_16 6 (dk_at dksX2_layFits_3 7 rfl rfl)
theorem dX2_layFits_81 : decode cX2_layFits 81 = .ok (.idiv, 1) := dk_108 (dk_at dksX2_layFits_3 9 rfl rfl)
theorem dX2_layFits_82 : decode cX2_layFits 82 = .ok (.istore_n 3, 1) := dk_62 (dk_at dksX2_layFits_3 10 rfl rfl)
theorem dX2_layFits_83 : decode cX2_layFits 83 = .ok (.iinc 4 1, 3) := dk_132 4 1 (dk_at dksX2_layFits_3 11 rfl rfl)
theorem dX2_layFits_86 : decode cX2_layFits 86 = .ok (.goto (-33), 3) := dk_167 255 223 (dk_at dksX2_layFits_3 14 rfl rfl)
theorem dX2_layFits_89 : decode cX2_layFits 89 = .ok (.iinc 2 1, 3) := dk_132 2 1 (dk_at dksX2_layFits_3 17 rfl rfl)
theorem dX2_layFits_92 : decode cX2_layFits 92 = .ok (.goto (-68), 3) := dk_167 255 188 (dk_at dksX2_layFits_3 20 rfl rfl)
theorem dX2_layFits_95 : decode cX2_layFits 95 = .ok (.iload_n 1, 1) := dk_27 (dk_at dksX2_layFits_3 23 rfl rfl)
theorem dX2_layFits_96 : decode cX2_layFits 96 = .ok (.ireturn, 1) := dk_172 (dk_at dksX2_layFits_4 0 rfl rfl)
abbrev cX2_isToldBy : ByteArray := prog_11_method_50_code
def yX2_isToldBy : MethodName := ⟨RX2, "isToldBy", "(I)Z"⟩
def dkwX2_isToldBy_3 : List UInt8 := [42, 182, 0, 191, 160, 0, 7, 4, 167, 0, 4, 3, 62, 132, 4, 1, 167, 255, 180, 29, 172]
abbrev dktX2_isToldBy_3 : List UInt8 := dkwX2_isToldBy_3 ++ []
def dkwX2_isToldBy_2 : List UInt8 := [21, 5, 46, 158, 0, 32, 42, 180, 0, 37, 21, 4, 46, 2, 159, 0, 17, 42, 180, 0, 37, 21, 4, 46]
abbrev dktX2_isToldBy_2 : List UInt8 := dkwX2_isToldBy_2 ++ dktX2_isToldBy_3
def dkwX2_isToldBy_1 : List UInt8 := [28, 16, 6, 112, 54, 5, 28, 16, 6, 108, 61, 42, 21, 5, 182, 0, 147, 54, 6, 42, 180, 0, 13]
abbrev dktX2_isToldBy_1 : List UInt8 := dkwX2_isToldBy_1 ++ dktX2_isToldBy_2
def dkwX2_isToldBy_0 : List UInt8 := [42, 182, 0, 144, 27, 61, 4, 62, 3, 54, 4, 21, 4, 42, 180, 0, 87, 162, 0, 73, 29, 153, 0, 69]
abbrev dktX2_isToldBy_0 : List UInt8 := dkwX2_isToldBy_0 ++ dktX2_isToldBy_1
theorem dksX2_isToldBy_0 : cX2_isToldBy.data.toList.drop 0 = dktX2_isToldBy_0 := by decide +kernel
theorem dksX2_isToldBy_1 : cX2_isToldBy.data.toList.drop 24 = dktX2_isToldBy_1 := dk_seg dksX2_isToldBy_0 24 rfl rfl
theorem dksX2_isToldBy_2 : cX2_isToldBy.data.toList.drop 47 = dktX2_isToldBy_2 := dk_seg dksX2_isToldBy_1 23 rfl rfl
theorem dksX2_isToldBy_3 : cX2_isToldBy.data.toList.drop 71 = dktX2_isToldBy_3 := dk_seg dksX2_isToldBy_2 24 rfl rfl
theorem dX2_isToldBy_0 : decode cX2_isToldBy 0 = .ok (.aload_n 0, 1) := dk_42 (dk_at dksX2_isToldBy_0 0 rfl rfl)
theorem dX2_isToldBy_1 : decode cX2_isToldBy 1 = .ok (.invokevirtual 144, 3) := dk_182 0 144 (dk_at dksX2_isToldBy_0 1 rfl rfl)
theorem dX2_isToldBy_4 : decode cX2_isToldBy 4 = .ok (.iload_n 1, 1) := dk_27 (dk_at dksX2_isToldBy_0 4 rfl rfl)
theorem dX2_isToldBy_5 : decode cX2_isToldBy 5 = .ok (.istore_n 2, 1) := dk_61 (dk_at dksX2_isToldBy_0 5 rfl rfl)
theorem dX2_isToldBy_6 : decode cX2_isToldBy 6 = .ok (.iconst 1, 1) := dk_4 (dk_at dksX2_isToldBy_0 6 rfl rfl)
theorem dX2_isToldBy_7 : decode cX2_isToldBy 7 = .ok (.istore_n 3, 1) := dk_62 (dk_at dksX2_isToldBy_0 7 rfl rfl)
theorem dX2_isToldBy_8 : decode cX2_isToldBy 8 = .ok (.iconst 0, 1) := dk_3 (dk_at dksX2_isToldBy_0 8 rfl rfl)
theorem dX2_isToldBy_9 : decode cX2_isToldBy 9 = .ok (.istore 4, 2) := dk_54 4 (dk_at dksX2_isToldBy_0 9 rfl rfl)
theorem dX2_isToldBy_11 : decode cX2_isToldBy 11 = .ok (.iload 4, 2) := dk_21 4 (dk_at dksX2_isToldBy_0 11 rfl rfl)
theorem dX2_isToldBy_13 : decode cX2_isToldBy 13 = .ok (.aload_n 0, 1) := dk_42 (dk_at dksX2_isToldBy_0 13 rfl rfl)
theorem dX2_isToldBy_14 : decode cX2_isToldBy 14 = .ok (.getfield 87, 3) := dk_180 0 87 (dk_at dksX2_isToldBy_0 14 rfl rfl)
theorem dX2_isToldBy_17 : decode cX2_isToldBy 17 = .ok (.if_icmp .ge 73, 3) := dk_162 0 73 (dk_at dksX2_isToldBy_0 17 rfl rfl)
theorem dX2_isToldBy_20 : decode cX2_isToldBy 20 = .ok (.iload_n 3, 1) := dk_29 (dk_at dksX2_isToldBy_0 20 rfl rfl)
theorem dX2_isToldBy_21 : decode cX2_isToldBy 21 = .ok (.ifCond .eq 69, 3) := dk_153 0 69 (dk_at dksX2_isToldBy_0 21 rfl rfl)
theorem dX2_isToldBy_24 : decode cX2_isToldBy 24 = .ok (.iload_n 2, 1) := dk_28 (dk_at dksX2_isToldBy_1 0 rfl rfl)
theorem dX2_isToldBy_25 : decode cX2_isToldBy 25 = .ok (.bipush 6, 2) := dk_16 6 (dk_at dksX2_isToldBy_1 1 rfl rfl)
theorem dX2_isToldBy_27 : decode cX2_isToldBy 27 = .ok (.irem, 1) := dk_112 (dk_at dksX2_isToldBy_1 3 rfl rfl)
theorem dX2_isToldBy_28 : decode cX2_isToldBy 28 = .ok (.istore 5, 2) := dk_54 5 (dk_at dksX2_isToldBy_1 4 rfl rfl)
theorem dX2_isToldBy_30 : decode cX2_isToldBy 30 = .ok (.iload_n 2, 1) := dk_28 (dk_at dksX2_isToldBy_1 6 rfl rfl)
theorem dX2_isToldBy_31 : decode cX2_isToldBy 31 = .ok (.bipush 6, 2) := dk_16 6 (dk_at dksX2_isToldBy_1 7 rfl rfl)
theorem dX2_isToldBy_33 : decode cX2_isToldBy 33 = .ok (.idiv, 1) := dk_108 (dk_at dksX2_isToldBy_1 9 rfl rfl)
theorem dX2_isToldBy_34 : decode cX2_isToldBy 34 = .ok (.istore_n 2, 1) := dk_61 (dk_at dksX2_isToldBy_1 10 rfl rfl)
theorem dX2_isToldBy_35 : decode cX2_isToldBy 35 = .ok (.aload_n 0, 1) := dk_42 (dk_at dksX2_isToldBy_1 11 rfl rfl)
theorem dX2_isToldBy_36 : decode cX2_isToldBy 36 = .ok (.iload 5, 2) := dk_21 5 (dk_at dksX2_isToldBy_1 12 rfl rfl)
theorem dX2_isToldBy_38 : decode cX2_isToldBy 38 = .ok (.invokevirtual 147, 3) := dk_182 0 147 (dk_at dksX2_isToldBy_1 14 rfl rfl)
theorem dX2_isToldBy_41 : decode cX2_isToldBy 41 = .ok (.istore 6, 2) := dk_54 6 (dk_at dksX2_isToldBy_1 17 rfl rfl)
theorem dX2_isToldBy_43 : decode cX2_isToldBy 43 = .ok (.aload_n 0, 1) := dk_42 (dk_at dksX2_isToldBy_1 19 rfl rfl)
theorem dX2_isToldBy_44 : decode cX2_isToldBy 44 = .ok (.getfield 13, 3) := dk_180 0 13 (dk_at dksX2_isToldBy_1 20 rfl rfl)
theorem dX2_isToldBy_47 : decode cX2_isToldBy 47 = .ok (.iload 5, 2) := dk_21 5 (dk_at dksX2_isToldBy_2 0 rfl rfl)
theorem dX2_isToldBy_49 : decode cX2_isToldBy 49 = .ok (.iaload, 1) := dk_46 (dk_at dksX2_isToldBy_2 2 rfl rfl)
theorem dX2_isToldBy_50 : decode cX2_isToldBy 50 = .ok (.ifCond .le 32, 3) := dk_158 0 32 (dk_at dksX2_isToldBy_2 3 rfl rfl)
theorem dX2_isToldBy_53 : decode cX2_isToldBy 53 = .ok (.aload_n 0, 1) := dk_42 (dk_at dksX2_isToldBy_2 6 rfl rfl)
theorem dX2_isToldBy_54 : decode cX2_isToldBy 54 = .ok (.getfield 37, 3) := dk_180 0 37 (dk_at dksX2_isToldBy_2 7 rfl rfl)
theorem dX2_isToldBy_57 : decode cX2_isToldBy 57 = .ok (.iload 4, 2) := dk_21 4 (dk_at dksX2_isToldBy_2 10 rfl rfl)
theorem dX2_isToldBy_59 : decode cX2_isToldBy 59 = .ok (.iaload, 1) := dk_46 (dk_at dksX2_isToldBy_2 12 rfl rfl)
theorem dX2_isToldBy_60 : decode cX2_isToldBy 60 = .ok (.iconst (-1), 1) := dk_2 (dk_at dksX2_isToldBy_2 13 rfl rfl)
theorem dX2_isToldBy_61 : decode cX2_isToldBy 61 = .ok (.if_icmp .eq 17, 3) := dk_159 0 17 (dk_at dksX2_isToldBy_2 14 rfl rfl)
theorem dX2_isToldBy_64 : decode cX2_isToldBy 64 = .ok (.aload_n 0, 1) := dk_42 (dk_at dksX2_isToldBy_2 17 rfl rfl)
theorem dX2_isToldBy_65 : decode cX2_isToldBy 65 = .ok (.getfield 37, 3) := dk_180 0 37 (dk_at dksX2_isToldBy_2 18 rfl rfl)
theorem dX2_isToldBy_68 : decode cX2_isToldBy 68 = .ok (.iload 4, 2) := dk_21 4 (dk_at dksX2_isToldBy_2 21 rfl rfl)
theorem dX2_isToldBy_70 : decode cX2_isToldBy 70 = .ok (.iaload, 1) := dk_46 (dk_at dksX2_isToldBy_2 23 rfl rfl)
theorem dX2_isToldBy_71 : decode cX2_isToldBy 71 = .ok (.aload_n 0, 1) := dk_42 (dk_at dksX2_isToldBy_3 0 rfl rfl)
theorem dX2_isToldBy_72 : decode cX2_isToldBy 72 = .ok (.invokevirtual 191, 3) := dk_182 0 191 (dk_at dksX2_isToldBy_3 1 rfl rfl)
theorem dX2_isToldBy_75 : decode cX2_isToldBy 75 = .ok (.if_icmp .ne 7, 3) := dk_160 0 7 (dk_at dksX2_isToldBy_3 4 rfl rfl)
theorem dX2_isToldBy_78 : decode cX2_isToldBy 78 = .ok (.iconst 1, 1) := dk_4 (dk_at dksX2_isToldBy_3 7 rfl rfl)
theorem dX2_isToldBy_79 : decode cX2_isToldBy 79 = .ok (.goto 4, 3) := dk_167 0 4 (dk_at dksX2_isToldBy_3 8 rfl rfl)
theorem dX2_isToldBy_82 : decode cX2_isToldBy 82 = .ok (.iconst 0, 1) := dk_3 (dk_at dksX2_isToldBy_3 11 rfl rfl)
theorem dX2_isToldBy_83 : decode cX2_isToldBy 83 = .ok (.istore_n 3, 1) := dk_62 (dk_at dksX2_isToldBy_3 12 rfl rfl)
theorem dX2_isToldBy_84 : decode cX2_isToldBy 84 = .ok (.iinc 4 1, 3) := dk_132 4 1 (dk_at dksX2_isToldBy_3 13 rfl rfl)
theorem dX2_isToldBy_87 : decode cX2_isToldBy 87 = .ok (.goto (-76), 3) := dk_167 255 180 (dk_at dksX2_isToldBy_3 16 rfl rfl)
theorem dX2_isToldBy_90 : decode cX2_isToldBy 90 = .ok (.iload_n 3, 1) := dk_29 (dk_at dksX2_isToldBy_3 19 rfl rfl)
theorem dX2_isToldBy_91 : decode cX2_isToldBy 91 = .ok (.ireturn, 1) := dk_172 (dk_at dksX2_isToldBy_3 20 rfl rfl)
abbrev cX2_livesNow : ByteArray := prog_11_method_49_code
def yX2_livesNow : MethodName := ⟨RX2, "livesNow", "()I"⟩
def dkwX2_livesNow_1 : List UInt8 := [120, 167, 0, 4, 3, 128, 60, 132, 2, 1, 167, 255, 226, 27, 172]
abbrev dktX2_livesNow_1 : List UInt8 := dkwX2_livesNow_1 ++ []
def dkwX2_livesNow_0 : List UInt8 := [3, 60, 3, 61, 28, 42, 180, 0, 81, 162, 0, 28, 27, 42, 180, 0, 25, 28, 46, 153, 0, 9, 4, 28]
abbrev dktX2_livesNow_0 : List UInt8 := dkwX2_livesNow_0 ++ dktX2_livesNow_1
theorem dksX2_livesNow_0 : cX2_livesNow.data.toList.drop 0 = dktX2_livesNow_0 := by decide +kernel
theorem dksX2_livesNow_1 : cX2_livesNow.data.toList.drop 24 = dktX2_livesNow_1 := dk_seg dksX2_livesNow_0 24 rfl rfl
theorem dX2_livesNow_0 : decode cX2_livesNow 0 = .ok (.iconst 0, 1) := dk_3 (dk_at dksX2_livesNow_0 0 rfl rfl)
theorem dX2_livesNow_1 : decode cX2_livesNow 1 = .ok (.istore_n 1, 1) := dk_60 (dk_at dksX2_livesNow_0 1 rfl rfl)
theorem dX2_livesNow_2 : decode cX2_livesNow 2 = .ok (.iconst 0, 1) := dk_3 (dk_at dksX2_livesNow_0 2 rfl rfl)
theorem dX2_livesNow_3 : decode cX2_livesNow 3 = .ok (.istore_n 2, 1) := dk_61 (dk_at dksX2_livesNow_0 3 rfl rfl)
theorem dX2_livesNow_4 : decode cX2_livesNow 4 = .ok (.iload_n 2, 1) := dk_28 (dk_at dksX2_livesNow_0 4 rfl rfl)
theorem dX2_livesNow_5 : decode cX2_livesNow 5 = .ok (.aload_n 0, 1) := dk_42 (dk_at dksX2_livesNow_0 5 rfl rfl)
theorem dX2_livesNow_6 : decode cX2_livesNow 6 = .ok (.getfield 81, 3) := dk_180 0 81 (dk_at dksX2_livesNow_0 6 rfl rfl)
theorem dX2_livesNow_9 : decode cX2_livesNow 9 = .ok (.if_icmp .ge 28, 3) := dk_162 0 28 (dk_at dksX2_livesNow_0 9 rfl rfl)
theorem dX2_livesNow_12 : decode cX2_livesNow 12 = .ok (.iload_n 1, 1) := dk_27 (dk_at dksX2_livesNow_0 12 rfl rfl)
theorem dX2_livesNow_13 : decode cX2_livesNow 13 = .ok (.aload_n 0, 1) := dk_42 (dk_at dksX2_livesNow_0 13 rfl rfl)
theorem dX2_livesNow_14 : decode cX2_livesNow 14 = .ok (.getfield 25, 3) := dk_180 0 25 (dk_at dksX2_livesNow_0 14 rfl rfl)
theorem dX2_livesNow_17 : decode cX2_livesNow 17 = .ok (.iload_n 2, 1) := dk_28 (dk_at dksX2_livesNow_0 17 rfl rfl)
theorem dX2_livesNow_18 : decode cX2_livesNow 18 = .ok (.iaload, 1) := dk_46 (dk_at dksX2_livesNow_0 18 rfl rfl)
theorem dX2_livesNow_19 : decode cX2_livesNow 19 = .ok (.ifCond .eq 9, 3) := dk_153 0 9 (dk_at dksX2_livesNow_0 19 rfl rfl)
theorem dX2_livesNow_22 : decode cX2_livesNow 22 = .ok (.iconst 1, 1) := dk_4 (dk_at dksX2_livesNow_0 22 rfl rfl)
theorem dX2_livesNow_23 : decode cX2_livesNow 23 = .ok (.iload_n 2, 1) := dk_28 (dk_at dksX2_livesNow_0 23 rfl rfl)
theorem dX2_livesNow_24 : decode cX2_livesNow 24 = .ok (.ishl, 1) := dk_120 (dk_at dksX2_livesNow_1 0 rfl rfl)
theorem dX2_livesNow_25 : decode cX2_livesNow 25 = .ok (.goto 4, 3) := dk_167 0 4 (dk_at dksX2_livesNow_1 1 rfl rfl)
theorem dX2_livesNow_28 : decode cX2_livesNow 28 = .ok (.iconst 0, 1) := dk_3 (dk_at dksX2_livesNow_1 4 rfl rfl)
theorem dX2_livesNow_29 : decode cX2_livesNow 29 = .ok (.ior, 1) := dk_128 (dk_at dksX2_livesNow_1 5 rfl rfl)
theorem dX2_livesNow_30 : decode cX2_livesNow 30 = .ok (.istore_n 1, 1) := dk_60 (dk_at dksX2_livesNow_1 6 rfl rfl)
theorem dX2_livesNow_31 : decode cX2_livesNow 31 = .ok (.iinc 2 1, 3) := dk_132 2 1 (dk_at dksX2_livesNow_1 7 rfl rfl)
theorem dX2_livesNow_34 : decode cX2_livesNow 34 = .ok (.goto (-30), 3) := dk_167 255 226 (dk_at dksX2_livesNow_1 10 rfl rfl)
theorem dX2_livesNow_37 : decode cX2_livesNow 37 = .ok (.iload_n 1, 1) := dk_27 (dk_at dksX2_livesNow_1 13 rfl rfl)
theorem dX2_livesNow_38 : decode cX2_livesNow 38 = .ok (.ireturn, 1) := dk_172 (dk_at dksX2_livesNow_1 14 rfl rfl)
abbrev cX2_burnt : ByteArray := prog_11_method_53_code
def yX2_burnt : MethodName := ⟨RX2, "burnt", "(I)I"⟩
def dkwX2_burnt_2 : List UInt8 := [46, 4, 29, 120, 160, 0, 5, 29, 172, 132, 3, 1, 167, 255, 233, 2, 172]
abbrev dktX2_burnt_2 : List UInt8 := dkwX2_burnt_2 ++ []
def dkwX2_burnt_1 : List UInt8 := [153, 0, 6, 16, 153, 172, 42, 182, 0, 197, 61, 3, 62, 29, 16, 6, 162, 0, 23, 42, 180, 0, 40, 27]
abbrev dktX2_burnt_1 : List UInt8 := dkwX2_burnt_1 ++ dktX2_burnt_2
def dkwX2_burnt_0 : List UInt8 := [27, 133, 9, 42, 180, 0, 87, 4, 100, 133, 184, 0, 61, 154, 0, 6, 16, 155, 172, 42, 182, 0, 109]
abbrev dktX2_burnt_0 : List UInt8 := dkwX2_burnt_0 ++ dktX2_burnt_1
theorem dksX2_burnt_0 : cX2_burnt.data.toList.drop 0 = dktX2_burnt_0 := by decide +kernel
theorem dksX2_burnt_1 : cX2_burnt.data.toList.drop 23 = dktX2_burnt_1 := dk_seg dksX2_burnt_0 23 rfl rfl
theorem dksX2_burnt_2 : cX2_burnt.data.toList.drop 47 = dktX2_burnt_2 := dk_seg dksX2_burnt_1 24 rfl rfl
theorem dX2_burnt_0 : decode cX2_burnt 0 = .ok (.iload_n 1, 1) := dk_27 (dk_at dksX2_burnt_0 0 rfl rfl)
theorem dX2_burnt_1 : decode cX2_burnt 1 = .ok (.i2l, 1) := dk_133 (dk_at dksX2_burnt_0 1 rfl rfl)
theorem dX2_burnt_2 : decode cX2_burnt 2 = .ok (.lconst 0, 1) := dk_9 (dk_at dksX2_burnt_0 2 rfl rfl)
theorem dX2_burnt_3 : decode cX2_burnt 3 = .ok (.aload_n 0, 1) := dk_42 (dk_at dksX2_burnt_0 3 rfl rfl)
theorem dX2_burnt_4 : decode cX2_burnt 4 = .ok (.getfield 87, 3) := dk_180 0 87 (dk_at dksX2_burnt_0 4 rfl rfl)
theorem dX2_burnt_7 : decode cX2_burnt 7 = .ok (.iconst 1, 1) := dk_4 (dk_at dksX2_burnt_0 7 rfl rfl)
theorem dX2_burnt_8 : decode cX2_burnt 8 = .ok (.isub, 1) := dk_100 (dk_at dksX2_burnt_0 8 rfl rfl)
theorem dX2_burnt_9 : decode cX2_burnt 9 = .ok (.i2l, 1) := dk_133 (dk_at dksX2_burnt_0 9 rfl rfl)
theorem dX2_burnt_10 : decode cX2_burnt 10 = .ok (.invokestatic 61, 3) := dk_184 0 61 (dk_at dksX2_burnt_0 10 rfl rfl)
theorem dX2_burnt_13 : decode cX2_burnt 13 = .ok (.ifCond .ne 6, 3) := dk_154 0 6 (dk_at dksX2_burnt_0 13 rfl rfl)
theorem dX2_burnt_16 : decode cX2_burnt 16 = .ok (.bipush (-101), 2) := dk_16 155 (dk_at dksX2_burnt_0 16 rfl rfl)
theorem dX2_burnt_18 : decode cX2_burnt 18 = .ok (.ireturn, 1) := dk_172 (dk_at dksX2_burnt_0 18 rfl rfl)
theorem dX2_burnt_19 : decode cX2_burnt 19 = .ok (.aload_n 0, 1) := dk_42 (dk_at dksX2_burnt_0 19 rfl rfl)
theorem dX2_burnt_20 : decode cX2_burnt 20 = .ok (.invokevirtual 109, 3) := dk_182 0 109 (dk_at dksX2_burnt_0 20 rfl rfl)
theorem dX2_burnt_23 : decode cX2_burnt 23 = .ok (.ifCond .eq 6, 3) := dk_153 0 6 (dk_at dksX2_burnt_1 0 rfl rfl)
theorem dX2_burnt_26 : decode cX2_burnt 26 = .ok (.bipush (-103), 2) := dk_16 153 (dk_at dksX2_burnt_1 3 rfl rfl)
theorem dX2_burnt_28 : decode cX2_burnt 28 = .ok (.ireturn, 1) := dk_172 (dk_at dksX2_burnt_1 5 rfl rfl)
theorem dX2_burnt_29 : decode cX2_burnt 29 = .ok (.aload_n 0, 1) := dk_42 (dk_at dksX2_burnt_1 6 rfl rfl)
theorem dX2_burnt_30 : decode cX2_burnt 30 = .ok (.invokevirtual 197, 3) := dk_182 0 197 (dk_at dksX2_burnt_1 7 rfl rfl)
theorem dX2_burnt_33 : decode cX2_burnt 33 = .ok (.istore_n 2, 1) := dk_61 (dk_at dksX2_burnt_1 10 rfl rfl)
theorem dX2_burnt_34 : decode cX2_burnt 34 = .ok (.iconst 0, 1) := dk_3 (dk_at dksX2_burnt_1 11 rfl rfl)
theorem dX2_burnt_35 : decode cX2_burnt 35 = .ok (.istore_n 3, 1) := dk_62 (dk_at dksX2_burnt_1 12 rfl rfl)
theorem dX2_burnt_36 : decode cX2_burnt 36 = .ok (.iload_n 3, 1) := dk_29 (dk_at dksX2_burnt_1 13 rfl rfl)
theorem dX2_burnt_37 : decode cX2_burnt 37 = .ok (.bipush 6, 2) := dk_16 6 (dk_at dksX2_burnt_1 14 rfl rfl)
theorem dX2_burnt_39 : decode cX2_burnt 39 = .ok (.if_icmp .ge 23, 3) := dk_162 0 23 (dk_at dksX2_burnt_1 16 rfl rfl)
theorem dX2_burnt_42 : decode cX2_burnt 42 = .ok (.aload_n 0, 1) := dk_42 (dk_at dksX2_burnt_1 19 rfl rfl)
theorem dX2_burnt_43 : decode cX2_burnt 43 = .ok (.getfield 40, 3) := dk_180 0 40 (dk_at dksX2_burnt_1 20 rfl rfl)
theorem dX2_burnt_46 : decode cX2_burnt 46 = .ok (.iload_n 1, 1) := dk_27 (dk_at dksX2_burnt_1 23 rfl rfl)
theorem dX2_burnt_47 : decode cX2_burnt 47 = .ok (.iaload, 1) := dk_46 (dk_at dksX2_burnt_2 0 rfl rfl)
theorem dX2_burnt_48 : decode cX2_burnt 48 = .ok (.iconst 1, 1) := dk_4 (dk_at dksX2_burnt_2 1 rfl rfl)
theorem dX2_burnt_49 : decode cX2_burnt 49 = .ok (.iload_n 3, 1) := dk_29 (dk_at dksX2_burnt_2 2 rfl rfl)
theorem dX2_burnt_50 : decode cX2_burnt 50 = .ok (.ishl, 1) := dk_120 (dk_at dksX2_burnt_2 3 rfl rfl)
theorem dX2_burnt_51 : decode cX2_burnt 51 = .ok (.if_icmp .ne 5, 3) := dk_160 0 5 (dk_at dksX2_burnt_2 4 rfl rfl)
theorem dX2_burnt_54 : decode cX2_burnt 54 = .ok (.iload_n 3, 1) := dk_29 (dk_at dksX2_burnt_2 7 rfl rfl)
theorem dX2_burnt_55 : decode cX2_burnt 55 = .ok (.ireturn, 1) := dk_172 (dk_at dksX2_burnt_2 8 rfl rfl)
theorem dX2_burnt_56 : decode cX2_burnt 56 = .ok (.iinc 3 1, 3) := dk_132 3 1 (dk_at dksX2_burnt_2 9 rfl rfl)
theorem dX2_burnt_59 : decode cX2_burnt 59 = .ok (.goto (-23), 3) := dk_167 255 233 (dk_at dksX2_burnt_2 12 rfl rfl)
theorem dX2_burnt_62 : decode cX2_burnt 62 = .ok (.iconst (-1), 1) := dk_2 (dk_at dksX2_burnt_2 15 rfl rfl)
theorem dX2_burnt_63 : decode cX2_burnt 63 = .ok (.ireturn, 1) := dk_172 (dk_at dksX2_burnt_2 16 rfl rfl)
abbrev cX2_years : ByteArray := prog_11_method_56_code
def yX2_years : MethodName := ⟨RX2, "years", "(III)I"⟩
def dkwX2_years_6 : List UInt8 := [180, 0, 202, 172]
abbrev dktX2_years_6 : List UInt8 := dkwX2_years_6 ++ []
def dkwX2_years_5 : List UInt8 := [29, 154, 0, 10, 42, 182, 0, 191, 167, 0, 17, 29, 4, 160, 0, 8, 21, 4, 167, 0, 7, 42]
abbrev dktX2_years_5 : List UInt8 := dkwX2_years_5 ++ dktX2_years_6
def dkwX2_years_4 : List UInt8 := [162, 0, 24, 21, 4, 42, 180, 0, 25, 21, 5, 46, 184, 0, 123, 96, 54, 4, 132, 5, 1, 167, 255, 229]
abbrev dktX2_years_4 : List UInt8 := dkwX2_years_4 ++ dktX2_years_5
def dkwX2_years_3 : List UInt8 := [182, 0, 147, 54, 5, 132, 4, 1, 167, 255, 231, 3, 54, 4, 3, 54, 5, 21, 5, 42, 180, 0, 81]
abbrev dktX2_years_3 : List UInt8 := dkwX2_years_3 ++ dktX2_years_4
def dkwX2_years_2 : List UInt8 := [28, 181, 0, 202, 3, 54, 4, 21, 4, 27, 162, 0, 25, 42, 42, 42, 16, 10, 182, 0, 214, 182, 0, 217]
abbrev dktX2_years_2 : List UInt8 := dkwX2_years_2 ++ dktX2_years_3
def dkwX2_years_1 : List UInt8 := [184, 0, 61, 154, 0, 6, 16, 154, 172, 42, 182, 0, 109, 153, 0, 6, 16, 153, 172, 42, 182, 0, 144, 42]
abbrev dktX2_years_1 : List UInt8 := dkwX2_years_1 ++ dktX2_years_2
def dkwX2_years_0 : List UInt8 := [27, 133, 10, 20, 0, 210, 184, 0, 61, 153, 0, 19, 28, 155, 0, 15, 29, 133, 9, 20, 0, 212]
abbrev dktX2_years_0 : List UInt8 := dkwX2_years_0 ++ dktX2_years_1
theorem dksX2_years_0 : cX2_years.data.toList.drop 0 = dktX2_years_0 := by decide +kernel
theorem dksX2_years_1 : cX2_years.data.toList.drop 22 = dktX2_years_1 := dk_seg dksX2_years_0 22 rfl rfl
theorem dksX2_years_2 : cX2_years.data.toList.drop 46 = dktX2_years_2 := dk_seg dksX2_years_1 24 rfl rfl
theorem dksX2_years_3 : cX2_years.data.toList.drop 70 = dktX2_years_3 := dk_seg dksX2_years_2 24 rfl rfl
theorem dksX2_years_4 : cX2_years.data.toList.drop 93 = dktX2_years_4 := dk_seg dksX2_years_3 23 rfl rfl
theorem dksX2_years_5 : cX2_years.data.toList.drop 117 = dktX2_years_5 := dk_seg dksX2_years_4 24 rfl rfl
theorem dksX2_years_6 : cX2_years.data.toList.drop 139 = dktX2_years_6 := dk_seg dksX2_years_5 22 rfl rfl
theorem dX2_years_0 : decode cX2_years 0 = .ok (.iload_n 1, 1) := dk_27 (dk_at dksX2_years_0 0 rfl rfl)
theorem dX2_years_1 : decode cX2_years 1 = .ok (.i2l, 1) := dk_133 (dk_at dksX2_years_0 1 rfl rfl)
theorem dX2_years_2 : decode cX2_years 2 = .ok (.lconst 1, 1) := dk_10 (dk_at dksX2_years_0 2 rfl rfl)
theorem dX2_years_3 : decode cX2_years 3 = .ok (.ldc2_w 210, 3) := dk_20 0 210 (dk_at dksX2_years_0 3 rfl rfl)
theorem dX2_years_6 : decode cX2_years 6 = .ok (.invokestatic 61, 3) := dk_184 0 61 (dk_at dksX2_years_0 6 rfl rfl)
theorem dX2_years_9 : decode cX2_years 9 = .ok (.ifCond .eq 19, 3) := dk_153 0 19 (dk_at dksX2_years_0 9 rfl rfl)
theorem dX2_years_12 : decode cX2_years 12 = .ok (.iload_n 2, 1) := dk_28 (dk_at dksX2_years_0 12 rfl rfl)
theorem dX2_years_13 : decode cX2_years 13 = .ok (.ifCond .lt 15, 3) := dk_155 0 15 (dk_at dksX2_years_0 13 rfl rfl)
theorem dX2_years_16 : decode cX2_years 16 = .ok (.iload_n 3, 1) := dk_29 (dk_at dksX2_years_0 16 rfl rfl)
theorem dX2_years_17 : decode cX2_years 17 = .ok (.i2l, 1) := dk_133 (dk_at dksX2_years_0 17 rfl rfl)
theorem dX2_years_18 : decode cX2_years 18 = .ok (.lconst 0, 1) := dk_9 (dk_at dksX2_years_0 18 rfl rfl)
theorem dX2_years_19 : decode cX2_years 19 = .ok (.ldc2_w 212, 3) := dk_20 0 212 (dk_at dksX2_years_0 19 rfl rfl)
theorem dX2_years_22 : decode cX2_years 22 = .ok (.invokestatic 61, 3) := dk_184 0 61 (dk_at dksX2_years_1 0 rfl rfl)
theorem dX2_years_25 : decode cX2_years 25 = .ok (.ifCond .ne 6, 3) := dk_154 0 6 (dk_at dksX2_years_1 3 rfl rfl)
theorem dX2_years_28 : decode cX2_years 28 = .ok (.bipush (-102), 2) := dk_16 154 (dk_at dksX2_years_1 6 rfl rfl)
theorem dX2_years_30 : decode cX2_years 30 = .ok (.ireturn, 1) := dk_172 (dk_at dksX2_years_1 8 rfl rfl)
theorem dX2_years_31 : decode cX2_years 31 = .ok (.aload_n 0, 1) := dk_42 (dk_at dksX2_years_1 9 rfl rfl)
theorem dX2_years_32 : decode cX2_years 32 = .ok (.invokevirtual 109, 3) := dk_182 0 109 (dk_at dksX2_years_1 10 rfl rfl)
theorem dX2_years_35 : decode cX2_years 35 = .ok (.ifCond .eq 6, 3) := dk_153 0 6 (dk_at dksX2_years_1 13 rfl rfl)
theorem dX2_years_38 : decode cX2_years 38 = .ok (.bipush (-103), 2) := dk_16 153 (dk_at dksX2_years_1 16 rfl rfl)
theorem dX2_years_40 : decode cX2_years 40 = .ok (.ireturn, 1) := dk_172 (dk_at dksX2_years_1 18 rfl rfl)
theorem dX2_years_41 : decode cX2_years 41 = .ok (.aload_n 0, 1) := dk_42 (dk_at dksX2_years_1 19 rfl rfl)
theorem dX2_years_42 : decode cX2_years 42 = .ok (.invokevirtual 144, 3) := dk_182 0 144 (dk_at dksX2_years_1 20 rfl rfl)
theorem dX2_years_45 : decode cX2_years 45 = .ok (.aload_n 0, 1) := dk_42 (dk_at dksX2_years_1 23 rfl rfl)
theorem dX2_years_46 : decode cX2_years 46 = .ok (.iload_n 2, 1) := dk_28 (dk_at dksX2_years_2 0 rfl rfl)
theorem dX2_years_47 : decode cX2_years 47 = .ok (.putfield 202, 3) := dk_181 0 202 (dk_at dksX2_years_2 1 rfl rfl)
theorem dX2_years_50 : decode cX2_years 50 = .ok (.iconst 0, 1) := dk_3 (dk_at dksX2_years_2 4 rfl rfl)
theorem dX2_years_51 : decode cX2_years 51 = .ok (.istore 4, 2) := dk_54 4 (dk_at dksX2_years_2 5 rfl rfl)
theorem dX2_years_53 : decode cX2_years 53 = .ok (.iload 4, 2) := dk_21 4 (dk_at dksX2_years_2 7 rfl rfl)
theorem dX2_years_55 : decode cX2_years 55 = .ok (.iload_n 1, 1) := dk_27 (dk_at dksX2_years_2 9 rfl rfl)
theorem dX2_years_56 : decode cX2_years 56 = .ok (.if_icmp .ge 25, 3) := dk_162 0 25 (dk_at dksX2_years_2 10 rfl rfl)
theorem dX2_years_59 : decode cX2_years 59 = .ok (.aload_n 0, 1) := dk_42 (dk_at dksX2_years_2 13 rfl rfl)
theorem dX2_years_60 : decode cX2_years 60 = .ok (.aload_n 0, 1) := dk_42 (dk_at dksX2_years_2 14 rfl rfl)
theorem dX2_years_61 : decode cX2_years 61 = .ok (.aload_n 0, 1) := dk_42 (dk_at dksX2_years_2 15 rfl rfl)
theorem dX2_years_62 : decode cX2_years 62 = .ok (.bipush 10, 2) := dk_16 10 (dk_at dksX2_years_2 16 rfl rfl)
theorem dX2_years_64 : decode cX2_years 64 = .ok (.invokevirtual 214, 3) := dk_182 0 214 (dk_at dksX2_years_2 18 rfl rfl)
theorem dX2_years_67 : decode cX2_years 67 = .ok (.invokevirtual 217, 3) := dk_182 0 217 (dk_at dksX2_years_2 21 rfl rfl)
theorem dX2_years_70 : decode cX2_years 70 = .ok (.invokevirtual 147, 3) := dk_182 0 147 (dk_at dksX2_years_3 0 rfl rfl)
theorem dX2_years_73 : decode cX2_years 73 = .ok (.istore 5, 2) := dk_54 5 (dk_at dksX2_years_3 3 rfl rfl)
theorem dX2_years_75 : decode cX2_years 75 = .ok (.iinc 4 1, 3) := dk_132 4 1 (dk_at dksX2_years_3 5 rfl rfl)
theorem dX2_years_78 : decode cX2_years 78 = .ok (.goto (-25), 3) := dk_167 255 231 (dk_at dksX2_years_3 8 rfl rfl)
theorem dX2_years_81 : decode cX2_years 81 = .ok (.iconst 0, 1) := dk_3 (dk_at dksX2_years_3 11 rfl rfl)
theorem dX2_years_82 : decode cX2_years 82 = .ok (.istore 4, 2) := dk_54 4 (dk_at dksX2_years_3 12 rfl rfl)
theorem dX2_years_84 : decode cX2_years 84 = .ok (.iconst 0, 1) := dk_3 (dk_at dksX2_years_3 14 rfl rfl)
theorem dX2_years_85 : decode cX2_years 85 = .ok (.istore 5, 2) := dk_54 5 (dk_at dksX2_years_3 15 rfl rfl)
theorem dX2_years_87 : decode cX2_years 87 = .ok (.iload 5, 2) := dk_21 5 (dk_at dksX2_years_3 17 rfl rfl)
theorem dX2_years_89 : decode cX2_years 89 = .ok (.aload_n 0, 1) := dk_42 (dk_at dksX2_years_3 19 rfl rfl)
theorem dX2_years_90 : decode cX2_years 90 = .ok (.getfield 81, 3) := dk_180 0 81 (dk_at dksX2_years_3 20 rfl rfl)
theorem dX2_years_93 : decode cX2_years 93 = .ok (.if_icmp .ge 24, 3) := dk_162 0 24 (dk_at dksX2_years_4 0 rfl rfl)
theorem dX2_years_96 : decode cX2_years 96 = .ok (.iload 4, 2) := dk_21 4 (dk_at dksX2_years_4 3 rfl rfl)
theorem dX2_years_98 : decode cX2_years 98 = .ok (.aload_n 0, 1) := dk_42 (dk_at dksX2_years_4 5 rfl rfl)
theorem dX2_years_99 : decode cX2_years 99 = .ok (.getfield 25, 3) := dk_180 0 25 (dk_at dksX2_years_4 6 rfl rfl)
theorem dX2_years_102 : decode cX2_years 102 = .ok (.iload 5, 2) := dk_21 5 (dk_at dksX2_years_4 9 rfl rfl)
theorem dX2_years_104 : decode cX2_years 104 = .ok (.iaload, 1) := dk_46 (dk_at dksX2_years_4 11 rfl rfl)
theorem dX2_years_105 : decode cX2_years 105 = .ok (.invokestatic 123, 3) := dk_184 0 123 (dk_at dksX2_years_4 12 rfl rfl)
theorem dX2_years_108 : decode cX2_years 108 = .ok (.iadd, 1) := dk_96 (dk_at dksX2_years_4 15 rfl rfl)
theorem dX2_years_109 : decode cX2_years 109 = .ok (.istore 4, 2) := dk_54 4 (dk_at dksX2_years_4 16 rfl rfl)
theorem dX2_years_111 : decode cX2_years 111 = .ok (.iinc 5 1, 3) := dk_132 5 1 (dk_at dksX2_years_4 18 rfl rfl)
theorem dX2_years_114 : decode cX2_years 114 = .ok (.goto (-27), 3) := dk_167 255 229 (dk_at dksX2_years_4 21 rfl rfl)
theorem dX2_years_117 : decode cX2_years 117 = .ok (.iload_n 3, 1) := dk_29 (dk_at dksX2_years_5 0 rfl rfl)
theorem dX2_years_118 : decode cX2_years 118 = .ok (.ifCond .ne 10, 3) := dk_154 0 10 (dk_at dksX2_years_5 1 rfl rfl)
theorem dX2_years_121 : decode cX2_years 121 = .ok (.aload_n 0, 1) := dk_42 (dk_at dksX2_years_5 4 rfl rfl)
theorem dX2_years_122 : decode cX2_years 122 = .ok (.invokevirtual 191, 3) := dk_182 0 191 (dk_at dksX2_years_5 5 rfl rfl)
theorem dX2_years_125 : decode cX2_years 125 = .ok (.goto 17, 3) := dk_167 0 17 (dk_at dksX2_years_5 8 rfl rfl)
theorem dX2_years_128 : decode cX2_years 128 = .ok (.iload_n 3, 1) := dk_29 (dk_at dksX2_years_5 11 rfl rfl)
theorem dX2_years_129 : decode cX2_years 129 = .ok (.iconst 1, 1) := dk_4 (dk_at dksX2_years_5 12 rfl rfl)
theorem dX2_years_130 : decode cX2_years 130 = .ok (.if_icmp .ne 8, 3) := dk_160 0 8 (dk_at dksX2_years_5 13 rfl rfl)
theorem dX2_years_133 : decode cX2_years 133 = .ok (.iload 4, 2) := dk_21 4 (dk_at dksX2_years_5 16 rfl rfl)
theorem dX2_years_135 : decode cX2_years 135 = .ok (.goto 7, 3) := dk_167 0 7 (dk_at dksX2_years_5 18 rfl rfl)
theorem dX2_years_138 : decode cX2_years 138 = .ok (.aload_n 0, 1) := dk_42 (dk_at dksX2_years_5 21 rfl rfl)
theorem dX2_years_139 : decode cX2_years 139 = .ok (.getfield 202, 3) := dk_180 0 202 (dk_at dksX2_years_6 0 rfl rfl)
theorem dX2_years_142 : decode cX2_years 142 = .ok (.ireturn, 1) := dk_172 (dk_at dksX2_years_6 3 rfl rfl)
abbrev cX2_draw : ByteArray := prog_11_method_54_code
def yX2_draw : MethodName := ⟨RX2, "draw", "(I)I"⟩
def dkwX2_draw_1 : List UInt8 := [180, 0, 202, 18, 209, 108, 27, 112, 172]
abbrev dktX2_draw_1 : List UInt8 := dkwX2_draw_1 ++ []
def dkwX2_draw_0 : List UInt8 := [42, 20, 0, 200, 42, 180, 0, 202, 133, 105, 20, 0, 205, 97, 20, 0, 207, 127, 136, 181, 0, 202, 42]
abbrev dktX2_draw_0 : List UInt8 := dkwX2_draw_0 ++ dktX2_draw_1
theorem dksX2_draw_0 : cX2_draw.data.toList.drop 0 = dktX2_draw_0 := by decide +kernel
theorem dksX2_draw_1 : cX2_draw.data.toList.drop 23 = dktX2_draw_1 := dk_seg dksX2_draw_0 23 rfl rfl
theorem dX2_draw_0 : decode cX2_draw 0 = .ok (.aload_n 0, 1) := dk_42 (dk_at dksX2_draw_0 0 rfl rfl)
theorem dX2_draw_1 : decode cX2_draw 1 = .ok (.ldc2_w 200, 3) := dk_20 0 200 (dk_at dksX2_draw_0 1 rfl rfl)
theorem dX2_draw_4 : decode cX2_draw 4 = .ok (.aload_n 0, 1) := dk_42 (dk_at dksX2_draw_0 4 rfl rfl)
theorem dX2_draw_5 : decode cX2_draw 5 = .ok (.getfield 202, 3) := dk_180 0 202 (dk_at dksX2_draw_0 5 rfl rfl)
theorem dX2_draw_8 : decode cX2_draw 8 = .ok (.i2l, 1) := dk_133 (dk_at dksX2_draw_0 8 rfl rfl)
theorem dX2_draw_9 : decode cX2_draw 9 = .ok (.lmul, 1) := dk_105 (dk_at dksX2_draw_0 9 rfl rfl)
theorem dX2_draw_10 : decode cX2_draw 10 = .ok (.ldc2_w 205, 3) := dk_20 0 205 (dk_at dksX2_draw_0 10 rfl rfl)
theorem dX2_draw_13 : decode cX2_draw 13 = .ok (.ladd, 1) := dk_97 (dk_at dksX2_draw_0 13 rfl rfl)
theorem dX2_draw_14 : decode cX2_draw 14 = .ok (.ldc2_w 207, 3) := dk_20 0 207 (dk_at dksX2_draw_0 14 rfl rfl)
theorem dX2_draw_17 : decode cX2_draw 17 = .ok (.land, 1) := dk_127 (dk_at dksX2_draw_0 17 rfl rfl)
theorem dX2_draw_18 : decode cX2_draw 18 = .ok (.l2i, 1) := dk_136 (dk_at dksX2_draw_0 18 rfl rfl)
theorem dX2_draw_19 : decode cX2_draw 19 = .ok (.putfield 202, 3) := dk_181 0 202 (dk_at dksX2_draw_0 19 rfl rfl)
theorem dX2_draw_22 : decode cX2_draw 22 = .ok (.aload_n 0, 1) := dk_42 (dk_at dksX2_draw_0 22 rfl rfl)
theorem dX2_draw_23 : decode cX2_draw 23 = .ok (.getfield 202, 3) := dk_180 0 202 (dk_at dksX2_draw_1 0 rfl rfl)
theorem dX2_draw_26 : decode cX2_draw 26 = .ok (.ldc 209, 2) := dk_18 209 (dk_at dksX2_draw_1 3 rfl rfl)
theorem dX2_draw_28 : decode cX2_draw 28 = .ok (.idiv, 1) := dk_108 (dk_at dksX2_draw_1 5 rfl rfl)
theorem dX2_draw_29 : decode cX2_draw 29 = .ok (.iload_n 1, 1) := dk_27 (dk_at dksX2_draw_1 6 rfl rfl)
theorem dX2_draw_30 : decode cX2_draw 30 = .ok (.irem, 1) := dk_112 (dk_at dksX2_draw_1 7 rfl rfl)
theorem dX2_draw_31 : decode cX2_draw 31 = .ok (.ireturn, 1) := dk_172 (dk_at dksX2_draw_1 8 rfl rfl)
abbrev cX2_lotOf : ByteArray := prog_11_method_55_code
def yX2_lotOf : MethodName := ⟨RX2, "lotOf", "(I)I"⟩
def dkwX2_lotOf_1 : List UInt8 := [172, 132, 3, 1, 167, 255, 232, 8, 172]
abbrev dktX2_lotOf_1 : List UInt8 := dkwX2_lotOf_1 ++ []
def dkwX2_lotOf_0 : List UInt8 := [27, 61, 3, 62, 29, 16, 6, 162, 0, 24, 28, 42, 180, 0, 13, 29, 46, 100, 61, 28, 156, 0, 5, 29]
abbrev dktX2_lotOf_0 : List UInt8 := dkwX2_lotOf_0 ++ dktX2_lotOf_1
theorem dksX2_lotOf_0 : cX2_lotOf.data.toList.drop 0 = dktX2_lotOf_0 := by decide +kernel
theorem dksX2_lotOf_1 : cX2_lotOf.data.toList.drop 24 = dktX2_lotOf_1 := dk_seg dksX2_lotOf_0 24 rfl rfl
theorem dX2_lotOf_0 : decode cX2_lotOf 0 = .ok (.iload_n 1, 1) := dk_27 (dk_at dksX2_lotOf_0 0 rfl rfl)
theorem dX2_lotOf_1 : decode cX2_lotOf 1 = .ok (.istore_n 2, 1) := dk_61 (dk_at dksX2_lotOf_0 1 rfl rfl)
theorem dX2_lotOf_2 : decode cX2_lotOf 2 = .ok (.iconst 0, 1) := dk_3 (dk_at dksX2_lotOf_0 2 rfl rfl)
theorem dX2_lotOf_3 : decode cX2_lotOf 3 = .ok (.istore_n 3, 1) := dk_62 (dk_at dksX2_lotOf_0 3 rfl rfl)
theorem dX2_lotOf_4 : decode cX2_lotOf 4 = .ok (.iload_n 3, 1) := dk_29 (dk_at dksX2_lotOf_0 4 rfl rfl)
theorem dX2_lotOf_5 : decode cX2_lotOf 5 = .ok (.bipush 6, 2) := dk_16 6 (dk_at dksX2_lotOf_0 5 rfl rfl)
theorem dX2_lotOf_7 : decode cX2_lotOf 7 = .ok (.if_icmp .ge 24, 3) := dk_162 0 24 (dk_at dksX2_lotOf_0 7 rfl rfl)
theorem dX2_lotOf_10 : decode cX2_lotOf 10 = .ok (.iload_n 2, 1) := dk_28 (dk_at dksX2_lotOf_0 10 rfl rfl)
theorem dX2_lotOf_11 : decode cX2_lotOf 11 = .ok (.aload_n 0, 1) := dk_42 (dk_at dksX2_lotOf_0 11 rfl rfl)
theorem dX2_lotOf_12 : decode cX2_lotOf 12 = .ok (.getfield 13, 3) := dk_180 0 13 (dk_at dksX2_lotOf_0 12 rfl rfl)
theorem dX2_lotOf_15 : decode cX2_lotOf 15 = .ok (.iload_n 3, 1) := dk_29 (dk_at dksX2_lotOf_0 15 rfl rfl)
theorem dX2_lotOf_16 : decode cX2_lotOf 16 = .ok (.iaload, 1) := dk_46 (dk_at dksX2_lotOf_0 16 rfl rfl)
theorem dX2_lotOf_17 : decode cX2_lotOf 17 = .ok (.isub, 1) := dk_100 (dk_at dksX2_lotOf_0 17 rfl rfl)
theorem dX2_lotOf_18 : decode cX2_lotOf 18 = .ok (.istore_n 2, 1) := dk_61 (dk_at dksX2_lotOf_0 18 rfl rfl)
theorem dX2_lotOf_19 : decode cX2_lotOf 19 = .ok (.iload_n 2, 1) := dk_28 (dk_at dksX2_lotOf_0 19 rfl rfl)
theorem dX2_lotOf_20 : decode cX2_lotOf 20 = .ok (.ifCond .ge 5, 3) := dk_156 0 5 (dk_at dksX2_lotOf_0 20 rfl rfl)
theorem dX2_lotOf_23 : decode cX2_lotOf 23 = .ok (.iload_n 3, 1) := dk_29 (dk_at dksX2_lotOf_0 23 rfl rfl)
theorem dX2_lotOf_24 : decode cX2_lotOf 24 = .ok (.ireturn, 1) := dk_172 (dk_at dksX2_lotOf_1 0 rfl rfl)
theorem dX2_lotOf_25 : decode cX2_lotOf 25 = .ok (.iinc 3 1, 3) := dk_132 3 1 (dk_at dksX2_lotOf_1 1 rfl rfl)
theorem dX2_lotOf_28 : decode cX2_lotOf 28 = .ok (.goto (-24), 3) := dk_167 255 232 (dk_at dksX2_lotOf_1 4 rfl rfl)
theorem dX2_lotOf_31 : decode cX2_lotOf 31 = .ok (.iconst 5, 1) := dk_8 (dk_at dksX2_lotOf_1 7 rfl rfl)
theorem dX2_lotOf_32 : decode cX2_lotOf 32 = .ok (.ireturn, 1) := dk_172 (dk_at dksX2_lotOf_1 8 rfl rfl)
abbrev cX2_image : ByteArray := prog_11_method_58_code
def yX2_image : MethodName := ⟨RX2, "image", "()I"⟩
def dkwX2_image_3 : List UInt8 := [181, 0, 227, 42, 42, 180, 0, 87, 181, 0, 230, 42, 42, 180, 0, 90, 181, 0, 55, 42, 180, 0, 84, 172]
abbrev dktX2_image_3 : List UInt8 := dkwX2_image_3 ++ []
def dkwX2_image_2 : List UInt8 := [180, 0, 37, 42, 180, 0, 52, 184, 0, 220, 42, 42, 180, 0, 81, 181, 0, 224, 42, 42, 180, 0, 84]
abbrev dktX2_image_2 : List UInt8 := dkwX2_image_2 ++ dktX2_image_3
def dkwX2_image_1 : List UInt8 := [180, 0, 19, 42, 180, 0, 46, 184, 0, 220, 42, 180, 0, 22, 42, 180, 0, 49, 184, 0, 220, 42]
abbrev dktX2_image_1 : List UInt8 := dkwX2_image_1 ++ dktX2_image_2
def dkwX2_image_0 : List UInt8 := [42, 182, 0, 109, 153, 0, 6, 16, 153, 172, 42, 180, 0, 16, 42, 180, 0, 43, 184, 0, 220, 42]
abbrev dktX2_image_0 : List UInt8 := dkwX2_image_0 ++ dktX2_image_1
theorem dksX2_image_0 : cX2_image.data.toList.drop 0 = dktX2_image_0 := by decide +kernel
theorem dksX2_image_1 : cX2_image.data.toList.drop 22 = dktX2_image_1 := dk_seg dksX2_image_0 22 rfl rfl
theorem dksX2_image_2 : cX2_image.data.toList.drop 44 = dktX2_image_2 := dk_seg dksX2_image_1 22 rfl rfl
theorem dksX2_image_3 : cX2_image.data.toList.drop 67 = dktX2_image_3 := dk_seg dksX2_image_2 23 rfl rfl
theorem dX2_image_0 : decode cX2_image 0 = .ok (.aload_n 0, 1) := dk_42 (dk_at dksX2_image_0 0 rfl rfl)
theorem dX2_image_1 : decode cX2_image 1 = .ok (.invokevirtual 109, 3) := dk_182 0 109 (dk_at dksX2_image_0 1 rfl rfl)
theorem dX2_image_4 : decode cX2_image 4 = .ok (.ifCond .eq 6, 3) := dk_153 0 6 (dk_at dksX2_image_0 4 rfl rfl)
theorem dX2_image_7 : decode cX2_image 7 = .ok (.bipush (-103), 2) := dk_16 153 (dk_at dksX2_image_0 7 rfl rfl)
theorem dX2_image_9 : decode cX2_image 9 = .ok (.ireturn, 1) := dk_172 (dk_at dksX2_image_0 9 rfl rfl)
theorem dX2_image_10 : decode cX2_image 10 = .ok (.aload_n 0, 1) := dk_42 (dk_at dksX2_image_0 10 rfl rfl)
theorem dX2_image_11 : decode cX2_image 11 = .ok (.getfield 16, 3) := dk_180 0 16 (dk_at dksX2_image_0 11 rfl rfl)
theorem dX2_image_14 : decode cX2_image 14 = .ok (.aload_n 0, 1) := dk_42 (dk_at dksX2_image_0 14 rfl rfl)
theorem dX2_image_15 : decode cX2_image 15 = .ok (.getfield 43, 3) := dk_180 0 43 (dk_at dksX2_image_0 15 rfl rfl)
theorem dX2_image_18 : decode cX2_image 18 = .ok (.invokestatic 220, 3) := dk_184 0 220 (dk_at dksX2_image_0 18 rfl rfl)
theorem dX2_image_21 : decode cX2_image 21 = .ok (.aload_n 0, 1) := dk_42 (dk_at dksX2_image_0 21 rfl rfl)
theorem dX2_image_22 : decode cX2_image 22 = .ok (.getfield 19, 3) := dk_180 0 19 (dk_at dksX2_image_1 0 rfl rfl)
theorem dX2_image_25 : decode cX2_image 25 = .ok (.aload_n 0, 1) := dk_42 (dk_at dksX2_image_1 3 rfl rfl)
theorem dX2_image_26 : decode cX2_image 26 = .ok (.getfield 46, 3) := dk_180 0 46 (dk_at dksX2_image_1 4 rfl rfl)
theorem dX2_image_29 : decode cX2_image 29 = .ok (.invokestatic 220, 3) := dk_184 0 220 (dk_at dksX2_image_1 7 rfl rfl)
theorem dX2_image_32 : decode cX2_image 32 = .ok (.aload_n 0, 1) := dk_42 (dk_at dksX2_image_1 10 rfl rfl)
theorem dX2_image_33 : decode cX2_image 33 = .ok (.getfield 22, 3) := dk_180 0 22 (dk_at dksX2_image_1 11 rfl rfl)
theorem dX2_image_36 : decode cX2_image 36 = .ok (.aload_n 0, 1) := dk_42 (dk_at dksX2_image_1 14 rfl rfl)
theorem dX2_image_37 : decode cX2_image 37 = .ok (.getfield 49, 3) := dk_180 0 49 (dk_at dksX2_image_1 15 rfl rfl)
theorem dX2_image_40 : decode cX2_image 40 = .ok (.invokestatic 220, 3) := dk_184 0 220 (dk_at dksX2_image_1 18 rfl rfl)
theorem dX2_image_43 : decode cX2_image 43 = .ok (.aload_n 0, 1) := dk_42 (dk_at dksX2_image_1 21 rfl rfl)
theorem dX2_image_44 : decode cX2_image 44 = .ok (.getfield 37, 3) := dk_180 0 37 (dk_at dksX2_image_2 0 rfl rfl)
theorem dX2_image_47 : decode cX2_image 47 = .ok (.aload_n 0, 1) := dk_42 (dk_at dksX2_image_2 3 rfl rfl)
theorem dX2_image_48 : decode cX2_image 48 = .ok (.getfield 52, 3) := dk_180 0 52 (dk_at dksX2_image_2 4 rfl rfl)
theorem dX2_image_51 : decode cX2_image 51 = .ok (.invokestatic 220, 3) := dk_184 0 220 (dk_at dksX2_image_2 7 rfl rfl)
theorem dX2_image_54 : decode cX2_image 54 = .ok (.aload_n 0, 1) := dk_42 (dk_at dksX2_image_2 10 rfl rfl)
theorem dX2_image_55 : decode cX2_image 55 = .ok (.aload_n 0, 1) := dk_42 (dk_at dksX2_image_2 11 rfl rfl)
theorem dX2_image_56 : decode cX2_image 56 = .ok (.getfield 81, 3) := dk_180 0 81 (dk_at dksX2_image_2 12 rfl rfl)
theorem dX2_image_59 : decode cX2_image 59 = .ok (.putfield 224, 3) := dk_181 0 224 (dk_at dksX2_image_2 15 rfl rfl)
theorem dX2_image_62 : decode cX2_image 62 = .ok (.aload_n 0, 1) := dk_42 (dk_at dksX2_image_2 18 rfl rfl)
theorem dX2_image_63 : decode cX2_image 63 = .ok (.aload_n 0, 1) := dk_42 (dk_at dksX2_image_2 19 rfl rfl)
theorem dX2_image_64 : decode cX2_image 64 = .ok (.getfield 84, 3) := dk_180 0 84 (dk_at dksX2_image_2 20 rfl rfl)
theorem dX2_image_67 : decode cX2_image 67 = .ok (.putfield 227, 3) := dk_181 0 227 (dk_at dksX2_image_3 0 rfl rfl)
theorem dX2_image_70 : decode cX2_image 70 = .ok (.aload_n 0, 1) := dk_42 (dk_at dksX2_image_3 3 rfl rfl)
theorem dX2_image_71 : decode cX2_image 71 = .ok (.aload_n 0, 1) := dk_42 (dk_at dksX2_image_3 4 rfl rfl)
theorem dX2_image_72 : decode cX2_image 72 = .ok (.getfield 87, 3) := dk_180 0 87 (dk_at dksX2_image_3 5 rfl rfl)
theorem dX2_image_75 : decode cX2_image 75 = .ok (.putfield 230, 3) := dk_181 0 230 (dk_at dksX2_image_3 8 rfl rfl)
theorem dX2_image_78 : decode cX2_image 78 = .ok (.aload_n 0, 1) := dk_42 (dk_at dksX2_image_3 11 rfl rfl)
theorem dX2_image_79 : decode cX2_image 79 = .ok (.aload_n 0, 1) := dk_42 (dk_at dksX2_image_3 12 rfl rfl)
theorem dX2_image_80 : decode cX2_image 80 = .ok (.getfield 90, 3) := dk_180 0 90 (dk_at dksX2_image_3 13 rfl rfl)
theorem dX2_image_83 : decode cX2_image 83 = .ok (.putfield 55, 3) := dk_181 0 55 (dk_at dksX2_image_3 16 rfl rfl)
theorem dX2_image_86 : decode cX2_image 86 = .ok (.aload_n 0, 1) := dk_42 (dk_at dksX2_image_3 19 rfl rfl)
theorem dX2_image_87 : decode cX2_image 87 = .ok (.getfield 84, 3) := dk_180 0 84 (dk_at dksX2_image_3 20 rfl rfl)
theorem dX2_image_90 : decode cX2_image 90 = .ok (.ireturn, 1) := dk_172 (dk_at dksX2_image_3 23 rfl rfl)
abbrev cX2_copyTo : ByteArray := prog_11_method_57_code
def yX2_copyTo : MethodName := ⟨RX2, "copyTo", "([I[I)V"⟩
def dkwX2_copyTo_0 : List UInt8 := [3, 61, 28, 42, 190, 162, 0, 15, 43, 28, 42, 28, 46, 79, 132, 2, 1, 167, 255, 241, 177]
abbrev dktX2_copyTo_0 : List UInt8 := dkwX2_copyTo_0 ++ []
theorem dksX2_copyTo_0 : cX2_copyTo.data.toList.drop 0 = dktX2_copyTo_0 := by decide +kernel
theorem dX2_copyTo_0 : decode cX2_copyTo 0 = .ok (.iconst 0, 1) := dk_3 (dk_at dksX2_copyTo_0 0 rfl rfl)
theorem dX2_copyTo_1 : decode cX2_copyTo 1 = .ok (.istore_n 2, 1) := dk_61 (dk_at dksX2_copyTo_0 1 rfl rfl)
theorem dX2_copyTo_2 : decode cX2_copyTo 2 = .ok (.iload_n 2, 1) := dk_28 (dk_at dksX2_copyTo_0 2 rfl rfl)
theorem dX2_copyTo_3 : decode cX2_copyTo 3 = .ok (.aload_n 0, 1) := dk_42 (dk_at dksX2_copyTo_0 3 rfl rfl)
theorem dX2_copyTo_4 : decode cX2_copyTo 4 = .ok (.arraylength, 1) := dk_190 (dk_at dksX2_copyTo_0 4 rfl rfl)
theorem dX2_copyTo_5 : decode cX2_copyTo 5 = .ok (.if_icmp .ge 15, 3) := dk_162 0 15 (dk_at dksX2_copyTo_0 5 rfl rfl)
theorem dX2_copyTo_8 : decode cX2_copyTo 8 = .ok (.aload_n 1, 1) := dk_43 (dk_at dksX2_copyTo_0 8 rfl rfl)
theorem dX2_copyTo_9 : decode cX2_copyTo 9 = .ok (.iload_n 2, 1) := dk_28 (dk_at dksX2_copyTo_0 9 rfl rfl)
theorem dX2_copyTo_10 : decode cX2_copyTo 10 = .ok (.aload_n 0, 1) := dk_42 (dk_at dksX2_copyTo_0 10 rfl rfl)
theorem dX2_copyTo_11 : decode cX2_copyTo 11 = .ok (.iload_n 2, 1) := dk_28 (dk_at dksX2_copyTo_0 11 rfl rfl)
theorem dX2_copyTo_12 : decode cX2_copyTo 12 = .ok (.iaload, 1) := dk_46 (dk_at dksX2_copyTo_0 12 rfl rfl)
theorem dX2_copyTo_13 : decode cX2_copyTo 13 = .ok (.iastore, 1) := dk_79 (dk_at dksX2_copyTo_0 13 rfl rfl)
theorem dX2_copyTo_14 : decode cX2_copyTo 14 = .ok (.iinc 2 1, 3) := dk_132 2 1 (dk_at dksX2_copyTo_0 14 rfl rfl)
theorem dX2_copyTo_17 : decode cX2_copyTo 17 = .ok (.goto (-15), 3) := dk_167 255 241 (dk_at dksX2_copyTo_0 17 rfl rfl)
theorem dX2_copyTo_20 : decode cX2_copyTo 20 = .ok (.return_, 1) := dk_177 (dk_at dksX2_copyTo_0 20 rfl rfl)
abbrev cX2_restore : ByteArray := prog_11_method_59_code
def yX2_restore : MethodName := ⟨RX2, "restore", "()I"⟩
def dkwX2_restore_3 : List UInt8 := [180, 0, 227, 181, 0, 84, 42, 42, 180, 0, 230, 181, 0, 87, 42, 180, 0, 84, 172]
abbrev dktX2_restore_3 : List UInt8 := dkwX2_restore_3 ++ []
def dkwX2_restore_2 : List UInt8 := [184, 0, 220, 42, 180, 0, 52, 42, 180, 0, 37, 184, 0, 220, 42, 42, 180, 0, 224, 181, 0, 81, 42, 42]
abbrev dktX2_restore_2 : List UInt8 := dkwX2_restore_2 ++ dktX2_restore_3
def dkwX2_restore_1 : List UInt8 := [184, 0, 220, 42, 180, 0, 46, 42, 180, 0, 19, 184, 0, 220, 42, 180, 0, 49, 42, 180, 0, 22]
abbrev dktX2_restore_1 : List UInt8 := dkwX2_restore_1 ++ dktX2_restore_2
def dkwX2_restore_0 : List UInt8 := [42, 180, 0, 55, 42, 180, 0, 90, 159, 0, 6, 16, 153, 172, 42, 180, 0, 43, 42, 180, 0, 16]
abbrev dktX2_restore_0 : List UInt8 := dkwX2_restore_0 ++ dktX2_restore_1
theorem dksX2_restore_0 : cX2_restore.data.toList.drop 0 = dktX2_restore_0 := by decide +kernel
theorem dksX2_restore_1 : cX2_restore.data.toList.drop 22 = dktX2_restore_1 := dk_seg dksX2_restore_0 22 rfl rfl
theorem dksX2_restore_2 : cX2_restore.data.toList.drop 44 = dktX2_restore_2 := dk_seg dksX2_restore_1 22 rfl rfl
theorem dksX2_restore_3 : cX2_restore.data.toList.drop 68 = dktX2_restore_3 := dk_seg dksX2_restore_2 24 rfl rfl
theorem dX2_restore_0 : decode cX2_restore 0 = .ok (.aload_n 0, 1) := dk_42 (dk_at dksX2_restore_0 0 rfl rfl)
theorem dX2_restore_1 : decode cX2_restore 1 = .ok (.getfield 55, 3) := dk_180 0 55 (dk_at dksX2_restore_0 1 rfl rfl)
theorem dX2_restore_4 : decode cX2_restore 4 = .ok (.aload_n 0, 1) := dk_42 (dk_at dksX2_restore_0 4 rfl rfl)
theorem dX2_restore_5 : decode cX2_restore 5 = .ok (.getfield 90, 3) := dk_180 0 90 (dk_at dksX2_restore_0 5 rfl rfl)
theorem dX2_restore_8 : decode cX2_restore 8 = .ok (.if_icmp .eq 6, 3) := dk_159 0 6 (dk_at dksX2_restore_0 8 rfl rfl)
theorem dX2_restore_11 : decode cX2_restore 11 = .ok (.bipush (-103), 2) := dk_16 153 (dk_at dksX2_restore_0 11 rfl rfl)
theorem dX2_restore_13 : decode cX2_restore 13 = .ok (.ireturn, 1) := dk_172 (dk_at dksX2_restore_0 13 rfl rfl)
theorem dX2_restore_14 : decode cX2_restore 14 = .ok (.aload_n 0, 1) := dk_42 (dk_at dksX2_restore_0 14 rfl rfl)
theorem dX2_restore_15 : decode cX2_restore 15 = .ok (.getfield 43, 3) := dk_180 0 43 (dk_at dksX2_restore_0 15 rfl rfl)
theorem dX2_restore_18 : decode cX2_restore 18 = .ok (.aload_n 0, 1) := dk_42 (dk_at dksX2_restore_0 18 rfl rfl)
theorem dX2_restore_19 : decode cX2_restore 19 = .ok (.getfield 16, 3) := dk_180 0 16 (dk_at dksX2_restore_0 19 rfl rfl)
theorem dX2_restore_22 : decode cX2_restore 22 = .ok (.invokestatic 220, 3) := dk_184 0 220 (dk_at dksX2_restore_1 0 rfl rfl)
theorem dX2_restore_25 : decode cX2_restore 25 = .ok (.aload_n 0, 1) := dk_42 (dk_at dksX2_restore_1 3 rfl rfl)
theorem dX2_restore_26 : decode cX2_restore 26 = .ok (.getfield 46, 3) := dk_180 0 46 (dk_at dksX2_restore_1 4 rfl rfl)
theorem dX2_restore_29 : decode cX2_restore 29 = .ok (.aload_n 0, 1) := dk_42 (dk_at dksX2_restore_1 7 rfl rfl)
theorem dX2_restore_30 : decode cX2_restore 30 = .ok (.getfield 19, 3) := dk_180 0 19 (dk_at dksX2_restore_1 8 rfl rfl)
theorem dX2_restore_33 : decode cX2_restore 33 = .ok (.invokestatic 220, 3) := dk_184 0 220 (dk_at dksX2_restore_1 11 rfl rfl)
theorem dX2_restore_36 : decode cX2_restore 36 = .ok (.aload_n 0, 1) := dk_42 (dk_at dksX2_restore_1 14 rfl rfl)
theorem dX2_restore_37 : decode cX2_restore 37 = .ok (.getfield 49, 3) := dk_180 0 49 (dk_at dksX2_restore_1 15 rfl rfl)
theorem dX2_restore_40 : decode cX2_restore 40 = .ok (.aload_n 0, 1) := dk_42 (dk_at dksX2_restore_1 18 rfl rfl)
theorem dX2_restore_41 : decode cX2_restore 41 = .ok (.getfield 22, 3) := dk_180 0 22 (dk_at dksX2_restore_1 19 rfl rfl)
theorem dX2_restore_44 : decode cX2_restore 44 = .ok (.invokestatic 220, 3) := dk_184 0 220 (dk_at dksX2_restore_2 0 rfl rfl)
theorem dX2_restore_47 : decode cX2_restore 47 = .ok (.aload_n 0, 1) := dk_42 (dk_at dksX2_restore_2 3 rfl rfl)
theorem dX2_restore_48 : decode cX2_restore 48 = .ok (.getfield 52, 3) := dk_180 0 52 (dk_at dksX2_restore_2 4 rfl rfl)
theorem dX2_restore_51 : decode cX2_restore 51 = .ok (.aload_n 0, 1) := dk_42 (dk_at dksX2_restore_2 7 rfl rfl)
theorem dX2_restore_52 : decode cX2_restore 52 = .ok (.getfield 37, 3) := dk_180 0 37 (dk_at dksX2_restore_2 8 rfl rfl)
theorem dX2_restore_55 : decode cX2_restore 55 = .ok (.invokestatic 220, 3) := dk_184 0 220 (dk_at dksX2_restore_2 11 rfl rfl)
theorem dX2_restore_58 : decode cX2_restore 58 = .ok (.aload_n 0, 1) := dk_42 (dk_at dksX2_restore_2 14 rfl rfl)
theorem dX2_restore_59 : decode cX2_restore 59 = .ok (.aload_n 0, 1) := dk_42 (dk_at dksX2_restore_2 15 rfl rfl)
theorem dX2_restore_60 : decode cX2_restore 60 = .ok (.getfield 224, 3) := dk_180 0 224 (dk_at dksX2_restore_2 16 rfl rfl)
theorem dX2_restore_63 : decode cX2_restore 63 = .ok (.putfield 81, 3) := dk_181 0 81 (dk_at dksX2_restore_2 19 rfl rfl)
theorem dX2_restore_66 : decode cX2_restore 66 = .ok (.aload_n 0, 1) := dk_42 (dk_at dksX2_restore_2 22 rfl rfl)
theorem dX2_restore_67 : decode cX2_restore 67 = .ok (.aload_n 0, 1) := dk_42 (dk_at dksX2_restore_2 23 rfl rfl)
theorem dX2_restore_68 : decode cX2_restore 68 = .ok (.getfield 227, 3) := dk_180 0 227 (dk_at dksX2_restore_3 0 rfl rfl)
theorem dX2_restore_71 : decode cX2_restore 71 = .ok (.putfield 84, 3) := dk_181 0 84 (dk_at dksX2_restore_3 3 rfl rfl)
theorem dX2_restore_74 : decode cX2_restore 74 = .ok (.aload_n 0, 1) := dk_42 (dk_at dksX2_restore_3 6 rfl rfl)
theorem dX2_restore_75 : decode cX2_restore 75 = .ok (.aload_n 0, 1) := dk_42 (dk_at dksX2_restore_3 7 rfl rfl)
theorem dX2_restore_76 : decode cX2_restore 76 = .ok (.getfield 230, 3) := dk_180 0 230 (dk_at dksX2_restore_3 8 rfl rfl)
theorem dX2_restore_79 : decode cX2_restore 79 = .ok (.putfield 87, 3) := dk_181 0 87 (dk_at dksX2_restore_3 11 rfl rfl)
theorem dX2_restore_82 : decode cX2_restore 82 = .ok (.aload_n 0, 1) := dk_42 (dk_at dksX2_restore_3 14 rfl rfl)
theorem dX2_restore_83 : decode cX2_restore 83 = .ok (.getfield 84, 3) := dk_180 0 84 (dk_at dksX2_restore_3 15 rfl rfl)
theorem dX2_restore_86 : decode cX2_restore 86 = .ok (.ireturn, 1) := dk_172 (dk_at dksX2_restore_3 18 rfl rfl)
abbrev cX2_count : ByteArray := prog_11_method_61_code
def yX2_count : MethodName := ⟨RX2, "count", "(I)I"⟩
def dkwX2_count_0 : List UInt8 := [42, 27, 182, 0, 233, 172]
abbrev dktX2_count_0 : List UInt8 := dkwX2_count_0 ++ []
theorem dksX2_count_0 : cX2_count.data.toList.drop 0 = dktX2_count_0 := by decide +kernel
theorem dX2_count_0 : decode cX2_count 0 = .ok (.aload_n 0, 1) := dk_42 (dk_at dksX2_count_0 0 rfl rfl)
theorem dX2_count_1 : decode cX2_count 1 = .ok (.iload_n 1, 1) := dk_27 (dk_at dksX2_count_0 1 rfl rfl)
theorem dX2_count_2 : decode cX2_count 2 = .ok (.invokevirtual 233, 3) := dk_182 0 233 (dk_at dksX2_count_0 2 rfl rfl)
theorem dX2_count_5 : decode cX2_count 5 = .ok (.ireturn, 1) := dk_172 (dk_at dksX2_count_0 5 rfl rfl)
abbrev cX2_countOf : ByteArray := prog_11_method_60_code
def yX2_countOf : MethodName := ⟨RX2, "countOf", "(I)I"⟩
def dkwX2_countOf_5 : List UInt8 := [42, 180, 0, 65, 172, 42, 180, 0, 90, 172, 42, 180, 0, 166, 172, 42, 180, 0, 183, 172, 16, 154, 172]
abbrev dktX2_countOf_5 : List UInt8 := dkwX2_countOf_5 ++ []
def dkwX2_countOf_4 : List UInt8 := [42, 180, 0, 78, 172, 42, 180, 0, 81, 172, 28, 172, 29, 172, 42, 180, 0, 84, 172, 42, 180, 0, 87, 172]
abbrev dktX2_countOf_4 : List UInt8 := dkwX2_countOf_4 ++ dktX2_countOf_5
def dkwX2_countOf_3 : List UInt8 := [170, 0, 0, 0, 0, 98, 0, 0, 0, 0, 0, 0, 0, 9, 0, 0, 0, 54, 0, 0, 0, 59, 0, 0, 0, 64, 0, 0, 0, 66, 0, 0, 0, 68, 0, 0, 0, 73, 0, 0, 0, 78, 0, 0, 0, 83, 0, 0, 0, 88, 0, 0, 0, 93]
abbrev dktX2_countOf_3 : List UInt8 := dkwX2_countOf_3 ++ dktX2_countOf_4
def dkwX2_countOf_2 : List UInt8 := [132, 4, 1, 167, 255, 213, 27]
abbrev dktX2_countOf_2 : List UInt8 := dkwX2_countOf_2 ++ dktX2_countOf_3
def dkwX2_countOf_1 : List UInt8 := [154, 0, 7, 3, 167, 0, 4, 4, 96, 61, 29, 42, 180, 0, 19, 21, 4, 46, 184, 0, 123, 96, 62]
abbrev dktX2_countOf_1 : List UInt8 := dkwX2_countOf_1 ++ dktX2_countOf_2
def dkwX2_countOf_0 : List UInt8 := [3, 61, 3, 62, 3, 54, 4, 21, 4, 42, 180, 0, 81, 162, 0, 40, 28, 42, 180, 0, 19, 21, 4, 46]
abbrev dktX2_countOf_0 : List UInt8 := dkwX2_countOf_0 ++ dktX2_countOf_1
theorem dksX2_countOf_0 : cX2_countOf.data.toList.drop 0 = dktX2_countOf_0 := by decide +kernel
theorem dksX2_countOf_1 : cX2_countOf.data.toList.drop 24 = dktX2_countOf_1 := dk_seg dksX2_countOf_0 24 rfl rfl
theorem dksX2_countOf_2 : cX2_countOf.data.toList.drop 47 = dktX2_countOf_2 := dk_seg dksX2_countOf_1 23 rfl rfl
theorem dksX2_countOf_3 : cX2_countOf.data.toList.drop 54 = dktX2_countOf_3 := dk_seg dksX2_countOf_2 7 rfl rfl
theorem dksX2_countOf_4 : cX2_countOf.data.toList.drop 108 = dktX2_countOf_4 := dk_seg dksX2_countOf_3 54 rfl rfl
theorem dksX2_countOf_5 : cX2_countOf.data.toList.drop 132 = dktX2_countOf_5 := dk_seg dksX2_countOf_4 24 rfl rfl
theorem dX2_countOf_0 : decode cX2_countOf 0 = .ok (.iconst 0, 1) := dk_3 (dk_at dksX2_countOf_0 0 rfl rfl)
theorem dX2_countOf_1 : decode cX2_countOf 1 = .ok (.istore_n 2, 1) := dk_61 (dk_at dksX2_countOf_0 1 rfl rfl)
theorem dX2_countOf_2 : decode cX2_countOf 2 = .ok (.iconst 0, 1) := dk_3 (dk_at dksX2_countOf_0 2 rfl rfl)
theorem dX2_countOf_3 : decode cX2_countOf 3 = .ok (.istore_n 3, 1) := dk_62 (dk_at dksX2_countOf_0 3 rfl rfl)
theorem dX2_countOf_4 : decode cX2_countOf 4 = .ok (.iconst 0, 1) := dk_3 (dk_at dksX2_countOf_0 4 rfl rfl)
theorem dX2_countOf_5 : decode cX2_countOf 5 = .ok (.istore 4, 2) := dk_54 4 (dk_at dksX2_countOf_0 5 rfl rfl)
theorem dX2_countOf_7 : decode cX2_countOf 7 = .ok (.iload 4, 2) := dk_21 4 (dk_at dksX2_countOf_0 7 rfl rfl)
theorem dX2_countOf_9 : decode cX2_countOf 9 = .ok (.aload_n 0, 1) := dk_42 (dk_at dksX2_countOf_0 9 rfl rfl)
theorem dX2_countOf_10 : decode cX2_countOf 10 = .ok (.getfield 81, 3) := dk_180 0 81 (dk_at dksX2_countOf_0 10 rfl rfl)
theorem dX2_countOf_13 : decode cX2_countOf 13 = .ok (.if_icmp .ge 40, 3) := dk_162 0 40 (dk_at dksX2_countOf_0 13 rfl rfl)
theorem dX2_countOf_16 : decode cX2_countOf 16 = .ok (.iload_n 2, 1) := dk_28 (dk_at dksX2_countOf_0 16 rfl rfl)
theorem dX2_countOf_17 : decode cX2_countOf 17 = .ok (.aload_n 0, 1) := dk_42 (dk_at dksX2_countOf_0 17 rfl rfl)
theorem dX2_countOf_18 : decode cX2_countOf 18 = .ok (.getfield 19, 3) := dk_180 0 19 (dk_at dksX2_countOf_0 18 rfl rfl)
theorem dX2_countOf_21 : decode cX2_countOf 21 = .ok (.iload 4, 2) := dk_21 4 (dk_at dksX2_countOf_0 21 rfl rfl)
theorem dX2_countOf_23 : decode cX2_countOf 23 = .ok (.iaload, 1) := dk_46 (dk_at dksX2_countOf_0 23 rfl rfl)
theorem dX2_countOf_24 : decode cX2_countOf 24 = .ok (.ifCond .ne 7, 3) := dk_154 0 7 (dk_at dksX2_countOf_1 0 rfl rfl)
theorem dX2_countOf_27 : decode cX2_countOf 27 = .ok (.iconst 0, 1) := dk_3 (dk_at dksX2_countOf_1 3 rfl rfl)
theorem dX2_countOf_28 : decode cX2_countOf 28 = .ok (.goto 4, 3) := dk_167 0 4 (dk_at dksX2_countOf_1 4 rfl rfl)
theorem dX2_countOf_31 : decode cX2_countOf 31 = .ok (.iconst 1, 1) := dk_4 (dk_at dksX2_countOf_1 7 rfl rfl)
theorem dX2_countOf_32 : decode cX2_countOf 32 = .ok (.iadd, 1) := dk_96 (dk_at dksX2_countOf_1 8 rfl rfl)
theorem dX2_countOf_33 : decode cX2_countOf 33 = .ok (.istore_n 2, 1) := dk_61 (dk_at dksX2_countOf_1 9 rfl rfl)
theorem dX2_countOf_34 : decode cX2_countOf 34 = .ok (.iload_n 3, 1) := dk_29 (dk_at dksX2_countOf_1 10 rfl rfl)
theorem dX2_countOf_35 : decode cX2_countOf 35 = .ok (.aload_n 0, 1) := dk_42 (dk_at dksX2_countOf_1 11 rfl rfl)
theorem dX2_countOf_36 : decode cX2_countOf 36 = .ok (.getfield 19, 3) := dk_180 0 19 (dk_at dksX2_countOf_1 12 rfl rfl)
theorem dX2_countOf_39 : decode cX2_countOf 39 = .ok (.iload 4, 2) := dk_21 4 (dk_at dksX2_countOf_1 15 rfl rfl)
theorem dX2_countOf_41 : decode cX2_countOf 41 = .ok (.iaload, 1) := dk_46 (dk_at dksX2_countOf_1 17 rfl rfl)
theorem dX2_countOf_42 : decode cX2_countOf 42 = .ok (.invokestatic 123, 3) := dk_184 0 123 (dk_at dksX2_countOf_1 18 rfl rfl)
theorem dX2_countOf_45 : decode cX2_countOf 45 = .ok (.iadd, 1) := dk_96 (dk_at dksX2_countOf_1 21 rfl rfl)
theorem dX2_countOf_46 : decode cX2_countOf 46 = .ok (.istore_n 3, 1) := dk_62 (dk_at dksX2_countOf_1 22 rfl rfl)
theorem dX2_countOf_47 : decode cX2_countOf 47 = .ok (.iinc 4 1, 3) := dk_132 4 1 (dk_at dksX2_countOf_2 0 rfl rfl)
theorem dX2_countOf_50 : decode cX2_countOf 50 = .ok (.goto (-43), 3) := dk_167 255 213 (dk_at dksX2_countOf_2 3 rfl rfl)
theorem dX2_countOf_53 : decode cX2_countOf 53 = .ok (.iload_n 1, 1) := dk_27 (dk_at dksX2_countOf_2 6 rfl rfl)
theorem dX2_countOf_54 : decode cX2_countOf 54 = .ok (.tableswitch 98 0 9 #[54, 59, 64, 66, 68, 73, 78, 83, 88, 93], 54) := by decide +kernel
theorem dX2_countOf_108 : decode cX2_countOf 108 = .ok (.aload_n 0, 1) := dk_42 (dk_at dksX2_countOf_4 0 rfl rfl)
theorem dX2_countOf_109 : decode cX2_countOf 109 = .ok (.getfield 78, 3) := dk_180 0 78 (dk_at dksX2_countOf_4 1 rfl rfl)
theorem dX2_countOf_112 : decode cX2_countOf 112 = .ok (.ireturn, 1) := dk_172 (dk_at dksX2_countOf_4 4 rfl rfl)
theorem dX2_countOf_113 : decode cX2_countOf 113 = .ok (.aload_n 0, 1) := dk_42 (dk_at dksX2_countOf_4 5 rfl rfl)
theorem dX2_countOf_114 : decode cX2_countOf 114 = .ok (.getfield 81, 3) := dk_180 0 81 (dk_at dksX2_countOf_4 6 rfl rfl)
theorem dX2_countOf_117 : decode cX2_countOf 117 = .ok (.ireturn, 1) := dk_172 (dk_at dksX2_countOf_4 9 rfl rfl)
theorem dX2_countOf_118 : decode cX2_countOf 118 = .ok (.iload_n 2, 1) := dk_28 (dk_at dksX2_countOf_4 10 rfl rfl)
theorem dX2_countOf_119 : decode cX2_countOf 119 = .ok (.ireturn, 1) := dk_172 (dk_at dksX2_countOf_4 11 rfl rfl)
theorem dX2_countOf_120 : decode cX2_countOf 120 = .ok (.iload_n 3, 1) := dk_29 (dk_at dksX2_countOf_4 12 rfl rfl)
theorem dX2_countOf_121 : decode cX2_countOf 121 = .ok (.ireturn, 1) := dk_172 (dk_at dksX2_countOf_4 13 rfl rfl)
theorem dX2_countOf_122 : decode cX2_countOf 122 = .ok (.aload_n 0, 1) := dk_42 (dk_at dksX2_countOf_4 14 rfl rfl)
theorem dX2_countOf_123 : decode cX2_countOf 123 = .ok (.getfield 84, 3) := dk_180 0 84 (dk_at dksX2_countOf_4 15 rfl rfl)
theorem dX2_countOf_126 : decode cX2_countOf 126 = .ok (.ireturn, 1) := dk_172 (dk_at dksX2_countOf_4 18 rfl rfl)
theorem dX2_countOf_127 : decode cX2_countOf 127 = .ok (.aload_n 0, 1) := dk_42 (dk_at dksX2_countOf_4 19 rfl rfl)
theorem dX2_countOf_128 : decode cX2_countOf 128 = .ok (.getfield 87, 3) := dk_180 0 87 (dk_at dksX2_countOf_4 20 rfl rfl)
theorem dX2_countOf_131 : decode cX2_countOf 131 = .ok (.ireturn, 1) := dk_172 (dk_at dksX2_countOf_4 23 rfl rfl)
theorem dX2_countOf_132 : decode cX2_countOf 132 = .ok (.aload_n 0, 1) := dk_42 (dk_at dksX2_countOf_5 0 rfl rfl)
theorem dX2_countOf_133 : decode cX2_countOf 133 = .ok (.getfield 65, 3) := dk_180 0 65 (dk_at dksX2_countOf_5 1 rfl rfl)
theorem dX2_countOf_136 : decode cX2_countOf 136 = .ok (.ireturn, 1) := dk_172 (dk_at dksX2_countOf_5 4 rfl rfl)
theorem dX2_countOf_137 : decode cX2_countOf 137 = .ok (.aload_n 0, 1) := dk_42 (dk_at dksX2_countOf_5 5 rfl rfl)
theorem dX2_countOf_138 : decode cX2_countOf 138 = .ok (.getfield 90, 3) := dk_180 0 90 (dk_at dksX2_countOf_5 6 rfl rfl)
theorem dX2_countOf_141 : decode cX2_countOf 141 = .ok (.ireturn, 1) := dk_172 (dk_at dksX2_countOf_5 9 rfl rfl)
theorem dX2_countOf_142 : decode cX2_countOf 142 = .ok (.aload_n 0, 1) := dk_42 (dk_at dksX2_countOf_5 10 rfl rfl)
theorem dX2_countOf_143 : decode cX2_countOf 143 = .ok (.getfield 166, 3) := dk_180 0 166 (dk_at dksX2_countOf_5 11 rfl rfl)
theorem dX2_countOf_146 : decode cX2_countOf 146 = .ok (.ireturn, 1) := dk_172 (dk_at dksX2_countOf_5 14 rfl rfl)
theorem dX2_countOf_147 : decode cX2_countOf 147 = .ok (.aload_n 0, 1) := dk_42 (dk_at dksX2_countOf_5 15 rfl rfl)
theorem dX2_countOf_148 : decode cX2_countOf 148 = .ok (.getfield 183, 3) := dk_180 0 183 (dk_at dksX2_countOf_5 16 rfl rfl)
theorem dX2_countOf_151 : decode cX2_countOf 151 = .ok (.ireturn, 1) := dk_172 (dk_at dksX2_countOf_5 19 rfl rfl)
theorem dX2_countOf_152 : decode cX2_countOf 152 = .ok (.bipush (-102), 2) := dk_16 154 (dk_at dksX2_countOf_5 20 rfl rfl)
theorem dX2_countOf_154 : decode cX2_countOf 154 = .ok (.ireturn, 1) := dk_172 (dk_at dksX2_countOf_5 22 rfl rfl)
abbrev cX2_digest : ByteArray := prog_11_method_64_code
def yX2_digest : MethodName := ⟨RX2, "digest", "()J"⟩
def dkwX2_digest_6 : List UInt8 := [167, 255, 237, 42, 180, 0, 238, 173]
abbrev dktX2_digest_6 : List UInt8 := dkwX2_digest_6 ++ []
def dkwX2_digest_5 : List UInt8 := [167, 255, 234, 3, 60, 27, 16, 10, 162, 0, 19, 42, 42, 27, 182, 0, 233, 133, 182, 0, 242, 132, 1, 1]
abbrev dktX2_digest_5 : List UInt8 := dkwX2_digest_5 ++ dktX2_digest_6
def dkwX2_digest_4 : List UInt8 := [60, 27, 42, 180, 0, 65, 162, 0, 20, 42, 42, 180, 0, 7, 27, 46, 133, 182, 0, 242, 132, 1, 1]
abbrev dktX2_digest_4 : List UInt8 := dkwX2_digest_4 ++ dktX2_digest_5
def dkwX2_digest_3 : List UInt8 := [182, 0, 173, 133, 182, 0, 242, 42, 182, 0, 109, 154, 0, 12, 42, 42, 182, 0, 197, 133, 182, 0, 242, 3]
abbrev dktX2_digest_3 : List UInt8 := dkwX2_digest_3 ++ dktX2_digest_4
def dkwX2_digest_2 : List UInt8 := [60, 27, 42, 180, 0, 81, 162, 0, 14, 42, 27, 182, 0, 248, 132, 1, 1, 167, 255, 240, 42, 42]
abbrev dktX2_digest_2 : List UInt8 := dkwX2_digest_2 ++ dktX2_digest_3
def dkwX2_digest_1 : List UInt8 := [182, 0, 242, 42, 42, 42, 180, 0, 19, 27, 182, 0, 95, 133, 182, 0, 242, 132, 1, 1, 167, 255, 222, 3]
abbrev dktX2_digest_1 : List UInt8 := dkwX2_digest_1 ++ dktX2_digest_2
def dkwX2_digest_0 : List UInt8 := [42, 20, 0, 246, 181, 0, 238, 3, 60, 27, 16, 6, 162, 0, 34, 42, 42, 180, 0, 13, 27, 46, 133]
abbrev dktX2_digest_0 : List UInt8 := dkwX2_digest_0 ++ dktX2_digest_1
theorem dksX2_digest_0 : cX2_digest.data.toList.drop 0 = dktX2_digest_0 := by decide +kernel
theorem dksX2_digest_1 : cX2_digest.data.toList.drop 23 = dktX2_digest_1 := dk_seg dksX2_digest_0 23 rfl rfl
theorem dksX2_digest_2 : cX2_digest.data.toList.drop 47 = dktX2_digest_2 := dk_seg dksX2_digest_1 24 rfl rfl
theorem dksX2_digest_3 : cX2_digest.data.toList.drop 69 = dktX2_digest_3 := dk_seg dksX2_digest_2 22 rfl rfl
theorem dksX2_digest_4 : cX2_digest.data.toList.drop 93 = dktX2_digest_4 := dk_seg dksX2_digest_3 24 rfl rfl
theorem dksX2_digest_5 : cX2_digest.data.toList.drop 116 = dktX2_digest_5 := dk_seg dksX2_digest_4 23 rfl rfl
theorem dksX2_digest_6 : cX2_digest.data.toList.drop 140 = dktX2_digest_6 := dk_seg dksX2_digest_5 24 rfl rfl
theorem dX2_digest_0 : decode cX2_digest 0 = .ok (.aload_n 0, 1) := dk_42 (dk_at dksX2_digest_0 0 rfl rfl)
theorem dX2_digest_1 : decode cX2_digest 1 = .ok (.ldc2_w 246, 3) := dk_20 0 246 (dk_at dksX2_digest_0 1 rfl rfl)
theorem dX2_digest_4 : decode cX2_digest 4 = .ok (.putfield 238, 3) := dk_181 0 238 (dk_at dksX2_digest_0 4 rfl rfl)
theorem dX2_digest_7 : decode cX2_digest 7 = .ok (.iconst 0, 1) := dk_3 (dk_at dksX2_digest_0 7 rfl rfl)
theorem dX2_digest_8 : decode cX2_digest 8 = .ok (.istore_n 1, 1) := dk_60 (dk_at dksX2_digest_0 8 rfl rfl)
theorem dX2_digest_9 : decode cX2_digest 9 = .ok (.iload_n 1, 1) := dk_27 (dk_at dksX2_digest_0 9 rfl rfl)
theorem dX2_digest_10 : decode cX2_digest 10 = .ok (.bipush 6, 2) := dk_16 6 (dk_at dksX2_digest_0 10 rfl rfl)
theorem dX2_digest_12 : decode cX2_digest 12 = .ok (.if_icmp .ge 34, 3) := dk_162 0 34 (dk_at dksX2_digest_0 12 rfl rfl)
theorem dX2_digest_15 : decode cX2_digest 15 = .ok (.aload_n 0, 1) := dk_42 (dk_at dksX2_digest_0 15 rfl rfl)
theorem dX2_digest_16 : decode cX2_digest 16 = .ok (.aload_n 0, 1) := dk_42 (dk_at dksX2_digest_0 16 rfl rfl)
theorem dX2_digest_17 : decode cX2_digest 17 = .ok (.getfield 13, 3) := dk_180 0 13 (dk_at dksX2_digest_0 17 rfl rfl)
theorem dX2_digest_20 : decode cX2_digest 20 = .ok (.iload_n 1, 1) := dk_27 (dk_at dksX2_digest_0 20 rfl rfl)
theorem dX2_digest_21 : decode cX2_digest 21 = .ok (.iaload, 1) := dk_46 (dk_at dksX2_digest_0 21 rfl rfl)
theorem dX2_digest_22 : decode cX2_digest 22 = .ok (.i2l, 1) := dk_133 (dk_at dksX2_digest_0 22 rfl rfl)
theorem dX2_digest_23 : decode cX2_digest 23 = .ok (.invokevirtual 242, 3) := dk_182 0 242 (dk_at dksX2_digest_1 0 rfl rfl)
theorem dX2_digest_26 : decode cX2_digest 26 = .ok (.aload_n 0, 1) := dk_42 (dk_at dksX2_digest_1 3 rfl rfl)
theorem dX2_digest_27 : decode cX2_digest 27 = .ok (.aload_n 0, 1) := dk_42 (dk_at dksX2_digest_1 4 rfl rfl)
theorem dX2_digest_28 : decode cX2_digest 28 = .ok (.aload_n 0, 1) := dk_42 (dk_at dksX2_digest_1 5 rfl rfl)
theorem dX2_digest_29 : decode cX2_digest 29 = .ok (.getfield 19, 3) := dk_180 0 19 (dk_at dksX2_digest_1 6 rfl rfl)
theorem dX2_digest_32 : decode cX2_digest 32 = .ok (.iload_n 1, 1) := dk_27 (dk_at dksX2_digest_1 9 rfl rfl)
theorem dX2_digest_33 : decode cX2_digest 33 = .ok (.invokevirtual 95, 3) := dk_182 0 95 (dk_at dksX2_digest_1 10 rfl rfl)
theorem dX2_digest_36 : decode cX2_digest 36 = .ok (.i2l, 1) := dk_133 (dk_at dksX2_digest_1 13 rfl rfl)
theorem dX2_digest_37 : decode cX2_digest 37 = .ok (.invokevirtual 242, 3) := dk_182 0 242 (dk_at dksX2_digest_1 14 rfl rfl)
theorem dX2_digest_40 : decode cX2_digest 40 = .ok (.iinc 1 1, 3) := dk_132 1 1 (dk_at dksX2_digest_1 17 rfl rfl)
theorem dX2_digest_43 : decode cX2_digest 43 = .ok (.goto (-34), 3) := dk_167 255 222 (dk_at dksX2_digest_1 20 rfl rfl)
theorem dX2_digest_46 : decode cX2_digest 46 = .ok (.iconst 0, 1) := dk_3 (dk_at dksX2_digest_1 23 rfl rfl)
theorem dX2_digest_47 : decode cX2_digest 47 = .ok (.istore_n 1, 1) := dk_60 (dk_at dksX2_digest_2 0 rfl rfl)
theorem dX2_digest_48 : decode cX2_digest 48 = .ok (.iload_n 1, 1) := dk_27 (dk_at dksX2_digest_2 1 rfl rfl)
theorem dX2_digest_49 : decode cX2_digest 49 = .ok (.aload_n 0, 1) := dk_42 (dk_at dksX2_digest_2 2 rfl rfl)
theorem dX2_digest_50 : decode cX2_digest 50 = .ok (.getfield 81, 3) := dk_180 0 81 (dk_at dksX2_digest_2 3 rfl rfl)
theorem dX2_digest_53 : decode cX2_digest 53 = .ok (.if_icmp .ge 14, 3) := dk_162 0 14 (dk_at dksX2_digest_2 6 rfl rfl)
theorem dX2_digest_56 : decode cX2_digest 56 = .ok (.aload_n 0, 1) := dk_42 (dk_at dksX2_digest_2 9 rfl rfl)
theorem dX2_digest_57 : decode cX2_digest 57 = .ok (.iload_n 1, 1) := dk_27 (dk_at dksX2_digest_2 10 rfl rfl)
theorem dX2_digest_58 : decode cX2_digest 58 = .ok (.invokevirtual 248, 3) := dk_182 0 248 (dk_at dksX2_digest_2 11 rfl rfl)
theorem dX2_digest_61 : decode cX2_digest 61 = .ok (.iinc 1 1, 3) := dk_132 1 1 (dk_at dksX2_digest_2 14 rfl rfl)
theorem dX2_digest_64 : decode cX2_digest 64 = .ok (.goto (-16), 3) := dk_167 255 240 (dk_at dksX2_digest_2 17 rfl rfl)
theorem dX2_digest_67 : decode cX2_digest 67 = .ok (.aload_n 0, 1) := dk_42 (dk_at dksX2_digest_2 20 rfl rfl)
theorem dX2_digest_68 : decode cX2_digest 68 = .ok (.aload_n 0, 1) := dk_42 (dk_at dksX2_digest_2 21 rfl rfl)
theorem dX2_digest_69 : decode cX2_digest 69 = .ok (.invokevirtual 173, 3) := dk_182 0 173 (dk_at dksX2_digest_3 0 rfl rfl)
theorem dX2_digest_72 : decode cX2_digest 72 = .ok (.i2l, 1) := dk_133 (dk_at dksX2_digest_3 3 rfl rfl)
theorem dX2_digest_73 : decode cX2_digest 73 = .ok (.invokevirtual 242, 3) := dk_182 0 242 (dk_at dksX2_digest_3 4 rfl rfl)
theorem dX2_digest_76 : decode cX2_digest 76 = .ok (.aload_n 0, 1) := dk_42 (dk_at dksX2_digest_3 7 rfl rfl)
theorem dX2_digest_77 : decode cX2_digest 77 = .ok (.invokevirtual 109, 3) := dk_182 0 109 (dk_at dksX2_digest_3 8 rfl rfl)
theorem dX2_digest_80 : decode cX2_digest 80 = .ok (.ifCond .ne 12, 3) := dk_154 0 12 (dk_at dksX2_digest_3 11 rfl rfl)
theorem dX2_digest_83 : decode cX2_digest 83 = .ok (.aload_n 0, 1) := dk_42 (dk_at dksX2_digest_3 14 rfl rfl)
theorem dX2_digest_84 : decode cX2_digest 84 = .ok (.aload_n 0, 1) := dk_42 (dk_at dksX2_digest_3 15 rfl rfl)
theorem dX2_digest_85 : decode cX2_digest 85 = .ok (.invokevirtual 197, 3) := dk_182 0 197 (dk_at dksX2_digest_3 16 rfl rfl)
theorem dX2_digest_88 : decode cX2_digest 88 = .ok (.i2l, 1) := dk_133 (dk_at dksX2_digest_3 19 rfl rfl)
theorem dX2_digest_89 : decode cX2_digest 89 = .ok (.invokevirtual 242, 3) := dk_182 0 242 (dk_at dksX2_digest_3 20 rfl rfl)
theorem dX2_digest_92 : decode cX2_digest 92 = .ok (.iconst 0, 1) := dk_3 (dk_at dksX2_digest_3 23 rfl rfl)
theorem dX2_digest_93 : decode cX2_digest 93 = .ok (.istore_n 1, 1) := dk_60 (dk_at dksX2_digest_4 0 rfl rfl)
theorem dX2_digest_94 : decode cX2_digest 94 = .ok (.iload_n 1, 1) := dk_27 (dk_at dksX2_digest_4 1 rfl rfl)
theorem dX2_digest_95 : decode cX2_digest 95 = .ok (.aload_n 0, 1) := dk_42 (dk_at dksX2_digest_4 2 rfl rfl)
theorem dX2_digest_96 : decode cX2_digest 96 = .ok (.getfield 65, 3) := dk_180 0 65 (dk_at dksX2_digest_4 3 rfl rfl)
theorem dX2_digest_99 : decode cX2_digest 99 = .ok (.if_icmp .ge 20, 3) := dk_162 0 20 (dk_at dksX2_digest_4 6 rfl rfl)
theorem dX2_digest_102 : decode cX2_digest 102 = .ok (.aload_n 0, 1) := dk_42 (dk_at dksX2_digest_4 9 rfl rfl)
theorem dX2_digest_103 : decode cX2_digest 103 = .ok (.aload_n 0, 1) := dk_42 (dk_at dksX2_digest_4 10 rfl rfl)
theorem dX2_digest_104 : decode cX2_digest 104 = .ok (.getfield 7, 3) := dk_180 0 7 (dk_at dksX2_digest_4 11 rfl rfl)
theorem dX2_digest_107 : decode cX2_digest 107 = .ok (.iload_n 1, 1) := dk_27 (dk_at dksX2_digest_4 14 rfl rfl)
theorem dX2_digest_108 : decode cX2_digest 108 = .ok (.iaload, 1) := dk_46 (dk_at dksX2_digest_4 15 rfl rfl)
theorem dX2_digest_109 : decode cX2_digest 109 = .ok (.i2l, 1) := dk_133 (dk_at dksX2_digest_4 16 rfl rfl)
theorem dX2_digest_110 : decode cX2_digest 110 = .ok (.invokevirtual 242, 3) := dk_182 0 242 (dk_at dksX2_digest_4 17 rfl rfl)
theorem dX2_digest_113 : decode cX2_digest 113 = .ok (.iinc 1 1, 3) := dk_132 1 1 (dk_at dksX2_digest_4 20 rfl rfl)
theorem dX2_digest_116 : decode cX2_digest 116 = .ok (.goto (-22), 3) := dk_167 255 234 (dk_at dksX2_digest_5 0 rfl rfl)
theorem dX2_digest_119 : decode cX2_digest 119 = .ok (.iconst 0, 1) := dk_3 (dk_at dksX2_digest_5 3 rfl rfl)
theorem dX2_digest_120 : decode cX2_digest 120 = .ok (.istore_n 1, 1) := dk_60 (dk_at dksX2_digest_5 4 rfl rfl)
theorem dX2_digest_121 : decode cX2_digest 121 = .ok (.iload_n 1, 1) := dk_27 (dk_at dksX2_digest_5 5 rfl rfl)
theorem dX2_digest_122 : decode cX2_digest 122 = .ok (.bipush 10, 2) := dk_16 10 (dk_at dksX2_digest_5 6 rfl rfl)
theorem dX2_digest_124 : decode cX2_digest 124 = .ok (.if_icmp .ge 19, 3) := dk_162 0 19 (dk_at dksX2_digest_5 8 rfl rfl)
theorem dX2_digest_127 : decode cX2_digest 127 = .ok (.aload_n 0, 1) := dk_42 (dk_at dksX2_digest_5 11 rfl rfl)
theorem dX2_digest_128 : decode cX2_digest 128 = .ok (.aload_n 0, 1) := dk_42 (dk_at dksX2_digest_5 12 rfl rfl)
theorem dX2_digest_129 : decode cX2_digest 129 = .ok (.iload_n 1, 1) := dk_27 (dk_at dksX2_digest_5 13 rfl rfl)
theorem dX2_digest_130 : decode cX2_digest 130 = .ok (.invokevirtual 233, 3) := dk_182 0 233 (dk_at dksX2_digest_5 14 rfl rfl)
theorem dX2_digest_133 : decode cX2_digest 133 = .ok (.i2l, 1) := dk_133 (dk_at dksX2_digest_5 17 rfl rfl)
theorem dX2_digest_134 : decode cX2_digest 134 = .ok (.invokevirtual 242, 3) := dk_182 0 242 (dk_at dksX2_digest_5 18 rfl rfl)
theorem dX2_digest_137 : decode cX2_digest 137 = .ok (.iinc 1 1, 3) := dk_132 1 1 (dk_at dksX2_digest_5 21 rfl rfl)
theorem dX2_digest_140 : decode cX2_digest 140 = .ok (.goto (-19), 3) := dk_167 255 237 (dk_at dksX2_digest_6 0 rfl rfl)
theorem dX2_digest_143 : decode cX2_digest 143 = .ok (.aload_n 0, 1) := dk_42 (dk_at dksX2_digest_6 3 rfl rfl)
theorem dX2_digest_144 : decode cX2_digest 144 = .ok (.getfield 238, 3) := dk_180 0 238 (dk_at dksX2_digest_6 4 rfl rfl)
theorem dX2_digest_147 : decode cX2_digest 147 = .ok (.lreturn, 1) := dk_173 (dk_at dksX2_digest_6 7 rfl rfl)
abbrev cX2_say : ByteArray := prog_11_method_62_code
def yX2_say : MethodName := ⟨RX2, "say", "(J)V"⟩
def dkwX2_say_0 : List UInt8 := [42, 20, 0, 236, 42, 180, 0, 238, 105, 31, 97, 181, 0, 238, 177]
abbrev dktX2_say_0 : List UInt8 := dkwX2_say_0 ++ []
theorem dksX2_say_0 : cX2_say.data.toList.drop 0 = dktX2_say_0 := by decide +kernel
theorem dX2_say_0 : decode cX2_say 0 = .ok (.aload_n 0, 1) := dk_42 (dk_at dksX2_say_0 0 rfl rfl)
theorem dX2_say_1 : decode cX2_say 1 = .ok (.ldc2_w 236, 3) := dk_20 0 236 (dk_at dksX2_say_0 1 rfl rfl)
theorem dX2_say_4 : decode cX2_say 4 = .ok (.aload_n 0, 1) := dk_42 (dk_at dksX2_say_0 4 rfl rfl)
theorem dX2_say_5 : decode cX2_say 5 = .ok (.getfield 238, 3) := dk_180 0 238 (dk_at dksX2_say_0 5 rfl rfl)
theorem dX2_say_8 : decode cX2_say 8 = .ok (.lmul, 1) := dk_105 (dk_at dksX2_say_0 8 rfl rfl)
theorem dX2_say_9 : decode cX2_say 9 = .ok (.lload_n 1, 1) := dk_31 (dk_at dksX2_say_0 9 rfl rfl)
theorem dX2_say_10 : decode cX2_say 10 = .ok (.ladd, 1) := dk_97 (dk_at dksX2_say_0 10 rfl rfl)
theorem dX2_say_11 : decode cX2_say 11 = .ok (.putfield 238, 3) := dk_181 0 238 (dk_at dksX2_say_0 11 rfl rfl)
theorem dX2_say_14 : decode cX2_say 14 = .ok (.return_, 1) := dk_177 (dk_at dksX2_say_0 14 rfl rfl)
abbrev cX2_sayFile : ByteArray := prog_11_method_63_code
def yX2_sayFile : MethodName := ⟨RX2, "sayFile", "(I)V"⟩
def dkwX2_sayFile_2 : List UInt8 := [182, 0, 242, 42, 42, 27, 5, 182, 0, 163, 133, 182, 0, 242, 177]
abbrev dktX2_sayFile_2 : List UInt8 := dkwX2_sayFile_2 ++ []
def dkwX2_sayFile_1 : List UInt8 := [167, 255, 236, 42, 42, 27, 5, 3, 182, 0, 160, 133, 182, 0, 242, 42, 42, 27, 5, 4, 182, 0, 160, 133]
abbrev dktX2_sayFile_1 : List UInt8 := dkwX2_sayFile_1 ++ dktX2_sayFile_2
def dkwX2_sayFile_0 : List UInt8 := [3, 61, 28, 16, 6, 162, 0, 20, 42, 42, 27, 28, 182, 0, 120, 133, 182, 0, 242, 132, 2, 1]
abbrev dktX2_sayFile_0 : List UInt8 := dkwX2_sayFile_0 ++ dktX2_sayFile_1
theorem dksX2_sayFile_0 : cX2_sayFile.data.toList.drop 0 = dktX2_sayFile_0 := by decide +kernel
theorem dksX2_sayFile_1 : cX2_sayFile.data.toList.drop 22 = dktX2_sayFile_1 := dk_seg dksX2_sayFile_0 22 rfl rfl
theorem dksX2_sayFile_2 : cX2_sayFile.data.toList.drop 46 = dktX2_sayFile_2 := dk_seg dksX2_sayFile_1 24 rfl rfl
theorem dX2_sayFile_0 : decode cX2_sayFile 0 = .ok (.iconst 0, 1) := dk_3 (dk_at dksX2_sayFile_0 0 rfl rfl)
theorem dX2_sayFile_1 : decode cX2_sayFile 1 = .ok (.istore_n 2, 1) := dk_61 (dk_at dksX2_sayFile_0 1 rfl rfl)
theorem dX2_sayFile_2 : decode cX2_sayFile 2 = .ok (.iload_n 2, 1) := dk_28 (dk_at dksX2_sayFile_0 2 rfl rfl)
theorem dX2_sayFile_3 : decode cX2_sayFile 3 = .ok (.bipush 6, 2) := dk_16 6 (dk_at dksX2_sayFile_0 3 rfl rfl)
theorem dX2_sayFile_5 : decode cX2_sayFile 5 = .ok (.if_icmp .ge 20, 3) := dk_162 0 20 (dk_at dksX2_sayFile_0 5 rfl rfl)
theorem dX2_sayFile_8 : decode cX2_sayFile 8 = .ok (.aload_n 0, 1) := dk_42 (dk_at dksX2_sayFile_0 8 rfl rfl)
theorem dX2_sayFile_9 : decode cX2_sayFile 9 = .ok (.aload_n 0, 1) := dk_42 (dk_at dksX2_sayFile_0 9 rfl rfl)
theorem dX2_sayFile_10 : decode cX2_sayFile 10 = .ok (.iload_n 1, 1) := dk_27 (dk_at dksX2_sayFile_0 10 rfl rfl)
theorem dX2_sayFile_11 : decode cX2_sayFile 11 = .ok (.iload_n 2, 1) := dk_28 (dk_at dksX2_sayFile_0 11 rfl rfl)
theorem dX2_sayFile_12 : decode cX2_sayFile 12 = .ok (.invokevirtual 120, 3) := dk_182 0 120 (dk_at dksX2_sayFile_0 12 rfl rfl)
theorem dX2_sayFile_15 : decode cX2_sayFile 15 = .ok (.i2l, 1) := dk_133 (dk_at dksX2_sayFile_0 15 rfl rfl)
theorem dX2_sayFile_16 : decode cX2_sayFile 16 = .ok (.invokevirtual 242, 3) := dk_182 0 242 (dk_at dksX2_sayFile_0 16 rfl rfl)
theorem dX2_sayFile_19 : decode cX2_sayFile 19 = .ok (.iinc 2 1, 3) := dk_132 2 1 (dk_at dksX2_sayFile_0 19 rfl rfl)
theorem dX2_sayFile_22 : decode cX2_sayFile 22 = .ok (.goto (-20), 3) := dk_167 255 236 (dk_at dksX2_sayFile_1 0 rfl rfl)
theorem dX2_sayFile_25 : decode cX2_sayFile 25 = .ok (.aload_n 0, 1) := dk_42 (dk_at dksX2_sayFile_1 3 rfl rfl)
theorem dX2_sayFile_26 : decode cX2_sayFile 26 = .ok (.aload_n 0, 1) := dk_42 (dk_at dksX2_sayFile_1 4 rfl rfl)
theorem dX2_sayFile_27 : decode cX2_sayFile 27 = .ok (.iload_n 1, 1) := dk_27 (dk_at dksX2_sayFile_1 5 rfl rfl)
theorem dX2_sayFile_28 : decode cX2_sayFile 28 = .ok (.iconst 2, 1) := dk_5 (dk_at dksX2_sayFile_1 6 rfl rfl)
theorem dX2_sayFile_29 : decode cX2_sayFile 29 = .ok (.iconst 0, 1) := dk_3 (dk_at dksX2_sayFile_1 7 rfl rfl)
theorem dX2_sayFile_30 : decode cX2_sayFile 30 = .ok (.invokevirtual 160, 3) := dk_182 0 160 (dk_at dksX2_sayFile_1 8 rfl rfl)
theorem dX2_sayFile_33 : decode cX2_sayFile 33 = .ok (.i2l, 1) := dk_133 (dk_at dksX2_sayFile_1 11 rfl rfl)
theorem dX2_sayFile_34 : decode cX2_sayFile 34 = .ok (.invokevirtual 242, 3) := dk_182 0 242 (dk_at dksX2_sayFile_1 12 rfl rfl)
theorem dX2_sayFile_37 : decode cX2_sayFile 37 = .ok (.aload_n 0, 1) := dk_42 (dk_at dksX2_sayFile_1 15 rfl rfl)
theorem dX2_sayFile_38 : decode cX2_sayFile 38 = .ok (.aload_n 0, 1) := dk_42 (dk_at dksX2_sayFile_1 16 rfl rfl)
theorem dX2_sayFile_39 : decode cX2_sayFile 39 = .ok (.iload_n 1, 1) := dk_27 (dk_at dksX2_sayFile_1 17 rfl rfl)
theorem dX2_sayFile_40 : decode cX2_sayFile 40 = .ok (.iconst 2, 1) := dk_5 (dk_at dksX2_sayFile_1 18 rfl rfl)
theorem dX2_sayFile_41 : decode cX2_sayFile 41 = .ok (.iconst 1, 1) := dk_4 (dk_at dksX2_sayFile_1 19 rfl rfl)
theorem dX2_sayFile_42 : decode cX2_sayFile 42 = .ok (.invokevirtual 160, 3) := dk_182 0 160 (dk_at dksX2_sayFile_1 20 rfl rfl)
theorem dX2_sayFile_45 : decode cX2_sayFile 45 = .ok (.i2l, 1) := dk_133 (dk_at dksX2_sayFile_1 23 rfl rfl)
theorem dX2_sayFile_46 : decode cX2_sayFile 46 = .ok (.invokevirtual 242, 3) := dk_182 0 242 (dk_at dksX2_sayFile_2 0 rfl rfl)
theorem dX2_sayFile_49 : decode cX2_sayFile 49 = .ok (.aload_n 0, 1) := dk_42 (dk_at dksX2_sayFile_2 3 rfl rfl)
theorem dX2_sayFile_50 : decode cX2_sayFile 50 = .ok (.aload_n 0, 1) := dk_42 (dk_at dksX2_sayFile_2 4 rfl rfl)
theorem dX2_sayFile_51 : decode cX2_sayFile 51 = .ok (.iload_n 1, 1) := dk_27 (dk_at dksX2_sayFile_2 5 rfl rfl)
theorem dX2_sayFile_52 : decode cX2_sayFile 52 = .ok (.iconst 2, 1) := dk_5 (dk_at dksX2_sayFile_2 6 rfl rfl)
theorem dX2_sayFile_53 : decode cX2_sayFile 53 = .ok (.invokevirtual 163, 3) := dk_182 0 163 (dk_at dksX2_sayFile_2 7 rfl rfl)
theorem dX2_sayFile_56 : decode cX2_sayFile 56 = .ok (.i2l, 1) := dk_133 (dk_at dksX2_sayFile_2 10 rfl rfl)
theorem dX2_sayFile_57 : decode cX2_sayFile 57 = .ok (.invokevirtual 242, 3) := dk_182 0 242 (dk_at dksX2_sayFile_2 11 rfl rfl)
theorem dX2_sayFile_60 : decode cX2_sayFile 60 = .ok (.return_, 1) := dk_177 (dk_at dksX2_sayFile_2 14 rfl rfl)
theorem q66 : (Jvm.Cond.initialized "BurntLettersModel") ∈ lw_all := lw_g (lw_at lw_m1 6 rfl) rfl
theorem q443 : (Jvm.Cond.selects "BurntLettersModel" ({ cls := "java/lang/Object", name := "getClass", desc := "()Ljava/lang/Class;" } : Jvm.MethodName) ({ cls := "java/lang/Object", name := "getClass", desc := "()Ljava/lang/Class;" } : Jvm.MethodName)) ∈ lw_all := lw_g (lw_at lw_m2 143 rfl) rfl
theorem q802 : (Jvm.Cond.instantiable "BurntLettersModel" (29 : Nat)) ∈ lw_all := lw_g (lw_at lw_m4 22 rfl) rfl
theorem q804 : (Jvm.Cond.instanceMethod ({ cls := "BurntLettersModel", name := "<init>", desc := "()V" } : Jvm.MethodName)) ∈ lw_all := lw_g (lw_at lw_m4 24 rfl) rfl
theorem q805 : (Jvm.Cond.code ({ cls := "BurntLettersModel", name := "<init>", desc := "()V" } : Jvm.MethodName) prog_11_method_1_code (1 : Nat) (Option.none : Option Jvm.ClassFile.FieldType)) ∈ lw_all := lw_g (lw_at lw_m4 25 rfl) rfl
theorem q806 : (Jvm.Cond.methodLink "BurntLettersModel" (1 : Nat) ({ cls := "java/lang/Object", name := "<init>", desc := "()V" } : Jvm.MethodName)) ∈ lw_all := lw_g (lw_at lw_m4 26 rfl) rfl
theorem q807 : (Jvm.Cond.fieldLink "BurntLettersModel" (7 : Nat) "BurntLettersModel" "page" "[I") ∈ lw_all := lw_g (lw_at lw_m4 27 rfl) rfl
theorem q808 : (Jvm.Cond.fieldLink "BurntLettersModel" (65 : Nat) "BurntLettersModel" "pageMany" "I") ∈ lw_all := lw_g (lw_at lw_m4 28 rfl) rfl
theorem q809 : (Jvm.Cond.fieldLink "BurntLettersModel" (78 : Nat) "BurntLettersModel" "room" "I") ∈ lw_all := lw_g (lw_at lw_m4 29 rfl) rfl
theorem q810 : (Jvm.Cond.fieldLink "BurntLettersModel" (84 : Nat) "BurntLettersModel" "yearNow" "I") ∈ lw_all := lw_g (lw_at lw_m4 30 rfl) rfl
theorem q811 : (Jvm.Cond.fieldLink "BurntLettersModel" (90 : Nat) "BurntLettersModel" "lawsRead" "I") ∈ lw_all := lw_g (lw_at lw_m4 31 rfl) rfl
theorem q812 : (Jvm.Cond.fieldLink "BurntLettersModel" (13 : Nat) "BurntLettersModel" "lots" "[I") ∈ lw_all := lw_g (lw_at lw_m4 32 rfl) rfl
theorem q813 : (Jvm.Cond.fieldLink "BurntLettersModel" (81 : Nat) "BurntLettersModel" "files" "I") ∈ lw_all := lw_g (lw_at lw_m4 33 rfl) rfl
theorem q814 : (Jvm.Cond.fieldLink "BurntLettersModel" (16 : Nat) "BurntLettersModel" "rows" "[I") ∈ lw_all := lw_g (lw_at lw_m4 34 rfl) rfl
theorem q815 : (Jvm.Cond.fieldLink "BurntLettersModel" (19 : Nat) "BurntLettersModel" "leaves" "[I") ∈ lw_all := lw_g (lw_at lw_m4 35 rfl) rfl
theorem q816 : (Jvm.Cond.fieldLink "BurntLettersModel" (22 : Nat) "BurntLettersModel" "kept" "[I") ∈ lw_all := lw_g (lw_at lw_m4 36 rfl) rfl
theorem q817 : (Jvm.Cond.fieldLink "BurntLettersModel" (25 : Nat) "BurntLettersModel" "now" "[I") ∈ lw_all := lw_g (lw_at lw_m4 37 rfl) rfl
theorem q818 : (Jvm.Cond.fieldLink "BurntLettersModel" (28 : Nat) "BurntLettersModel" "nowKept" "[I") ∈ lw_all := lw_g (lw_at lw_m4 38 rfl) rfl
theorem q819 : (Jvm.Cond.fieldLink "BurntLettersModel" (31 : Nat) "BurntLettersModel" "ahead" "[I") ∈ lw_all := lw_g (lw_at lw_m4 39 rfl) rfl
theorem q820 : (Jvm.Cond.fieldLink "BurntLettersModel" (166 : Nat) "BurntLettersModel" "sureMany" "I") ∈ lw_all := lw_g (lw_at lw_m4 40 rfl) rfl
theorem q821 : (Jvm.Cond.fieldLink "BurntLettersModel" (183 : Nat) "BurntLettersModel" "movingMany" "I") ∈ lw_all := lw_g (lw_at lw_m4 41 rfl) rfl
theorem q822 : (Jvm.Cond.fieldLink "BurntLettersModel" (34 : Nat) "BurntLettersModel" "next" "[I") ∈ lw_all := lw_g (lw_at lw_m4 42 rfl) rfl
theorem q823 : (Jvm.Cond.fieldLink "BurntLettersModel" (87 : Nat) "BurntLettersModel" "ashMany" "I") ∈ lw_all := lw_g (lw_at lw_m4 43 rfl) rfl
theorem q824 : (Jvm.Cond.fieldLink "BurntLettersModel" (37 : Nat) "BurntLettersModel" "ashRows" "[I") ∈ lw_all := lw_g (lw_at lw_m4 44 rfl) rfl
theorem q825 : (Jvm.Cond.fieldLink "BurntLettersModel" (40 : Nat) "BurntLettersModel" "burns" "[I") ∈ lw_all := lw_g (lw_at lw_m4 45 rfl) rfl
theorem q826 : (Jvm.Cond.fieldLink "BurntLettersModel" (202 : Nat) "BurntLettersModel" "seedNow" "I") ∈ lw_all := lw_g (lw_at lw_m4 46 rfl) rfl
theorem q827 : (Jvm.Cond.fieldLink "BurntLettersModel" (55 : Nat) "BurntLettersModel" "keptLaw" "I") ∈ lw_all := lw_g (lw_at lw_m4 47 rfl) rfl
theorem q828 : (Jvm.Cond.fieldLink "BurntLettersModel" (224 : Nat) "BurntLettersModel" "keptFiles" "I") ∈ lw_all := lw_g (lw_at lw_m4 48 rfl) rfl
theorem q829 : (Jvm.Cond.fieldLink "BurntLettersModel" (227 : Nat) "BurntLettersModel" "keptYear" "I") ∈ lw_all := lw_g (lw_at lw_m4 49 rfl) rfl
theorem q830 : (Jvm.Cond.fieldLink "BurntLettersModel" (230 : Nat) "BurntLettersModel" "keptAshMany" "I") ∈ lw_all := lw_g (lw_at lw_m4 50 rfl) rfl
theorem q831 : (Jvm.Cond.fieldLink "BurntLettersModel" (43 : Nat) "BurntLettersModel" "keptRows" "[I") ∈ lw_all := lw_g (lw_at lw_m4 51 rfl) rfl
theorem q832 : (Jvm.Cond.fieldLink "BurntLettersModel" (46 : Nat) "BurntLettersModel" "keptLeaves" "[I") ∈ lw_all := lw_g (lw_at lw_m4 52 rfl) rfl
theorem q833 : (Jvm.Cond.fieldLink "BurntLettersModel" (49 : Nat) "BurntLettersModel" "keptKept" "[I") ∈ lw_all := lw_g (lw_at lw_m4 53 rfl) rfl
theorem q834 : (Jvm.Cond.fieldLink "BurntLettersModel" (52 : Nat) "BurntLettersModel" "keptAshes" "[I") ∈ lw_all := lw_g (lw_at lw_m4 54 rfl) rfl
theorem q835 : (Jvm.Cond.fieldLink "BurntLettersModel" (238 : Nat) "BurntLettersModel" "hash" "J") ∈ lw_all := lw_g (lw_at lw_m4 55 rfl) rfl
theorem q836 : (Jvm.Cond.laysFinal "BurntLettersModel" "BurntLettersModel" "page" "[I") ∈ lw_all := lw_g (lw_at lw_m4 56 rfl) rfl
theorem q837 : (Jvm.Cond.soleField "BurntLettersModel" "page") ∈ lw_all := lw_g (lw_at lw_m4 57 rfl) rfl
theorem q838 : (Jvm.Cond.lays "BurntLettersModel" "BurntLettersModel" "pageMany" "I") ∈ lw_all := lw_g (lw_at lw_m4 58 rfl) rfl
theorem q839 : (Jvm.Cond.soleField "BurntLettersModel" "pageMany") ∈ lw_all := lw_g (lw_at lw_m4 59 rfl) rfl
theorem q840 : (Jvm.Cond.lays "BurntLettersModel" "BurntLettersModel" "room" "I") ∈ lw_all := lw_g (lw_at lw_m4 60 rfl) rfl
theorem q841 : (Jvm.Cond.soleField "BurntLettersModel" "room") ∈ lw_all := lw_g (lw_at lw_m4 61 rfl) rfl
theorem q842 : (Jvm.Cond.lays "BurntLettersModel" "BurntLettersModel" "yearNow" "I") ∈ lw_all := lw_g (lw_at lw_m4 62 rfl) rfl
theorem q843 : (Jvm.Cond.soleField "BurntLettersModel" "yearNow") ∈ lw_all := lw_g (lw_at lw_m4 63 rfl) rfl
theorem q844 : (Jvm.Cond.lays "BurntLettersModel" "BurntLettersModel" "lawsRead" "I") ∈ lw_all := lw_g (lw_at lw_m4 64 rfl) rfl
theorem q845 : (Jvm.Cond.soleField "BurntLettersModel" "lawsRead") ∈ lw_all := lw_g (lw_at lw_m4 65 rfl) rfl
theorem q846 : (Jvm.Cond.laysFinal "BurntLettersModel" "BurntLettersModel" "lots" "[I") ∈ lw_all := lw_g (lw_at lw_m4 66 rfl) rfl
theorem q847 : (Jvm.Cond.soleField "BurntLettersModel" "lots") ∈ lw_all := lw_g (lw_at lw_m4 67 rfl) rfl
theorem q848 : (Jvm.Cond.lays "BurntLettersModel" "BurntLettersModel" "files" "I") ∈ lw_all := lw_g (lw_at lw_m4 68 rfl) rfl
theorem q849 : (Jvm.Cond.soleField "BurntLettersModel" "files") ∈ lw_all := lw_g (lw_at lw_m4 69 rfl) rfl
theorem q850 : (Jvm.Cond.laysFinal "BurntLettersModel" "BurntLettersModel" "rows" "[I") ∈ lw_all := lw_g (lw_at lw_m4 70 rfl) rfl
theorem q851 : (Jvm.Cond.soleField "BurntLettersModel" "rows") ∈ lw_all := lw_g (lw_at lw_m4 71 rfl) rfl
theorem q852 : (Jvm.Cond.laysFinal "BurntLettersModel" "BurntLettersModel" "leaves" "[I") ∈ lw_all := lw_g (lw_at lw_m4 72 rfl) rfl
theorem q853 : (Jvm.Cond.soleField "BurntLettersModel" "leaves") ∈ lw_all := lw_g (lw_at lw_m4 73 rfl) rfl
theorem q854 : (Jvm.Cond.laysFinal "BurntLettersModel" "BurntLettersModel" "kept" "[I") ∈ lw_all := lw_g (lw_at lw_m4 74 rfl) rfl
theorem q855 : (Jvm.Cond.soleField "BurntLettersModel" "kept") ∈ lw_all := lw_g (lw_at lw_m4 75 rfl) rfl
theorem q856 : (Jvm.Cond.laysFinal "BurntLettersModel" "BurntLettersModel" "now" "[I") ∈ lw_all := lw_g (lw_at lw_m4 76 rfl) rfl
theorem q857 : (Jvm.Cond.soleField "BurntLettersModel" "now") ∈ lw_all := lw_g (lw_at lw_m4 77 rfl) rfl
theorem q858 : (Jvm.Cond.laysFinal "BurntLettersModel" "BurntLettersModel" "nowKept" "[I") ∈ lw_all := lw_g (lw_at lw_m4 78 rfl) rfl
theorem q859 : (Jvm.Cond.soleField "BurntLettersModel" "nowKept") ∈ lw_all := lw_g (lw_at lw_m4 79 rfl) rfl
theorem q860 : (Jvm.Cond.laysFinal "BurntLettersModel" "BurntLettersModel" "ahead" "[I") ∈ lw_all := lw_g (lw_at lw_m4 80 rfl) rfl
theorem q861 : (Jvm.Cond.soleField "BurntLettersModel" "ahead") ∈ lw_all := lw_g (lw_at lw_m4 81 rfl) rfl
theorem q862 : (Jvm.Cond.lays "BurntLettersModel" "BurntLettersModel" "sureMany" "I") ∈ lw_all := lw_g (lw_at lw_m4 82 rfl) rfl
theorem q863 : (Jvm.Cond.soleField "BurntLettersModel" "sureMany") ∈ lw_all := lw_g (lw_at lw_m4 83 rfl) rfl
theorem q864 : (Jvm.Cond.lays "BurntLettersModel" "BurntLettersModel" "movingMany" "I") ∈ lw_all := lw_g (lw_at lw_m4 84 rfl) rfl
theorem q865 : (Jvm.Cond.soleField "BurntLettersModel" "movingMany") ∈ lw_all := lw_g (lw_at lw_m4 85 rfl) rfl
theorem q866 : (Jvm.Cond.laysFinal "BurntLettersModel" "BurntLettersModel" "next" "[I") ∈ lw_all := lw_g (lw_at lw_m4 86 rfl) rfl
theorem q867 : (Jvm.Cond.soleField "BurntLettersModel" "next") ∈ lw_all := lw_g (lw_at lw_m4 87 rfl) rfl
theorem q868 : (Jvm.Cond.lays "BurntLettersModel" "BurntLettersModel" "ashMany" "I") ∈ lw_all := lw_g (lw_at lw_m4 88 rfl) rfl
theorem q869 : (Jvm.Cond.soleField "BurntLettersModel" "ashMany") ∈ lw_all := lw_g (lw_at lw_m4 89 rfl) rfl
theorem q870 : (Jvm.Cond.laysFinal "BurntLettersModel" "BurntLettersModel" "ashRows" "[I") ∈ lw_all := lw_g (lw_at lw_m4 90 rfl) rfl
theorem q871 : (Jvm.Cond.soleField "BurntLettersModel" "ashRows") ∈ lw_all := lw_g (lw_at lw_m4 91 rfl) rfl
theorem q872 : (Jvm.Cond.laysFinal "BurntLettersModel" "BurntLettersModel" "burns" "[I") ∈ lw_all := lw_g (lw_at lw_m4 92 rfl) rfl
theorem q873 : (Jvm.Cond.soleField "BurntLettersModel" "burns") ∈ lw_all := lw_g (lw_at lw_m4 93 rfl) rfl
theorem q874 : (Jvm.Cond.lays "BurntLettersModel" "BurntLettersModel" "seedNow" "I") ∈ lw_all := lw_g (lw_at lw_m4 94 rfl) rfl
theorem q875 : (Jvm.Cond.soleField "BurntLettersModel" "seedNow") ∈ lw_all := lw_g (lw_at lw_m4 95 rfl) rfl
theorem q876 : (Jvm.Cond.lays "BurntLettersModel" "BurntLettersModel" "keptLaw" "I") ∈ lw_all := lw_g (lw_at lw_m4 96 rfl) rfl
theorem q877 : (Jvm.Cond.soleField "BurntLettersModel" "keptLaw") ∈ lw_all := lw_g (lw_at lw_m4 97 rfl) rfl
theorem q878 : (Jvm.Cond.lays "BurntLettersModel" "BurntLettersModel" "keptFiles" "I") ∈ lw_all := lw_g (lw_at lw_m4 98 rfl) rfl
theorem q879 : (Jvm.Cond.soleField "BurntLettersModel" "keptFiles") ∈ lw_all := lw_g (lw_at lw_m4 99 rfl) rfl
theorem q880 : (Jvm.Cond.lays "BurntLettersModel" "BurntLettersModel" "keptYear" "I") ∈ lw_all := lw_g (lw_at lw_m4 100 rfl) rfl
theorem q881 : (Jvm.Cond.soleField "BurntLettersModel" "keptYear") ∈ lw_all := lw_g (lw_at lw_m4 101 rfl) rfl
theorem q882 : (Jvm.Cond.lays "BurntLettersModel" "BurntLettersModel" "keptAshMany" "I") ∈ lw_all := lw_g (lw_at lw_m4 102 rfl) rfl
theorem q883 : (Jvm.Cond.soleField "BurntLettersModel" "keptAshMany") ∈ lw_all := lw_g (lw_at lw_m4 103 rfl) rfl
theorem q884 : (Jvm.Cond.laysFinal "BurntLettersModel" "BurntLettersModel" "keptRows" "[I") ∈ lw_all := lw_g (lw_at lw_m4 104 rfl) rfl
theorem q885 : (Jvm.Cond.soleField "BurntLettersModel" "keptRows") ∈ lw_all := lw_g (lw_at lw_m4 105 rfl) rfl
theorem q886 : (Jvm.Cond.laysFinal "BurntLettersModel" "BurntLettersModel" "keptLeaves" "[I") ∈ lw_all := lw_g (lw_at lw_m4 106 rfl) rfl
theorem q887 : (Jvm.Cond.soleField "BurntLettersModel" "keptLeaves") ∈ lw_all := lw_g (lw_at lw_m4 107 rfl) rfl
theorem q888 : (Jvm.Cond.laysFinal "BurntLettersModel" "BurntLettersModel" "keptKept" "[I") ∈ lw_all := lw_g (lw_at lw_m4 108 rfl) rfl
theorem q889 : (Jvm.Cond.soleField "BurntLettersModel" "keptKept") ∈ lw_all := lw_g (lw_at lw_m4 109 rfl) rfl
theorem q890 : (Jvm.Cond.laysFinal "BurntLettersModel" "BurntLettersModel" "keptAshes" "[I") ∈ lw_all := lw_g (lw_at lw_m4 110 rfl) rfl
theorem q891 : (Jvm.Cond.soleField "BurntLettersModel" "keptAshes") ∈ lw_all := lw_g (lw_at lw_m4 111 rfl) rfl
theorem q892 : (Jvm.Cond.lays "BurntLettersModel" "BurntLettersModel" "hash" "J") ∈ lw_all := lw_g (lw_at lw_m4 112 rfl) rfl
theorem q893 : (Jvm.Cond.soleField "BurntLettersModel" "hash") ∈ lw_all := lw_g (lw_at lw_m4 113 rfl) rfl
theorem q894 : (Jvm.Cond.superclass "BurntLettersModel" "java/lang/Object") ∈ lw_all := lw_g (lw_at lw_m4 114 rfl) rfl
theorem q896 : (Jvm.Cond.instanceMethod ({ cls := "BurntLettersModel", name := "letter", desc := "(I)I" } : Jvm.MethodName)) ∈ lw_all := lw_g (lw_at lw_m4 116 rfl) rfl
theorem q897 : (Jvm.Cond.selects "BurntLettersModel" ({ cls := "BurntLettersModel", name := "letter", desc := "(I)I" } : Jvm.MethodName) ({ cls := "BurntLettersModel", name := "letter", desc := "(I)I" } : Jvm.MethodName)) ∈ lw_all := lw_g (lw_at lw_m4 117 rfl) rfl
theorem q898 : (Jvm.Cond.code ({ cls := "BurntLettersModel", name := "letter", desc := "(I)I" } : Jvm.MethodName) prog_11_method_4_code (2 : Nat) (Option.some Jvm.ClassFile.FieldType.int)) ∈ lw_all := lw_g (lw_at lw_m4 118 rfl) rfl
theorem q899 : (Jvm.Cond.constantLong "BurntLettersModel" (59 : Nat) (126 : Int64)) ∈ lw_all := lw_g (lw_at lw_m4 119 rfl) rfl
theorem q900 : (Jvm.Cond.methodLink "BurntLettersModel" (61 : Nat) ({ cls := "BurntLettersModel", name := "in", desc := "(JJJ)Z" } : Jvm.MethodName)) ∈ lw_all := lw_g (lw_at lw_m4 120 rfl) rfl
theorem q901 : (Jvm.Cond.static ({ cls := "BurntLettersModel", name := "in", desc := "(JJJ)Z" } : Jvm.MethodName)) ∈ lw_all := lw_g (lw_at lw_m4 121 rfl) rfl
theorem q902 : (Jvm.Cond.code ({ cls := "BurntLettersModel", name := "in", desc := "(JJJ)Z" } : Jvm.MethodName) prog_11_method_2_code (6 : Nat) (Option.some Jvm.ClassFile.FieldType.boolean)) ∈ lw_all := lw_g (lw_at lw_m4 122 rfl) rfl
theorem q904 : (Jvm.Cond.instanceMethod ({ cls := "BurntLettersModel", name := "blank", desc := "()I" } : Jvm.MethodName)) ∈ lw_all := lw_g (lw_at lw_m4 124 rfl) rfl
theorem q905 : (Jvm.Cond.selects "BurntLettersModel" ({ cls := "BurntLettersModel", name := "blank", desc := "()I" } : Jvm.MethodName) ({ cls := "BurntLettersModel", name := "blank", desc := "()I" } : Jvm.MethodName)) ∈ lw_all := lw_g (lw_at lw_m4 125 rfl) rfl
theorem q906 : (Jvm.Cond.code ({ cls := "BurntLettersModel", name := "blank", desc := "()I" } : Jvm.MethodName) prog_11_method_5_code (2 : Nat) (Option.some Jvm.ClassFile.FieldType.int)) ∈ lw_all := lw_g (lw_at lw_m4 126 rfl) rfl
theorem q908 : (Jvm.Cond.instanceMethod ({ cls := "BurntLettersModel", name := "fault", desc := "()I" } : Jvm.MethodName)) ∈ lw_all := lw_g (lw_at lw_m4 128 rfl) rfl
theorem q909 : (Jvm.Cond.selects "BurntLettersModel" ({ cls := "BurntLettersModel", name := "fault", desc := "()I" } : Jvm.MethodName) ({ cls := "BurntLettersModel", name := "fault", desc := "()I" } : Jvm.MethodName)) ∈ lw_all := lw_g (lw_at lw_m4 129 rfl) rfl
theorem q910 : (Jvm.Cond.code ({ cls := "BurntLettersModel", name := "fault", desc := "()I" } : Jvm.MethodName) prog_11_method_8_code (1 : Nat) (Option.some Jvm.ClassFile.FieldType.int)) ∈ lw_all := lw_g (lw_at lw_m4 130 rfl) rfl
theorem q911 : (Jvm.Cond.methodLink "BurntLettersModel" (74 : Nat) ({ cls := "BurntLettersModel", name := "faultOf", desc := "()I" } : Jvm.MethodName)) ∈ lw_all := lw_g (lw_at lw_m4 131 rfl) rfl
theorem q912 : (Jvm.Cond.privateMethod ({ cls := "BurntLettersModel", name := "faultOf", desc := "()I" } : Jvm.MethodName)) ∈ lw_tbl := lw_at lw_m4 132 rfl
theorem q913 : (Jvm.Cond.instanceMethod ({ cls := "BurntLettersModel", name := "faultOf", desc := "()I" } : Jvm.MethodName)) ∈ lw_all := lw_g (lw_at lw_m4 133 rfl) rfl
theorem q914 : (Jvm.Cond.code ({ cls := "BurntLettersModel", name := "faultOf", desc := "()I" } : Jvm.MethodName) prog_11_method_7_code (3 : Nat) (Option.some Jvm.ClassFile.FieldType.int)) ∈ lw_all := lw_g (lw_at lw_m4 134 rfl) rfl
theorem q915 : (Jvm.Cond.methodLink "BurntLettersModel" (70 : Nat) ({ cls := "BurntLettersModel", name := "isGood", desc := "(III)Z" } : Jvm.MethodName)) ∈ lw_all := lw_g (lw_at lw_m4 135 rfl) rfl
theorem q916 : (Jvm.Cond.static ({ cls := "BurntLettersModel", name := "isGood", desc := "(III)Z" } : Jvm.MethodName)) ∈ lw_all := lw_g (lw_at lw_m4 136 rfl) rfl
theorem q917 : (Jvm.Cond.code ({ cls := "BurntLettersModel", name := "isGood", desc := "(III)Z" } : Jvm.MethodName) prog_11_method_6_code (4 : Nat) (Option.some Jvm.ClassFile.FieldType.boolean)) ∈ lw_all := lw_g (lw_at lw_m4 137 rfl) rfl
theorem q918 : (Jvm.Cond.constantLong "BurntLettersModel" (68 : Nat) (9 : Int64)) ∈ lw_all := lw_g (lw_at lw_m4 138 rfl) rfl
theorem q920 : (Jvm.Cond.instanceMethod ({ cls := "BurntLettersModel", name := "law", desc := "()I" } : Jvm.MethodName)) ∈ lw_all := lw_g (lw_at lw_m4 140 rfl) rfl
theorem q921 : (Jvm.Cond.selects "BurntLettersModel" ({ cls := "BurntLettersModel", name := "law", desc := "()I" } : Jvm.MethodName) ({ cls := "BurntLettersModel", name := "law", desc := "()I" } : Jvm.MethodName)) ∈ lw_all := lw_g (lw_at lw_m4 141 rfl) rfl
theorem q922 : (Jvm.Cond.code ({ cls := "BurntLettersModel", name := "law", desc := "()I" } : Jvm.MethodName) prog_11_method_9_code (2 : Nat) (Option.some Jvm.ClassFile.FieldType.int)) ∈ lw_all := lw_g (lw_at lw_m4 142 rfl) rfl
theorem q924 : (Jvm.Cond.instanceMethod ({ cls := "BurntLettersModel", name := "under", desc := "(II)I" } : Jvm.MethodName)) ∈ lw_all := lw_g (lw_at lw_m4 144 rfl) rfl
theorem q925 : (Jvm.Cond.selects "BurntLettersModel" ({ cls := "BurntLettersModel", name := "under", desc := "(II)I" } : Jvm.MethodName) ({ cls := "BurntLettersModel", name := "under", desc := "(II)I" } : Jvm.MethodName)) ∈ lw_all := lw_g (lw_at lw_m4 145 rfl) rfl
theorem q926 : (Jvm.Cond.code ({ cls := "BurntLettersModel", name := "under", desc := "(II)I" } : Jvm.MethodName) prog_11_method_15_code (3 : Nat) (Option.some Jvm.ClassFile.FieldType.int)) ∈ lw_all := lw_g (lw_at lw_m4 146 rfl) rfl
theorem q927 : (Jvm.Cond.methodLink "BurntLettersModel" (99 : Nat) ({ cls := "BurntLettersModel", name := "isLetter", desc := "(I)Z" } : Jvm.MethodName)) ∈ lw_all := lw_g (lw_at lw_m4 147 rfl) rfl
theorem q928 : (Jvm.Cond.static ({ cls := "BurntLettersModel", name := "isLetter", desc := "(I)Z" } : Jvm.MethodName)) ∈ lw_all := lw_g (lw_at lw_m4 148 rfl) rfl
theorem q929 : (Jvm.Cond.code ({ cls := "BurntLettersModel", name := "isLetter", desc := "(I)Z" } : Jvm.MethodName) prog_11_method_11_code (1 : Nat) (Option.some Jvm.ClassFile.FieldType.boolean)) ∈ lw_all := lw_g (lw_at lw_m4 149 rfl) rfl
theorem q930 : (Jvm.Cond.constantLong "BurntLettersModel" (93 : Nat) (5 : Int64)) ∈ lw_all := lw_g (lw_at lw_m4 150 rfl) rfl
theorem q931 : (Jvm.Cond.methodLink "BurntLettersModel" (103 : Nat) ({ cls := "BurntLettersModel", name := "tellUnder", desc := "(II)I" } : Jvm.MethodName)) ∈ lw_all := lw_g (lw_at lw_m4 151 rfl) rfl
theorem q932 : (Jvm.Cond.privateMethod ({ cls := "BurntLettersModel", name := "tellUnder", desc := "(II)I" } : Jvm.MethodName)) ∈ lw_tbl := lw_at lw_m4 152 rfl
theorem q933 : (Jvm.Cond.instanceMethod ({ cls := "BurntLettersModel", name := "tellUnder", desc := "(II)I" } : Jvm.MethodName)) ∈ lw_all := lw_g (lw_at lw_m4 153 rfl) rfl
theorem q934 : (Jvm.Cond.code ({ cls := "BurntLettersModel", name := "tellUnder", desc := "(II)I" } : Jvm.MethodName) prog_11_method_14_code (3 : Nat) (Option.some Jvm.ClassFile.FieldType.int)) ∈ lw_all := lw_g (lw_at lw_m4 154 rfl) rfl
theorem q935 : (Jvm.Cond.methodLink "BurntLettersModel" (95 : Nat) ({ cls := "BurntLettersModel", name := "fullness", desc := "([II)I" } : Jvm.MethodName)) ∈ lw_all := lw_g (lw_at lw_m4 155 rfl) rfl
theorem q936 : (Jvm.Cond.privateMethod ({ cls := "BurntLettersModel", name := "fullness", desc := "([II)I" } : Jvm.MethodName)) ∈ lw_tbl := lw_at lw_m4 156 rfl
theorem q937 : (Jvm.Cond.instanceMethod ({ cls := "BurntLettersModel", name := "fullness", desc := "([II)I" } : Jvm.MethodName)) ∈ lw_all := lw_g (lw_at lw_m4 157 rfl) rfl
theorem q938 : (Jvm.Cond.code ({ cls := "BurntLettersModel", name := "fullness", desc := "([II)I" } : Jvm.MethodName) prog_11_method_13_code (5 : Nat) (Option.some Jvm.ClassFile.FieldType.int)) ∈ lw_all := lw_g (lw_at lw_m4 158 rfl) rfl
theorem q940 : (Jvm.Cond.instanceMethod ({ cls := "BurntLettersModel", name := "file", desc := "(II)I" } : Jvm.MethodName)) ∈ lw_all := lw_g (lw_at lw_m4 160 rfl) rfl
theorem q941 : (Jvm.Cond.selects "BurntLettersModel" ({ cls := "BurntLettersModel", name := "file", desc := "(II)I" } : Jvm.MethodName) ({ cls := "BurntLettersModel", name := "file", desc := "(II)I" } : Jvm.MethodName)) ∈ lw_all := lw_g (lw_at lw_m4 161 rfl) rfl
theorem q942 : (Jvm.Cond.code ({ cls := "BurntLettersModel", name := "file", desc := "(II)I" } : Jvm.MethodName) prog_11_method_16_code (3 : Nat) (Option.some Jvm.ClassFile.FieldType.int)) ∈ lw_all := lw_g (lw_at lw_m4 162 rfl) rfl
theorem q943 : (Jvm.Cond.constantLong "BurntLettersModel" (107 : Nat) (4 : Int64)) ∈ lw_all := lw_g (lw_at lw_m4 163 rfl) rfl
theorem q944 : (Jvm.Cond.methodLink "BurntLettersModel" (109 : Nat) ({ cls := "BurntLettersModel", name := "lacks", desc := "()Z" } : Jvm.MethodName)) ∈ lw_all := lw_g (lw_at lw_m4 164 rfl) rfl
theorem q945 : (Jvm.Cond.privateMethod ({ cls := "BurntLettersModel", name := "lacks", desc := "()Z" } : Jvm.MethodName)) ∈ lw_tbl := lw_at lw_m4 165 rfl
theorem q946 : (Jvm.Cond.instanceMethod ({ cls := "BurntLettersModel", name := "lacks", desc := "()Z" } : Jvm.MethodName)) ∈ lw_all := lw_g (lw_at lw_m4 166 rfl) rfl
theorem q947 : (Jvm.Cond.code ({ cls := "BurntLettersModel", name := "lacks", desc := "()Z" } : Jvm.MethodName) prog_11_method_10_code (1 : Nat) (Option.some Jvm.ClassFile.FieldType.boolean)) ∈ lw_all := lw_g (lw_at lw_m4 167 rfl) rfl
theorem q949 : (Jvm.Cond.instanceMethod ({ cls := "BurntLettersModel", name := "about", desc := "(II)I" } : Jvm.MethodName)) ∈ lw_all := lw_g (lw_at lw_m4 169 rfl) rfl
theorem q950 : (Jvm.Cond.selects "BurntLettersModel" ({ cls := "BurntLettersModel", name := "about", desc := "(II)I" } : Jvm.MethodName) ({ cls := "BurntLettersModel", name := "about", desc := "(II)I" } : Jvm.MethodName)) ∈ lw_all := lw_g (lw_at lw_m4 170 rfl) rfl
theorem q951 : (Jvm.Cond.code ({ cls := "BurntLettersModel", name := "about", desc := "(II)I" } : Jvm.MethodName) prog_11_method_19_code (3 : Nat) (Option.some Jvm.ClassFile.FieldType.int)) ∈ lw_all := lw_g (lw_at lw_m4 171 rfl) rfl
theorem q952 : (Jvm.Cond.methodLink "BurntLettersModel" (117 : Nat) ({ cls := "BurntLettersModel", name := "isFile", desc := "(I)Z" } : Jvm.MethodName)) ∈ lw_all := lw_g (lw_at lw_m4 172 rfl) rfl
theorem q953 : (Jvm.Cond.privateMethod ({ cls := "BurntLettersModel", name := "isFile", desc := "(I)Z" } : Jvm.MethodName)) ∈ lw_tbl := lw_at lw_m4 173 rfl
theorem q954 : (Jvm.Cond.instanceMethod ({ cls := "BurntLettersModel", name := "isFile", desc := "(I)Z" } : Jvm.MethodName)) ∈ lw_all := lw_g (lw_at lw_m4 174 rfl) rfl
theorem q955 : (Jvm.Cond.code ({ cls := "BurntLettersModel", name := "isFile", desc := "(I)Z" } : Jvm.MethodName) prog_11_method_12_code (2 : Nat) (Option.some Jvm.ClassFile.FieldType.boolean)) ∈ lw_all := lw_g (lw_at lw_m4 175 rfl) rfl
theorem q956 : (Jvm.Cond.methodLink "BurntLettersModel" (120 : Nat) ({ cls := "BurntLettersModel", name := "tell", desc := "(II)I" } : Jvm.MethodName)) ∈ lw_all := lw_g (lw_at lw_m4 176 rfl) rfl
theorem q957 : (Jvm.Cond.privateMethod ({ cls := "BurntLettersModel", name := "tell", desc := "(II)I" } : Jvm.MethodName)) ∈ lw_tbl := lw_at lw_m4 177 rfl
theorem q958 : (Jvm.Cond.instanceMethod ({ cls := "BurntLettersModel", name := "tell", desc := "(II)I" } : Jvm.MethodName)) ∈ lw_all := lw_g (lw_at lw_m4 178 rfl) rfl
theorem q959 : (Jvm.Cond.code ({ cls := "BurntLettersModel", name := "tell", desc := "(II)I" } : Jvm.MethodName) prog_11_method_18_code (3 : Nat) (Option.some Jvm.ClassFile.FieldType.int)) ∈ lw_all := lw_g (lw_at lw_m4 179 rfl) rfl
theorem q960 : (Jvm.Cond.methodLink "BurntLettersModel" (113 : Nat) ({ cls := "BurntLettersModel", name := "namesOf", desc := "(I)I" } : Jvm.MethodName)) ∈ lw_all := lw_g (lw_at lw_m4 180 rfl) rfl
theorem q961 : (Jvm.Cond.privateMethod ({ cls := "BurntLettersModel", name := "namesOf", desc := "(I)I" } : Jvm.MethodName)) ∈ lw_tbl := lw_at lw_m4 181 rfl
theorem q962 : (Jvm.Cond.instanceMethod ({ cls := "BurntLettersModel", name := "namesOf", desc := "(I)I" } : Jvm.MethodName)) ∈ lw_all := lw_g (lw_at lw_m4 182 rfl) rfl
theorem q963 : (Jvm.Cond.code ({ cls := "BurntLettersModel", name := "namesOf", desc := "(I)I" } : Jvm.MethodName) prog_11_method_17_code (3 : Nat) (Option.some Jvm.ClassFile.FieldType.int)) ∈ lw_all := lw_g (lw_at lw_m4 183 rfl) rfl
theorem q965 : (Jvm.Cond.instanceMethod ({ cls := "BurntLettersModel", name := "as", desc := "(II)I" } : Jvm.MethodName)) ∈ lw_all := lw_g (lw_at lw_m4 185 rfl) rfl
theorem q966 : (Jvm.Cond.selects "BurntLettersModel" ({ cls := "BurntLettersModel", name := "as", desc := "(II)I" } : Jvm.MethodName) ({ cls := "BurntLettersModel", name := "as", desc := "(II)I" } : Jvm.MethodName)) ∈ lw_all := lw_g (lw_at lw_m4 186 rfl) rfl
theorem q967 : (Jvm.Cond.code ({ cls := "BurntLettersModel", name := "as", desc := "(II)I" } : Jvm.MethodName) prog_11_method_20_code (5 : Nat) (Option.some Jvm.ClassFile.FieldType.int)) ∈ lw_all := lw_g (lw_at lw_m4 187 rfl) rfl
theorem q969 : (Jvm.Cond.instanceMethod ({ cls := "BurntLettersModel", name := "copy", desc := "(II)I" } : Jvm.MethodName)) ∈ lw_all := lw_g (lw_at lw_m4 189 rfl) rfl
theorem q970 : (Jvm.Cond.selects "BurntLettersModel" ({ cls := "BurntLettersModel", name := "copy", desc := "(II)I" } : Jvm.MethodName) ({ cls := "BurntLettersModel", name := "copy", desc := "(II)I" } : Jvm.MethodName)) ∈ lw_all := lw_g (lw_at lw_m4 190 rfl) rfl
theorem q971 : (Jvm.Cond.code ({ cls := "BurntLettersModel", name := "copy", desc := "(II)I" } : Jvm.MethodName) prog_11_method_22_code (3 : Nat) (Option.some Jvm.ClassFile.FieldType.int)) ∈ lw_all := lw_g (lw_at lw_m4 191 rfl) rfl
theorem q972 : (Jvm.Cond.methodLink "BurntLettersModel" (126 : Nat) ({ cls := "BurntLettersModel", name := "mayCopy", desc := "(II)Z" } : Jvm.MethodName)) ∈ lw_all := lw_g (lw_at lw_m4 192 rfl) rfl
theorem q973 : (Jvm.Cond.privateMethod ({ cls := "BurntLettersModel", name := "mayCopy", desc := "(II)Z" } : Jvm.MethodName)) ∈ lw_tbl := lw_at lw_m4 193 rfl
theorem q974 : (Jvm.Cond.instanceMethod ({ cls := "BurntLettersModel", name := "mayCopy", desc := "(II)Z" } : Jvm.MethodName)) ∈ lw_all := lw_g (lw_at lw_m4 194 rfl) rfl
theorem q975 : (Jvm.Cond.code ({ cls := "BurntLettersModel", name := "mayCopy", desc := "(II)Z" } : Jvm.MethodName) prog_11_method_21_code (4 : Nat) (Option.some Jvm.ClassFile.FieldType.boolean)) ∈ lw_all := lw_g (lw_at lw_m4 195 rfl) rfl
theorem q976 : (Jvm.Cond.methodLink "BurntLettersModel" (123 : Nat) ({ cls := "BurntLettersModel", name := "ones", desc := "(I)I" } : Jvm.MethodName)) ∈ lw_all := lw_g (lw_at lw_m4 196 rfl) rfl
theorem q977 : (Jvm.Cond.static ({ cls := "BurntLettersModel", name := "ones", desc := "(I)I" } : Jvm.MethodName)) ∈ lw_all := lw_g (lw_at lw_m4 197 rfl) rfl
theorem q978 : (Jvm.Cond.code ({ cls := "BurntLettersModel", name := "ones", desc := "(I)I" } : Jvm.MethodName) prog_11_method_3_code (3 : Nat) (Option.some Jvm.ClassFile.FieldType.int)) ∈ lw_all := lw_g (lw_at lw_m4 198 rfl) rfl
theorem q980 : (Jvm.Cond.instanceMethod ({ cls := "BurntLettersModel", name := "rename", desc := "(III)I" } : Jvm.MethodName)) ∈ lw_all := lw_g (lw_at lw_m4 200 rfl) rfl
theorem q981 : (Jvm.Cond.selects "BurntLettersModel" ({ cls := "BurntLettersModel", name := "rename", desc := "(III)I" } : Jvm.MethodName) ({ cls := "BurntLettersModel", name := "rename", desc := "(III)I" } : Jvm.MethodName)) ∈ lw_all := lw_g (lw_at lw_m4 201 rfl) rfl
theorem q982 : (Jvm.Cond.code ({ cls := "BurntLettersModel", name := "rename", desc := "(III)I" } : Jvm.MethodName) prog_11_method_24_code (4 : Nat) (Option.some Jvm.ClassFile.FieldType.int)) ∈ lw_all := lw_g (lw_at lw_m4 202 rfl) rfl
theorem q983 : (Jvm.Cond.methodLink "BurntLettersModel" (130 : Nat) ({ cls := "BurntLettersModel", name := "mayRename", desc := "([IIII)Z" } : Jvm.MethodName)) ∈ lw_all := lw_g (lw_at lw_m4 203 rfl) rfl
theorem q984 : (Jvm.Cond.privateMethod ({ cls := "BurntLettersModel", name := "mayRename", desc := "([IIII)Z" } : Jvm.MethodName)) ∈ lw_tbl := lw_at lw_m4 204 rfl
theorem q985 : (Jvm.Cond.instanceMethod ({ cls := "BurntLettersModel", name := "mayRename", desc := "([IIII)Z" } : Jvm.MethodName)) ∈ lw_all := lw_g (lw_at lw_m4 205 rfl) rfl
theorem q986 : (Jvm.Cond.code ({ cls := "BurntLettersModel", name := "mayRename", desc := "([IIII)Z" } : Jvm.MethodName) prog_11_method_23_code (5 : Nat) (Option.some Jvm.ClassFile.FieldType.boolean)) ∈ lw_all := lw_g (lw_at lw_m4 206 rfl) rfl
theorem q988 : (Jvm.Cond.instanceMethod ({ cls := "BurntLettersModel", name := "point", desc := "(II)I" } : Jvm.MethodName)) ∈ lw_all := lw_g (lw_at lw_m4 208 rfl) rfl
theorem q989 : (Jvm.Cond.selects "BurntLettersModel" ({ cls := "BurntLettersModel", name := "point", desc := "(II)I" } : Jvm.MethodName) ({ cls := "BurntLettersModel", name := "point", desc := "(II)I" } : Jvm.MethodName)) ∈ lw_all := lw_g (lw_at lw_m4 209 rfl) rfl
theorem q990 : (Jvm.Cond.code ({ cls := "BurntLettersModel", name := "point", desc := "(II)I" } : Jvm.MethodName) prog_11_method_25_code (4 : Nat) (Option.some Jvm.ClassFile.FieldType.int)) ∈ lw_all := lw_g (lw_at lw_m4 210 rfl) rfl
theorem q992 : (Jvm.Cond.instanceMethod ({ cls := "BurntLettersModel", name := "burn", desc := "(I)I" } : Jvm.MethodName)) ∈ lw_all := lw_g (lw_at lw_m4 212 rfl) rfl
theorem q993 : (Jvm.Cond.selects "BurntLettersModel" ({ cls := "BurntLettersModel", name := "burn", desc := "(I)I" } : Jvm.MethodName) ({ cls := "BurntLettersModel", name := "burn", desc := "(I)I" } : Jvm.MethodName)) ∈ lw_all := lw_g (lw_at lw_m4 213 rfl) rfl
theorem q994 : (Jvm.Cond.code ({ cls := "BurntLettersModel", name := "burn", desc := "(I)I" } : Jvm.MethodName) prog_11_method_31_code (4 : Nat) (Option.some Jvm.ClassFile.FieldType.int)) ∈ lw_all := lw_g (lw_at lw_m4 214 rfl) rfl
theorem q995 : (Jvm.Cond.methodLink "BurntLettersModel" (144 : Nat) ({ cls := "BurntLettersModel", name := "asItIs", desc := "()V" } : Jvm.MethodName)) ∈ lw_all := lw_g (lw_at lw_m4 215 rfl) rfl
theorem q996 : (Jvm.Cond.privateMethod ({ cls := "BurntLettersModel", name := "asItIs", desc := "()V" } : Jvm.MethodName)) ∈ lw_tbl := lw_at lw_m4 216 rfl
theorem q997 : (Jvm.Cond.instanceMethod ({ cls := "BurntLettersModel", name := "asItIs", desc := "()V" } : Jvm.MethodName)) ∈ lw_all := lw_g (lw_at lw_m4 217 rfl) rfl
theorem q998 : (Jvm.Cond.code ({ cls := "BurntLettersModel", name := "asItIs", desc := "()V" } : Jvm.MethodName) prog_11_method_26_code (2 : Nat) (Option.none : Option Jvm.ClassFile.FieldType)) ∈ lw_all := lw_g (lw_at lw_m4 218 rfl) rfl
theorem q999 : (Jvm.Cond.methodLink "BurntLettersModel" (147 : Nat) ({ cls := "BurntLettersModel", name := "pass", desc := "(I)I" } : Jvm.MethodName)) ∈ lw_all := lw_g (lw_at lw_m4 219 rfl) rfl
theorem q1000 : (Jvm.Cond.privateMethod ({ cls := "BurntLettersModel", name := "pass", desc := "(I)I" } : Jvm.MethodName)) ∈ lw_tbl := lw_at lw_m4 220 rfl
theorem q1001 : (Jvm.Cond.instanceMethod ({ cls := "BurntLettersModel", name := "pass", desc := "(I)I" } : Jvm.MethodName)) ∈ lw_all := lw_g (lw_at lw_m4 221 rfl) rfl
theorem q1002 : (Jvm.Cond.code ({ cls := "BurntLettersModel", name := "pass", desc := "(I)I" } : Jvm.MethodName) prog_11_method_30_code (5 : Nat) (Option.some Jvm.ClassFile.FieldType.int)) ∈ lw_all := lw_g (lw_at lw_m4 222 rfl) rfl
theorem q1003 : (Jvm.Cond.methodLink "BurntLettersModel" (137 : Nat) ({ cls := "BurntLettersModel", name := "burnsOf", desc := "(II)I" } : Jvm.MethodName)) ∈ lw_all := lw_g (lw_at lw_m4 223 rfl) rfl
theorem q1004 : (Jvm.Cond.privateMethod ({ cls := "BurntLettersModel", name := "burnsOf", desc := "(II)I" } : Jvm.MethodName)) ∈ lw_tbl := lw_at lw_m4 224 rfl
theorem q1005 : (Jvm.Cond.instanceMethod ({ cls := "BurntLettersModel", name := "burnsOf", desc := "(II)I" } : Jvm.MethodName)) ∈ lw_all := lw_g (lw_at lw_m4 225 rfl) rfl
theorem q1006 : (Jvm.Cond.code ({ cls := "BurntLettersModel", name := "burnsOf", desc := "(II)I" } : Jvm.MethodName) prog_11_method_28_code (6 : Nat) (Option.some Jvm.ClassFile.FieldType.int)) ∈ lw_all := lw_g (lw_at lw_m4 226 rfl) rfl
theorem q1007 : (Jvm.Cond.methodLink "BurntLettersModel" (134 : Nat) ({ cls := "BurntLettersModel", name := "isPointedAt", desc := "(I)Z" } : Jvm.MethodName)) ∈ lw_all := lw_g (lw_at lw_m4 227 rfl) rfl
theorem q1008 : (Jvm.Cond.privateMethod ({ cls := "BurntLettersModel", name := "isPointedAt", desc := "(I)Z" } : Jvm.MethodName)) ∈ lw_tbl := lw_at lw_m4 228 rfl
theorem q1009 : (Jvm.Cond.instanceMethod ({ cls := "BurntLettersModel", name := "isPointedAt", desc := "(I)Z" } : Jvm.MethodName)) ∈ lw_all := lw_g (lw_at lw_m4 229 rfl) rfl
theorem q1010 : (Jvm.Cond.code ({ cls := "BurntLettersModel", name := "isPointedAt", desc := "(I)Z" } : Jvm.MethodName) prog_11_method_27_code (4 : Nat) (Option.some Jvm.ClassFile.FieldType.boolean)) ∈ lw_all := lw_g (lw_at lw_m4 230 rfl) rfl
theorem q1011 : (Jvm.Cond.methodLink "BurntLettersModel" (140 : Nat) ({ cls := "BurntLettersModel", name := "spread", desc := "(I)V" } : Jvm.MethodName)) ∈ lw_all := lw_g (lw_at lw_m4 231 rfl) rfl
theorem q1012 : (Jvm.Cond.privateMethod ({ cls := "BurntLettersModel", name := "spread", desc := "(I)V" } : Jvm.MethodName)) ∈ lw_tbl := lw_at lw_m4 232 rfl
theorem q1013 : (Jvm.Cond.instanceMethod ({ cls := "BurntLettersModel", name := "spread", desc := "(I)V" } : Jvm.MethodName)) ∈ lw_all := lw_g (lw_at lw_m4 233 rfl) rfl
theorem q1014 : (Jvm.Cond.code ({ cls := "BurntLettersModel", name := "spread", desc := "(I)V" } : Jvm.MethodName) prog_11_method_29_code (3 : Nat) (Option.none : Option Jvm.ClassFile.FieldType)) ∈ lw_all := lw_g (lw_at lw_m4 234 rfl) rfl
theorem q1016 : (Jvm.Cond.instanceMethod ({ cls := "BurntLettersModel", name := "odds", desc := "(III)I" } : Jvm.MethodName)) ∈ lw_all := lw_g (lw_at lw_m4 236 rfl) rfl
theorem q1017 : (Jvm.Cond.selects "BurntLettersModel" ({ cls := "BurntLettersModel", name := "odds", desc := "(III)I" } : Jvm.MethodName) ({ cls := "BurntLettersModel", name := "odds", desc := "(III)I" } : Jvm.MethodName)) ∈ lw_all := lw_g (lw_at lw_m4 237 rfl) rfl
theorem q1018 : (Jvm.Cond.code ({ cls := "BurntLettersModel", name := "odds", desc := "(III)I" } : Jvm.MethodName) prog_11_method_36_code (4 : Nat) (Option.some Jvm.ClassFile.FieldType.int)) ∈ lw_all := lw_g (lw_at lw_m4 238 rfl) rfl
theorem q1019 : (Jvm.Cond.methodLink "BurntLettersModel" (160 : Nat) ({ cls := "BurntLettersModel", name := "oddsOf", desc := "(III)I" } : Jvm.MethodName)) ∈ lw_all := lw_g (lw_at lw_m4 239 rfl) rfl
theorem q1020 : (Jvm.Cond.privateMethod ({ cls := "BurntLettersModel", name := "oddsOf", desc := "(III)I" } : Jvm.MethodName)) ∈ lw_tbl := lw_at lw_m5 0 rfl
theorem q1021 : (Jvm.Cond.instanceMethod ({ cls := "BurntLettersModel", name := "oddsOf", desc := "(III)I" } : Jvm.MethodName)) ∈ lw_all := lw_g (lw_at lw_m5 1 rfl) rfl
theorem q1022 : (Jvm.Cond.code ({ cls := "BurntLettersModel", name := "oddsOf", desc := "(III)I" } : Jvm.MethodName) prog_11_method_35_code (4 : Nat) (Option.some Jvm.ClassFile.FieldType.int)) ∈ lw_all := lw_g (lw_at lw_m5 2 rfl) rfl
theorem q1023 : (Jvm.Cond.methodLink "BurntLettersModel" (153 : Nat) ({ cls := "BurntLettersModel", name := "livesOf", desc := "(II)I" } : Jvm.MethodName)) ∈ lw_all := lw_g (lw_at lw_m5 3 rfl) rfl
theorem q1024 : (Jvm.Cond.privateMethod ({ cls := "BurntLettersModel", name := "livesOf", desc := "(II)I" } : Jvm.MethodName)) ∈ lw_tbl := lw_at lw_m5 4 rfl
theorem q1025 : (Jvm.Cond.instanceMethod ({ cls := "BurntLettersModel", name := "livesOf", desc := "(II)I" } : Jvm.MethodName)) ∈ lw_all := lw_g (lw_at lw_m5 5 rfl) rfl
theorem q1026 : (Jvm.Cond.code ({ cls := "BurntLettersModel", name := "livesOf", desc := "(II)I" } : Jvm.MethodName) prog_11_method_33_code (9 : Nat) (Option.some Jvm.ClassFile.FieldType.int)) ∈ lw_all := lw_g (lw_at lw_m5 6 rfl) rfl
theorem q1027 : (Jvm.Cond.methodLink "BurntLettersModel" (150 : Nat) ({ cls := "BurntLettersModel", name := "power", desc := "(II)I" } : Jvm.MethodName)) ∈ lw_all := lw_g (lw_at lw_m5 7 rfl) rfl
theorem q1028 : (Jvm.Cond.static ({ cls := "BurntLettersModel", name := "power", desc := "(II)I" } : Jvm.MethodName)) ∈ lw_all := lw_g (lw_at lw_m5 8 rfl) rfl
theorem q1029 : (Jvm.Cond.code ({ cls := "BurntLettersModel", name := "power", desc := "(II)I" } : Jvm.MethodName) prog_11_method_32_code (4 : Nat) (Option.some Jvm.ClassFile.FieldType.int)) ∈ lw_all := lw_g (lw_at lw_m5 9 rfl) rfl
theorem q1030 : (Jvm.Cond.methodLink "BurntLettersModel" (156 : Nat) ({ cls := "BurntLettersModel", name := "term", desc := "(III)I" } : Jvm.MethodName)) ∈ lw_all := lw_g (lw_at lw_m5 10 rfl) rfl
theorem q1031 : (Jvm.Cond.static ({ cls := "BurntLettersModel", name := "term", desc := "(III)I" } : Jvm.MethodName)) ∈ lw_all := lw_g (lw_at lw_m5 11 rfl) rfl
theorem q1032 : (Jvm.Cond.code ({ cls := "BurntLettersModel", name := "term", desc := "(III)I" } : Jvm.MethodName) prog_11_method_34_code (6 : Nat) (Option.some Jvm.ClassFile.FieldType.int)) ∈ lw_all := lw_g (lw_at lw_m5 12 rfl) rfl
theorem q1034 : (Jvm.Cond.instanceMethod ({ cls := "BurntLettersModel", name := "where", desc := "(II)I" } : Jvm.MethodName)) ∈ lw_all := lw_g (lw_at lw_m5 14 rfl) rfl
theorem q1035 : (Jvm.Cond.selects "BurntLettersModel" ({ cls := "BurntLettersModel", name := "where", desc := "(II)I" } : Jvm.MethodName) ({ cls := "BurntLettersModel", name := "where", desc := "(II)I" } : Jvm.MethodName)) ∈ lw_all := lw_g (lw_at lw_m5 15 rfl) rfl
theorem q1036 : (Jvm.Cond.code ({ cls := "BurntLettersModel", name := "where", desc := "(II)I" } : Jvm.MethodName) prog_11_method_38_code (3 : Nat) (Option.some Jvm.ClassFile.FieldType.int)) ∈ lw_all := lw_g (lw_at lw_m5 16 rfl) rfl
theorem q1037 : (Jvm.Cond.methodLink "BurntLettersModel" (163 : Nat) ({ cls := "BurntLettersModel", name := "whereOf", desc := "(II)I" } : Jvm.MethodName)) ∈ lw_all := lw_g (lw_at lw_m5 17 rfl) rfl
theorem q1038 : (Jvm.Cond.privateMethod ({ cls := "BurntLettersModel", name := "whereOf", desc := "(II)I" } : Jvm.MethodName)) ∈ lw_tbl := lw_at lw_m5 18 rfl
theorem q1039 : (Jvm.Cond.instanceMethod ({ cls := "BurntLettersModel", name := "whereOf", desc := "(II)I" } : Jvm.MethodName)) ∈ lw_all := lw_g (lw_at lw_m5 19 rfl) rfl
theorem q1040 : (Jvm.Cond.code ({ cls := "BurntLettersModel", name := "whereOf", desc := "(II)I" } : Jvm.MethodName) prog_11_method_37_code (7 : Nat) (Option.some Jvm.ClassFile.FieldType.int)) ∈ lw_all := lw_g (lw_at lw_m5 20 rfl) rfl
theorem q1042 : (Jvm.Cond.instanceMethod ({ cls := "BurntLettersModel", name := "sure", desc := "(III)I" } : Jvm.MethodName)) ∈ lw_all := lw_g (lw_at lw_m5 22 rfl) rfl
theorem q1043 : (Jvm.Cond.selects "BurntLettersModel" ({ cls := "BurntLettersModel", name := "sure", desc := "(III)I" } : Jvm.MethodName) ({ cls := "BurntLettersModel", name := "sure", desc := "(III)I" } : Jvm.MethodName)) ∈ lw_all := lw_g (lw_at lw_m5 23 rfl) rfl
theorem q1044 : (Jvm.Cond.code ({ cls := "BurntLettersModel", name := "sure", desc := "(III)I" } : Jvm.MethodName) prog_11_method_40_code (6 : Nat) (Option.some Jvm.ClassFile.FieldType.int)) ∈ lw_all := lw_g (lw_at lw_m5 24 rfl) rfl
theorem q1045 : (Jvm.Cond.methodLink "BurntLettersModel" (169 : Nat) ({ cls := "BurntLettersModel", name := "isSure", desc := "(IZI)Z" } : Jvm.MethodName)) ∈ lw_all := lw_g (lw_at lw_m5 25 rfl) rfl
theorem q1046 : (Jvm.Cond.privateMethod ({ cls := "BurntLettersModel", name := "isSure", desc := "(IZI)Z" } : Jvm.MethodName)) ∈ lw_tbl := lw_at lw_m5 26 rfl
theorem q1047 : (Jvm.Cond.instanceMethod ({ cls := "BurntLettersModel", name := "isSure", desc := "(IZI)Z" } : Jvm.MethodName)) ∈ lw_all := lw_g (lw_at lw_m5 27 rfl) rfl
theorem q1048 : (Jvm.Cond.code ({ cls := "BurntLettersModel", name := "isSure", desc := "(IZI)Z" } : Jvm.MethodName) prog_11_method_39_code (12 : Nat) (Option.some Jvm.ClassFile.FieldType.boolean)) ∈ lw_all := lw_g (lw_at lw_m5 28 rfl) rfl
theorem q1050 : (Jvm.Cond.instanceMethod ({ cls := "BurntLettersModel", name := "nowhere", desc := "()I" } : Jvm.MethodName)) ∈ lw_all := lw_g (lw_at lw_m5 30 rfl) rfl
theorem q1051 : (Jvm.Cond.selects "BurntLettersModel" ({ cls := "BurntLettersModel", name := "nowhere", desc := "()I" } : Jvm.MethodName) ({ cls := "BurntLettersModel", name := "nowhere", desc := "()I" } : Jvm.MethodName)) ∈ lw_all := lw_g (lw_at lw_m5 31 rfl) rfl
theorem q1052 : (Jvm.Cond.code ({ cls := "BurntLettersModel", name := "nowhere", desc := "()I" } : Jvm.MethodName) prog_11_method_42_code (1 : Nat) (Option.some Jvm.ClassFile.FieldType.int)) ∈ lw_all := lw_g (lw_at lw_m5 32 rfl) rfl
theorem q1053 : (Jvm.Cond.methodLink "BurntLettersModel" (173 : Nat) ({ cls := "BurntLettersModel", name := "nowhereOf", desc := "()I" } : Jvm.MethodName)) ∈ lw_all := lw_g (lw_at lw_m5 33 rfl) rfl
theorem q1054 : (Jvm.Cond.privateMethod ({ cls := "BurntLettersModel", name := "nowhereOf", desc := "()I" } : Jvm.MethodName)) ∈ lw_tbl := lw_at lw_m5 34 rfl
theorem q1055 : (Jvm.Cond.instanceMethod ({ cls := "BurntLettersModel", name := "nowhereOf", desc := "()I" } : Jvm.MethodName)) ∈ lw_all := lw_g (lw_at lw_m5 35 rfl) rfl
theorem q1056 : (Jvm.Cond.code ({ cls := "BurntLettersModel", name := "nowhereOf", desc := "()I" } : Jvm.MethodName) prog_11_method_41_code (4 : Nat) (Option.some Jvm.ClassFile.FieldType.int)) ∈ lw_all := lw_g (lw_at lw_m5 36 rfl) rfl
theorem q1058 : (Jvm.Cond.instanceMethod ({ cls := "BurntLettersModel", name := "moving", desc := "(I)I" } : Jvm.MethodName)) ∈ lw_all := lw_g (lw_at lw_m5 38 rfl) rfl
theorem q1059 : (Jvm.Cond.selects "BurntLettersModel" ({ cls := "BurntLettersModel", name := "moving", desc := "(I)I" } : Jvm.MethodName) ({ cls := "BurntLettersModel", name := "moving", desc := "(I)I" } : Jvm.MethodName)) ∈ lw_all := lw_g (lw_at lw_m5 39 rfl) rfl
theorem q1060 : (Jvm.Cond.code ({ cls := "BurntLettersModel", name := "moving", desc := "(I)I" } : Jvm.MethodName) prog_11_method_46_code (3 : Nat) (Option.some Jvm.ClassFile.FieldType.int)) ∈ lw_all := lw_g (lw_at lw_m5 40 rfl) rfl
theorem q1061 : (Jvm.Cond.methodLink "BurntLettersModel" (186 : Nat) ({ cls := "BurntLettersModel", name := "isMovedBy", desc := "(II)Z" } : Jvm.MethodName)) ∈ lw_all := lw_g (lw_at lw_m5 41 rfl) rfl
theorem q1062 : (Jvm.Cond.privateMethod ({ cls := "BurntLettersModel", name := "isMovedBy", desc := "(II)Z" } : Jvm.MethodName)) ∈ lw_tbl := lw_at lw_m5 42 rfl
theorem q1063 : (Jvm.Cond.instanceMethod ({ cls := "BurntLettersModel", name := "isMovedBy", desc := "(II)Z" } : Jvm.MethodName)) ∈ lw_all := lw_g (lw_at lw_m5 43 rfl) rfl
theorem q1064 : (Jvm.Cond.code ({ cls := "BurntLettersModel", name := "isMovedBy", desc := "(II)Z" } : Jvm.MethodName) prog_11_method_45_code (9 : Nat) (Option.some Jvm.ClassFile.FieldType.boolean)) ∈ lw_all := lw_g (lw_at lw_m5 44 rfl) rfl
theorem q1065 : (Jvm.Cond.methodLink "BurntLettersModel" (176 : Nat) ({ cls := "BurntLettersModel", name := "above", desc := "(I)I" } : Jvm.MethodName)) ∈ lw_all := lw_g (lw_at lw_m5 45 rfl) rfl
theorem q1066 : (Jvm.Cond.privateMethod ({ cls := "BurntLettersModel", name := "above", desc := "(I)I" } : Jvm.MethodName)) ∈ lw_tbl := lw_at lw_m5 46 rfl
theorem q1067 : (Jvm.Cond.instanceMethod ({ cls := "BurntLettersModel", name := "above", desc := "(I)I" } : Jvm.MethodName)) ∈ lw_all := lw_g (lw_at lw_m5 47 rfl) rfl
theorem q1068 : (Jvm.Cond.code ({ cls := "BurntLettersModel", name := "above", desc := "(I)I" } : Jvm.MethodName) prog_11_method_43_code (5 : Nat) (Option.some Jvm.ClassFile.FieldType.int)) ∈ lw_all := lw_g (lw_at lw_m5 48 rfl) rfl
theorem q1069 : (Jvm.Cond.methodLink "BurntLettersModel" (179 : Nat) ({ cls := "BurntLettersModel", name := "renameNow", desc := "(III)V" } : Jvm.MethodName)) ∈ lw_all := lw_g (lw_at lw_m5 49 rfl) rfl
theorem q1070 : (Jvm.Cond.privateMethod ({ cls := "BurntLettersModel", name := "renameNow", desc := "(III)V" } : Jvm.MethodName)) ∈ lw_tbl := lw_at lw_m5 50 rfl
theorem q1071 : (Jvm.Cond.instanceMethod ({ cls := "BurntLettersModel", name := "renameNow", desc := "(III)V" } : Jvm.MethodName)) ∈ lw_all := lw_g (lw_at lw_m5 51 rfl) rfl
theorem q1072 : (Jvm.Cond.code ({ cls := "BurntLettersModel", name := "renameNow", desc := "(III)V" } : Jvm.MethodName) prog_11_method_44_code (4 : Nat) (Option.none : Option Jvm.ClassFile.FieldType)) ∈ lw_all := lw_g (lw_at lw_m5 52 rfl) rfl
theorem q1074 : (Jvm.Cond.instanceMethod ({ cls := "BurntLettersModel", name := "ashes", desc := "(I)I" } : Jvm.MethodName)) ∈ lw_all := lw_g (lw_at lw_m5 54 rfl) rfl
theorem q1075 : (Jvm.Cond.selects "BurntLettersModel" ({ cls := "BurntLettersModel", name := "ashes", desc := "(I)I" } : Jvm.MethodName) ({ cls := "BurntLettersModel", name := "ashes", desc := "(I)I" } : Jvm.MethodName)) ∈ lw_all := lw_g (lw_at lw_m5 55 rfl) rfl
theorem q1076 : (Jvm.Cond.code ({ cls := "BurntLettersModel", name := "ashes", desc := "(I)I" } : Jvm.MethodName) prog_11_method_47_code (2 : Nat) (Option.some Jvm.ClassFile.FieldType.int)) ∈ lw_all := lw_g (lw_at lw_m5 56 rfl) rfl
theorem q1077 : (Jvm.Cond.constantLong "BurntLettersModel" (189 : Nat) (-1 : Int64)) ∈ lw_all := lw_g (lw_at lw_m5 57 rfl) rfl
theorem q1079 : (Jvm.Cond.instanceMethod ({ cls := "BurntLettersModel", name := "forget", desc := "()I" } : Jvm.MethodName)) ∈ lw_all := lw_g (lw_at lw_m5 59 rfl) rfl
theorem q1080 : (Jvm.Cond.selects "BurntLettersModel" ({ cls := "BurntLettersModel", name := "forget", desc := "()I" } : Jvm.MethodName) ({ cls := "BurntLettersModel", name := "forget", desc := "()I" } : Jvm.MethodName)) ∈ lw_all := lw_g (lw_at lw_m5 60 rfl) rfl
theorem q1081 : (Jvm.Cond.code ({ cls := "BurntLettersModel", name := "forget", desc := "()I" } : Jvm.MethodName) prog_11_method_48_code (2 : Nat) (Option.some Jvm.ClassFile.FieldType.int)) ∈ lw_all := lw_g (lw_at lw_m5 61 rfl) rfl
theorem q1083 : (Jvm.Cond.instanceMethod ({ cls := "BurntLettersModel", name := "fits", desc := "()I" } : Jvm.MethodName)) ∈ lw_all := lw_g (lw_at lw_m5 63 rfl) rfl
theorem q1084 : (Jvm.Cond.selects "BurntLettersModel" ({ cls := "BurntLettersModel", name := "fits", desc := "()I" } : Jvm.MethodName) ({ cls := "BurntLettersModel", name := "fits", desc := "()I" } : Jvm.MethodName)) ∈ lw_all := lw_g (lw_at lw_m5 64 rfl) rfl
theorem q1085 : (Jvm.Cond.code ({ cls := "BurntLettersModel", name := "fits", desc := "()I" } : Jvm.MethodName) prog_11_method_52_code (1 : Nat) (Option.some Jvm.ClassFile.FieldType.int)) ∈ lw_all := lw_g (lw_at lw_m5 65 rfl) rfl
theorem q1086 : (Jvm.Cond.methodLink "BurntLettersModel" (197 : Nat) ({ cls := "BurntLettersModel", name := "layFits", desc := "()I" } : Jvm.MethodName)) ∈ lw_all := lw_g (lw_at lw_m5 66 rfl) rfl
theorem q1087 : (Jvm.Cond.privateMethod ({ cls := "BurntLettersModel", name := "layFits", desc := "()I" } : Jvm.MethodName)) ∈ lw_tbl := lw_at lw_m5 67 rfl
theorem q1088 : (Jvm.Cond.instanceMethod ({ cls := "BurntLettersModel", name := "layFits", desc := "()I" } : Jvm.MethodName)) ∈ lw_all := lw_g (lw_at lw_m5 68 rfl) rfl
theorem q1089 : (Jvm.Cond.code ({ cls := "BurntLettersModel", name := "layFits", desc := "()I" } : Jvm.MethodName) prog_11_method_51_code (5 : Nat) (Option.some Jvm.ClassFile.FieldType.int)) ∈ lw_all := lw_g (lw_at lw_m5 69 rfl) rfl
theorem q1090 : (Jvm.Cond.methodLink "BurntLettersModel" (194 : Nat) ({ cls := "BurntLettersModel", name := "isToldBy", desc := "(I)Z" } : Jvm.MethodName)) ∈ lw_all := lw_g (lw_at lw_m5 70 rfl) rfl
theorem q1091 : (Jvm.Cond.privateMethod ({ cls := "BurntLettersModel", name := "isToldBy", desc := "(I)Z" } : Jvm.MethodName)) ∈ lw_tbl := lw_at lw_m5 71 rfl
theorem q1092 : (Jvm.Cond.instanceMethod ({ cls := "BurntLettersModel", name := "isToldBy", desc := "(I)Z" } : Jvm.MethodName)) ∈ lw_all := lw_g (lw_at lw_m5 72 rfl) rfl
theorem q1093 : (Jvm.Cond.code ({ cls := "BurntLettersModel", name := "isToldBy", desc := "(I)Z" } : Jvm.MethodName) prog_11_method_50_code (7 : Nat) (Option.some Jvm.ClassFile.FieldType.boolean)) ∈ lw_all := lw_g (lw_at lw_m5 73 rfl) rfl
theorem q1094 : (Jvm.Cond.methodLink "BurntLettersModel" (191 : Nat) ({ cls := "BurntLettersModel", name := "livesNow", desc := "()I" } : Jvm.MethodName)) ∈ lw_all := lw_g (lw_at lw_m5 74 rfl) rfl
theorem q1095 : (Jvm.Cond.privateMethod ({ cls := "BurntLettersModel", name := "livesNow", desc := "()I" } : Jvm.MethodName)) ∈ lw_tbl := lw_at lw_m5 75 rfl
theorem q1096 : (Jvm.Cond.instanceMethod ({ cls := "BurntLettersModel", name := "livesNow", desc := "()I" } : Jvm.MethodName)) ∈ lw_all := lw_g (lw_at lw_m5 76 rfl) rfl
theorem q1097 : (Jvm.Cond.code ({ cls := "BurntLettersModel", name := "livesNow", desc := "()I" } : Jvm.MethodName) prog_11_method_49_code (3 : Nat) (Option.some Jvm.ClassFile.FieldType.int)) ∈ lw_all := lw_g (lw_at lw_m5 77 rfl) rfl
theorem q1099 : (Jvm.Cond.instanceMethod ({ cls := "BurntLettersModel", name := "burnt", desc := "(I)I" } : Jvm.MethodName)) ∈ lw_all := lw_g (lw_at lw_m5 79 rfl) rfl
theorem q1100 : (Jvm.Cond.selects "BurntLettersModel" ({ cls := "BurntLettersModel", name := "burnt", desc := "(I)I" } : Jvm.MethodName) ({ cls := "BurntLettersModel", name := "burnt", desc := "(I)I" } : Jvm.MethodName)) ∈ lw_all := lw_g (lw_at lw_m5 80 rfl) rfl
theorem q1101 : (Jvm.Cond.code ({ cls := "BurntLettersModel", name := "burnt", desc := "(I)I" } : Jvm.MethodName) prog_11_method_53_code (4 : Nat) (Option.some Jvm.ClassFile.FieldType.int)) ∈ lw_all := lw_g (lw_at lw_m5 81 rfl) rfl
theorem q1103 : (Jvm.Cond.instanceMethod ({ cls := "BurntLettersModel", name := "years", desc := "(III)I" } : Jvm.MethodName)) ∈ lw_all := lw_g (lw_at lw_m5 83 rfl) rfl
theorem q1104 : (Jvm.Cond.selects "BurntLettersModel" ({ cls := "BurntLettersModel", name := "years", desc := "(III)I" } : Jvm.MethodName) ({ cls := "BurntLettersModel", name := "years", desc := "(III)I" } : Jvm.MethodName)) ∈ lw_all := lw_g (lw_at lw_m5 84 rfl) rfl
theorem q1105 : (Jvm.Cond.code ({ cls := "BurntLettersModel", name := "years", desc := "(III)I" } : Jvm.MethodName) prog_11_method_56_code (6 : Nat) (Option.some Jvm.ClassFile.FieldType.int)) ∈ lw_all := lw_g (lw_at lw_m5 85 rfl) rfl
theorem q1106 : (Jvm.Cond.constantLong "BurntLettersModel" (210 : Nat) (60 : Int64)) ∈ lw_all := lw_g (lw_at lw_m5 86 rfl) rfl
theorem q1107 : (Jvm.Cond.constantLong "BurntLettersModel" (212 : Nat) (2 : Int64)) ∈ lw_all := lw_g (lw_at lw_m5 87 rfl) rfl
theorem q1108 : (Jvm.Cond.methodLink "BurntLettersModel" (214 : Nat) ({ cls := "BurntLettersModel", name := "draw", desc := "(I)I" } : Jvm.MethodName)) ∈ lw_all := lw_g (lw_at lw_m5 88 rfl) rfl
theorem q1109 : (Jvm.Cond.privateMethod ({ cls := "BurntLettersModel", name := "draw", desc := "(I)I" } : Jvm.MethodName)) ∈ lw_tbl := lw_at lw_m5 89 rfl
theorem q1110 : (Jvm.Cond.instanceMethod ({ cls := "BurntLettersModel", name := "draw", desc := "(I)I" } : Jvm.MethodName)) ∈ lw_all := lw_g (lw_at lw_m5 90 rfl) rfl
theorem q1111 : (Jvm.Cond.code ({ cls := "BurntLettersModel", name := "draw", desc := "(I)I" } : Jvm.MethodName) prog_11_method_54_code (2 : Nat) (Option.some Jvm.ClassFile.FieldType.int)) ∈ lw_all := lw_g (lw_at lw_m5 91 rfl) rfl
theorem q1112 : (Jvm.Cond.constantLong "BurntLettersModel" (200 : Nat) (1103515245 : Int64)) ∈ lw_all := lw_g (lw_at lw_m5 92 rfl) rfl
theorem q1113 : (Jvm.Cond.constantLong "BurntLettersModel" (205 : Nat) (12345 : Int64)) ∈ lw_all := lw_g (lw_at lw_m5 93 rfl) rfl
theorem q1114 : (Jvm.Cond.constantLong "BurntLettersModel" (207 : Nat) (2147483647 : Int64)) ∈ lw_all := lw_g (lw_at lw_m5 94 rfl) rfl
theorem q1115 : (Jvm.Cond.constant "BurntLettersModel" (209 : Nat) (65536 : Int32)) ∈ lw_all := lw_g (lw_at lw_m5 95 rfl) rfl
theorem q1116 : (Jvm.Cond.methodLink "BurntLettersModel" (217 : Nat) ({ cls := "BurntLettersModel", name := "lotOf", desc := "(I)I" } : Jvm.MethodName)) ∈ lw_all := lw_g (lw_at lw_m5 96 rfl) rfl
theorem q1117 : (Jvm.Cond.privateMethod ({ cls := "BurntLettersModel", name := "lotOf", desc := "(I)I" } : Jvm.MethodName)) ∈ lw_tbl := lw_at lw_m5 97 rfl
theorem q1118 : (Jvm.Cond.instanceMethod ({ cls := "BurntLettersModel", name := "lotOf", desc := "(I)I" } : Jvm.MethodName)) ∈ lw_all := lw_g (lw_at lw_m5 98 rfl) rfl
theorem q1119 : (Jvm.Cond.code ({ cls := "BurntLettersModel", name := "lotOf", desc := "(I)I" } : Jvm.MethodName) prog_11_method_55_code (4 : Nat) (Option.some Jvm.ClassFile.FieldType.int)) ∈ lw_all := lw_g (lw_at lw_m5 99 rfl) rfl
theorem q1121 : (Jvm.Cond.instanceMethod ({ cls := "BurntLettersModel", name := "image", desc := "()I" } : Jvm.MethodName)) ∈ lw_all := lw_g (lw_at lw_m5 101 rfl) rfl
theorem q1122 : (Jvm.Cond.selects "BurntLettersModel" ({ cls := "BurntLettersModel", name := "image", desc := "()I" } : Jvm.MethodName) ({ cls := "BurntLettersModel", name := "image", desc := "()I" } : Jvm.MethodName)) ∈ lw_all := lw_g (lw_at lw_m5 102 rfl) rfl
theorem q1123 : (Jvm.Cond.code ({ cls := "BurntLettersModel", name := "image", desc := "()I" } : Jvm.MethodName) prog_11_method_58_code (1 : Nat) (Option.some Jvm.ClassFile.FieldType.int)) ∈ lw_all := lw_g (lw_at lw_m5 103 rfl) rfl
theorem q1124 : (Jvm.Cond.methodLink "BurntLettersModel" (220 : Nat) ({ cls := "BurntLettersModel", name := "copyTo", desc := "([I[I)V" } : Jvm.MethodName)) ∈ lw_all := lw_g (lw_at lw_m5 104 rfl) rfl
theorem q1125 : (Jvm.Cond.static ({ cls := "BurntLettersModel", name := "copyTo", desc := "([I[I)V" } : Jvm.MethodName)) ∈ lw_all := lw_g (lw_at lw_m5 105 rfl) rfl
theorem q1126 : (Jvm.Cond.code ({ cls := "BurntLettersModel", name := "copyTo", desc := "([I[I)V" } : Jvm.MethodName) prog_11_method_57_code (3 : Nat) (Option.none : Option Jvm.ClassFile.FieldType)) ∈ lw_all := lw_g (lw_at lw_m5 106 rfl) rfl
theorem q1128 : (Jvm.Cond.instanceMethod ({ cls := "BurntLettersModel", name := "restore", desc := "()I" } : Jvm.MethodName)) ∈ lw_all := lw_g (lw_at lw_m5 108 rfl) rfl
theorem q1129 : (Jvm.Cond.selects "BurntLettersModel" ({ cls := "BurntLettersModel", name := "restore", desc := "()I" } : Jvm.MethodName) ({ cls := "BurntLettersModel", name := "restore", desc := "()I" } : Jvm.MethodName)) ∈ lw_all := lw_g (lw_at lw_m5 109 rfl) rfl
theorem q1130 : (Jvm.Cond.code ({ cls := "BurntLettersModel", name := "restore", desc := "()I" } : Jvm.MethodName) prog_11_method_59_code (1 : Nat) (Option.some Jvm.ClassFile.FieldType.int)) ∈ lw_all := lw_g (lw_at lw_m5 110 rfl) rfl
theorem q1132 : (Jvm.Cond.instanceMethod ({ cls := "BurntLettersModel", name := "count", desc := "(I)I" } : Jvm.MethodName)) ∈ lw_all := lw_g (lw_at lw_m5 112 rfl) rfl
theorem q1133 : (Jvm.Cond.selects "BurntLettersModel" ({ cls := "BurntLettersModel", name := "count", desc := "(I)I" } : Jvm.MethodName) ({ cls := "BurntLettersModel", name := "count", desc := "(I)I" } : Jvm.MethodName)) ∈ lw_all := lw_g (lw_at lw_m5 113 rfl) rfl
theorem q1134 : (Jvm.Cond.code ({ cls := "BurntLettersModel", name := "count", desc := "(I)I" } : Jvm.MethodName) prog_11_method_61_code (2 : Nat) (Option.some Jvm.ClassFile.FieldType.int)) ∈ lw_all := lw_g (lw_at lw_m5 114 rfl) rfl
theorem q1135 : (Jvm.Cond.methodLink "BurntLettersModel" (233 : Nat) ({ cls := "BurntLettersModel", name := "countOf", desc := "(I)I" } : Jvm.MethodName)) ∈ lw_all := lw_g (lw_at lw_m5 115 rfl) rfl
theorem q1136 : (Jvm.Cond.privateMethod ({ cls := "BurntLettersModel", name := "countOf", desc := "(I)I" } : Jvm.MethodName)) ∈ lw_tbl := lw_at lw_m5 116 rfl
theorem q1137 : (Jvm.Cond.instanceMethod ({ cls := "BurntLettersModel", name := "countOf", desc := "(I)I" } : Jvm.MethodName)) ∈ lw_all := lw_g (lw_at lw_m5 117 rfl) rfl
theorem q1138 : (Jvm.Cond.code ({ cls := "BurntLettersModel", name := "countOf", desc := "(I)I" } : Jvm.MethodName) prog_11_method_60_code (5 : Nat) (Option.some Jvm.ClassFile.FieldType.int)) ∈ lw_all := lw_g (lw_at lw_m5 118 rfl) rfl
theorem q1140 : (Jvm.Cond.instanceMethod ({ cls := "BurntLettersModel", name := "digest", desc := "()J" } : Jvm.MethodName)) ∈ lw_all := lw_g (lw_at lw_m5 120 rfl) rfl
theorem q1141 : (Jvm.Cond.selects "BurntLettersModel" ({ cls := "BurntLettersModel", name := "digest", desc := "()J" } : Jvm.MethodName) ({ cls := "BurntLettersModel", name := "digest", desc := "()J" } : Jvm.MethodName)) ∈ lw_all := lw_g (lw_at lw_m5 121 rfl) rfl
theorem q1142 : (Jvm.Cond.code ({ cls := "BurntLettersModel", name := "digest", desc := "()J" } : Jvm.MethodName) prog_11_method_64_code (2 : Nat) (Option.some Jvm.ClassFile.FieldType.long)) ∈ lw_all := lw_g (lw_at lw_m5 122 rfl) rfl
theorem q1143 : (Jvm.Cond.constantLong "BurntLettersModel" (246 : Nat) (769 : Int64)) ∈ lw_all := lw_g (lw_at lw_m5 123 rfl) rfl
theorem q1144 : (Jvm.Cond.methodLink "BurntLettersModel" (242 : Nat) ({ cls := "BurntLettersModel", name := "say", desc := "(J)V" } : Jvm.MethodName)) ∈ lw_all := lw_g (lw_at lw_m5 124 rfl) rfl
theorem q1145 : (Jvm.Cond.privateMethod ({ cls := "BurntLettersModel", name := "say", desc := "(J)V" } : Jvm.MethodName)) ∈ lw_tbl := lw_at lw_m5 125 rfl
theorem q1146 : (Jvm.Cond.instanceMethod ({ cls := "BurntLettersModel", name := "say", desc := "(J)V" } : Jvm.MethodName)) ∈ lw_all := lw_g (lw_at lw_m5 126 rfl) rfl
theorem q1147 : (Jvm.Cond.code ({ cls := "BurntLettersModel", name := "say", desc := "(J)V" } : Jvm.MethodName) prog_11_method_62_code (3 : Nat) (Option.none : Option Jvm.ClassFile.FieldType)) ∈ lw_all := lw_g (lw_at lw_m5 127 rfl) rfl
theorem q1148 : (Jvm.Cond.constantLong "BurntLettersModel" (236 : Nat) (31 : Int64)) ∈ lw_all := lw_g (lw_at lw_m5 128 rfl) rfl
theorem q1149 : (Jvm.Cond.methodLink "BurntLettersModel" (248 : Nat) ({ cls := "BurntLettersModel", name := "sayFile", desc := "(I)V" } : Jvm.MethodName)) ∈ lw_all := lw_g (lw_at lw_m5 129 rfl) rfl
theorem q1150 : (Jvm.Cond.privateMethod ({ cls := "BurntLettersModel", name := "sayFile", desc := "(I)V" } : Jvm.MethodName)) ∈ lw_tbl := lw_at lw_m5 130 rfl
theorem q1151 : (Jvm.Cond.instanceMethod ({ cls := "BurntLettersModel", name := "sayFile", desc := "(I)V" } : Jvm.MethodName)) ∈ lw_all := lw_g (lw_at lw_m5 131 rfl) rfl
theorem q1152 : (Jvm.Cond.code ({ cls := "BurntLettersModel", name := "sayFile", desc := "(I)V" } : Jvm.MethodName) prog_11_method_63_code (3 : Nat) (Option.none : Option Jvm.ClassFile.FieldType)) ∈ lw_all := lw_g (lw_at lw_m5 132 rfl) rfl
theorem q1162 : (Jvm.Cond.castable "BurntLettersModel" "java/lang/Object") ∈ lw_tbl := lw_at lw_m5 142 rfl
theorem in_X2 : ∀ w ∈ wsX20, w ∈ lw_all := lw_in wsX20 [836, 838, 840, 842, 844, 846, 848, 850, 852, 854, 856, 858, 860, 862, 864, 866, 868, 870, 872, 874, 876, 878, 880, 882, 884, 886, 888, 890, 892] (by decide +kernel) (by decide +kernel)
