/-! BurntLetters -/
set_option maxRecDepth 100000
def RX0 : String := "BurntLetters"
def TX0 : u_T := fun k => match k with
  | 0 => ("BurntLetters", "papers", "Ljava/util/ArrayList;", true)
  | 1 => ("BurntLetters", "isLaw", "Z", false)
  | 2 => ("BurntLetters", "laws", "I", false)
  | 3 => ("BurntLetters", "room", "I", false)
  | 4 => ("BurntLetters", "lots", "[I", true)
  | 5 => ("BurntLetters", "yearsDone", "I", false)
  | 6 => ("BurntLetters", "archive", "LBurntLetters$Archive;", true)
  | 7 => ("BurntLetters", "thought", "LBurntLetters$Archive;", true)
  | 8 => ("BurntLetters", "kept", "LBurntLetters$Archive;", true)
  | 9 => ("BurntLetters", "page", "[B", true)
  | 10 => ("BurntLetters", "pageLength", "I", false)
  | 11 => ("BurntLetters", "sureAsks", "I", false)
  | 12 => ("BurntLetters", "moveAsks", "I", false)
  | 13 => ("BurntLetters", "ashMany", "I", false)
  | 14 => ("BurntLetters", "ashOf", "[I", true)
  | 15 => ("BurntLetters", "burntIn", "[I", true)
  | 16 => ("BurntLetters", "drawn", "J", false)
  | 17 => ("BurntLetters", "keptLaw", "I", false)
  | 18 => ("BurntLetters", "keptMany", "I", false)
  | 19 => ("BurntLetters", "keptYears", "I", false)
  | 20 => ("BurntLetters", "keptAsh", "I", false)
  | _ => ("BurntLetters", "keptAshOf", "[I", true)
def tyX0 : Nat → FieldType := fun k => match k with
  | 0 => .object "java/util/ArrayList"
  | 1 => .boolean
  | 2 => .int
  | 3 => .int
  | 4 => .array .int
  | 5 => .int
  | 6 => .object "BurntLetters$Archive"
  | 7 => .object "BurntLetters$Archive"
  | 8 => .object "BurntLetters$Archive"
  | 9 => .array .byte
  | 10 => .int
  | 11 => .int
  | 12 => .int
  | 13 => .int
  | 14 => .array .int
  | 15 => .array .int
  | 16 => .long
  | 17 => .int
  | 18 => .int
  | 19 => .int
  | 20 => .int
  | _ => .array .int
abbrev wsX00 : List Cond := u_ws RX0 TX0 22
set_option maxRecDepth 100000 in
theorem nmX0 : ∀ a, a < 22 → ∀ b, b < 22 → a ≠ b → (TX0 a).2.1 ≠ (TX0 b).2.1 := by decide +kernel
set_option maxRecDepth 100000 in
theorem tyX0_ok : ∀ k, k < 22 → parseFieldDescriptor (TX0 k).2.2.1 = some (tyX0 k) := by decide +kernel
abbrev cX0_init : ByteArray := prog_1_method_5_code
def yX0_init : MethodName := ⟨RX0, "<init>", "()V"⟩
def dkwX0_init_3 : List UInt8 := [181, 0, 39, 42, 8, 188, 10, 181, 0, 42, 42, 8, 188, 10, 181, 0, 45, 177]
abbrev dktX0_init_3 : List UInt8 := dkwX0_init_3 ++ []
def dkwX0_init_2 : List UInt8 := [187, 0, 20, 89, 42, 183, 0, 22, 181, 0, 32, 42, 16, 10, 188, 8, 181, 0, 35, 42, 8, 188, 10]
abbrev dktX0_init_2 : List UInt8 := dkwX0_init_2 ++ dktX0_init_3
def dkwX0_init_1 : List UInt8 := [187, 0, 20, 89, 42, 183, 0, 22, 181, 0, 25, 42, 187, 0, 20, 89, 42, 183, 0, 22, 181, 0, 29, 42]
abbrev dktX0_init_1 : List UInt8 := dkwX0_init_1 ++ dktX0_init_2
def dkwX0_init_0 : List UInt8 := [42, 183, 0, 1, 42, 187, 0, 7, 89, 183, 0, 9, 181, 0, 10, 42, 16, 6, 188, 10, 181, 0, 16, 42]
abbrev dktX0_init_0 : List UInt8 := dkwX0_init_0 ++ dktX0_init_1
theorem dksX0_init_0 : cX0_init.data.toList.drop 0 = dktX0_init_0 := by decide +kernel
theorem dksX0_init_1 : cX0_init.data.toList.drop 24 = dktX0_init_1 := dk_seg dksX0_init_0 24 rfl rfl
theorem dksX0_init_2 : cX0_init.data.toList.drop 48 = dktX0_init_2 := dk_seg dksX0_init_1 24 rfl rfl
theorem dksX0_init_3 : cX0_init.data.toList.drop 71 = dktX0_init_3 := dk_seg dksX0_init_2 23 rfl rfl
theorem dX0_init_0 : decode cX0_init 0 = .ok (.aload_n 0, 1) := dk_42 (dk_at dksX0_init_0 0 rfl rfl)
theorem dX0_init_1 : decode cX0_init 1 = .ok (.invokespecial 1, 3) := dk_183 0 1 (dk_at dksX0_init_0 1 rfl rfl)
theorem dX0_init_4 : decode cX0_init 4 = .ok (.aload_n 0, 1) := dk_42 (dk_at dksX0_init_0 4 rfl rfl)
theorem dX0_init_5 : decode cX0_init 5 = .ok (.new 7, 3) := dk_187 0 7 (dk_at dksX0_init_0 5 rfl rfl)
theorem dX0_init_8 : decode cX0_init 8 = .ok (.dup, 1) := dk_89 (dk_at dksX0_init_0 8 rfl rfl)
theorem dX0_init_9 : decode cX0_init 9 = .ok (.invokespecial 9, 3) := dk_183 0 9 (dk_at dksX0_init_0 9 rfl rfl)
theorem dX0_init_12 : decode cX0_init 12 = .ok (.putfield 10, 3) := dk_181 0 10 (dk_at dksX0_init_0 12 rfl rfl)
theorem dX0_init_15 : decode cX0_init 15 = .ok (.aload_n 0, 1) := dk_42 (dk_at dksX0_init_0 15 rfl rfl)
theorem dX0_init_16 : decode cX0_init 16 = .ok (.bipush 6, 2) := dk_16 6 (dk_at dksX0_init_0 16 rfl rfl)
theorem dX0_init_18 : decode cX0_init 18 = .ok (.newarray .int, 2) := dk_188_10 (dk_at dksX0_init_0 18 rfl rfl)
theorem dX0_init_20 : decode cX0_init 20 = .ok (.putfield 16, 3) := dk_181 0 16 (dk_at dksX0_init_0 20 rfl rfl)
theorem dX0_init_23 : decode cX0_init 23 = .ok (.aload_n 0, 1) := dk_42 (dk_at dksX0_init_0 23 rfl rfl)
theorem dX0_init_24 : decode cX0_init 24 = .ok (.new 20, 3) := dk_187 0 20 (dk_at dksX0_init_1 0 rfl rfl)
theorem dX0_init_27 : decode cX0_init 27 = .ok (.dup, 1) := dk_89 (dk_at dksX0_init_1 3 rfl rfl)
theorem dX0_init_28 : decode cX0_init 28 = .ok (.aload_n 0, 1) := dk_42 (dk_at dksX0_init_1 4 rfl rfl)
theorem dX0_init_29 : decode cX0_init 29 = .ok (.invokespecial 22, 3) := dk_183 0 22 (dk_at dksX0_init_1 5 rfl rfl)
theorem dX0_init_32 : decode cX0_init 32 = .ok (.putfield 25, 3) := dk_181 0 25 (dk_at dksX0_init_1 8 rfl rfl)
theorem dX0_init_35 : decode cX0_init 35 = .ok (.aload_n 0, 1) := dk_42 (dk_at dksX0_init_1 11 rfl rfl)
theorem dX0_init_36 : decode cX0_init 36 = .ok (.new 20, 3) := dk_187 0 20 (dk_at dksX0_init_1 12 rfl rfl)
theorem dX0_init_39 : decode cX0_init 39 = .ok (.dup, 1) := dk_89 (dk_at dksX0_init_1 15 rfl rfl)
theorem dX0_init_40 : decode cX0_init 40 = .ok (.aload_n 0, 1) := dk_42 (dk_at dksX0_init_1 16 rfl rfl)
theorem dX0_init_41 : decode cX0_init 41 = .ok (.invokespecial 22, 3) := dk_183 0 22 (dk_at dksX0_init_1 17 rfl rfl)
theorem dX0_init_44 : decode cX0_init 44 = .ok (.putfield 29, 3) := dk_181 0 29 (dk_at dksX0_init_1 20 rfl rfl)
theorem dX0_init_47 : decode cX0_init 47 = .ok (.aload_n 0, 1) := dk_42 (dk_at dksX0_init_1 23 rfl rfl)
theorem dX0_init_48 : decode cX0_init 48 = .ok (.new 20, 3) := dk_187 0 20 (dk_at dksX0_init_2 0 rfl rfl)
theorem dX0_init_51 : decode cX0_init 51 = .ok (.dup, 1) := dk_89 (dk_at dksX0_init_2 3 rfl rfl)
theorem dX0_init_52 : decode cX0_init 52 = .ok (.aload_n 0, 1) := dk_42 (dk_at dksX0_init_2 4 rfl rfl)
theorem dX0_init_53 : decode cX0_init 53 = .ok (.invokespecial 22, 3) := dk_183 0 22 (dk_at dksX0_init_2 5 rfl rfl)
theorem dX0_init_56 : decode cX0_init 56 = .ok (.putfield 32, 3) := dk_181 0 32 (dk_at dksX0_init_2 8 rfl rfl)
theorem dX0_init_59 : decode cX0_init 59 = .ok (.aload_n 0, 1) := dk_42 (dk_at dksX0_init_2 11 rfl rfl)
theorem dX0_init_60 : decode cX0_init 60 = .ok (.bipush 10, 2) := dk_16 10 (dk_at dksX0_init_2 12 rfl rfl)
theorem dX0_init_62 : decode cX0_init 62 = .ok (.newarray .byte, 2) := dk_188_8 (dk_at dksX0_init_2 14 rfl rfl)
theorem dX0_init_64 : decode cX0_init 64 = .ok (.putfield 35, 3) := dk_181 0 35 (dk_at dksX0_init_2 16 rfl rfl)
theorem dX0_init_67 : decode cX0_init 67 = .ok (.aload_n 0, 1) := dk_42 (dk_at dksX0_init_2 19 rfl rfl)
theorem dX0_init_68 : decode cX0_init 68 = .ok (.iconst 5, 1) := dk_8 (dk_at dksX0_init_2 20 rfl rfl)
theorem dX0_init_69 : decode cX0_init 69 = .ok (.newarray .int, 2) := dk_188_10 (dk_at dksX0_init_2 21 rfl rfl)
theorem dX0_init_71 : decode cX0_init 71 = .ok (.putfield 39, 3) := dk_181 0 39 (dk_at dksX0_init_3 0 rfl rfl)
theorem dX0_init_74 : decode cX0_init 74 = .ok (.aload_n 0, 1) := dk_42 (dk_at dksX0_init_3 3 rfl rfl)
theorem dX0_init_75 : decode cX0_init 75 = .ok (.iconst 5, 1) := dk_8 (dk_at dksX0_init_3 4 rfl rfl)
theorem dX0_init_76 : decode cX0_init 76 = .ok (.newarray .int, 2) := dk_188_10 (dk_at dksX0_init_3 5 rfl rfl)
theorem dX0_init_78 : decode cX0_init 78 = .ok (.putfield 42, 3) := dk_181 0 42 (dk_at dksX0_init_3 7 rfl rfl)
theorem dX0_init_81 : decode cX0_init 81 = .ok (.aload_n 0, 1) := dk_42 (dk_at dksX0_init_3 10 rfl rfl)
theorem dX0_init_82 : decode cX0_init 82 = .ok (.iconst 5, 1) := dk_8 (dk_at dksX0_init_3 11 rfl rfl)
theorem dX0_init_83 : decode cX0_init 83 = .ok (.newarray .int, 2) := dk_188_10 (dk_at dksX0_init_3 12 rfl rfl)
theorem dX0_init_85 : decode cX0_init 85 = .ok (.putfield 45, 3) := dk_181 0 45 (dk_at dksX0_init_3 14 rfl rfl)
theorem dX0_init_88 : decode cX0_init 88 = .ok (.return_, 1) := dk_177 (dk_at dksX0_init_3 17 rfl rfl)
abbrev cX0_letter : ByteArray := prog_1_method_9_code
def yX0_letter : MethodName := ⟨RX0, "letter", "(I)I"⟩
def dkwX0_letter_2 : List UInt8 := [180, 0, 71, 172]
abbrev dktX0_letter_2 : List UInt8 := dkwX0_letter_2 ++ []
def dkwX0_letter_1 : List UInt8 := [172, 42, 180, 0, 35, 42, 180, 0, 71, 27, 145, 84, 42, 89, 180, 0, 71, 4, 96, 181, 0, 71, 42]
abbrev dktX0_letter_1 : List UInt8 := dkwX0_letter_1 ++ dktX0_letter_2
def dkwX0_letter_0 : List UInt8 := [27, 4, 16, 126, 184, 0, 67, 154, 0, 6, 16, 154, 172, 42, 180, 0, 71, 16, 10, 160, 0, 6, 16, 152]
abbrev dktX0_letter_0 : List UInt8 := dkwX0_letter_0 ++ dktX0_letter_1
theorem dksX0_letter_0 : cX0_letter.data.toList.drop 0 = dktX0_letter_0 := by decide +kernel
theorem dksX0_letter_1 : cX0_letter.data.toList.drop 24 = dktX0_letter_1 := dk_seg dksX0_letter_0 24 rfl rfl
theorem dksX0_letter_2 : cX0_letter.data.toList.drop 47 = dktX0_letter_2 := dk_seg dksX0_letter_1 23 rfl rfl
theorem dX0_letter_0 : decode cX0_letter 0 = .ok (.iload_n 1, 1) := dk_27 (dk_at dksX0_letter_0 0 rfl rfl)
theorem dX0_letter_1 : decode cX0_letter 1 = .ok (.iconst 1, 1) := dk_4 (dk_at dksX0_letter_0 1 rfl rfl)
theorem dX0_letter_2 : decode cX0_letter 2 = .ok (.bipush 126, 2) := dk_16 126 (dk_at dksX0_letter_0 2 rfl rfl)
theorem dX0_letter_4 : decode cX0_letter 4 = .ok (.invokestatic 67, 3) := dk_184 0 67 (dk_at dksX0_letter_0 4 rfl rfl)
theorem dX0_letter_7 : decode cX0_letter 7 = .ok (.ifCond .ne 6, 3) := dk_154 0 6 (dk_at dksX0_letter_0 7 rfl rfl)
theorem dX0_letter_10 : decode cX0_letter 10 = .ok (.bipush (-102), 2) := dk_16 154 (dk_at dksX0_letter_0 10 rfl rfl)
theorem dX0_letter_12 : decode cX0_letter 12 = .ok (.ireturn, 1) := dk_172 (dk_at dksX0_letter_0 12 rfl rfl)
theorem dX0_letter_13 : decode cX0_letter 13 = .ok (.aload_n 0, 1) := dk_42 (dk_at dksX0_letter_0 13 rfl rfl)
theorem dX0_letter_14 : decode cX0_letter 14 = .ok (.getfield 71, 3) := dk_180 0 71 (dk_at dksX0_letter_0 14 rfl rfl)
theorem dX0_letter_17 : decode cX0_letter 17 = .ok (.bipush 10, 2) := dk_16 10 (dk_at dksX0_letter_0 17 rfl rfl)
theorem dX0_letter_19 : decode cX0_letter 19 = .ok (.if_icmp .ne 6, 3) := dk_160 0 6 (dk_at dksX0_letter_0 19 rfl rfl)
theorem dX0_letter_22 : decode cX0_letter 22 = .ok (.bipush (-104), 2) := dk_16 152 (dk_at dksX0_letter_0 22 rfl rfl)
theorem dX0_letter_24 : decode cX0_letter 24 = .ok (.ireturn, 1) := dk_172 (dk_at dksX0_letter_1 0 rfl rfl)
theorem dX0_letter_25 : decode cX0_letter 25 = .ok (.aload_n 0, 1) := dk_42 (dk_at dksX0_letter_1 1 rfl rfl)
theorem dX0_letter_26 : decode cX0_letter 26 = .ok (.getfield 35, 3) := dk_180 0 35 (dk_at dksX0_letter_1 2 rfl rfl)
theorem dX0_letter_29 : decode cX0_letter 29 = .ok (.aload_n 0, 1) := dk_42 (dk_at dksX0_letter_1 5 rfl rfl)
theorem dX0_letter_30 : decode cX0_letter 30 = .ok (.getfield 71, 3) := dk_180 0 71 (dk_at dksX0_letter_1 6 rfl rfl)
theorem dX0_letter_33 : decode cX0_letter 33 = .ok (.iload_n 1, 1) := dk_27 (dk_at dksX0_letter_1 9 rfl rfl)
theorem dX0_letter_34 : decode cX0_letter 34 = .ok (.i2b, 1) := dk_145 (dk_at dksX0_letter_1 10 rfl rfl)
theorem dX0_letter_35 : decode cX0_letter 35 = .ok (.bastore, 1) := dk_84 (dk_at dksX0_letter_1 11 rfl rfl)
theorem dX0_letter_36 : decode cX0_letter 36 = .ok (.aload_n 0, 1) := dk_42 (dk_at dksX0_letter_1 12 rfl rfl)
theorem dX0_letter_37 : decode cX0_letter 37 = .ok (.dup, 1) := dk_89 (dk_at dksX0_letter_1 13 rfl rfl)
theorem dX0_letter_38 : decode cX0_letter 38 = .ok (.getfield 71, 3) := dk_180 0 71 (dk_at dksX0_letter_1 14 rfl rfl)
theorem dX0_letter_41 : decode cX0_letter 41 = .ok (.iconst 1, 1) := dk_4 (dk_at dksX0_letter_1 17 rfl rfl)
theorem dX0_letter_42 : decode cX0_letter 42 = .ok (.iadd, 1) := dk_96 (dk_at dksX0_letter_1 18 rfl rfl)
theorem dX0_letter_43 : decode cX0_letter 43 = .ok (.putfield 71, 3) := dk_181 0 71 (dk_at dksX0_letter_1 19 rfl rfl)
theorem dX0_letter_46 : decode cX0_letter 46 = .ok (.aload_n 0, 1) := dk_42 (dk_at dksX0_letter_1 22 rfl rfl)
theorem dX0_letter_47 : decode cX0_letter 47 = .ok (.getfield 71, 3) := dk_180 0 71 (dk_at dksX0_letter_2 0 rfl rfl)
theorem dX0_letter_50 : decode cX0_letter 50 = .ok (.ireturn, 1) := dk_172 (dk_at dksX0_letter_2 3 rfl rfl)
abbrev cX0_in : ByteArray := prog_1_method_1_code
def yX0_in : MethodName := ⟨RX0, "in", "(III)Z"⟩
def dkwX0_in_0 : List UInt8 := [26, 27, 161, 0, 12, 26, 28, 163, 0, 7, 4, 167, 0, 4, 3, 172]
abbrev dktX0_in_0 : List UInt8 := dkwX0_in_0 ++ []
theorem dksX0_in_0 : cX0_in.data.toList.drop 0 = dktX0_in_0 := by decide +kernel
theorem dX0_in_0 : decode cX0_in 0 = .ok (.iload_n 0, 1) := dk_26 (dk_at dksX0_in_0 0 rfl rfl)
theorem dX0_in_1 : decode cX0_in 1 = .ok (.iload_n 1, 1) := dk_27 (dk_at dksX0_in_0 1 rfl rfl)
theorem dX0_in_2 : decode cX0_in 2 = .ok (.if_icmp .lt 12, 3) := dk_161 0 12 (dk_at dksX0_in_0 2 rfl rfl)
theorem dX0_in_5 : decode cX0_in 5 = .ok (.iload_n 0, 1) := dk_26 (dk_at dksX0_in_0 5 rfl rfl)
theorem dX0_in_6 : decode cX0_in 6 = .ok (.iload_n 2, 1) := dk_28 (dk_at dksX0_in_0 6 rfl rfl)
theorem dX0_in_7 : decode cX0_in 7 = .ok (.if_icmp .gt 7, 3) := dk_163 0 7 (dk_at dksX0_in_0 7 rfl rfl)
theorem dX0_in_10 : decode cX0_in 10 = .ok (.iconst 1, 1) := dk_4 (dk_at dksX0_in_0 10 rfl rfl)
theorem dX0_in_11 : decode cX0_in 11 = .ok (.goto 4, 3) := dk_167 0 4 (dk_at dksX0_in_0 11 rfl rfl)
theorem dX0_in_14 : decode cX0_in 14 = .ok (.iconst 0, 1) := dk_3 (dk_at dksX0_in_0 14 rfl rfl)
theorem dX0_in_15 : decode cX0_in 15 = .ok (.ireturn, 1) := dk_172 (dk_at dksX0_in_0 15 rfl rfl)
abbrev cX0_blank : ByteArray := prog_1_method_10_code
def yX0_blank : MethodName := ⟨RX0, "blank", "()I"⟩
def dkwX0_blank_0 : List UInt8 := [42, 180, 0, 71, 60, 42, 3, 181, 0, 71, 27, 172]
abbrev dktX0_blank_0 : List UInt8 := dkwX0_blank_0 ++ []
theorem dksX0_blank_0 : cX0_blank.data.toList.drop 0 = dktX0_blank_0 := by decide +kernel
theorem dX0_blank_0 : decode cX0_blank 0 = .ok (.aload_n 0, 1) := dk_42 (dk_at dksX0_blank_0 0 rfl rfl)
theorem dX0_blank_1 : decode cX0_blank 1 = .ok (.getfield 71, 3) := dk_180 0 71 (dk_at dksX0_blank_0 1 rfl rfl)
theorem dX0_blank_4 : decode cX0_blank 4 = .ok (.istore_n 1, 1) := dk_60 (dk_at dksX0_blank_0 4 rfl rfl)
theorem dX0_blank_5 : decode cX0_blank 5 = .ok (.aload_n 0, 1) := dk_42 (dk_at dksX0_blank_0 5 rfl rfl)
theorem dX0_blank_6 : decode cX0_blank 6 = .ok (.iconst 0, 1) := dk_3 (dk_at dksX0_blank_0 6 rfl rfl)
theorem dX0_blank_7 : decode cX0_blank 7 = .ok (.putfield 71, 3) := dk_181 0 71 (dk_at dksX0_blank_0 7 rfl rfl)
theorem dX0_blank_10 : decode cX0_blank 10 = .ok (.iload_n 1, 1) := dk_27 (dk_at dksX0_blank_0 10 rfl rfl)
theorem dX0_blank_11 : decode cX0_blank 11 = .ok (.ireturn, 1) := dk_172 (dk_at dksX0_blank_0 11 rfl rfl)
abbrev cX0_fault : ByteArray := prog_1_method_11_code
def yX0_fault : MethodName := ⟨RX0, "fault", "()I"⟩
def dkwX0_fault_0 : List UInt8 := [187, 0, 75, 89, 42, 183, 0, 77, 182, 0, 78, 87, 42, 180, 0, 71, 172, 76, 43, 180, 0, 84, 172]
abbrev dktX0_fault_0 : List UInt8 := dkwX0_fault_0 ++ []
theorem dksX0_fault_0 : cX0_fault.data.toList.drop 0 = dktX0_fault_0 := by decide +kernel
theorem dX0_fault_0 : decode cX0_fault 0 = .ok (.new 75, 3) := dk_187 0 75 (dk_at dksX0_fault_0 0 rfl rfl)
theorem dX0_fault_3 : decode cX0_fault 3 = .ok (.dup, 1) := dk_89 (dk_at dksX0_fault_0 3 rfl rfl)
theorem dX0_fault_4 : decode cX0_fault 4 = .ok (.aload_n 0, 1) := dk_42 (dk_at dksX0_fault_0 4 rfl rfl)
theorem dX0_fault_5 : decode cX0_fault 5 = .ok (.invokespecial 77, 3) := dk_183 0 77 (dk_at dksX0_fault_0 5 rfl rfl)
theorem dX0_fault_8 : decode cX0_fault 8 = .ok (.invokevirtual 78, 3) := dk_182 0 78 (dk_at dksX0_fault_0 8 rfl rfl)
theorem dX0_fault_11 : decode cX0_fault 11 = .ok (.pop, 1) := dk_87 (dk_at dksX0_fault_0 11 rfl rfl)
theorem dX0_fault_12 : decode cX0_fault 12 = .ok (.aload_n 0, 1) := dk_42 (dk_at dksX0_fault_0 12 rfl rfl)
theorem dX0_fault_13 : decode cX0_fault 13 = .ok (.getfield 71, 3) := dk_180 0 71 (dk_at dksX0_fault_0 13 rfl rfl)
theorem dX0_fault_16 : decode cX0_fault 16 = .ok (.ireturn, 1) := dk_172 (dk_at dksX0_fault_0 16 rfl rfl)
theorem dX0_fault_17 : decode cX0_fault 17 = .ok (.astore_n 1, 1) := dk_76 (dk_at dksX0_fault_0 17 rfl rfl)
theorem dX0_fault_18 : decode cX0_fault 18 = .ok (.aload_n 1, 1) := dk_43 (dk_at dksX0_fault_0 18 rfl rfl)
theorem dX0_fault_19 : decode cX0_fault 19 = .ok (.getfield 84, 3) := dk_180 0 84 (dk_at dksX0_fault_0 19 rfl rfl)
theorem dX0_fault_22 : decode cX0_fault 22 = .ok (.ireturn, 1) := dk_172 (dk_at dksX0_fault_0 22 rfl rfl)
abbrev cX0_law : ByteArray := prog_1_method_12_code
def yX0_law : MethodName := ⟨RX0, "law", "()I"⟩
def dkwX0_law_3 : List UInt8 := [182, 0, 102, 42, 3, 181, 0, 105, 42, 3, 181, 0, 71, 42, 180, 0, 90, 172, 76, 16, 153, 172]
abbrev dktX0_law_3 : List UInt8 := dkwX0_law_3 ++ []
def dkwX0_law_2 : List UInt8 := [4, 181, 0, 92, 42, 89, 180, 0, 96, 4, 96, 181, 0, 96, 42, 3, 181, 0, 99, 42, 180, 0, 10]
abbrev dktX0_law_2 : List UInt8 := dkwX0_law_2 ++ dktX0_law_3
def dkwX0_law_1 : List UInt8 := [16, 6, 162, 0, 21, 42, 180, 0, 16, 28, 43, 180, 0, 91, 28, 46, 79, 132, 2, 1, 167, 255, 235, 42]
abbrev dktX0_law_1 : List UInt8 := dkwX0_law_1 ++ dktX0_law_2
def dkwX0_law_0 : List UInt8 := [187, 0, 75, 89, 42, 183, 0, 77, 182, 0, 78, 76, 42, 43, 180, 0, 87, 181, 0, 90, 3, 61, 28]
abbrev dktX0_law_0 : List UInt8 := dkwX0_law_0 ++ dktX0_law_1
theorem dksX0_law_0 : cX0_law.data.toList.drop 0 = dktX0_law_0 := by decide +kernel
theorem dksX0_law_1 : cX0_law.data.toList.drop 23 = dktX0_law_1 := dk_seg dksX0_law_0 23 rfl rfl
theorem dksX0_law_2 : cX0_law.data.toList.drop 47 = dktX0_law_2 := dk_seg dksX0_law_1 24 rfl rfl
theorem dksX0_law_3 : cX0_law.data.toList.drop 70 = dktX0_law_3 := dk_seg dksX0_law_2 23 rfl rfl
theorem dX0_law_0 : decode cX0_law 0 = .ok (.new 75, 3) := dk_187 0 75 (dk_at dksX0_law_0 0 rfl rfl)
theorem dX0_law_3 : decode cX0_law 3 = .ok (.dup, 1) := dk_89 (dk_at dksX0_law_0 3 rfl rfl)
theorem dX0_law_4 : decode cX0_law 4 = .ok (.aload_n 0, 1) := dk_42 (dk_at dksX0_law_0 4 rfl rfl)
theorem dX0_law_5 : decode cX0_law 5 = .ok (.invokespecial 77, 3) := dk_183 0 77 (dk_at dksX0_law_0 5 rfl rfl)
theorem dX0_law_8 : decode cX0_law 8 = .ok (.invokevirtual 78, 3) := dk_182 0 78 (dk_at dksX0_law_0 8 rfl rfl)
theorem dX0_law_11 : decode cX0_law 11 = .ok (.astore_n 1, 1) := dk_76 (dk_at dksX0_law_0 11 rfl rfl)
theorem dX0_law_12 : decode cX0_law 12 = .ok (.aload_n 0, 1) := dk_42 (dk_at dksX0_law_0 12 rfl rfl)
theorem dX0_law_13 : decode cX0_law 13 = .ok (.aload_n 1, 1) := dk_43 (dk_at dksX0_law_0 13 rfl rfl)
theorem dX0_law_14 : decode cX0_law 14 = .ok (.getfield 87, 3) := dk_180 0 87 (dk_at dksX0_law_0 14 rfl rfl)
theorem dX0_law_17 : decode cX0_law 17 = .ok (.putfield 90, 3) := dk_181 0 90 (dk_at dksX0_law_0 17 rfl rfl)
theorem dX0_law_20 : decode cX0_law 20 = .ok (.iconst 0, 1) := dk_3 (dk_at dksX0_law_0 20 rfl rfl)
theorem dX0_law_21 : decode cX0_law 21 = .ok (.istore_n 2, 1) := dk_61 (dk_at dksX0_law_0 21 rfl rfl)
theorem dX0_law_22 : decode cX0_law 22 = .ok (.iload_n 2, 1) := dk_28 (dk_at dksX0_law_0 22 rfl rfl)
theorem dX0_law_23 : decode cX0_law 23 = .ok (.bipush 6, 2) := dk_16 6 (dk_at dksX0_law_1 0 rfl rfl)
theorem dX0_law_25 : decode cX0_law 25 = .ok (.if_icmp .ge 21, 3) := dk_162 0 21 (dk_at dksX0_law_1 2 rfl rfl)
theorem dX0_law_28 : decode cX0_law 28 = .ok (.aload_n 0, 1) := dk_42 (dk_at dksX0_law_1 5 rfl rfl)
theorem dX0_law_29 : decode cX0_law 29 = .ok (.getfield 16, 3) := dk_180 0 16 (dk_at dksX0_law_1 6 rfl rfl)
theorem dX0_law_32 : decode cX0_law 32 = .ok (.iload_n 2, 1) := dk_28 (dk_at dksX0_law_1 9 rfl rfl)
theorem dX0_law_33 : decode cX0_law 33 = .ok (.aload_n 1, 1) := dk_43 (dk_at dksX0_law_1 10 rfl rfl)
theorem dX0_law_34 : decode cX0_law 34 = .ok (.getfield 91, 3) := dk_180 0 91 (dk_at dksX0_law_1 11 rfl rfl)
theorem dX0_law_37 : decode cX0_law 37 = .ok (.iload_n 2, 1) := dk_28 (dk_at dksX0_law_1 14 rfl rfl)
theorem dX0_law_38 : decode cX0_law 38 = .ok (.iaload, 1) := dk_46 (dk_at dksX0_law_1 15 rfl rfl)
theorem dX0_law_39 : decode cX0_law 39 = .ok (.iastore, 1) := dk_79 (dk_at dksX0_law_1 16 rfl rfl)
theorem dX0_law_40 : decode cX0_law 40 = .ok (.iinc 2 1, 3) := dk_132 2 1 (dk_at dksX0_law_1 17 rfl rfl)
theorem dX0_law_43 : decode cX0_law 43 = .ok (.goto (-21), 3) := dk_167 255 235 (dk_at dksX0_law_1 20 rfl rfl)
theorem dX0_law_46 : decode cX0_law 46 = .ok (.aload_n 0, 1) := dk_42 (dk_at dksX0_law_1 23 rfl rfl)
theorem dX0_law_47 : decode cX0_law 47 = .ok (.iconst 1, 1) := dk_4 (dk_at dksX0_law_2 0 rfl rfl)
theorem dX0_law_48 : decode cX0_law 48 = .ok (.putfield 92, 3) := dk_181 0 92 (dk_at dksX0_law_2 1 rfl rfl)
theorem dX0_law_51 : decode cX0_law 51 = .ok (.aload_n 0, 1) := dk_42 (dk_at dksX0_law_2 4 rfl rfl)
theorem dX0_law_52 : decode cX0_law 52 = .ok (.dup, 1) := dk_89 (dk_at dksX0_law_2 5 rfl rfl)
theorem dX0_law_53 : decode cX0_law 53 = .ok (.getfield 96, 3) := dk_180 0 96 (dk_at dksX0_law_2 6 rfl rfl)
theorem dX0_law_56 : decode cX0_law 56 = .ok (.iconst 1, 1) := dk_4 (dk_at dksX0_law_2 9 rfl rfl)
theorem dX0_law_57 : decode cX0_law 57 = .ok (.iadd, 1) := dk_96 (dk_at dksX0_law_2 10 rfl rfl)
theorem dX0_law_58 : decode cX0_law 58 = .ok (.putfield 96, 3) := dk_181 0 96 (dk_at dksX0_law_2 11 rfl rfl)
theorem dX0_law_61 : decode cX0_law 61 = .ok (.aload_n 0, 1) := dk_42 (dk_at dksX0_law_2 14 rfl rfl)
theorem dX0_law_62 : decode cX0_law 62 = .ok (.iconst 0, 1) := dk_3 (dk_at dksX0_law_2 15 rfl rfl)
theorem dX0_law_63 : decode cX0_law 63 = .ok (.putfield 99, 3) := dk_181 0 99 (dk_at dksX0_law_2 16 rfl rfl)
theorem dX0_law_66 : decode cX0_law 66 = .ok (.aload_n 0, 1) := dk_42 (dk_at dksX0_law_2 19 rfl rfl)
theorem dX0_law_67 : decode cX0_law 67 = .ok (.getfield 10, 3) := dk_180 0 10 (dk_at dksX0_law_2 20 rfl rfl)
theorem dX0_law_70 : decode cX0_law 70 = .ok (.invokevirtual 102, 3) := dk_182 0 102 (dk_at dksX0_law_3 0 rfl rfl)
theorem dX0_law_73 : decode cX0_law 73 = .ok (.aload_n 0, 1) := dk_42 (dk_at dksX0_law_3 3 rfl rfl)
theorem dX0_law_74 : decode cX0_law 74 = .ok (.iconst 0, 1) := dk_3 (dk_at dksX0_law_3 4 rfl rfl)
theorem dX0_law_75 : decode cX0_law 75 = .ok (.putfield 105, 3) := dk_181 0 105 (dk_at dksX0_law_3 5 rfl rfl)
theorem dX0_law_78 : decode cX0_law 78 = .ok (.aload_n 0, 1) := dk_42 (dk_at dksX0_law_3 8 rfl rfl)
theorem dX0_law_79 : decode cX0_law 79 = .ok (.iconst 0, 1) := dk_3 (dk_at dksX0_law_3 9 rfl rfl)
theorem dX0_law_80 : decode cX0_law 80 = .ok (.putfield 71, 3) := dk_181 0 71 (dk_at dksX0_law_3 10 rfl rfl)
theorem dX0_law_83 : decode cX0_law 83 = .ok (.aload_n 0, 1) := dk_42 (dk_at dksX0_law_3 13 rfl rfl)
theorem dX0_law_84 : decode cX0_law 84 = .ok (.getfield 90, 3) := dk_180 0 90 (dk_at dksX0_law_3 14 rfl rfl)
theorem dX0_law_87 : decode cX0_law 87 = .ok (.ireturn, 1) := dk_172 (dk_at dksX0_law_3 17 rfl rfl)
theorem dX0_law_88 : decode cX0_law 88 = .ok (.astore_n 1, 1) := dk_76 (dk_at dksX0_law_3 18 rfl rfl)
theorem dX0_law_89 : decode cX0_law 89 = .ok (.bipush (-103), 2) := dk_16 153 (dk_at dksX0_law_3 19 rfl rfl)
theorem dX0_law_91 : decode cX0_law 91 = .ok (.ireturn, 1) := dk_172 (dk_at dksX0_law_3 21 rfl rfl)
abbrev cX0_under : ByteArray := prog_1_method_13_code
def yX0_under : MethodName := ⟨RX0, "under", "(II)I"⟩
def dkwX0_under_1 : List UInt8 := [28, 154, 0, 12, 42, 180, 0, 16, 27, 46, 167, 0, 11, 42, 180, 0, 25, 27, 182, 0, 112, 172]
abbrev dktX0_under_1 : List UInt8 := dkwX0_under_1 ++ []
def dkwX0_under_0 : List UInt8 := [27, 184, 0, 108, 154, 0, 6, 16, 155, 172, 28, 3, 4, 184, 0, 67, 154, 0, 8, 16, 154, 167, 0, 24]
abbrev dktX0_under_0 : List UInt8 := dkwX0_under_0 ++ dktX0_under_1
theorem dksX0_under_0 : cX0_under.data.toList.drop 0 = dktX0_under_0 := by decide +kernel
theorem dksX0_under_1 : cX0_under.data.toList.drop 24 = dktX0_under_1 := dk_seg dksX0_under_0 24 rfl rfl
theorem dX0_under_0 : decode cX0_under 0 = .ok (.iload_n 1, 1) := dk_27 (dk_at dksX0_under_0 0 rfl rfl)
theorem dX0_under_1 : decode cX0_under 1 = .ok (.invokestatic 108, 3) := dk_184 0 108 (dk_at dksX0_under_0 1 rfl rfl)
theorem dX0_under_4 : decode cX0_under 4 = .ok (.ifCond .ne 6, 3) := dk_154 0 6 (dk_at dksX0_under_0 4 rfl rfl)
theorem dX0_under_7 : decode cX0_under 7 = .ok (.bipush (-101), 2) := dk_16 155 (dk_at dksX0_under_0 7 rfl rfl)
theorem dX0_under_9 : decode cX0_under 9 = .ok (.ireturn, 1) := dk_172 (dk_at dksX0_under_0 9 rfl rfl)
theorem dX0_under_10 : decode cX0_under 10 = .ok (.iload_n 2, 1) := dk_28 (dk_at dksX0_under_0 10 rfl rfl)
theorem dX0_under_11 : decode cX0_under 11 = .ok (.iconst 0, 1) := dk_3 (dk_at dksX0_under_0 11 rfl rfl)
theorem dX0_under_12 : decode cX0_under 12 = .ok (.iconst 1, 1) := dk_4 (dk_at dksX0_under_0 12 rfl rfl)
theorem dX0_under_13 : decode cX0_under 13 = .ok (.invokestatic 67, 3) := dk_184 0 67 (dk_at dksX0_under_0 13 rfl rfl)
theorem dX0_under_16 : decode cX0_under 16 = .ok (.ifCond .ne 8, 3) := dk_154 0 8 (dk_at dksX0_under_0 16 rfl rfl)
theorem dX0_under_19 : decode cX0_under 19 = .ok (.bipush (-102), 2) := dk_16 154 (dk_at dksX0_under_0 19 rfl rfl)
theorem dX0_under_21 : decode cX0_under 21 = .ok (.goto 24, 3) := dk_167 0 24 (dk_at dksX0_under_0 21 rfl rfl)
theorem dX0_under_24 : decode cX0_under 24 = .ok (.iload_n 2, 1) := dk_28 (dk_at dksX0_under_1 0 rfl rfl)
theorem dX0_under_25 : decode cX0_under 25 = .ok (.ifCond .ne 12, 3) := dk_154 0 12 (dk_at dksX0_under_1 1 rfl rfl)
theorem dX0_under_28 : decode cX0_under 28 = .ok (.aload_n 0, 1) := dk_42 (dk_at dksX0_under_1 4 rfl rfl)
theorem dX0_under_29 : decode cX0_under 29 = .ok (.getfield 16, 3) := dk_180 0 16 (dk_at dksX0_under_1 5 rfl rfl)
theorem dX0_under_32 : decode cX0_under 32 = .ok (.iload_n 1, 1) := dk_27 (dk_at dksX0_under_1 8 rfl rfl)
theorem dX0_under_33 : decode cX0_under 33 = .ok (.iaload, 1) := dk_46 (dk_at dksX0_under_1 9 rfl rfl)
theorem dX0_under_34 : decode cX0_under 34 = .ok (.goto 11, 3) := dk_167 0 11 (dk_at dksX0_under_1 10 rfl rfl)
theorem dX0_under_37 : decode cX0_under 37 = .ok (.aload_n 0, 1) := dk_42 (dk_at dksX0_under_1 13 rfl rfl)
theorem dX0_under_38 : decode cX0_under 38 = .ok (.getfield 25, 3) := dk_180 0 25 (dk_at dksX0_under_1 14 rfl rfl)
theorem dX0_under_41 : decode cX0_under 41 = .ok (.iload_n 1, 1) := dk_27 (dk_at dksX0_under_1 17 rfl rfl)
theorem dX0_under_42 : decode cX0_under 42 = .ok (.invokevirtual 112, 3) := dk_182 0 112 (dk_at dksX0_under_1 18 rfl rfl)
theorem dX0_under_45 : decode cX0_under 45 = .ok (.ireturn, 1) := dk_172 (dk_at dksX0_under_1 21 rfl rfl)
abbrev cX0_isLetter : ByteArray := prog_1_method_8_code
def yX0_isLetter : MethodName := ⟨RX0, "isLetter", "(I)Z"⟩
def dkwX0_isLetter_0 : List UInt8 := [26, 3, 8, 184, 0, 67, 172]
abbrev dktX0_isLetter_0 : List UInt8 := dkwX0_isLetter_0 ++ []
theorem dksX0_isLetter_0 : cX0_isLetter.data.toList.drop 0 = dktX0_isLetter_0 := by decide +kernel
theorem dX0_isLetter_0 : decode cX0_isLetter 0 = .ok (.iload_n 0, 1) := dk_26 (dk_at dksX0_isLetter_0 0 rfl rfl)
theorem dX0_isLetter_1 : decode cX0_isLetter 1 = .ok (.iconst 0, 1) := dk_3 (dk_at dksX0_isLetter_0 1 rfl rfl)
theorem dX0_isLetter_2 : decode cX0_isLetter 2 = .ok (.iconst 5, 1) := dk_8 (dk_at dksX0_isLetter_0 2 rfl rfl)
theorem dX0_isLetter_3 : decode cX0_isLetter 3 = .ok (.invokestatic 67, 3) := dk_184 0 67 (dk_at dksX0_isLetter_0 3 rfl rfl)
theorem dX0_isLetter_6 : decode cX0_isLetter 6 = .ok (.ireturn, 1) := dk_172 (dk_at dksX0_isLetter_0 6 rfl rfl)
abbrev cX0_file : ByteArray := prog_1_method_14_code
def yX0_file : MethodName := ⟨RX0, "file", "(II)I"⟩
def dkwX0_file_4 : List UInt8 := [180, 0, 25, 180, 0, 122, 29, 3, 79, 42, 180, 0, 10, 27, 184, 0, 124, 182, 0, 128, 87, 29, 172]
abbrev dktX0_file_4 : List UInt8 := dkwX0_file_4 ++ []
def dkwX0_file_3 : List UInt8 := [180, 0, 25, 180, 0, 116, 29, 4, 28, 120, 79, 42, 180, 0, 25, 180, 0, 119, 29, 2, 79, 42]
abbrev dktX0_file_3 : List UInt8 := dkwX0_file_3 ++ dktX0_file_4
def dkwX0_file_2 : List UInt8 := [42, 180, 0, 10, 182, 0, 63, 8, 160, 0, 6, 16, 152, 172, 42, 180, 0, 10, 182, 0, 63, 62, 42]
abbrev dktX0_file_2 : List UInt8 := dkwX0_file_2 ++ dktX0_file_3
def dkwX0_file_1 : List UInt8 := [180, 0, 92, 153, 0, 18, 42, 180, 0, 25, 28, 182, 0, 112, 42, 180, 0, 90, 161, 0, 6, 16, 153, 172]
abbrev dktX0_file_1 : List UInt8 := dkwX0_file_1 ++ dktX0_file_2
def dkwX0_file_0 : List UInt8 := [27, 3, 7, 184, 0, 67, 154, 0, 6, 16, 154, 172, 28, 184, 0, 108, 154, 0, 6, 16, 155, 172, 42]
abbrev dktX0_file_0 : List UInt8 := dkwX0_file_0 ++ dktX0_file_1
theorem dksX0_file_0 : cX0_file.data.toList.drop 0 = dktX0_file_0 := by decide +kernel
theorem dksX0_file_1 : cX0_file.data.toList.drop 23 = dktX0_file_1 := dk_seg dksX0_file_0 23 rfl rfl
theorem dksX0_file_2 : cX0_file.data.toList.drop 47 = dktX0_file_2 := dk_seg dksX0_file_1 24 rfl rfl
theorem dksX0_file_3 : cX0_file.data.toList.drop 70 = dktX0_file_3 := dk_seg dksX0_file_2 23 rfl rfl
theorem dksX0_file_4 : cX0_file.data.toList.drop 92 = dktX0_file_4 := dk_seg dksX0_file_3 22 rfl rfl
theorem dX0_file_0 : decode cX0_file 0 = .ok (.iload_n 1, 1) := dk_27 (dk_at dksX0_file_0 0 rfl rfl)
theorem dX0_file_1 : decode cX0_file 1 = .ok (.iconst 0, 1) := dk_3 (dk_at dksX0_file_0 1 rfl rfl)
theorem dX0_file_2 : decode cX0_file 2 = .ok (.iconst 4, 1) := dk_7 (dk_at dksX0_file_0 2 rfl rfl)
theorem dX0_file_3 : decode cX0_file 3 = .ok (.invokestatic 67, 3) := dk_184 0 67 (dk_at dksX0_file_0 3 rfl rfl)
theorem dX0_file_6 : decode cX0_file 6 = .ok (.ifCond .ne 6, 3) := dk_154 0 6 (dk_at dksX0_file_0 6 rfl rfl)
theorem dX0_file_9 : decode cX0_file 9 = .ok (.bipush (-102), 2) := dk_16 154 (dk_at dksX0_file_0 9 rfl rfl)
theorem dX0_file_11 : decode cX0_file 11 = .ok (.ireturn, 1) := dk_172 (dk_at dksX0_file_0 11 rfl rfl)
theorem dX0_file_12 : decode cX0_file 12 = .ok (.iload_n 2, 1) := dk_28 (dk_at dksX0_file_0 12 rfl rfl)
theorem dX0_file_13 : decode cX0_file 13 = .ok (.invokestatic 108, 3) := dk_184 0 108 (dk_at dksX0_file_0 13 rfl rfl)
theorem dX0_file_16 : decode cX0_file 16 = .ok (.ifCond .ne 6, 3) := dk_154 0 6 (dk_at dksX0_file_0 16 rfl rfl)
theorem dX0_file_19 : decode cX0_file 19 = .ok (.bipush (-101), 2) := dk_16 155 (dk_at dksX0_file_0 19 rfl rfl)
theorem dX0_file_21 : decode cX0_file 21 = .ok (.ireturn, 1) := dk_172 (dk_at dksX0_file_0 21 rfl rfl)
theorem dX0_file_22 : decode cX0_file 22 = .ok (.aload_n 0, 1) := dk_42 (dk_at dksX0_file_0 22 rfl rfl)
theorem dX0_file_23 : decode cX0_file 23 = .ok (.getfield 92, 3) := dk_180 0 92 (dk_at dksX0_file_1 0 rfl rfl)
theorem dX0_file_26 : decode cX0_file 26 = .ok (.ifCond .eq 18, 3) := dk_153 0 18 (dk_at dksX0_file_1 3 rfl rfl)
theorem dX0_file_29 : decode cX0_file 29 = .ok (.aload_n 0, 1) := dk_42 (dk_at dksX0_file_1 6 rfl rfl)
theorem dX0_file_30 : decode cX0_file 30 = .ok (.getfield 25, 3) := dk_180 0 25 (dk_at dksX0_file_1 7 rfl rfl)
theorem dX0_file_33 : decode cX0_file 33 = .ok (.iload_n 2, 1) := dk_28 (dk_at dksX0_file_1 10 rfl rfl)
theorem dX0_file_34 : decode cX0_file 34 = .ok (.invokevirtual 112, 3) := dk_182 0 112 (dk_at dksX0_file_1 11 rfl rfl)
theorem dX0_file_37 : decode cX0_file 37 = .ok (.aload_n 0, 1) := dk_42 (dk_at dksX0_file_1 14 rfl rfl)
theorem dX0_file_38 : decode cX0_file 38 = .ok (.getfield 90, 3) := dk_180 0 90 (dk_at dksX0_file_1 15 rfl rfl)
theorem dX0_file_41 : decode cX0_file 41 = .ok (.if_icmp .lt 6, 3) := dk_161 0 6 (dk_at dksX0_file_1 18 rfl rfl)
theorem dX0_file_44 : decode cX0_file 44 = .ok (.bipush (-103), 2) := dk_16 153 (dk_at dksX0_file_1 21 rfl rfl)
theorem dX0_file_46 : decode cX0_file 46 = .ok (.ireturn, 1) := dk_172 (dk_at dksX0_file_1 23 rfl rfl)
theorem dX0_file_47 : decode cX0_file 47 = .ok (.aload_n 0, 1) := dk_42 (dk_at dksX0_file_2 0 rfl rfl)
theorem dX0_file_48 : decode cX0_file 48 = .ok (.getfield 10, 3) := dk_180 0 10 (dk_at dksX0_file_2 1 rfl rfl)
theorem dX0_file_51 : decode cX0_file 51 = .ok (.invokevirtual 63, 3) := dk_182 0 63 (dk_at dksX0_file_2 4 rfl rfl)
theorem dX0_file_54 : decode cX0_file 54 = .ok (.iconst 5, 1) := dk_8 (dk_at dksX0_file_2 7 rfl rfl)
theorem dX0_file_55 : decode cX0_file 55 = .ok (.if_icmp .ne 6, 3) := dk_160 0 6 (dk_at dksX0_file_2 8 rfl rfl)
theorem dX0_file_58 : decode cX0_file 58 = .ok (.bipush (-104), 2) := dk_16 152 (dk_at dksX0_file_2 11 rfl rfl)
theorem dX0_file_60 : decode cX0_file 60 = .ok (.ireturn, 1) := dk_172 (dk_at dksX0_file_2 13 rfl rfl)
theorem dX0_file_61 : decode cX0_file 61 = .ok (.aload_n 0, 1) := dk_42 (dk_at dksX0_file_2 14 rfl rfl)
theorem dX0_file_62 : decode cX0_file 62 = .ok (.getfield 10, 3) := dk_180 0 10 (dk_at dksX0_file_2 15 rfl rfl)
theorem dX0_file_65 : decode cX0_file 65 = .ok (.invokevirtual 63, 3) := dk_182 0 63 (dk_at dksX0_file_2 18 rfl rfl)
theorem dX0_file_68 : decode cX0_file 68 = .ok (.istore_n 3, 1) := dk_62 (dk_at dksX0_file_2 21 rfl rfl)
theorem dX0_file_69 : decode cX0_file 69 = .ok (.aload_n 0, 1) := dk_42 (dk_at dksX0_file_2 22 rfl rfl)
theorem dX0_file_70 : decode cX0_file 70 = .ok (.getfield 25, 3) := dk_180 0 25 (dk_at dksX0_file_3 0 rfl rfl)
theorem dX0_file_73 : decode cX0_file 73 = .ok (.getfield 116, 3) := dk_180 0 116 (dk_at dksX0_file_3 3 rfl rfl)
theorem dX0_file_76 : decode cX0_file 76 = .ok (.iload_n 3, 1) := dk_29 (dk_at dksX0_file_3 6 rfl rfl)
theorem dX0_file_77 : decode cX0_file 77 = .ok (.iconst 1, 1) := dk_4 (dk_at dksX0_file_3 7 rfl rfl)
theorem dX0_file_78 : decode cX0_file 78 = .ok (.iload_n 2, 1) := dk_28 (dk_at dksX0_file_3 8 rfl rfl)
theorem dX0_file_79 : decode cX0_file 79 = .ok (.ishl, 1) := dk_120 (dk_at dksX0_file_3 9 rfl rfl)
theorem dX0_file_80 : decode cX0_file 80 = .ok (.iastore, 1) := dk_79 (dk_at dksX0_file_3 10 rfl rfl)
theorem dX0_file_81 : decode cX0_file 81 = .ok (.aload_n 0, 1) := dk_42 (dk_at dksX0_file_3 11 rfl rfl)
theorem dX0_file_82 : decode cX0_file 82 = .ok (.getfield 25, 3) := dk_180 0 25 (dk_at dksX0_file_3 12 rfl rfl)
theorem dX0_file_85 : decode cX0_file 85 = .ok (.getfield 119, 3) := dk_180 0 119 (dk_at dksX0_file_3 15 rfl rfl)
theorem dX0_file_88 : decode cX0_file 88 = .ok (.iload_n 3, 1) := dk_29 (dk_at dksX0_file_3 18 rfl rfl)
theorem dX0_file_89 : decode cX0_file 89 = .ok (.iconst (-1), 1) := dk_2 (dk_at dksX0_file_3 19 rfl rfl)
theorem dX0_file_90 : decode cX0_file 90 = .ok (.iastore, 1) := dk_79 (dk_at dksX0_file_3 20 rfl rfl)
theorem dX0_file_91 : decode cX0_file 91 = .ok (.aload_n 0, 1) := dk_42 (dk_at dksX0_file_3 21 rfl rfl)
theorem dX0_file_92 : decode cX0_file 92 = .ok (.getfield 25, 3) := dk_180 0 25 (dk_at dksX0_file_4 0 rfl rfl)
theorem dX0_file_95 : decode cX0_file 95 = .ok (.getfield 122, 3) := dk_180 0 122 (dk_at dksX0_file_4 3 rfl rfl)
theorem dX0_file_98 : decode cX0_file 98 = .ok (.iload_n 3, 1) := dk_29 (dk_at dksX0_file_4 6 rfl rfl)
theorem dX0_file_99 : decode cX0_file 99 = .ok (.iconst 0, 1) := dk_3 (dk_at dksX0_file_4 7 rfl rfl)
theorem dX0_file_100 : decode cX0_file 100 = .ok (.iastore, 1) := dk_79 (dk_at dksX0_file_4 8 rfl rfl)
theorem dX0_file_101 : decode cX0_file 101 = .ok (.aload_n 0, 1) := dk_42 (dk_at dksX0_file_4 9 rfl rfl)
theorem dX0_file_102 : decode cX0_file 102 = .ok (.getfield 10, 3) := dk_180 0 10 (dk_at dksX0_file_4 10 rfl rfl)
theorem dX0_file_105 : decode cX0_file 105 = .ok (.iload_n 1, 1) := dk_27 (dk_at dksX0_file_4 13 rfl rfl)
theorem dX0_file_106 : decode cX0_file 106 = .ok (.invokestatic 124, 3) := dk_184 0 124 (dk_at dksX0_file_4 14 rfl rfl)
theorem dX0_file_109 : decode cX0_file 109 = .ok (.invokevirtual 128, 3) := dk_182 0 128 (dk_at dksX0_file_4 17 rfl rfl)
theorem dX0_file_112 : decode cX0_file 112 = .ok (.pop, 1) := dk_87 (dk_at dksX0_file_4 20 rfl rfl)
theorem dX0_file_113 : decode cX0_file 113 = .ok (.iload_n 3, 1) := dk_29 (dk_at dksX0_file_4 21 rfl rfl)
theorem dX0_file_114 : decode cX0_file 114 = .ok (.ireturn, 1) := dk_172 (dk_at dksX0_file_4 22 rfl rfl)
abbrev cX0_made : ByteArray := prog_1_method_6_code
def yX0_made : MethodName := ⟨RX0, "made", "(I)LBurntLetters$Paper;"⟩
def dkwX0_made_3 : List UInt8 := [187, 0, 57, 89, 183, 0, 59, 176, 187, 0, 60, 89, 183, 0, 62, 176]
abbrev dktX0_made_3 : List UInt8 := dkwX0_made_3 ++ []
def dkwX0_made_2 : List UInt8 := [187, 0, 48, 89, 183, 0, 50, 176, 187, 0, 51, 89, 183, 0, 53, 176, 187, 0, 54, 89, 183, 0, 56, 176]
abbrev dktX0_made_2 : List UInt8 := dkwX0_made_2 ++ dktX0_made_3
def dkwX0_made_1 : List UInt8 := [170, 0, 0, 0, 0, 0, 63, 0, 0, 0, 1, 0, 0, 0, 4, 0, 0, 0, 31, 0, 0, 0, 39, 0, 0, 0, 47, 0, 0, 0, 55]
abbrev dktX0_made_1 : List UInt8 := dkwX0_made_1 ++ dktX0_made_2
def dkwX0_made_0 : List UInt8 := [26]
abbrev dktX0_made_0 : List UInt8 := dkwX0_made_0 ++ dktX0_made_1
theorem dksX0_made_0 : cX0_made.data.toList.drop 0 = dktX0_made_0 := by decide +kernel
theorem dksX0_made_1 : cX0_made.data.toList.drop 1 = dktX0_made_1 := dk_seg dksX0_made_0 1 rfl rfl
theorem dksX0_made_2 : cX0_made.data.toList.drop 32 = dktX0_made_2 := dk_seg dksX0_made_1 31 rfl rfl
theorem dksX0_made_3 : cX0_made.data.toList.drop 56 = dktX0_made_3 := dk_seg dksX0_made_2 24 rfl rfl
theorem dX0_made_0 : decode cX0_made 0 = .ok (.iload_n 0, 1) := dk_26 (dk_at dksX0_made_0 0 rfl rfl)
theorem dX0_made_1 : decode cX0_made 1 = .ok (.tableswitch 63 1 4 #[31, 39, 47, 55], 31) := by decide +kernel
theorem dX0_made_32 : decode cX0_made 32 = .ok (.new 48, 3) := dk_187 0 48 (dk_at dksX0_made_2 0 rfl rfl)
theorem dX0_made_35 : decode cX0_made 35 = .ok (.dup, 1) := dk_89 (dk_at dksX0_made_2 3 rfl rfl)
theorem dX0_made_36 : decode cX0_made 36 = .ok (.invokespecial 50, 3) := dk_183 0 50 (dk_at dksX0_made_2 4 rfl rfl)
theorem dX0_made_39 : decode cX0_made 39 = .ok (.areturn, 1) := dk_176 (dk_at dksX0_made_2 7 rfl rfl)
theorem dX0_made_40 : decode cX0_made 40 = .ok (.new 51, 3) := dk_187 0 51 (dk_at dksX0_made_2 8 rfl rfl)
theorem dX0_made_43 : decode cX0_made 43 = .ok (.dup, 1) := dk_89 (dk_at dksX0_made_2 11 rfl rfl)
theorem dX0_made_44 : decode cX0_made 44 = .ok (.invokespecial 53, 3) := dk_183 0 53 (dk_at dksX0_made_2 12 rfl rfl)
theorem dX0_made_47 : decode cX0_made 47 = .ok (.areturn, 1) := dk_176 (dk_at dksX0_made_2 15 rfl rfl)
theorem dX0_made_48 : decode cX0_made 48 = .ok (.new 54, 3) := dk_187 0 54 (dk_at dksX0_made_2 16 rfl rfl)
theorem dX0_made_51 : decode cX0_made 51 = .ok (.dup, 1) := dk_89 (dk_at dksX0_made_2 19 rfl rfl)
theorem dX0_made_52 : decode cX0_made 52 = .ok (.invokespecial 56, 3) := dk_183 0 56 (dk_at dksX0_made_2 20 rfl rfl)
theorem dX0_made_55 : decode cX0_made 55 = .ok (.areturn, 1) := dk_176 (dk_at dksX0_made_2 23 rfl rfl)
theorem dX0_made_56 : decode cX0_made 56 = .ok (.new 57, 3) := dk_187 0 57 (dk_at dksX0_made_3 0 rfl rfl)
theorem dX0_made_59 : decode cX0_made 59 = .ok (.dup, 1) := dk_89 (dk_at dksX0_made_3 3 rfl rfl)
theorem dX0_made_60 : decode cX0_made 60 = .ok (.invokespecial 59, 3) := dk_183 0 59 (dk_at dksX0_made_3 4 rfl rfl)
theorem dX0_made_63 : decode cX0_made 63 = .ok (.areturn, 1) := dk_176 (dk_at dksX0_made_3 7 rfl rfl)
theorem dX0_made_64 : decode cX0_made 64 = .ok (.new 60, 3) := dk_187 0 60 (dk_at dksX0_made_3 8 rfl rfl)
theorem dX0_made_67 : decode cX0_made 67 = .ok (.dup, 1) := dk_89 (dk_at dksX0_made_3 11 rfl rfl)
theorem dX0_made_68 : decode cX0_made 68 = .ok (.invokespecial 62, 3) := dk_183 0 62 (dk_at dksX0_made_3 12 rfl rfl)
theorem dX0_made_71 : decode cX0_made 71 = .ok (.areturn, 1) := dk_176 (dk_at dksX0_made_3 15 rfl rfl)
abbrev cX0_about : ByteArray := prog_1_method_16_code
def yX0_about : MethodName := ⟨RX0, "about", "(II)I"⟩
def dkwX0_about_1 : List UInt8 := [28, 182, 0, 148, 167, 0, 5, 16, 154, 172]
abbrev dktX0_about_1 : List UInt8 := dkwX0_about_1 ++ []
def dkwX0_about_0 : List UInt8 := [42, 27, 182, 0, 145, 154, 0, 8, 16, 155, 167, 0, 23, 28, 3, 8, 184, 0, 67, 153, 0, 12, 42, 27]
abbrev dktX0_about_0 : List UInt8 := dkwX0_about_0 ++ dktX0_about_1
theorem dksX0_about_0 : cX0_about.data.toList.drop 0 = dktX0_about_0 := by decide +kernel
theorem dksX0_about_1 : cX0_about.data.toList.drop 24 = dktX0_about_1 := dk_seg dksX0_about_0 24 rfl rfl
theorem dX0_about_0 : decode cX0_about 0 = .ok (.aload_n 0, 1) := dk_42 (dk_at dksX0_about_0 0 rfl rfl)
theorem dX0_about_1 : decode cX0_about 1 = .ok (.iload_n 1, 1) := dk_27 (dk_at dksX0_about_0 1 rfl rfl)
theorem dX0_about_2 : decode cX0_about 2 = .ok (.invokevirtual 145, 3) := dk_182 0 145 (dk_at dksX0_about_0 2 rfl rfl)
theorem dX0_about_5 : decode cX0_about 5 = .ok (.ifCond .ne 8, 3) := dk_154 0 8 (dk_at dksX0_about_0 5 rfl rfl)
theorem dX0_about_8 : decode cX0_about 8 = .ok (.bipush (-101), 2) := dk_16 155 (dk_at dksX0_about_0 8 rfl rfl)
theorem dX0_about_10 : decode cX0_about 10 = .ok (.goto 23, 3) := dk_167 0 23 (dk_at dksX0_about_0 10 rfl rfl)
theorem dX0_about_13 : decode cX0_about 13 = .ok (.iload_n 2, 1) := dk_28 (dk_at dksX0_about_0 13 rfl rfl)
theorem dX0_about_14 : decode cX0_about 14 = .ok (.iconst 0, 1) := dk_3 (dk_at dksX0_about_0 14 rfl rfl)
theorem dX0_about_15 : decode cX0_about 15 = .ok (.iconst 5, 1) := dk_8 (dk_at dksX0_about_0 15 rfl rfl)
theorem dX0_about_16 : decode cX0_about 16 = .ok (.invokestatic 67, 3) := dk_184 0 67 (dk_at dksX0_about_0 16 rfl rfl)
theorem dX0_about_19 : decode cX0_about 19 = .ok (.ifCond .eq 12, 3) := dk_153 0 12 (dk_at dksX0_about_0 19 rfl rfl)
theorem dX0_about_22 : decode cX0_about 22 = .ok (.aload_n 0, 1) := dk_42 (dk_at dksX0_about_0 22 rfl rfl)
theorem dX0_about_23 : decode cX0_about 23 = .ok (.iload_n 1, 1) := dk_27 (dk_at dksX0_about_0 23 rfl rfl)
theorem dX0_about_24 : decode cX0_about 24 = .ok (.iload_n 2, 1) := dk_28 (dk_at dksX0_about_1 0 rfl rfl)
theorem dX0_about_25 : decode cX0_about 25 = .ok (.invokevirtual 148, 3) := dk_182 0 148 (dk_at dksX0_about_1 1 rfl rfl)
theorem dX0_about_28 : decode cX0_about 28 = .ok (.goto 5, 3) := dk_167 0 5 (dk_at dksX0_about_1 4 rfl rfl)
theorem dX0_about_31 : decode cX0_about 31 = .ok (.bipush (-102), 2) := dk_16 154 (dk_at dksX0_about_1 7 rfl rfl)
theorem dX0_about_33 : decode cX0_about 33 = .ok (.ireturn, 1) := dk_172 (dk_at dksX0_about_1 9 rfl rfl)
abbrev cX0_isFile : ByteArray := prog_1_method_7_code
def yX0_isFile : MethodName := ⟨RX0, "isFile", "(I)Z"⟩
def dkwX0_isFile_0 : List UInt8 := [27, 3, 42, 180, 0, 10, 182, 0, 63, 4, 100, 184, 0, 67, 172]
abbrev dktX0_isFile_0 : List UInt8 := dkwX0_isFile_0 ++ []
theorem dksX0_isFile_0 : cX0_isFile.data.toList.drop 0 = dktX0_isFile_0 := by decide +kernel
theorem dX0_isFile_0 : decode cX0_isFile 0 = .ok (.iload_n 1, 1) := dk_27 (dk_at dksX0_isFile_0 0 rfl rfl)
theorem dX0_isFile_1 : decode cX0_isFile 1 = .ok (.iconst 0, 1) := dk_3 (dk_at dksX0_isFile_0 1 rfl rfl)
theorem dX0_isFile_2 : decode cX0_isFile 2 = .ok (.aload_n 0, 1) := dk_42 (dk_at dksX0_isFile_0 2 rfl rfl)
theorem dX0_isFile_3 : decode cX0_isFile 3 = .ok (.getfield 10, 3) := dk_180 0 10 (dk_at dksX0_isFile_0 3 rfl rfl)
theorem dX0_isFile_6 : decode cX0_isFile 6 = .ok (.invokevirtual 63, 3) := dk_182 0 63 (dk_at dksX0_isFile_0 6 rfl rfl)
theorem dX0_isFile_9 : decode cX0_isFile 9 = .ok (.iconst 1, 1) := dk_4 (dk_at dksX0_isFile_0 9 rfl rfl)
theorem dX0_isFile_10 : decode cX0_isFile 10 = .ok (.isub, 1) := dk_100 (dk_at dksX0_isFile_0 10 rfl rfl)
theorem dX0_isFile_11 : decode cX0_isFile 11 = .ok (.invokestatic 67, 3) := dk_184 0 67 (dk_at dksX0_isFile_0 11 rfl rfl)
theorem dX0_isFile_14 : decode cX0_isFile 14 = .ok (.ireturn, 1) := dk_172 (dk_at dksX0_isFile_0 14 rfl rfl)
abbrev cX0_told : ByteArray := prog_1_method_15_code
def yX0_told : MethodName := ⟨RX0, "told", "(II)I"⟩
def dkwX0_told_5 : List UInt8 := [192, 0, 60, 182, 0, 142, 172]
abbrev dktX0_told_5 : List UInt8 := dkwX0_told_5 ++ []
def dkwX0_told_4 : List UInt8 := [180, 0, 25, 27, 182, 0, 139, 153, 0, 7, 4, 167, 0, 4, 3, 172, 42, 180, 0, 10, 27, 182, 0, 132]
abbrev dktX0_told_4 : List UInt8 := dkwX0_told_4 ++ dktX0_told_5
def dkwX0_told_3 : List UInt8 := [172, 42, 180, 0, 25, 180, 0, 119, 27, 46, 172, 42, 180, 0, 25, 180, 0, 122, 27, 46, 172, 42]
abbrev dktX0_told_3 : List UInt8 := dkwX0_told_3 ++ dktX0_told_4
def dkwX0_told_2 : List UInt8 := [42, 180, 0, 10, 27, 182, 0, 132, 192, 0, 60, 182, 0, 136, 172, 42, 180, 0, 25, 180, 0, 116, 27, 46]
abbrev dktX0_told_2 : List UInt8 := dkwX0_told_2 ++ dktX0_told_3
def dkwX0_told_1 : List UInt8 := [170, 0, 0, 0, 0, 0, 97, 0, 0, 0, 0, 0, 0, 0, 4, 0, 0, 0, 35, 0, 0, 0, 50, 0, 0, 0, 60, 0, 0, 0, 70, 0, 0, 0, 80]
abbrev dktX0_told_1 : List UInt8 := dkwX0_told_1 ++ dktX0_told_2
def dkwX0_told_0 : List UInt8 := [28]
abbrev dktX0_told_0 : List UInt8 := dkwX0_told_0 ++ dktX0_told_1
theorem dksX0_told_0 : cX0_told.data.toList.drop 0 = dktX0_told_0 := by decide +kernel
theorem dksX0_told_1 : cX0_told.data.toList.drop 1 = dktX0_told_1 := dk_seg dksX0_told_0 1 rfl rfl
theorem dksX0_told_2 : cX0_told.data.toList.drop 36 = dktX0_told_2 := dk_seg dksX0_told_1 35 rfl rfl
theorem dksX0_told_3 : cX0_told.data.toList.drop 60 = dktX0_told_3 := dk_seg dksX0_told_2 24 rfl rfl
theorem dksX0_told_4 : cX0_told.data.toList.drop 82 = dktX0_told_4 := dk_seg dksX0_told_3 22 rfl rfl
theorem dksX0_told_5 : cX0_told.data.toList.drop 106 = dktX0_told_5 := dk_seg dksX0_told_4 24 rfl rfl
theorem dX0_told_0 : decode cX0_told 0 = .ok (.iload_n 2, 1) := dk_28 (dk_at dksX0_told_0 0 rfl rfl)
theorem dX0_told_1 : decode cX0_told 1 = .ok (.tableswitch 97 0 4 #[35, 50, 60, 70, 80], 35) := by decide +kernel
theorem dX0_told_36 : decode cX0_told 36 = .ok (.aload_n 0, 1) := dk_42 (dk_at dksX0_told_2 0 rfl rfl)
theorem dX0_told_37 : decode cX0_told 37 = .ok (.getfield 10, 3) := dk_180 0 10 (dk_at dksX0_told_2 1 rfl rfl)
theorem dX0_told_40 : decode cX0_told 40 = .ok (.iload_n 1, 1) := dk_27 (dk_at dksX0_told_2 4 rfl rfl)
theorem dX0_told_41 : decode cX0_told 41 = .ok (.invokevirtual 132, 3) := dk_182 0 132 (dk_at dksX0_told_2 5 rfl rfl)
theorem dX0_told_44 : decode cX0_told 44 = .ok (.checkcast 60, 3) := dk_192 0 60 (dk_at dksX0_told_2 8 rfl rfl)
theorem dX0_told_47 : decode cX0_told 47 = .ok (.invokevirtual 136, 3) := dk_182 0 136 (dk_at dksX0_told_2 11 rfl rfl)
theorem dX0_told_50 : decode cX0_told 50 = .ok (.ireturn, 1) := dk_172 (dk_at dksX0_told_2 14 rfl rfl)
theorem dX0_told_51 : decode cX0_told 51 = .ok (.aload_n 0, 1) := dk_42 (dk_at dksX0_told_2 15 rfl rfl)
theorem dX0_told_52 : decode cX0_told 52 = .ok (.getfield 25, 3) := dk_180 0 25 (dk_at dksX0_told_2 16 rfl rfl)
theorem dX0_told_55 : decode cX0_told 55 = .ok (.getfield 116, 3) := dk_180 0 116 (dk_at dksX0_told_2 19 rfl rfl)
theorem dX0_told_58 : decode cX0_told 58 = .ok (.iload_n 1, 1) := dk_27 (dk_at dksX0_told_2 22 rfl rfl)
theorem dX0_told_59 : decode cX0_told 59 = .ok (.iaload, 1) := dk_46 (dk_at dksX0_told_2 23 rfl rfl)
theorem dX0_told_60 : decode cX0_told 60 = .ok (.ireturn, 1) := dk_172 (dk_at dksX0_told_3 0 rfl rfl)
theorem dX0_told_61 : decode cX0_told 61 = .ok (.aload_n 0, 1) := dk_42 (dk_at dksX0_told_3 1 rfl rfl)
theorem dX0_told_62 : decode cX0_told 62 = .ok (.getfield 25, 3) := dk_180 0 25 (dk_at dksX0_told_3 2 rfl rfl)
theorem dX0_told_65 : decode cX0_told 65 = .ok (.getfield 119, 3) := dk_180 0 119 (dk_at dksX0_told_3 5 rfl rfl)
theorem dX0_told_68 : decode cX0_told 68 = .ok (.iload_n 1, 1) := dk_27 (dk_at dksX0_told_3 8 rfl rfl)
theorem dX0_told_69 : decode cX0_told 69 = .ok (.iaload, 1) := dk_46 (dk_at dksX0_told_3 9 rfl rfl)
theorem dX0_told_70 : decode cX0_told 70 = .ok (.ireturn, 1) := dk_172 (dk_at dksX0_told_3 10 rfl rfl)
theorem dX0_told_71 : decode cX0_told 71 = .ok (.aload_n 0, 1) := dk_42 (dk_at dksX0_told_3 11 rfl rfl)
theorem dX0_told_72 : decode cX0_told 72 = .ok (.getfield 25, 3) := dk_180 0 25 (dk_at dksX0_told_3 12 rfl rfl)
theorem dX0_told_75 : decode cX0_told 75 = .ok (.getfield 122, 3) := dk_180 0 122 (dk_at dksX0_told_3 15 rfl rfl)
theorem dX0_told_78 : decode cX0_told 78 = .ok (.iload_n 1, 1) := dk_27 (dk_at dksX0_told_3 18 rfl rfl)
theorem dX0_told_79 : decode cX0_told 79 = .ok (.iaload, 1) := dk_46 (dk_at dksX0_told_3 19 rfl rfl)
theorem dX0_told_80 : decode cX0_told 80 = .ok (.ireturn, 1) := dk_172 (dk_at dksX0_told_3 20 rfl rfl)
theorem dX0_told_81 : decode cX0_told 81 = .ok (.aload_n 0, 1) := dk_42 (dk_at dksX0_told_3 21 rfl rfl)
theorem dX0_told_82 : decode cX0_told 82 = .ok (.getfield 25, 3) := dk_180 0 25 (dk_at dksX0_told_4 0 rfl rfl)
theorem dX0_told_85 : decode cX0_told 85 = .ok (.iload_n 1, 1) := dk_27 (dk_at dksX0_told_4 3 rfl rfl)
theorem dX0_told_86 : decode cX0_told 86 = .ok (.invokevirtual 139, 3) := dk_182 0 139 (dk_at dksX0_told_4 4 rfl rfl)
theorem dX0_told_89 : decode cX0_told 89 = .ok (.ifCond .eq 7, 3) := dk_153 0 7 (dk_at dksX0_told_4 7 rfl rfl)
theorem dX0_told_92 : decode cX0_told 92 = .ok (.iconst 1, 1) := dk_4 (dk_at dksX0_told_4 10 rfl rfl)
theorem dX0_told_93 : decode cX0_told 93 = .ok (.goto 4, 3) := dk_167 0 4 (dk_at dksX0_told_4 11 rfl rfl)
theorem dX0_told_96 : decode cX0_told 96 = .ok (.iconst 0, 1) := dk_3 (dk_at dksX0_told_4 14 rfl rfl)
theorem dX0_told_97 : decode cX0_told 97 = .ok (.ireturn, 1) := dk_172 (dk_at dksX0_told_4 15 rfl rfl)
theorem dX0_told_98 : decode cX0_told 98 = .ok (.aload_n 0, 1) := dk_42 (dk_at dksX0_told_4 16 rfl rfl)
theorem dX0_told_99 : decode cX0_told 99 = .ok (.getfield 10, 3) := dk_180 0 10 (dk_at dksX0_told_4 17 rfl rfl)
theorem dX0_told_102 : decode cX0_told 102 = .ok (.iload_n 1, 1) := dk_27 (dk_at dksX0_told_4 20 rfl rfl)
theorem dX0_told_103 : decode cX0_told 103 = .ok (.invokevirtual 132, 3) := dk_182 0 132 (dk_at dksX0_told_4 21 rfl rfl)
theorem dX0_told_106 : decode cX0_told 106 = .ok (.checkcast 60, 3) := dk_192 0 60 (dk_at dksX0_told_5 0 rfl rfl)
theorem dX0_told_109 : decode cX0_told 109 = .ok (.invokevirtual 142, 3) := dk_182 0 142 (dk_at dksX0_told_5 3 rfl rfl)
theorem dX0_told_112 : decode cX0_told 112 = .ok (.ireturn, 1) := dk_172 (dk_at dksX0_told_5 6 rfl rfl)
abbrev cX0_as : ByteArray := prog_1_method_17_code
def yX0_as : MethodName := ⟨RX0, "as", "(II)I"⟩
def dkwX0_as_2 : List UInt8 := [167, 0, 4, 2, 172]
abbrev dktX0_as_2 : List UInt8 := dkwX0_as_2 ++ []
def dkwX0_as_1 : List UInt8 := [167, 0, 26, 42, 180, 0, 10, 27, 182, 0, 132, 192, 0, 60, 28, 182, 0, 152, 153, 0, 7, 27]
abbrev dktX0_as_1 : List UInt8 := dkwX0_as_1 ++ dktX0_as_2
def dkwX0_as_0 : List UInt8 := [42, 27, 182, 0, 145, 154, 0, 6, 16, 155, 172, 28, 3, 7, 184, 0, 67, 154, 0, 8, 16, 154]
abbrev dktX0_as_0 : List UInt8 := dkwX0_as_0 ++ dktX0_as_1
theorem dksX0_as_0 : cX0_as.data.toList.drop 0 = dktX0_as_0 := by decide +kernel
theorem dksX0_as_1 : cX0_as.data.toList.drop 22 = dktX0_as_1 := dk_seg dksX0_as_0 22 rfl rfl
theorem dksX0_as_2 : cX0_as.data.toList.drop 44 = dktX0_as_2 := dk_seg dksX0_as_1 22 rfl rfl
theorem dX0_as_0 : decode cX0_as 0 = .ok (.aload_n 0, 1) := dk_42 (dk_at dksX0_as_0 0 rfl rfl)
theorem dX0_as_1 : decode cX0_as 1 = .ok (.iload_n 1, 1) := dk_27 (dk_at dksX0_as_0 1 rfl rfl)
theorem dX0_as_2 : decode cX0_as 2 = .ok (.invokevirtual 145, 3) := dk_182 0 145 (dk_at dksX0_as_0 2 rfl rfl)
theorem dX0_as_5 : decode cX0_as 5 = .ok (.ifCond .ne 6, 3) := dk_154 0 6 (dk_at dksX0_as_0 5 rfl rfl)
theorem dX0_as_8 : decode cX0_as 8 = .ok (.bipush (-101), 2) := dk_16 155 (dk_at dksX0_as_0 8 rfl rfl)
theorem dX0_as_10 : decode cX0_as 10 = .ok (.ireturn, 1) := dk_172 (dk_at dksX0_as_0 10 rfl rfl)
theorem dX0_as_11 : decode cX0_as 11 = .ok (.iload_n 2, 1) := dk_28 (dk_at dksX0_as_0 11 rfl rfl)
theorem dX0_as_12 : decode cX0_as 12 = .ok (.iconst 0, 1) := dk_3 (dk_at dksX0_as_0 12 rfl rfl)
theorem dX0_as_13 : decode cX0_as 13 = .ok (.iconst 4, 1) := dk_7 (dk_at dksX0_as_0 13 rfl rfl)
theorem dX0_as_14 : decode cX0_as 14 = .ok (.invokestatic 67, 3) := dk_184 0 67 (dk_at dksX0_as_0 14 rfl rfl)
theorem dX0_as_17 : decode cX0_as 17 = .ok (.ifCond .ne 8, 3) := dk_154 0 8 (dk_at dksX0_as_0 17 rfl rfl)
theorem dX0_as_20 : decode cX0_as 20 = .ok (.bipush (-102), 2) := dk_16 154 (dk_at dksX0_as_0 20 rfl rfl)
theorem dX0_as_22 : decode cX0_as 22 = .ok (.goto 26, 3) := dk_167 0 26 (dk_at dksX0_as_1 0 rfl rfl)
theorem dX0_as_25 : decode cX0_as 25 = .ok (.aload_n 0, 1) := dk_42 (dk_at dksX0_as_1 3 rfl rfl)
theorem dX0_as_26 : decode cX0_as 26 = .ok (.getfield 10, 3) := dk_180 0 10 (dk_at dksX0_as_1 4 rfl rfl)
theorem dX0_as_29 : decode cX0_as 29 = .ok (.iload_n 1, 1) := dk_27 (dk_at dksX0_as_1 7 rfl rfl)
theorem dX0_as_30 : decode cX0_as 30 = .ok (.invokevirtual 132, 3) := dk_182 0 132 (dk_at dksX0_as_1 8 rfl rfl)
theorem dX0_as_33 : decode cX0_as 33 = .ok (.checkcast 60, 3) := dk_192 0 60 (dk_at dksX0_as_1 11 rfl rfl)
theorem dX0_as_36 : decode cX0_as 36 = .ok (.iload_n 2, 1) := dk_28 (dk_at dksX0_as_1 14 rfl rfl)
theorem dX0_as_37 : decode cX0_as 37 = .ok (.invokevirtual 152, 3) := dk_182 0 152 (dk_at dksX0_as_1 15 rfl rfl)
theorem dX0_as_40 : decode cX0_as 40 = .ok (.ifCond .eq 7, 3) := dk_153 0 7 (dk_at dksX0_as_1 18 rfl rfl)
theorem dX0_as_43 : decode cX0_as 43 = .ok (.iload_n 1, 1) := dk_27 (dk_at dksX0_as_1 21 rfl rfl)
theorem dX0_as_44 : decode cX0_as 44 = .ok (.goto 4, 3) := dk_167 0 4 (dk_at dksX0_as_2 0 rfl rfl)
theorem dX0_as_47 : decode cX0_as 47 = .ok (.iconst (-1), 1) := dk_2 (dk_at dksX0_as_2 3 rfl rfl)
theorem dX0_as_48 : decode cX0_as 48 = .ok (.ireturn, 1) := dk_172 (dk_at dksX0_as_2 4 rfl rfl)
abbrev cX0_copy : ByteArray := prog_1_method_18_code
def yX0_copy : MethodName := ⟨RX0, "copy", "(II)I"⟩
def dkwX0_copy_2 : List UInt8 := [42, 180, 0, 25, 180, 0, 116, 27, 46, 184, 0, 159, 172]
abbrev dktX0_copy_2 : List UInt8 := dkwX0_copy_2 ++ []
def dkwX0_copy_1 : List UInt8 := [182, 0, 155, 154, 0, 6, 16, 153, 172, 42, 180, 0, 25, 180, 0, 116, 27, 92, 46, 4, 28, 120, 128, 79]
abbrev dktX0_copy_1 : List UInt8 := dkwX0_copy_1 ++ dktX0_copy_2
def dkwX0_copy_0 : List UInt8 := [42, 27, 182, 0, 145, 153, 0, 10, 28, 184, 0, 108, 154, 0, 6, 16, 155, 172, 42, 180, 0, 25, 27, 28]
abbrev dktX0_copy_0 : List UInt8 := dkwX0_copy_0 ++ dktX0_copy_1
theorem dksX0_copy_0 : cX0_copy.data.toList.drop 0 = dktX0_copy_0 := by decide +kernel
theorem dksX0_copy_1 : cX0_copy.data.toList.drop 24 = dktX0_copy_1 := dk_seg dksX0_copy_0 24 rfl rfl
theorem dksX0_copy_2 : cX0_copy.data.toList.drop 48 = dktX0_copy_2 := dk_seg dksX0_copy_1 24 rfl rfl
theorem dX0_copy_0 : decode cX0_copy 0 = .ok (.aload_n 0, 1) := dk_42 (dk_at dksX0_copy_0 0 rfl rfl)
theorem dX0_copy_1 : decode cX0_copy 1 = .ok (.iload_n 1, 1) := dk_27 (dk_at dksX0_copy_0 1 rfl rfl)
theorem dX0_copy_2 : decode cX0_copy 2 = .ok (.invokevirtual 145, 3) := dk_182 0 145 (dk_at dksX0_copy_0 2 rfl rfl)
theorem dX0_copy_5 : decode cX0_copy 5 = .ok (.ifCond .eq 10, 3) := dk_153 0 10 (dk_at dksX0_copy_0 5 rfl rfl)
theorem dX0_copy_8 : decode cX0_copy 8 = .ok (.iload_n 2, 1) := dk_28 (dk_at dksX0_copy_0 8 rfl rfl)
theorem dX0_copy_9 : decode cX0_copy 9 = .ok (.invokestatic 108, 3) := dk_184 0 108 (dk_at dksX0_copy_0 9 rfl rfl)
theorem dX0_copy_12 : decode cX0_copy 12 = .ok (.ifCond .ne 6, 3) := dk_154 0 6 (dk_at dksX0_copy_0 12 rfl rfl)
theorem dX0_copy_15 : decode cX0_copy 15 = .ok (.bipush (-101), 2) := dk_16 155 (dk_at dksX0_copy_0 15 rfl rfl)
theorem dX0_copy_17 : decode cX0_copy 17 = .ok (.ireturn, 1) := dk_172 (dk_at dksX0_copy_0 17 rfl rfl)
theorem dX0_copy_18 : decode cX0_copy 18 = .ok (.aload_n 0, 1) := dk_42 (dk_at dksX0_copy_0 18 rfl rfl)
theorem dX0_copy_19 : decode cX0_copy 19 = .ok (.getfield 25, 3) := dk_180 0 25 (dk_at dksX0_copy_0 19 rfl rfl)
theorem dX0_copy_22 : decode cX0_copy 22 = .ok (.iload_n 1, 1) := dk_27 (dk_at dksX0_copy_0 22 rfl rfl)
theorem dX0_copy_23 : decode cX0_copy 23 = .ok (.iload_n 2, 1) := dk_28 (dk_at dksX0_copy_0 23 rfl rfl)
theorem dX0_copy_24 : decode cX0_copy 24 = .ok (.invokevirtual 155, 3) := dk_182 0 155 (dk_at dksX0_copy_1 0 rfl rfl)
theorem dX0_copy_27 : decode cX0_copy 27 = .ok (.ifCond .ne 6, 3) := dk_154 0 6 (dk_at dksX0_copy_1 3 rfl rfl)
theorem dX0_copy_30 : decode cX0_copy 30 = .ok (.bipush (-103), 2) := dk_16 153 (dk_at dksX0_copy_1 6 rfl rfl)
theorem dX0_copy_32 : decode cX0_copy 32 = .ok (.ireturn, 1) := dk_172 (dk_at dksX0_copy_1 8 rfl rfl)
theorem dX0_copy_33 : decode cX0_copy 33 = .ok (.aload_n 0, 1) := dk_42 (dk_at dksX0_copy_1 9 rfl rfl)
theorem dX0_copy_34 : decode cX0_copy 34 = .ok (.getfield 25, 3) := dk_180 0 25 (dk_at dksX0_copy_1 10 rfl rfl)
theorem dX0_copy_37 : decode cX0_copy 37 = .ok (.getfield 116, 3) := dk_180 0 116 (dk_at dksX0_copy_1 13 rfl rfl)
theorem dX0_copy_40 : decode cX0_copy 40 = .ok (.iload_n 1, 1) := dk_27 (dk_at dksX0_copy_1 16 rfl rfl)
theorem dX0_copy_41 : decode cX0_copy 41 = .ok (.dup2, 1) := dk_92 (dk_at dksX0_copy_1 17 rfl rfl)
theorem dX0_copy_42 : decode cX0_copy 42 = .ok (.iaload, 1) := dk_46 (dk_at dksX0_copy_1 18 rfl rfl)
theorem dX0_copy_43 : decode cX0_copy 43 = .ok (.iconst 1, 1) := dk_4 (dk_at dksX0_copy_1 19 rfl rfl)
theorem dX0_copy_44 : decode cX0_copy 44 = .ok (.iload_n 2, 1) := dk_28 (dk_at dksX0_copy_1 20 rfl rfl)
theorem dX0_copy_45 : decode cX0_copy 45 = .ok (.ishl, 1) := dk_120 (dk_at dksX0_copy_1 21 rfl rfl)
theorem dX0_copy_46 : decode cX0_copy 46 = .ok (.ior, 1) := dk_128 (dk_at dksX0_copy_1 22 rfl rfl)
theorem dX0_copy_47 : decode cX0_copy 47 = .ok (.iastore, 1) := dk_79 (dk_at dksX0_copy_1 23 rfl rfl)
theorem dX0_copy_48 : decode cX0_copy 48 = .ok (.aload_n 0, 1) := dk_42 (dk_at dksX0_copy_2 0 rfl rfl)
theorem dX0_copy_49 : decode cX0_copy 49 = .ok (.getfield 25, 3) := dk_180 0 25 (dk_at dksX0_copy_2 1 rfl rfl)
theorem dX0_copy_52 : decode cX0_copy 52 = .ok (.getfield 116, 3) := dk_180 0 116 (dk_at dksX0_copy_2 4 rfl rfl)
theorem dX0_copy_55 : decode cX0_copy 55 = .ok (.iload_n 1, 1) := dk_27 (dk_at dksX0_copy_2 7 rfl rfl)
theorem dX0_copy_56 : decode cX0_copy 56 = .ok (.iaload, 1) := dk_46 (dk_at dksX0_copy_2 8 rfl rfl)
theorem dX0_copy_57 : decode cX0_copy 57 = .ok (.invokestatic 159, 3) := dk_184 0 159 (dk_at dksX0_copy_2 9 rfl rfl)
theorem dX0_copy_60 : decode cX0_copy 60 = .ok (.ireturn, 1) := dk_172 (dk_at dksX0_copy_2 12 rfl rfl)
abbrev cX0_isIn : ByteArray := prog_1_method_2_code
def yX0_isIn : MethodName := ⟨RX0, "isIn", "(II)Z"⟩
def dkwX0_isIn_0 : List UInt8 := [26, 27, 122, 4, 126, 4, 160, 0, 7, 4, 167, 0, 4, 3, 172]
abbrev dktX0_isIn_0 : List UInt8 := dkwX0_isIn_0 ++ []
theorem dksX0_isIn_0 : cX0_isIn.data.toList.drop 0 = dktX0_isIn_0 := by decide +kernel
theorem dX0_isIn_0 : decode cX0_isIn 0 = .ok (.iload_n 0, 1) := dk_26 (dk_at dksX0_isIn_0 0 rfl rfl)
theorem dX0_isIn_1 : decode cX0_isIn 1 = .ok (.iload_n 1, 1) := dk_27 (dk_at dksX0_isIn_0 1 rfl rfl)
theorem dX0_isIn_2 : decode cX0_isIn 2 = .ok (.ishr, 1) := dk_122 (dk_at dksX0_isIn_0 2 rfl rfl)
theorem dX0_isIn_3 : decode cX0_isIn 3 = .ok (.iconst 1, 1) := dk_4 (dk_at dksX0_isIn_0 3 rfl rfl)
theorem dX0_isIn_4 : decode cX0_isIn 4 = .ok (.iand, 1) := dk_126 (dk_at dksX0_isIn_0 4 rfl rfl)
theorem dX0_isIn_5 : decode cX0_isIn 5 = .ok (.iconst 1, 1) := dk_4 (dk_at dksX0_isIn_0 5 rfl rfl)
theorem dX0_isIn_6 : decode cX0_isIn 6 = .ok (.if_icmp .ne 7, 3) := dk_160 0 7 (dk_at dksX0_isIn_0 6 rfl rfl)
theorem dX0_isIn_9 : decode cX0_isIn 9 = .ok (.iconst 1, 1) := dk_4 (dk_at dksX0_isIn_0 9 rfl rfl)
theorem dX0_isIn_10 : decode cX0_isIn 10 = .ok (.goto 4, 3) := dk_167 0 4 (dk_at dksX0_isIn_0 10 rfl rfl)
theorem dX0_isIn_13 : decode cX0_isIn 13 = .ok (.iconst 0, 1) := dk_3 (dk_at dksX0_isIn_0 13 rfl rfl)
theorem dX0_isIn_14 : decode cX0_isIn 14 = .ok (.ireturn, 1) := dk_172 (dk_at dksX0_isIn_0 14 rfl rfl)
abbrev cX0_rename : ByteArray := prog_1_method_19_code
def yX0_rename : MethodName := ⟨RX0, "rename", "(III)I"⟩
def dkwX0_rename_2 : List UInt8 := [180, 0, 25, 27, 28, 29, 182, 0, 167, 42, 180, 0, 25, 29, 182, 0, 112, 172]
abbrev dktX0_rename_2 : List UInt8 := dkwX0_rename_2 ++ []
def dkwX0_rename_1 : List UInt8 := [160, 0, 6, 16, 155, 172, 42, 180, 0, 25, 27, 28, 29, 182, 0, 164, 154, 0, 6, 16, 153, 172, 42]
abbrev dktX0_rename_1 : List UInt8 := dkwX0_rename_1 ++ dktX0_rename_2
def dkwX0_rename_0 : List UInt8 := [42, 27, 182, 0, 145, 153, 0, 22, 28, 184, 0, 108, 153, 0, 15, 29, 184, 0, 108, 153, 0, 8, 28, 29]
abbrev dktX0_rename_0 : List UInt8 := dkwX0_rename_0 ++ dktX0_rename_1
theorem dksX0_rename_0 : cX0_rename.data.toList.drop 0 = dktX0_rename_0 := by decide +kernel
theorem dksX0_rename_1 : cX0_rename.data.toList.drop 24 = dktX0_rename_1 := dk_seg dksX0_rename_0 24 rfl rfl
theorem dksX0_rename_2 : cX0_rename.data.toList.drop 47 = dktX0_rename_2 := dk_seg dksX0_rename_1 23 rfl rfl
theorem dX0_rename_0 : decode cX0_rename 0 = .ok (.aload_n 0, 1) := dk_42 (dk_at dksX0_rename_0 0 rfl rfl)
theorem dX0_rename_1 : decode cX0_rename 1 = .ok (.iload_n 1, 1) := dk_27 (dk_at dksX0_rename_0 1 rfl rfl)
theorem dX0_rename_2 : decode cX0_rename 2 = .ok (.invokevirtual 145, 3) := dk_182 0 145 (dk_at dksX0_rename_0 2 rfl rfl)
theorem dX0_rename_5 : decode cX0_rename 5 = .ok (.ifCond .eq 22, 3) := dk_153 0 22 (dk_at dksX0_rename_0 5 rfl rfl)
theorem dX0_rename_8 : decode cX0_rename 8 = .ok (.iload_n 2, 1) := dk_28 (dk_at dksX0_rename_0 8 rfl rfl)
theorem dX0_rename_9 : decode cX0_rename 9 = .ok (.invokestatic 108, 3) := dk_184 0 108 (dk_at dksX0_rename_0 9 rfl rfl)
theorem dX0_rename_12 : decode cX0_rename 12 = .ok (.ifCond .eq 15, 3) := dk_153 0 15 (dk_at dksX0_rename_0 12 rfl rfl)
theorem dX0_rename_15 : decode cX0_rename 15 = .ok (.iload_n 3, 1) := dk_29 (dk_at dksX0_rename_0 15 rfl rfl)
theorem dX0_rename_16 : decode cX0_rename 16 = .ok (.invokestatic 108, 3) := dk_184 0 108 (dk_at dksX0_rename_0 16 rfl rfl)
theorem dX0_rename_19 : decode cX0_rename 19 = .ok (.ifCond .eq 8, 3) := dk_153 0 8 (dk_at dksX0_rename_0 19 rfl rfl)
theorem dX0_rename_22 : decode cX0_rename 22 = .ok (.iload_n 2, 1) := dk_28 (dk_at dksX0_rename_0 22 rfl rfl)
theorem dX0_rename_23 : decode cX0_rename 23 = .ok (.iload_n 3, 1) := dk_29 (dk_at dksX0_rename_0 23 rfl rfl)
theorem dX0_rename_24 : decode cX0_rename 24 = .ok (.if_icmp .ne 6, 3) := dk_160 0 6 (dk_at dksX0_rename_1 0 rfl rfl)
theorem dX0_rename_27 : decode cX0_rename 27 = .ok (.bipush (-101), 2) := dk_16 155 (dk_at dksX0_rename_1 3 rfl rfl)
theorem dX0_rename_29 : decode cX0_rename 29 = .ok (.ireturn, 1) := dk_172 (dk_at dksX0_rename_1 5 rfl rfl)
theorem dX0_rename_30 : decode cX0_rename 30 = .ok (.aload_n 0, 1) := dk_42 (dk_at dksX0_rename_1 6 rfl rfl)
theorem dX0_rename_31 : decode cX0_rename 31 = .ok (.getfield 25, 3) := dk_180 0 25 (dk_at dksX0_rename_1 7 rfl rfl)
theorem dX0_rename_34 : decode cX0_rename 34 = .ok (.iload_n 1, 1) := dk_27 (dk_at dksX0_rename_1 10 rfl rfl)
theorem dX0_rename_35 : decode cX0_rename 35 = .ok (.iload_n 2, 1) := dk_28 (dk_at dksX0_rename_1 11 rfl rfl)
theorem dX0_rename_36 : decode cX0_rename 36 = .ok (.iload_n 3, 1) := dk_29 (dk_at dksX0_rename_1 12 rfl rfl)
theorem dX0_rename_37 : decode cX0_rename 37 = .ok (.invokevirtual 164, 3) := dk_182 0 164 (dk_at dksX0_rename_1 13 rfl rfl)
theorem dX0_rename_40 : decode cX0_rename 40 = .ok (.ifCond .ne 6, 3) := dk_154 0 6 (dk_at dksX0_rename_1 16 rfl rfl)
theorem dX0_rename_43 : decode cX0_rename 43 = .ok (.bipush (-103), 2) := dk_16 153 (dk_at dksX0_rename_1 19 rfl rfl)
theorem dX0_rename_45 : decode cX0_rename 45 = .ok (.ireturn, 1) := dk_172 (dk_at dksX0_rename_1 21 rfl rfl)
theorem dX0_rename_46 : decode cX0_rename 46 = .ok (.aload_n 0, 1) := dk_42 (dk_at dksX0_rename_1 22 rfl rfl)
theorem dX0_rename_47 : decode cX0_rename 47 = .ok (.getfield 25, 3) := dk_180 0 25 (dk_at dksX0_rename_2 0 rfl rfl)
theorem dX0_rename_50 : decode cX0_rename 50 = .ok (.iload_n 1, 1) := dk_27 (dk_at dksX0_rename_2 3 rfl rfl)
theorem dX0_rename_51 : decode cX0_rename 51 = .ok (.iload_n 2, 1) := dk_28 (dk_at dksX0_rename_2 4 rfl rfl)
theorem dX0_rename_52 : decode cX0_rename 52 = .ok (.iload_n 3, 1) := dk_29 (dk_at dksX0_rename_2 5 rfl rfl)
theorem dX0_rename_53 : decode cX0_rename 53 = .ok (.invokevirtual 167, 3) := dk_182 0 167 (dk_at dksX0_rename_2 6 rfl rfl)
theorem dX0_rename_56 : decode cX0_rename 56 = .ok (.aload_n 0, 1) := dk_42 (dk_at dksX0_rename_2 9 rfl rfl)
theorem dX0_rename_57 : decode cX0_rename 57 = .ok (.getfield 25, 3) := dk_180 0 25 (dk_at dksX0_rename_2 10 rfl rfl)
theorem dX0_rename_60 : decode cX0_rename 60 = .ok (.iload_n 3, 1) := dk_29 (dk_at dksX0_rename_2 13 rfl rfl)
theorem dX0_rename_61 : decode cX0_rename 61 = .ok (.invokevirtual 112, 3) := dk_182 0 112 (dk_at dksX0_rename_2 14 rfl rfl)
theorem dX0_rename_64 : decode cX0_rename 64 = .ok (.ireturn, 1) := dk_172 (dk_at dksX0_rename_2 17 rfl rfl)
abbrev cX0_point : ByteArray := prog_1_method_20_code
def yX0_point : MethodName := ⟨RX0, "point", "(II)I"⟩
def dkwX0_point_2 : List UInt8 := [180, 0, 119, 27, 46, 62, 42, 180, 0, 25, 180, 0, 119, 27, 28, 79, 29, 172]
abbrev dktX0_point_2 : List UInt8 := dkwX0_point_2 ++ []
def dkwX0_point_1 : List UInt8 := [160, 0, 6, 16, 155, 172, 42, 180, 0, 25, 27, 182, 0, 139, 154, 0, 6, 16, 153, 172, 42, 180, 0, 25]
abbrev dktX0_point_1 : List UInt8 := dkwX0_point_1 ++ dktX0_point_2
def dkwX0_point_0 : List UInt8 := [42, 27, 182, 0, 145, 153, 0, 21, 28, 2, 159, 0, 11, 42, 28, 182, 0, 145, 153, 0, 8, 28, 27]
abbrev dktX0_point_0 : List UInt8 := dkwX0_point_0 ++ dktX0_point_1
theorem dksX0_point_0 : cX0_point.data.toList.drop 0 = dktX0_point_0 := by decide +kernel
theorem dksX0_point_1 : cX0_point.data.toList.drop 23 = dktX0_point_1 := dk_seg dksX0_point_0 23 rfl rfl
theorem dksX0_point_2 : cX0_point.data.toList.drop 47 = dktX0_point_2 := dk_seg dksX0_point_1 24 rfl rfl
theorem dX0_point_0 : decode cX0_point 0 = .ok (.aload_n 0, 1) := dk_42 (dk_at dksX0_point_0 0 rfl rfl)
theorem dX0_point_1 : decode cX0_point 1 = .ok (.iload_n 1, 1) := dk_27 (dk_at dksX0_point_0 1 rfl rfl)
theorem dX0_point_2 : decode cX0_point 2 = .ok (.invokevirtual 145, 3) := dk_182 0 145 (dk_at dksX0_point_0 2 rfl rfl)
theorem dX0_point_5 : decode cX0_point 5 = .ok (.ifCond .eq 21, 3) := dk_153 0 21 (dk_at dksX0_point_0 5 rfl rfl)
theorem dX0_point_8 : decode cX0_point 8 = .ok (.iload_n 2, 1) := dk_28 (dk_at dksX0_point_0 8 rfl rfl)
theorem dX0_point_9 : decode cX0_point 9 = .ok (.iconst (-1), 1) := dk_2 (dk_at dksX0_point_0 9 rfl rfl)
theorem dX0_point_10 : decode cX0_point 10 = .ok (.if_icmp .eq 11, 3) := dk_159 0 11 (dk_at dksX0_point_0 10 rfl rfl)
theorem dX0_point_13 : decode cX0_point 13 = .ok (.aload_n 0, 1) := dk_42 (dk_at dksX0_point_0 13 rfl rfl)
theorem dX0_point_14 : decode cX0_point 14 = .ok (.iload_n 2, 1) := dk_28 (dk_at dksX0_point_0 14 rfl rfl)
theorem dX0_point_15 : decode cX0_point 15 = .ok (.invokevirtual 145, 3) := dk_182 0 145 (dk_at dksX0_point_0 15 rfl rfl)
theorem dX0_point_18 : decode cX0_point 18 = .ok (.ifCond .eq 8, 3) := dk_153 0 8 (dk_at dksX0_point_0 18 rfl rfl)
theorem dX0_point_21 : decode cX0_point 21 = .ok (.iload_n 2, 1) := dk_28 (dk_at dksX0_point_0 21 rfl rfl)
theorem dX0_point_22 : decode cX0_point 22 = .ok (.iload_n 1, 1) := dk_27 (dk_at dksX0_point_0 22 rfl rfl)
theorem dX0_point_23 : decode cX0_point 23 = .ok (.if_icmp .ne 6, 3) := dk_160 0 6 (dk_at dksX0_point_1 0 rfl rfl)
theorem dX0_point_26 : decode cX0_point 26 = .ok (.bipush (-101), 2) := dk_16 155 (dk_at dksX0_point_1 3 rfl rfl)
theorem dX0_point_28 : decode cX0_point 28 = .ok (.ireturn, 1) := dk_172 (dk_at dksX0_point_1 5 rfl rfl)
theorem dX0_point_29 : decode cX0_point 29 = .ok (.aload_n 0, 1) := dk_42 (dk_at dksX0_point_1 6 rfl rfl)
theorem dX0_point_30 : decode cX0_point 30 = .ok (.getfield 25, 3) := dk_180 0 25 (dk_at dksX0_point_1 7 rfl rfl)
theorem dX0_point_33 : decode cX0_point 33 = .ok (.iload_n 1, 1) := dk_27 (dk_at dksX0_point_1 10 rfl rfl)
theorem dX0_point_34 : decode cX0_point 34 = .ok (.invokevirtual 139, 3) := dk_182 0 139 (dk_at dksX0_point_1 11 rfl rfl)
theorem dX0_point_37 : decode cX0_point 37 = .ok (.ifCond .ne 6, 3) := dk_154 0 6 (dk_at dksX0_point_1 14 rfl rfl)
theorem dX0_point_40 : decode cX0_point 40 = .ok (.bipush (-103), 2) := dk_16 153 (dk_at dksX0_point_1 17 rfl rfl)
theorem dX0_point_42 : decode cX0_point 42 = .ok (.ireturn, 1) := dk_172 (dk_at dksX0_point_1 19 rfl rfl)
theorem dX0_point_43 : decode cX0_point 43 = .ok (.aload_n 0, 1) := dk_42 (dk_at dksX0_point_1 20 rfl rfl)
theorem dX0_point_44 : decode cX0_point 44 = .ok (.getfield 25, 3) := dk_180 0 25 (dk_at dksX0_point_1 21 rfl rfl)
theorem dX0_point_47 : decode cX0_point 47 = .ok (.getfield 119, 3) := dk_180 0 119 (dk_at dksX0_point_2 0 rfl rfl)
theorem dX0_point_50 : decode cX0_point 50 = .ok (.iload_n 1, 1) := dk_27 (dk_at dksX0_point_2 3 rfl rfl)
theorem dX0_point_51 : decode cX0_point 51 = .ok (.iaload, 1) := dk_46 (dk_at dksX0_point_2 4 rfl rfl)
theorem dX0_point_52 : decode cX0_point 52 = .ok (.istore_n 3, 1) := dk_62 (dk_at dksX0_point_2 5 rfl rfl)
theorem dX0_point_53 : decode cX0_point 53 = .ok (.aload_n 0, 1) := dk_42 (dk_at dksX0_point_2 6 rfl rfl)
theorem dX0_point_54 : decode cX0_point 54 = .ok (.getfield 25, 3) := dk_180 0 25 (dk_at dksX0_point_2 7 rfl rfl)
theorem dX0_point_57 : decode cX0_point 57 = .ok (.getfield 119, 3) := dk_180 0 119 (dk_at dksX0_point_2 10 rfl rfl)
theorem dX0_point_60 : decode cX0_point 60 = .ok (.iload_n 1, 1) := dk_27 (dk_at dksX0_point_2 13 rfl rfl)
theorem dX0_point_61 : decode cX0_point 61 = .ok (.iload_n 2, 1) := dk_28 (dk_at dksX0_point_2 14 rfl rfl)
theorem dX0_point_62 : decode cX0_point 62 = .ok (.iastore, 1) := dk_79 (dk_at dksX0_point_2 15 rfl rfl)
theorem dX0_point_63 : decode cX0_point 63 = .ok (.iload_n 3, 1) := dk_29 (dk_at dksX0_point_2 16 rfl rfl)
theorem dX0_point_64 : decode cX0_point 64 = .ok (.ireturn, 1) := dk_172 (dk_at dksX0_point_2 17 rfl rfl)
abbrev cX0_burn : ByteArray := prog_1_method_21_code
def yX0_burn : MethodName := ⟨RX0, "burn", "(I)I"⟩
def dkwX0_burn_1 : List UInt8 := [180, 0, 99, 4, 96, 181, 0, 99, 42, 180, 0, 25, 27, 182, 0, 171, 172]
abbrev dktX0_burn_1 : List UInt8 := dkwX0_burn_1 ++ []
def dkwX0_burn_0 : List UInt8 := [27, 184, 0, 108, 154, 0, 6, 16, 155, 172, 42, 180, 0, 92, 154, 0, 6, 16, 153, 172, 42, 89]
abbrev dktX0_burn_0 : List UInt8 := dkwX0_burn_0 ++ dktX0_burn_1
theorem dksX0_burn_0 : cX0_burn.data.toList.drop 0 = dktX0_burn_0 := by decide +kernel
theorem dksX0_burn_1 : cX0_burn.data.toList.drop 22 = dktX0_burn_1 := dk_seg dksX0_burn_0 22 rfl rfl
theorem dX0_burn_0 : decode cX0_burn 0 = .ok (.iload_n 1, 1) := dk_27 (dk_at dksX0_burn_0 0 rfl rfl)
theorem dX0_burn_1 : decode cX0_burn 1 = .ok (.invokestatic 108, 3) := dk_184 0 108 (dk_at dksX0_burn_0 1 rfl rfl)
theorem dX0_burn_4 : decode cX0_burn 4 = .ok (.ifCond .ne 6, 3) := dk_154 0 6 (dk_at dksX0_burn_0 4 rfl rfl)
theorem dX0_burn_7 : decode cX0_burn 7 = .ok (.bipush (-101), 2) := dk_16 155 (dk_at dksX0_burn_0 7 rfl rfl)
theorem dX0_burn_9 : decode cX0_burn 9 = .ok (.ireturn, 1) := dk_172 (dk_at dksX0_burn_0 9 rfl rfl)
theorem dX0_burn_10 : decode cX0_burn 10 = .ok (.aload_n 0, 1) := dk_42 (dk_at dksX0_burn_0 10 rfl rfl)
theorem dX0_burn_11 : decode cX0_burn 11 = .ok (.getfield 92, 3) := dk_180 0 92 (dk_at dksX0_burn_0 11 rfl rfl)
theorem dX0_burn_14 : decode cX0_burn 14 = .ok (.ifCond .ne 6, 3) := dk_154 0 6 (dk_at dksX0_burn_0 14 rfl rfl)
theorem dX0_burn_17 : decode cX0_burn 17 = .ok (.bipush (-103), 2) := dk_16 153 (dk_at dksX0_burn_0 17 rfl rfl)
theorem dX0_burn_19 : decode cX0_burn 19 = .ok (.ireturn, 1) := dk_172 (dk_at dksX0_burn_0 19 rfl rfl)
theorem dX0_burn_20 : decode cX0_burn 20 = .ok (.aload_n 0, 1) := dk_42 (dk_at dksX0_burn_0 20 rfl rfl)
theorem dX0_burn_21 : decode cX0_burn 21 = .ok (.dup, 1) := dk_89 (dk_at dksX0_burn_0 21 rfl rfl)
theorem dX0_burn_22 : decode cX0_burn 22 = .ok (.getfield 99, 3) := dk_180 0 99 (dk_at dksX0_burn_1 0 rfl rfl)
theorem dX0_burn_25 : decode cX0_burn 25 = .ok (.iconst 1, 1) := dk_4 (dk_at dksX0_burn_1 3 rfl rfl)
theorem dX0_burn_26 : decode cX0_burn 26 = .ok (.iadd, 1) := dk_96 (dk_at dksX0_burn_1 4 rfl rfl)
theorem dX0_burn_27 : decode cX0_burn 27 = .ok (.putfield 99, 3) := dk_181 0 99 (dk_at dksX0_burn_1 5 rfl rfl)
theorem dX0_burn_30 : decode cX0_burn 30 = .ok (.aload_n 0, 1) := dk_42 (dk_at dksX0_burn_1 8 rfl rfl)
theorem dX0_burn_31 : decode cX0_burn 31 = .ok (.getfield 25, 3) := dk_180 0 25 (dk_at dksX0_burn_1 9 rfl rfl)
theorem dX0_burn_34 : decode cX0_burn 34 = .ok (.iload_n 1, 1) := dk_27 (dk_at dksX0_burn_1 12 rfl rfl)
theorem dX0_burn_35 : decode cX0_burn 35 = .ok (.invokevirtual 171, 3) := dk_182 0 171 (dk_at dksX0_burn_1 13 rfl rfl)
theorem dX0_burn_38 : decode cX0_burn 38 = .ok (.ireturn, 1) := dk_172 (dk_at dksX0_burn_1 16 rfl rfl)
abbrev cX0_odds : ByteArray := prog_1_method_24_code
def yX0_odds : MethodName := ⟨RX0, "odds", "(III)I"⟩
def dkwX0_odds_1 : List UInt8 := [184, 0, 67, 153, 0, 13, 42, 27, 28, 29, 182, 0, 188, 167, 0, 5, 16, 154, 172]
abbrev dktX0_odds_1 : List UInt8 := dkwX0_odds_1 ++ []
def dkwX0_odds_0 : List UInt8 := [42, 27, 182, 0, 145, 154, 0, 6, 16, 155, 172, 28, 3, 7, 184, 0, 67, 153, 0, 22, 29, 3, 4]
abbrev dktX0_odds_0 : List UInt8 := dkwX0_odds_0 ++ dktX0_odds_1
theorem dksX0_odds_0 : cX0_odds.data.toList.drop 0 = dktX0_odds_0 := by decide +kernel
theorem dksX0_odds_1 : cX0_odds.data.toList.drop 23 = dktX0_odds_1 := dk_seg dksX0_odds_0 23 rfl rfl
theorem dX0_odds_0 : decode cX0_odds 0 = .ok (.aload_n 0, 1) := dk_42 (dk_at dksX0_odds_0 0 rfl rfl)
theorem dX0_odds_1 : decode cX0_odds 1 = .ok (.iload_n 1, 1) := dk_27 (dk_at dksX0_odds_0 1 rfl rfl)
theorem dX0_odds_2 : decode cX0_odds 2 = .ok (.invokevirtual 145, 3) := dk_182 0 145 (dk_at dksX0_odds_0 2 rfl rfl)
theorem dX0_odds_5 : decode cX0_odds 5 = .ok (.ifCond .ne 6, 3) := dk_154 0 6 (dk_at dksX0_odds_0 5 rfl rfl)
theorem dX0_odds_8 : decode cX0_odds 8 = .ok (.bipush (-101), 2) := dk_16 155 (dk_at dksX0_odds_0 8 rfl rfl)
theorem dX0_odds_10 : decode cX0_odds 10 = .ok (.ireturn, 1) := dk_172 (dk_at dksX0_odds_0 10 rfl rfl)
theorem dX0_odds_11 : decode cX0_odds 11 = .ok (.iload_n 2, 1) := dk_28 (dk_at dksX0_odds_0 11 rfl rfl)
theorem dX0_odds_12 : decode cX0_odds 12 = .ok (.iconst 0, 1) := dk_3 (dk_at dksX0_odds_0 12 rfl rfl)
theorem dX0_odds_13 : decode cX0_odds 13 = .ok (.iconst 4, 1) := dk_7 (dk_at dksX0_odds_0 13 rfl rfl)
theorem dX0_odds_14 : decode cX0_odds 14 = .ok (.invokestatic 67, 3) := dk_184 0 67 (dk_at dksX0_odds_0 14 rfl rfl)
theorem dX0_odds_17 : decode cX0_odds 17 = .ok (.ifCond .eq 22, 3) := dk_153 0 22 (dk_at dksX0_odds_0 17 rfl rfl)
theorem dX0_odds_20 : decode cX0_odds 20 = .ok (.iload_n 3, 1) := dk_29 (dk_at dksX0_odds_0 20 rfl rfl)
theorem dX0_odds_21 : decode cX0_odds 21 = .ok (.iconst 0, 1) := dk_3 (dk_at dksX0_odds_0 21 rfl rfl)
theorem dX0_odds_22 : decode cX0_odds 22 = .ok (.iconst 1, 1) := dk_4 (dk_at dksX0_odds_0 22 rfl rfl)
theorem dX0_odds_23 : decode cX0_odds 23 = .ok (.invokestatic 67, 3) := dk_184 0 67 (dk_at dksX0_odds_1 0 rfl rfl)
theorem dX0_odds_26 : decode cX0_odds 26 = .ok (.ifCond .eq 13, 3) := dk_153 0 13 (dk_at dksX0_odds_1 3 rfl rfl)
theorem dX0_odds_29 : decode cX0_odds 29 = .ok (.aload_n 0, 1) := dk_42 (dk_at dksX0_odds_1 6 rfl rfl)
theorem dX0_odds_30 : decode cX0_odds 30 = .ok (.iload_n 1, 1) := dk_27 (dk_at dksX0_odds_1 7 rfl rfl)
theorem dX0_odds_31 : decode cX0_odds 31 = .ok (.iload_n 2, 1) := dk_28 (dk_at dksX0_odds_1 8 rfl rfl)
theorem dX0_odds_32 : decode cX0_odds 32 = .ok (.iload_n 3, 1) := dk_29 (dk_at dksX0_odds_1 9 rfl rfl)
theorem dX0_odds_33 : decode cX0_odds 33 = .ok (.invokevirtual 188, 3) := dk_182 0 188 (dk_at dksX0_odds_1 10 rfl rfl)
theorem dX0_odds_36 : decode cX0_odds 36 = .ok (.goto 5, 3) := dk_167 0 5 (dk_at dksX0_odds_1 13 rfl rfl)
theorem dX0_odds_39 : decode cX0_odds 39 = .ok (.bipush (-102), 2) := dk_16 154 (dk_at dksX0_odds_1 16 rfl rfl)
theorem dX0_odds_41 : decode cX0_odds 41 = .ok (.ireturn, 1) := dk_172 (dk_at dksX0_odds_1 18 rfl rfl)
abbrev cX0_oddsOf : ByteArray := prog_1_method_23_code
def yX0_oddsOf : MethodName := ⟨RX0, "oddsOf", "(III)I"⟩
def dkwX0_oddsOf_0 : List UInt8 := [42, 27, 2, 28, 182, 0, 181, 16, 10, 28, 184, 0, 174, 29, 184, 0, 185, 172]
abbrev dktX0_oddsOf_0 : List UInt8 := dkwX0_oddsOf_0 ++ []
theorem dksX0_oddsOf_0 : cX0_oddsOf.data.toList.drop 0 = dktX0_oddsOf_0 := by decide +kernel
theorem dX0_oddsOf_0 : decode cX0_oddsOf 0 = .ok (.aload_n 0, 1) := dk_42 (dk_at dksX0_oddsOf_0 0 rfl rfl)
theorem dX0_oddsOf_1 : decode cX0_oddsOf 1 = .ok (.iload_n 1, 1) := dk_27 (dk_at dksX0_oddsOf_0 1 rfl rfl)
theorem dX0_oddsOf_2 : decode cX0_oddsOf 2 = .ok (.iconst (-1), 1) := dk_2 (dk_at dksX0_oddsOf_0 2 rfl rfl)
theorem dX0_oddsOf_3 : decode cX0_oddsOf 3 = .ok (.iload_n 2, 1) := dk_28 (dk_at dksX0_oddsOf_0 3 rfl rfl)
theorem dX0_oddsOf_4 : decode cX0_oddsOf 4 = .ok (.invokevirtual 181, 3) := dk_182 0 181 (dk_at dksX0_oddsOf_0 4 rfl rfl)
theorem dX0_oddsOf_7 : decode cX0_oddsOf 7 = .ok (.bipush 10, 2) := dk_16 10 (dk_at dksX0_oddsOf_0 7 rfl rfl)
theorem dX0_oddsOf_9 : decode cX0_oddsOf 9 = .ok (.iload_n 2, 1) := dk_28 (dk_at dksX0_oddsOf_0 9 rfl rfl)
theorem dX0_oddsOf_10 : decode cX0_oddsOf 10 = .ok (.invokestatic 174, 3) := dk_184 0 174 (dk_at dksX0_oddsOf_0 10 rfl rfl)
theorem dX0_oddsOf_13 : decode cX0_oddsOf 13 = .ok (.iload_n 3, 1) := dk_29 (dk_at dksX0_oddsOf_0 13 rfl rfl)
theorem dX0_oddsOf_14 : decode cX0_oddsOf 14 = .ok (.invokestatic 185, 3) := dk_184 0 185 (dk_at dksX0_oddsOf_0 14 rfl rfl)
theorem dX0_oddsOf_17 : decode cX0_oddsOf 17 = .ok (.ireturn, 1) := dk_172 (dk_at dksX0_oddsOf_0 17 rfl rfl)
abbrev cX0_livesIn : ByteArray := prog_1_method_22_code
def yX0_livesIn : MethodName := ⟨RX0, "livesIn", "(III)I"⟩
def dkwX0_livesIn_5 : List UInt8 := [153, 0, 8, 21, 6, 167, 0, 4, 3, 96, 54, 4, 132, 5, 1, 167, 255, 128, 21, 4, 172]
abbrev dktX0_livesIn_5 : List UInt8 := dkwX0_livesIn_5 ++ []
def dkwX0_livesIn_4 : List UInt8 := [87, 21, 7, 16, 6, 108, 54, 7, 132, 8, 1, 167, 255, 212, 21, 4, 42, 180, 0, 29, 27, 182, 0, 139]
abbrev dktX0_livesIn_4 : List UInt8 := dkwX0_livesIn_4 ++ dktX0_livesIn_5
def dkwX0_livesIn_3 : List UInt8 := [180, 0, 16, 21, 7, 16, 6, 112, 46, 104, 54, 6, 42, 180, 0, 29, 21, 7, 16, 6, 112, 182, 0, 171]
abbrev dktX0_livesIn_3 : List UInt8 := dkwX0_livesIn_3 ++ dktX0_livesIn_4
def dkwX0_livesIn_2 : List UInt8 := [160, 0, 7, 3, 167, 0, 6, 4, 28, 120, 128, 79, 3, 54, 8, 21, 8, 29, 162, 0, 44, 21, 6, 42]
abbrev dktX0_livesIn_2 : List UInt8 := dkwX0_livesIn_2 ++ dktX0_livesIn_3
def dkwX0_livesIn_1 : List UInt8 := [42, 180, 0, 29, 42, 180, 0, 25, 182, 0, 177, 42, 180, 0, 29, 180, 0, 116, 27, 92, 46, 28, 2]
abbrev dktX0_livesIn_1 : List UInt8 := dkwX0_livesIn_1 ++ dktX0_livesIn_2
def dkwX0_livesIn_0 : List UInt8 := [3, 54, 4, 3, 54, 5, 21, 5, 16, 6, 29, 184, 0, 174, 162, 0, 123, 4, 54, 6, 21, 5, 54, 7]
abbrev dktX0_livesIn_0 : List UInt8 := dkwX0_livesIn_0 ++ dktX0_livesIn_1
theorem dksX0_livesIn_0 : cX0_livesIn.data.toList.drop 0 = dktX0_livesIn_0 := by decide +kernel
theorem dksX0_livesIn_1 : cX0_livesIn.data.toList.drop 24 = dktX0_livesIn_1 := dk_seg dksX0_livesIn_0 24 rfl rfl
theorem dksX0_livesIn_2 : cX0_livesIn.data.toList.drop 47 = dktX0_livesIn_2 := dk_seg dksX0_livesIn_1 23 rfl rfl
theorem dksX0_livesIn_3 : cX0_livesIn.data.toList.drop 71 = dktX0_livesIn_3 := dk_seg dksX0_livesIn_2 24 rfl rfl
theorem dksX0_livesIn_4 : cX0_livesIn.data.toList.drop 95 = dktX0_livesIn_4 := dk_seg dksX0_livesIn_3 24 rfl rfl
theorem dksX0_livesIn_5 : cX0_livesIn.data.toList.drop 119 = dktX0_livesIn_5 := dk_seg dksX0_livesIn_4 24 rfl rfl
theorem dX0_livesIn_0 : decode cX0_livesIn 0 = .ok (.iconst 0, 1) := dk_3 (dk_at dksX0_livesIn_0 0 rfl rfl)
theorem dX0_livesIn_1 : decode cX0_livesIn 1 = .ok (.istore 4, 2) := dk_54 4 (dk_at dksX0_livesIn_0 1 rfl rfl)
theorem dX0_livesIn_3 : decode cX0_livesIn 3 = .ok (.iconst 0, 1) := dk_3 (dk_at dksX0_livesIn_0 3 rfl rfl)
theorem dX0_livesIn_4 : decode cX0_livesIn 4 = .ok (.istore 5, 2) := dk_54 5 (dk_at dksX0_livesIn_0 4 rfl rfl)
theorem dX0_livesIn_6 : decode cX0_livesIn 6 = .ok (.iload 5, 2) := dk_21 5 (dk_at dksX0_livesIn_0 6 rfl rfl)
theorem dX0_livesIn_8 : decode cX0_livesIn 8 = .ok (.bipush 6, 2) := dk_16 6 (dk_at dksX0_livesIn_0 8 rfl rfl)
theorem dX0_livesIn_10 : decode cX0_livesIn 10 = .ok (.iload_n 3, 1) := dk_29 (dk_at dksX0_livesIn_0 10 rfl rfl)
theorem dX0_livesIn_11 : decode cX0_livesIn 11 = .ok (.invokestatic 174, 3) := dk_184 0 174 (dk_at dksX0_livesIn_0 11 rfl rfl)
theorem dX0_livesIn_14 : decode cX0_livesIn 14 = .ok (.if_icmp .ge 123, 3) := dk_162 0 123 (dk_at dksX0_livesIn_0 14 rfl rfl)
theorem dX0_livesIn_17 : decode cX0_livesIn 17 = .ok (.iconst 1, 1) := dk_4 (dk_at dksX0_livesIn_0 17 rfl rfl)
theorem dX0_livesIn_18 : decode cX0_livesIn 18 = .ok (.istore 6, 2) := dk_54 6 (dk_at dksX0_livesIn_0 18 rfl rfl)
theorem dX0_livesIn_20 : decode cX0_livesIn 20 = .ok (.iload 5, 2) := dk_21 5 (dk_at dksX0_livesIn_0 20 rfl rfl)
theorem dX0_livesIn_22 : decode cX0_livesIn 22 = .ok (.istore 7, 2) := dk_54 7 (dk_at dksX0_livesIn_0 22 rfl rfl)
theorem dX0_livesIn_24 : decode cX0_livesIn 24 = .ok (.aload_n 0, 1) := dk_42 (dk_at dksX0_livesIn_1 0 rfl rfl)
theorem dX0_livesIn_25 : decode cX0_livesIn 25 = .ok (.getfield 29, 3) := dk_180 0 29 (dk_at dksX0_livesIn_1 1 rfl rfl)
theorem dX0_livesIn_28 : decode cX0_livesIn 28 = .ok (.aload_n 0, 1) := dk_42 (dk_at dksX0_livesIn_1 4 rfl rfl)
theorem dX0_livesIn_29 : decode cX0_livesIn 29 = .ok (.getfield 25, 3) := dk_180 0 25 (dk_at dksX0_livesIn_1 5 rfl rfl)
theorem dX0_livesIn_32 : decode cX0_livesIn 32 = .ok (.invokevirtual 177, 3) := dk_182 0 177 (dk_at dksX0_livesIn_1 8 rfl rfl)
theorem dX0_livesIn_35 : decode cX0_livesIn 35 = .ok (.aload_n 0, 1) := dk_42 (dk_at dksX0_livesIn_1 11 rfl rfl)
theorem dX0_livesIn_36 : decode cX0_livesIn 36 = .ok (.getfield 29, 3) := dk_180 0 29 (dk_at dksX0_livesIn_1 12 rfl rfl)
theorem dX0_livesIn_39 : decode cX0_livesIn 39 = .ok (.getfield 116, 3) := dk_180 0 116 (dk_at dksX0_livesIn_1 15 rfl rfl)
theorem dX0_livesIn_42 : decode cX0_livesIn 42 = .ok (.iload_n 1, 1) := dk_27 (dk_at dksX0_livesIn_1 18 rfl rfl)
theorem dX0_livesIn_43 : decode cX0_livesIn 43 = .ok (.dup2, 1) := dk_92 (dk_at dksX0_livesIn_1 19 rfl rfl)
theorem dX0_livesIn_44 : decode cX0_livesIn 44 = .ok (.iaload, 1) := dk_46 (dk_at dksX0_livesIn_1 20 rfl rfl)
theorem dX0_livesIn_45 : decode cX0_livesIn 45 = .ok (.iload_n 2, 1) := dk_28 (dk_at dksX0_livesIn_1 21 rfl rfl)
theorem dX0_livesIn_46 : decode cX0_livesIn 46 = .ok (.iconst (-1), 1) := dk_2 (dk_at dksX0_livesIn_1 22 rfl rfl)
theorem dX0_livesIn_47 : decode cX0_livesIn 47 = .ok (.if_icmp .ne 7, 3) := dk_160 0 7 (dk_at dksX0_livesIn_2 0 rfl rfl)
theorem dX0_livesIn_50 : decode cX0_livesIn 50 = .ok (.iconst 0, 1) := dk_3 (dk_at dksX0_livesIn_2 3 rfl rfl)
theorem dX0_livesIn_51 : decode cX0_livesIn 51 = .ok (.goto 6, 3) := dk_167 0 6 (dk_at dksX0_livesIn_2 4 rfl rfl)
theorem dX0_livesIn_54 : decode cX0_livesIn 54 = .ok (.iconst 1, 1) := dk_4 (dk_at dksX0_livesIn_2 7 rfl rfl)
theorem dX0_livesIn_55 : decode cX0_livesIn 55 = .ok (.iload_n 2, 1) := dk_28 (dk_at dksX0_livesIn_2 8 rfl rfl)
theorem dX0_livesIn_56 : decode cX0_livesIn 56 = .ok (.ishl, 1) := dk_120 (dk_at dksX0_livesIn_2 9 rfl rfl)
theorem dX0_livesIn_57 : decode cX0_livesIn 57 = .ok (.ior, 1) := dk_128 (dk_at dksX0_livesIn_2 10 rfl rfl)
theorem dX0_livesIn_58 : decode cX0_livesIn 58 = .ok (.iastore, 1) := dk_79 (dk_at dksX0_livesIn_2 11 rfl rfl)
theorem dX0_livesIn_59 : decode cX0_livesIn 59 = .ok (.iconst 0, 1) := dk_3 (dk_at dksX0_livesIn_2 12 rfl rfl)
theorem dX0_livesIn_60 : decode cX0_livesIn 60 = .ok (.istore 8, 2) := dk_54 8 (dk_at dksX0_livesIn_2 13 rfl rfl)
theorem dX0_livesIn_62 : decode cX0_livesIn 62 = .ok (.iload 8, 2) := dk_21 8 (dk_at dksX0_livesIn_2 15 rfl rfl)
theorem dX0_livesIn_64 : decode cX0_livesIn 64 = .ok (.iload_n 3, 1) := dk_29 (dk_at dksX0_livesIn_2 17 rfl rfl)
theorem dX0_livesIn_65 : decode cX0_livesIn 65 = .ok (.if_icmp .ge 44, 3) := dk_162 0 44 (dk_at dksX0_livesIn_2 18 rfl rfl)
theorem dX0_livesIn_68 : decode cX0_livesIn 68 = .ok (.iload 6, 2) := dk_21 6 (dk_at dksX0_livesIn_2 21 rfl rfl)
theorem dX0_livesIn_70 : decode cX0_livesIn 70 = .ok (.aload_n 0, 1) := dk_42 (dk_at dksX0_livesIn_2 23 rfl rfl)
theorem dX0_livesIn_71 : decode cX0_livesIn 71 = .ok (.getfield 16, 3) := dk_180 0 16 (dk_at dksX0_livesIn_3 0 rfl rfl)
theorem dX0_livesIn_74 : decode cX0_livesIn 74 = .ok (.iload 7, 2) := dk_21 7 (dk_at dksX0_livesIn_3 3 rfl rfl)
theorem dX0_livesIn_76 : decode cX0_livesIn 76 = .ok (.bipush 6, 2) := dk_16 6 (dk_at dksX0_livesIn_3 5 rfl rfl)
theorem dX0_livesIn_78 : decode cX0_livesIn 78 = .ok (.irem, 1) := dk_112 (dk_at dksX0_livesIn_3 7 rfl rfl)
theorem dX0_livesIn_79 : decode cX0_livesIn 79 = .ok (.iaload, 1) := dk_46 (dk_at dksX0_livesIn_3 8 rfl rfl)
theorem dX0_livesIn_80 : decode cX0_livesIn 80 = .ok (.imul, 1) := dk_104 (dk_at dksX0_livesIn_3 9 rfl rfl)
theorem dX0_livesIn_81 : decode cX0_livesIn 81 = .ok (.istore 6, 2) := dk_54 6 (dk_at dksX0_livesIn_3 10 rfl rfl)
theorem dX0_livesIn_83 : decode cX0_livesIn 83 = .ok (.aload_n 0, 1) := dk_42 (dk_at dksX0_livesIn_3 12 rfl rfl)
theorem dX0_livesIn_84 : decode cX0_livesIn 84 = .ok (.getfield 29, 3) := dk_180 0 29 (dk_at dksX0_livesIn_3 13 rfl rfl)
theorem dX0_livesIn_87 : decode cX0_livesIn 87 = .ok (.iload 7, 2) := dk_21 7 (dk_at dksX0_livesIn_3 16 rfl rfl)
theorem dX0_livesIn_89 : decode cX0_livesIn 89 = .ok (.bipush 6, 2) := dk_16 6 (dk_at dksX0_livesIn_3 18 rfl rfl)
theorem dX0_livesIn_91 : decode cX0_livesIn 91 = .ok (.irem, 1) := dk_112 (dk_at dksX0_livesIn_3 20 rfl rfl)
theorem dX0_livesIn_92 : decode cX0_livesIn 92 = .ok (.invokevirtual 171, 3) := dk_182 0 171 (dk_at dksX0_livesIn_3 21 rfl rfl)
theorem dX0_livesIn_95 : decode cX0_livesIn 95 = .ok (.pop, 1) := dk_87 (dk_at dksX0_livesIn_4 0 rfl rfl)
theorem dX0_livesIn_96 : decode cX0_livesIn 96 = .ok (.iload 7, 2) := dk_21 7 (dk_at dksX0_livesIn_4 1 rfl rfl)
theorem dX0_livesIn_98 : decode cX0_livesIn 98 = .ok (.bipush 6, 2) := dk_16 6 (dk_at dksX0_livesIn_4 3 rfl rfl)
theorem dX0_livesIn_100 : decode cX0_livesIn 100 = .ok (.idiv, 1) := dk_108 (dk_at dksX0_livesIn_4 5 rfl rfl)
theorem dX0_livesIn_101 : decode cX0_livesIn 101 = .ok (.istore 7, 2) := dk_54 7 (dk_at dksX0_livesIn_4 6 rfl rfl)
theorem dX0_livesIn_103 : decode cX0_livesIn 103 = .ok (.iinc 8 1, 3) := dk_132 8 1 (dk_at dksX0_livesIn_4 8 rfl rfl)
theorem dX0_livesIn_106 : decode cX0_livesIn 106 = .ok (.goto (-44), 3) := dk_167 255 212 (dk_at dksX0_livesIn_4 11 rfl rfl)
theorem dX0_livesIn_109 : decode cX0_livesIn 109 = .ok (.iload 4, 2) := dk_21 4 (dk_at dksX0_livesIn_4 14 rfl rfl)
theorem dX0_livesIn_111 : decode cX0_livesIn 111 = .ok (.aload_n 0, 1) := dk_42 (dk_at dksX0_livesIn_4 16 rfl rfl)
theorem dX0_livesIn_112 : decode cX0_livesIn 112 = .ok (.getfield 29, 3) := dk_180 0 29 (dk_at dksX0_livesIn_4 17 rfl rfl)
theorem dX0_livesIn_115 : decode cX0_livesIn 115 = .ok (.iload_n 1, 1) := dk_27 (dk_at dksX0_livesIn_4 20 rfl rfl)
theorem dX0_livesIn_116 : decode cX0_livesIn 116 = .ok (.invokevirtual 139, 3) := dk_182 0 139 (dk_at dksX0_livesIn_4 21 rfl rfl)
theorem dX0_livesIn_119 : decode cX0_livesIn 119 = .ok (.ifCond .eq 8, 3) := dk_153 0 8 (dk_at dksX0_livesIn_5 0 rfl rfl)
theorem dX0_livesIn_122 : decode cX0_livesIn 122 = .ok (.iload 6, 2) := dk_21 6 (dk_at dksX0_livesIn_5 3 rfl rfl)
theorem dX0_livesIn_124 : decode cX0_livesIn 124 = .ok (.goto 4, 3) := dk_167 0 4 (dk_at dksX0_livesIn_5 5 rfl rfl)
theorem dX0_livesIn_127 : decode cX0_livesIn 127 = .ok (.iconst 0, 1) := dk_3 (dk_at dksX0_livesIn_5 8 rfl rfl)
theorem dX0_livesIn_128 : decode cX0_livesIn 128 = .ok (.iadd, 1) := dk_96 (dk_at dksX0_livesIn_5 9 rfl rfl)
theorem dX0_livesIn_129 : decode cX0_livesIn 129 = .ok (.istore 4, 2) := dk_54 4 (dk_at dksX0_livesIn_5 10 rfl rfl)
theorem dX0_livesIn_131 : decode cX0_livesIn 131 = .ok (.iinc 5 1, 3) := dk_132 5 1 (dk_at dksX0_livesIn_5 12 rfl rfl)
theorem dX0_livesIn_134 : decode cX0_livesIn 134 = .ok (.goto (-128), 3) := dk_167 255 128 (dk_at dksX0_livesIn_5 15 rfl rfl)
theorem dX0_livesIn_137 : decode cX0_livesIn 137 = .ok (.iload 4, 2) := dk_21 4 (dk_at dksX0_livesIn_5 18 rfl rfl)
theorem dX0_livesIn_139 : decode cX0_livesIn 139 = .ok (.ireturn, 1) := dk_172 (dk_at dksX0_livesIn_5 20 rfl rfl)
abbrev cX0_power : ByteArray := prog_1_method_4_code
def yX0_power : MethodName := ⟨RX0, "power", "(II)I"⟩
def dkwX0_power_0 : List UInt8 := [4, 61, 3, 62, 29, 27, 162, 0, 13, 28, 26, 104, 61, 132, 3, 1, 167, 255, 244, 28, 172]
abbrev dktX0_power_0 : List UInt8 := dkwX0_power_0 ++ []
theorem dksX0_power_0 : cX0_power.data.toList.drop 0 = dktX0_power_0 := by decide +kernel
theorem dX0_power_0 : decode cX0_power 0 = .ok (.iconst 1, 1) := dk_4 (dk_at dksX0_power_0 0 rfl rfl)
theorem dX0_power_1 : decode cX0_power 1 = .ok (.istore_n 2, 1) := dk_61 (dk_at dksX0_power_0 1 rfl rfl)
theorem dX0_power_2 : decode cX0_power 2 = .ok (.iconst 0, 1) := dk_3 (dk_at dksX0_power_0 2 rfl rfl)
theorem dX0_power_3 : decode cX0_power 3 = .ok (.istore_n 3, 1) := dk_62 (dk_at dksX0_power_0 3 rfl rfl)
theorem dX0_power_4 : decode cX0_power 4 = .ok (.iload_n 3, 1) := dk_29 (dk_at dksX0_power_0 4 rfl rfl)
theorem dX0_power_5 : decode cX0_power 5 = .ok (.iload_n 1, 1) := dk_27 (dk_at dksX0_power_0 5 rfl rfl)
theorem dX0_power_6 : decode cX0_power 6 = .ok (.if_icmp .ge 13, 3) := dk_162 0 13 (dk_at dksX0_power_0 6 rfl rfl)
theorem dX0_power_9 : decode cX0_power 9 = .ok (.iload_n 2, 1) := dk_28 (dk_at dksX0_power_0 9 rfl rfl)
theorem dX0_power_10 : decode cX0_power 10 = .ok (.iload_n 0, 1) := dk_26 (dk_at dksX0_power_0 10 rfl rfl)
theorem dX0_power_11 : decode cX0_power 11 = .ok (.imul, 1) := dk_104 (dk_at dksX0_power_0 11 rfl rfl)
theorem dX0_power_12 : decode cX0_power 12 = .ok (.istore_n 2, 1) := dk_61 (dk_at dksX0_power_0 12 rfl rfl)
theorem dX0_power_13 : decode cX0_power 13 = .ok (.iinc 3 1, 3) := dk_132 3 1 (dk_at dksX0_power_0 13 rfl rfl)
theorem dX0_power_16 : decode cX0_power 16 = .ok (.goto (-12), 3) := dk_167 255 244 (dk_at dksX0_power_0 16 rfl rfl)
theorem dX0_power_19 : decode cX0_power 19 = .ok (.iload_n 2, 1) := dk_28 (dk_at dksX0_power_0 19 rfl rfl)
theorem dX0_power_20 : decode cX0_power 20 = .ok (.ireturn, 1) := dk_172 (dk_at dksX0_power_0 20 rfl rfl)
abbrev cX0_lowest : ByteArray := prog_1_method_3_code
def yX0_lowest : MethodName := ⟨RX0, "lowest", "(III)I"⟩
def dkwX0_lowest_1 : List UInt8 := [167, 255, 238, 28, 154, 0, 9, 26, 29, 108, 167, 0, 6, 27, 29, 108, 172]
abbrev dktX0_lowest_1 : List UInt8 := dkwX0_lowest_1 ++ []
def dkwX0_lowest_0 : List UInt8 := [26, 62, 27, 54, 4, 21, 4, 153, 0, 19, 29, 21, 4, 112, 54, 5, 21, 4, 62, 21, 5, 54, 4]
abbrev dktX0_lowest_0 : List UInt8 := dkwX0_lowest_0 ++ dktX0_lowest_1
theorem dksX0_lowest_0 : cX0_lowest.data.toList.drop 0 = dktX0_lowest_0 := by decide +kernel
theorem dksX0_lowest_1 : cX0_lowest.data.toList.drop 23 = dktX0_lowest_1 := dk_seg dksX0_lowest_0 23 rfl rfl
theorem dX0_lowest_0 : decode cX0_lowest 0 = .ok (.iload_n 0, 1) := dk_26 (dk_at dksX0_lowest_0 0 rfl rfl)
theorem dX0_lowest_1 : decode cX0_lowest 1 = .ok (.istore_n 3, 1) := dk_62 (dk_at dksX0_lowest_0 1 rfl rfl)
theorem dX0_lowest_2 : decode cX0_lowest 2 = .ok (.iload_n 1, 1) := dk_27 (dk_at dksX0_lowest_0 2 rfl rfl)
theorem dX0_lowest_3 : decode cX0_lowest 3 = .ok (.istore 4, 2) := dk_54 4 (dk_at dksX0_lowest_0 3 rfl rfl)
theorem dX0_lowest_5 : decode cX0_lowest 5 = .ok (.iload 4, 2) := dk_21 4 (dk_at dksX0_lowest_0 5 rfl rfl)
theorem dX0_lowest_7 : decode cX0_lowest 7 = .ok (.ifCond .eq 19, 3) := dk_153 0 19 (dk_at dksX0_lowest_0 7 rfl rfl)
theorem dX0_lowest_10 : decode cX0_lowest 10 = .ok (.iload_n 3, 1) := dk_29 (dk_at dksX0_lowest_0 10 rfl rfl)
theorem dX0_lowest_11 : decode cX0_lowest 11 = .ok (.iload 4, 2) := dk_21 4 (dk_at dksX0_lowest_0 11 rfl rfl)
theorem dX0_lowest_13 : decode cX0_lowest 13 = .ok (.irem, 1) := dk_112 (dk_at dksX0_lowest_0 13 rfl rfl)
theorem dX0_lowest_14 : decode cX0_lowest 14 = .ok (.istore 5, 2) := dk_54 5 (dk_at dksX0_lowest_0 14 rfl rfl)
theorem dX0_lowest_16 : decode cX0_lowest 16 = .ok (.iload 4, 2) := dk_21 4 (dk_at dksX0_lowest_0 16 rfl rfl)
theorem dX0_lowest_18 : decode cX0_lowest 18 = .ok (.istore_n 3, 1) := dk_62 (dk_at dksX0_lowest_0 18 rfl rfl)
theorem dX0_lowest_19 : decode cX0_lowest 19 = .ok (.iload 5, 2) := dk_21 5 (dk_at dksX0_lowest_0 19 rfl rfl)
theorem dX0_lowest_21 : decode cX0_lowest 21 = .ok (.istore 4, 2) := dk_54 4 (dk_at dksX0_lowest_0 21 rfl rfl)
theorem dX0_lowest_23 : decode cX0_lowest 23 = .ok (.goto (-18), 3) := dk_167 255 238 (dk_at dksX0_lowest_1 0 rfl rfl)
theorem dX0_lowest_26 : decode cX0_lowest 26 = .ok (.iload_n 2, 1) := dk_28 (dk_at dksX0_lowest_1 3 rfl rfl)
theorem dX0_lowest_27 : decode cX0_lowest 27 = .ok (.ifCond .ne 9, 3) := dk_154 0 9 (dk_at dksX0_lowest_1 4 rfl rfl)
theorem dX0_lowest_30 : decode cX0_lowest 30 = .ok (.iload_n 0, 1) := dk_26 (dk_at dksX0_lowest_1 7 rfl rfl)
theorem dX0_lowest_31 : decode cX0_lowest 31 = .ok (.iload_n 3, 1) := dk_29 (dk_at dksX0_lowest_1 8 rfl rfl)
theorem dX0_lowest_32 : decode cX0_lowest 32 = .ok (.idiv, 1) := dk_108 (dk_at dksX0_lowest_1 9 rfl rfl)
theorem dX0_lowest_33 : decode cX0_lowest 33 = .ok (.goto 6, 3) := dk_167 0 6 (dk_at dksX0_lowest_1 10 rfl rfl)
theorem dX0_lowest_36 : decode cX0_lowest 36 = .ok (.iload_n 1, 1) := dk_27 (dk_at dksX0_lowest_1 13 rfl rfl)
theorem dX0_lowest_37 : decode cX0_lowest 37 = .ok (.iload_n 3, 1) := dk_29 (dk_at dksX0_lowest_1 14 rfl rfl)
theorem dX0_lowest_38 : decode cX0_lowest 38 = .ok (.idiv, 1) := dk_108 (dk_at dksX0_lowest_1 15 rfl rfl)
theorem dX0_lowest_39 : decode cX0_lowest 39 = .ok (.ireturn, 1) := dk_172 (dk_at dksX0_lowest_1 16 rfl rfl)
abbrev cX0_where : ByteArray := prog_1_method_26_code
def yX0_where : MethodName := ⟨RX0, "where", "(II)I"⟩
def dkwX0_where_1 : List UInt8 := [182, 0, 196, 167, 0, 5, 16, 154, 172]
abbrev dktX0_where_1 : List UInt8 := dkwX0_where_1 ++ []
def dkwX0_where_0 : List UInt8 := [42, 27, 182, 0, 145, 154, 0, 6, 16, 155, 172, 28, 3, 7, 184, 0, 67, 153, 0, 12, 42, 27, 28]
abbrev dktX0_where_0 : List UInt8 := dkwX0_where_0 ++ dktX0_where_1
theorem dksX0_where_0 : cX0_where.data.toList.drop 0 = dktX0_where_0 := by decide +kernel
theorem dksX0_where_1 : cX0_where.data.toList.drop 23 = dktX0_where_1 := dk_seg dksX0_where_0 23 rfl rfl
theorem dX0_where_0 : decode cX0_where 0 = .ok (.aload_n 0, 1) := dk_42 (dk_at dksX0_where_0 0 rfl rfl)
theorem dX0_where_1 : decode cX0_where 1 = .ok (.iload_n 1, 1) := dk_27 (dk_at dksX0_where_0 1 rfl rfl)
theorem dX0_where_2 : decode cX0_where 2 = .ok (.invokevirtual 145, 3) := dk_182 0 145 (dk_at dksX0_where_0 2 rfl rfl)
theorem dX0_where_5 : decode cX0_where 5 = .ok (.ifCond .ne 6, 3) := dk_154 0 6 (dk_at dksX0_where_0 5 rfl rfl)
theorem dX0_where_8 : decode cX0_where 8 = .ok (.bipush (-101), 2) := dk_16 155 (dk_at dksX0_where_0 8 rfl rfl)
theorem dX0_where_10 : decode cX0_where 10 = .ok (.ireturn, 1) := dk_172 (dk_at dksX0_where_0 10 rfl rfl)
theorem dX0_where_11 : decode cX0_where 11 = .ok (.iload_n 2, 1) := dk_28 (dk_at dksX0_where_0 11 rfl rfl)
theorem dX0_where_12 : decode cX0_where 12 = .ok (.iconst 0, 1) := dk_3 (dk_at dksX0_where_0 12 rfl rfl)
theorem dX0_where_13 : decode cX0_where 13 = .ok (.iconst 4, 1) := dk_7 (dk_at dksX0_where_0 13 rfl rfl)
theorem dX0_where_14 : decode cX0_where 14 = .ok (.invokestatic 67, 3) := dk_184 0 67 (dk_at dksX0_where_0 14 rfl rfl)
theorem dX0_where_17 : decode cX0_where 17 = .ok (.ifCond .eq 12, 3) := dk_153 0 12 (dk_at dksX0_where_0 17 rfl rfl)
theorem dX0_where_20 : decode cX0_where 20 = .ok (.aload_n 0, 1) := dk_42 (dk_at dksX0_where_0 20 rfl rfl)
theorem dX0_where_21 : decode cX0_where 21 = .ok (.iload_n 1, 1) := dk_27 (dk_at dksX0_where_0 21 rfl rfl)
theorem dX0_where_22 : decode cX0_where 22 = .ok (.iload_n 2, 1) := dk_28 (dk_at dksX0_where_0 22 rfl rfl)
theorem dX0_where_23 : decode cX0_where 23 = .ok (.invokevirtual 196, 3) := dk_182 0 196 (dk_at dksX0_where_1 0 rfl rfl)
theorem dX0_where_26 : decode cX0_where 26 = .ok (.goto 5, 3) := dk_167 0 5 (dk_at dksX0_where_1 3 rfl rfl)
theorem dX0_where_29 : decode cX0_where 29 = .ok (.bipush (-102), 2) := dk_16 154 (dk_at dksX0_where_1 6 rfl rfl)
theorem dX0_where_31 : decode cX0_where 31 = .ok (.ireturn, 1) := dk_172 (dk_at dksX0_where_1 8 rfl rfl)
abbrev cX0_whereOf : ByteArray := prog_1_method_25_code
def yX0_whereOf : MethodName := ⟨RX0, "whereOf", "(II)I"⟩
def dkwX0_whereOf_3 : List UInt8 := [167, 255, 200, 29, 172]
abbrev dktX0_whereOf_3 : List UInt8 := dkwX0_whereOf_3 ++ []
def dkwX0_whereOf_2 : List UInt8 := [21, 4, 164, 0, 8, 21, 5, 167, 0, 4, 29, 62, 21, 4, 21, 6, 184, 0, 191, 54, 4, 132, 5, 1]
abbrev dktX0_whereOf_2 : List UInt8 := dkwX0_whereOf_2 ++ dktX0_whereOf_3
def dkwX0_whereOf_1 : List UInt8 := [180, 0, 25, 27, 21, 5, 182, 0, 155, 153, 0, 36, 42, 27, 21, 5, 28, 182, 0, 181, 54, 6, 21, 6]
abbrev dktX0_whereOf_1 : List UInt8 := dkwX0_whereOf_1 ++ dktX0_whereOf_2
def dkwX0_whereOf_0 : List UInt8 := [2, 62, 42, 27, 2, 28, 182, 0, 181, 54, 4, 3, 54, 5, 21, 5, 16, 6, 162, 0, 55, 42]
abbrev dktX0_whereOf_0 : List UInt8 := dkwX0_whereOf_0 ++ dktX0_whereOf_1
theorem dksX0_whereOf_0 : cX0_whereOf.data.toList.drop 0 = dktX0_whereOf_0 := by decide +kernel
theorem dksX0_whereOf_1 : cX0_whereOf.data.toList.drop 22 = dktX0_whereOf_1 := dk_seg dksX0_whereOf_0 22 rfl rfl
theorem dksX0_whereOf_2 : cX0_whereOf.data.toList.drop 46 = dktX0_whereOf_2 := dk_seg dksX0_whereOf_1 24 rfl rfl
theorem dksX0_whereOf_3 : cX0_whereOf.data.toList.drop 70 = dktX0_whereOf_3 := dk_seg dksX0_whereOf_2 24 rfl rfl
theorem dX0_whereOf_0 : decode cX0_whereOf 0 = .ok (.iconst (-1), 1) := dk_2 (dk_at dksX0_whereOf_0 0 rfl rfl)
theorem dX0_whereOf_1 : decode cX0_whereOf 1 = .ok (.istore_n 3, 1) := dk_62 (dk_at dksX0_whereOf_0 1 rfl rfl)
theorem dX0_whereOf_2 : decode cX0_whereOf 2 = .ok (.aload_n 0, 1) := dk_42 (dk_at dksX0_whereOf_0 2 rfl rfl)
theorem dX0_whereOf_3 : decode cX0_whereOf 3 = .ok (.iload_n 1, 1) := dk_27 (dk_at dksX0_whereOf_0 3 rfl rfl)
theorem dX0_whereOf_4 : decode cX0_whereOf 4 = .ok (.iconst (-1), 1) := dk_2 (dk_at dksX0_whereOf_0 4 rfl rfl)
theorem dX0_whereOf_5 : decode cX0_whereOf 5 = .ok (.iload_n 2, 1) := dk_28 (dk_at dksX0_whereOf_0 5 rfl rfl)
theorem dX0_whereOf_6 : decode cX0_whereOf 6 = .ok (.invokevirtual 181, 3) := dk_182 0 181 (dk_at dksX0_whereOf_0 6 rfl rfl)
theorem dX0_whereOf_9 : decode cX0_whereOf 9 = .ok (.istore 4, 2) := dk_54 4 (dk_at dksX0_whereOf_0 9 rfl rfl)
theorem dX0_whereOf_11 : decode cX0_whereOf 11 = .ok (.iconst 0, 1) := dk_3 (dk_at dksX0_whereOf_0 11 rfl rfl)
theorem dX0_whereOf_12 : decode cX0_whereOf 12 = .ok (.istore 5, 2) := dk_54 5 (dk_at dksX0_whereOf_0 12 rfl rfl)
theorem dX0_whereOf_14 : decode cX0_whereOf 14 = .ok (.iload 5, 2) := dk_21 5 (dk_at dksX0_whereOf_0 14 rfl rfl)
theorem dX0_whereOf_16 : decode cX0_whereOf 16 = .ok (.bipush 6, 2) := dk_16 6 (dk_at dksX0_whereOf_0 16 rfl rfl)
theorem dX0_whereOf_18 : decode cX0_whereOf 18 = .ok (.if_icmp .ge 55, 3) := dk_162 0 55 (dk_at dksX0_whereOf_0 18 rfl rfl)
theorem dX0_whereOf_21 : decode cX0_whereOf 21 = .ok (.aload_n 0, 1) := dk_42 (dk_at dksX0_whereOf_0 21 rfl rfl)
theorem dX0_whereOf_22 : decode cX0_whereOf 22 = .ok (.getfield 25, 3) := dk_180 0 25 (dk_at dksX0_whereOf_1 0 rfl rfl)
theorem dX0_whereOf_25 : decode cX0_whereOf 25 = .ok (.iload_n 1, 1) := dk_27 (dk_at dksX0_whereOf_1 3 rfl rfl)
theorem dX0_whereOf_26 : decode cX0_whereOf 26 = .ok (.iload 5, 2) := dk_21 5 (dk_at dksX0_whereOf_1 4 rfl rfl)
theorem dX0_whereOf_28 : decode cX0_whereOf 28 = .ok (.invokevirtual 155, 3) := dk_182 0 155 (dk_at dksX0_whereOf_1 6 rfl rfl)
theorem dX0_whereOf_31 : decode cX0_whereOf 31 = .ok (.ifCond .eq 36, 3) := dk_153 0 36 (dk_at dksX0_whereOf_1 9 rfl rfl)
theorem dX0_whereOf_34 : decode cX0_whereOf 34 = .ok (.aload_n 0, 1) := dk_42 (dk_at dksX0_whereOf_1 12 rfl rfl)
theorem dX0_whereOf_35 : decode cX0_whereOf 35 = .ok (.iload_n 1, 1) := dk_27 (dk_at dksX0_whereOf_1 13 rfl rfl)
theorem dX0_whereOf_36 : decode cX0_whereOf 36 = .ok (.iload 5, 2) := dk_21 5 (dk_at dksX0_whereOf_1 14 rfl rfl)
theorem dX0_whereOf_38 : decode cX0_whereOf 38 = .ok (.iload_n 2, 1) := dk_28 (dk_at dksX0_whereOf_1 16 rfl rfl)
theorem dX0_whereOf_39 : decode cX0_whereOf 39 = .ok (.invokevirtual 181, 3) := dk_182 0 181 (dk_at dksX0_whereOf_1 17 rfl rfl)
theorem dX0_whereOf_42 : decode cX0_whereOf 42 = .ok (.istore 6, 2) := dk_54 6 (dk_at dksX0_whereOf_1 20 rfl rfl)
theorem dX0_whereOf_44 : decode cX0_whereOf 44 = .ok (.iload 6, 2) := dk_21 6 (dk_at dksX0_whereOf_1 22 rfl rfl)
theorem dX0_whereOf_46 : decode cX0_whereOf 46 = .ok (.iload 4, 2) := dk_21 4 (dk_at dksX0_whereOf_2 0 rfl rfl)
theorem dX0_whereOf_48 : decode cX0_whereOf 48 = .ok (.if_icmp .le 8, 3) := dk_164 0 8 (dk_at dksX0_whereOf_2 2 rfl rfl)
theorem dX0_whereOf_51 : decode cX0_whereOf 51 = .ok (.iload 5, 2) := dk_21 5 (dk_at dksX0_whereOf_2 5 rfl rfl)
theorem dX0_whereOf_53 : decode cX0_whereOf 53 = .ok (.goto 4, 3) := dk_167 0 4 (dk_at dksX0_whereOf_2 7 rfl rfl)
theorem dX0_whereOf_56 : decode cX0_whereOf 56 = .ok (.iload_n 3, 1) := dk_29 (dk_at dksX0_whereOf_2 10 rfl rfl)
theorem dX0_whereOf_57 : decode cX0_whereOf 57 = .ok (.istore_n 3, 1) := dk_62 (dk_at dksX0_whereOf_2 11 rfl rfl)
theorem dX0_whereOf_58 : decode cX0_whereOf 58 = .ok (.iload 4, 2) := dk_21 4 (dk_at dksX0_whereOf_2 12 rfl rfl)
theorem dX0_whereOf_60 : decode cX0_whereOf 60 = .ok (.iload 6, 2) := dk_21 6 (dk_at dksX0_whereOf_2 14 rfl rfl)
theorem dX0_whereOf_62 : decode cX0_whereOf 62 = .ok (.invokestatic 191, 3) := dk_184 0 191 (dk_at dksX0_whereOf_2 16 rfl rfl)
theorem dX0_whereOf_65 : decode cX0_whereOf 65 = .ok (.istore 4, 2) := dk_54 4 (dk_at dksX0_whereOf_2 19 rfl rfl)
theorem dX0_whereOf_67 : decode cX0_whereOf 67 = .ok (.iinc 5 1, 3) := dk_132 5 1 (dk_at dksX0_whereOf_2 21 rfl rfl)
theorem dX0_whereOf_70 : decode cX0_whereOf 70 = .ok (.goto (-56), 3) := dk_167 255 200 (dk_at dksX0_whereOf_3 0 rfl rfl)
theorem dX0_whereOf_73 : decode cX0_whereOf 73 = .ok (.iload_n 3, 1) := dk_29 (dk_at dksX0_whereOf_3 3 rfl rfl)
theorem dX0_whereOf_74 : decode cX0_whereOf 74 = .ok (.ireturn, 1) := dk_172 (dk_at dksX0_whereOf_3 4 rfl rfl)
abbrev cX0_sure : ByteArray := prog_1_method_29_code
def yX0_sure : MethodName := ⟨RX0, "sure", "(III)I"⟩
def dkwX0_sure_2 : List UInt8 := [160, 0, 6, 16, 153, 172, 42, 89, 180, 0, 206, 4, 96, 181, 0, 206, 42, 27, 28, 29, 182, 0, 209, 172]
abbrev dktX0_sure_2 : List UInt8 := dkwX0_sure_2 ++ []
def dkwX0_sure_1 : List UInt8 := [4, 184, 0, 67, 154, 0, 6, 16, 154, 172, 42, 180, 0, 92, 153, 0, 12, 42, 180, 0, 206, 16, 30]
abbrev dktX0_sure_1 : List UInt8 := dkwX0_sure_1 ++ dktX0_sure_2
def dkwX0_sure_0 : List UInt8 := [27, 153, 0, 12, 27, 6, 7, 184, 0, 67, 153, 0, 21, 28, 3, 7, 184, 0, 67, 153, 0, 12, 29, 3]
abbrev dktX0_sure_0 : List UInt8 := dkwX0_sure_0 ++ dktX0_sure_1
theorem dksX0_sure_0 : cX0_sure.data.toList.drop 0 = dktX0_sure_0 := by decide +kernel
theorem dksX0_sure_1 : cX0_sure.data.toList.drop 24 = dktX0_sure_1 := dk_seg dksX0_sure_0 24 rfl rfl
theorem dksX0_sure_2 : cX0_sure.data.toList.drop 47 = dktX0_sure_2 := dk_seg dksX0_sure_1 23 rfl rfl
theorem dX0_sure_0 : decode cX0_sure 0 = .ok (.iload_n 1, 1) := dk_27 (dk_at dksX0_sure_0 0 rfl rfl)
theorem dX0_sure_1 : decode cX0_sure 1 = .ok (.ifCond .eq 12, 3) := dk_153 0 12 (dk_at dksX0_sure_0 1 rfl rfl)
theorem dX0_sure_4 : decode cX0_sure 4 = .ok (.iload_n 1, 1) := dk_27 (dk_at dksX0_sure_0 4 rfl rfl)
theorem dX0_sure_5 : decode cX0_sure 5 = .ok (.iconst 3, 1) := dk_6 (dk_at dksX0_sure_0 5 rfl rfl)
theorem dX0_sure_6 : decode cX0_sure 6 = .ok (.iconst 4, 1) := dk_7 (dk_at dksX0_sure_0 6 rfl rfl)
theorem dX0_sure_7 : decode cX0_sure 7 = .ok (.invokestatic 67, 3) := dk_184 0 67 (dk_at dksX0_sure_0 7 rfl rfl)
theorem dX0_sure_10 : decode cX0_sure 10 = .ok (.ifCond .eq 21, 3) := dk_153 0 21 (dk_at dksX0_sure_0 10 rfl rfl)
theorem dX0_sure_13 : decode cX0_sure 13 = .ok (.iload_n 2, 1) := dk_28 (dk_at dksX0_sure_0 13 rfl rfl)
theorem dX0_sure_14 : decode cX0_sure 14 = .ok (.iconst 0, 1) := dk_3 (dk_at dksX0_sure_0 14 rfl rfl)
theorem dX0_sure_15 : decode cX0_sure 15 = .ok (.iconst 4, 1) := dk_7 (dk_at dksX0_sure_0 15 rfl rfl)
theorem dX0_sure_16 : decode cX0_sure 16 = .ok (.invokestatic 67, 3) := dk_184 0 67 (dk_at dksX0_sure_0 16 rfl rfl)
theorem dX0_sure_19 : decode cX0_sure 19 = .ok (.ifCond .eq 12, 3) := dk_153 0 12 (dk_at dksX0_sure_0 19 rfl rfl)
theorem dX0_sure_22 : decode cX0_sure 22 = .ok (.iload_n 3, 1) := dk_29 (dk_at dksX0_sure_0 22 rfl rfl)
theorem dX0_sure_23 : decode cX0_sure 23 = .ok (.iconst 0, 1) := dk_3 (dk_at dksX0_sure_0 23 rfl rfl)
theorem dX0_sure_24 : decode cX0_sure 24 = .ok (.iconst 1, 1) := dk_4 (dk_at dksX0_sure_1 0 rfl rfl)
theorem dX0_sure_25 : decode cX0_sure 25 = .ok (.invokestatic 67, 3) := dk_184 0 67 (dk_at dksX0_sure_1 1 rfl rfl)
theorem dX0_sure_28 : decode cX0_sure 28 = .ok (.ifCond .ne 6, 3) := dk_154 0 6 (dk_at dksX0_sure_1 4 rfl rfl)
theorem dX0_sure_31 : decode cX0_sure 31 = .ok (.bipush (-102), 2) := dk_16 154 (dk_at dksX0_sure_1 7 rfl rfl)
theorem dX0_sure_33 : decode cX0_sure 33 = .ok (.ireturn, 1) := dk_172 (dk_at dksX0_sure_1 9 rfl rfl)
theorem dX0_sure_34 : decode cX0_sure 34 = .ok (.aload_n 0, 1) := dk_42 (dk_at dksX0_sure_1 10 rfl rfl)
theorem dX0_sure_35 : decode cX0_sure 35 = .ok (.getfield 92, 3) := dk_180 0 92 (dk_at dksX0_sure_1 11 rfl rfl)
theorem dX0_sure_38 : decode cX0_sure 38 = .ok (.ifCond .eq 12, 3) := dk_153 0 12 (dk_at dksX0_sure_1 14 rfl rfl)
theorem dX0_sure_41 : decode cX0_sure 41 = .ok (.aload_n 0, 1) := dk_42 (dk_at dksX0_sure_1 17 rfl rfl)
theorem dX0_sure_42 : decode cX0_sure 42 = .ok (.getfield 206, 3) := dk_180 0 206 (dk_at dksX0_sure_1 18 rfl rfl)
theorem dX0_sure_45 : decode cX0_sure 45 = .ok (.bipush 30, 2) := dk_16 30 (dk_at dksX0_sure_1 21 rfl rfl)
theorem dX0_sure_47 : decode cX0_sure 47 = .ok (.if_icmp .ne 6, 3) := dk_160 0 6 (dk_at dksX0_sure_2 0 rfl rfl)
theorem dX0_sure_50 : decode cX0_sure 50 = .ok (.bipush (-103), 2) := dk_16 153 (dk_at dksX0_sure_2 3 rfl rfl)
theorem dX0_sure_52 : decode cX0_sure 52 = .ok (.ireturn, 1) := dk_172 (dk_at dksX0_sure_2 5 rfl rfl)
theorem dX0_sure_53 : decode cX0_sure 53 = .ok (.aload_n 0, 1) := dk_42 (dk_at dksX0_sure_2 6 rfl rfl)
theorem dX0_sure_54 : decode cX0_sure 54 = .ok (.dup, 1) := dk_89 (dk_at dksX0_sure_2 7 rfl rfl)
theorem dX0_sure_55 : decode cX0_sure 55 = .ok (.getfield 206, 3) := dk_180 0 206 (dk_at dksX0_sure_2 8 rfl rfl)
theorem dX0_sure_58 : decode cX0_sure 58 = .ok (.iconst 1, 1) := dk_4 (dk_at dksX0_sure_2 11 rfl rfl)
theorem dX0_sure_59 : decode cX0_sure 59 = .ok (.iadd, 1) := dk_96 (dk_at dksX0_sure_2 12 rfl rfl)
theorem dX0_sure_60 : decode cX0_sure 60 = .ok (.putfield 206, 3) := dk_181 0 206 (dk_at dksX0_sure_2 13 rfl rfl)
theorem dX0_sure_63 : decode cX0_sure 63 = .ok (.aload_n 0, 1) := dk_42 (dk_at dksX0_sure_2 16 rfl rfl)
theorem dX0_sure_64 : decode cX0_sure 64 = .ok (.iload_n 1, 1) := dk_27 (dk_at dksX0_sure_2 17 rfl rfl)
theorem dX0_sure_65 : decode cX0_sure 65 = .ok (.iload_n 2, 1) := dk_28 (dk_at dksX0_sure_2 18 rfl rfl)
theorem dX0_sure_66 : decode cX0_sure 66 = .ok (.iload_n 3, 1) := dk_29 (dk_at dksX0_sure_2 19 rfl rfl)
theorem dX0_sure_67 : decode cX0_sure 67 = .ok (.invokevirtual 209, 3) := dk_182 0 209 (dk_at dksX0_sure_2 20 rfl rfl)
theorem dX0_sure_70 : decode cX0_sure 70 = .ok (.ireturn, 1) := dk_172 (dk_at dksX0_sure_2 23 rfl rfl)
abbrev cX0_sureTold : ByteArray := prog_1_method_28_code
def yX0_sureTold : MethodName := ⟨RX0, "sureTold", "(III)I"⟩
def dkwX0_sureTold_3 : List UInt8 := [167, 255, 193, 2, 172]
abbrev dktX0_sureTold_3 : List UInt8 := dkwX0_sureTold_3 ++ []
def dkwX0_sureTold_2 : List UInt8 := [153, 0, 15, 29, 154, 0, 8, 21, 5, 167, 0, 5, 21, 6, 172, 132, 6, 1, 167, 255, 212, 132, 5, 1]
abbrev dktX0_sureTold_2 : List UInt8 := dkwX0_sureTold_2 ++ dktX0_sureTold_3
def dkwX0_sureTold_1 : List UInt8 := [16, 64, 162, 0, 43, 21, 6, 184, 0, 159, 21, 5, 160, 0, 27, 42, 25, 4, 21, 6, 28, 182, 0, 202]
abbrev dktX0_sureTold_1 : List UInt8 := dkwX0_sureTold_1 ++ dktX0_sureTold_2
def dkwX0_sureTold_0 : List UInt8 := [27, 184, 0, 124, 58, 4, 4, 54, 5, 21, 5, 25, 4, 182, 0, 142, 163, 0, 59, 4, 54, 6, 21, 6]
abbrev dktX0_sureTold_0 : List UInt8 := dkwX0_sureTold_0 ++ dktX0_sureTold_1
theorem dksX0_sureTold_0 : cX0_sureTold.data.toList.drop 0 = dktX0_sureTold_0 := by decide +kernel
theorem dksX0_sureTold_1 : cX0_sureTold.data.toList.drop 24 = dktX0_sureTold_1 := dk_seg dksX0_sureTold_0 24 rfl rfl
theorem dksX0_sureTold_2 : cX0_sureTold.data.toList.drop 48 = dktX0_sureTold_2 := dk_seg dksX0_sureTold_1 24 rfl rfl
theorem dksX0_sureTold_3 : cX0_sureTold.data.toList.drop 72 = dktX0_sureTold_3 := dk_seg dksX0_sureTold_2 24 rfl rfl
theorem dX0_sureTold_0 : decode cX0_sureTold 0 = .ok (.iload_n 1, 1) := dk_27 (dk_at dksX0_sureTold_0 0 rfl rfl)
theorem dX0_sureTold_1 : decode cX0_sureTold 1 = .ok (.invokestatic 124, 3) := dk_184 0 124 (dk_at dksX0_sureTold_0 1 rfl rfl)
theorem dX0_sureTold_4 : decode cX0_sureTold 4 = .ok (.astore 4, 2) := dk_58 4 (dk_at dksX0_sureTold_0 4 rfl rfl)
theorem dX0_sureTold_6 : decode cX0_sureTold 6 = .ok (.iconst 1, 1) := dk_4 (dk_at dksX0_sureTold_0 6 rfl rfl)
theorem dX0_sureTold_7 : decode cX0_sureTold 7 = .ok (.istore 5, 2) := dk_54 5 (dk_at dksX0_sureTold_0 7 rfl rfl)
theorem dX0_sureTold_9 : decode cX0_sureTold 9 = .ok (.iload 5, 2) := dk_21 5 (dk_at dksX0_sureTold_0 9 rfl rfl)
theorem dX0_sureTold_11 : decode cX0_sureTold 11 = .ok (.aload 4, 2) := dk_25 4 (dk_at dksX0_sureTold_0 11 rfl rfl)
theorem dX0_sureTold_13 : decode cX0_sureTold 13 = .ok (.invokevirtual 142, 3) := dk_182 0 142 (dk_at dksX0_sureTold_0 13 rfl rfl)
theorem dX0_sureTold_16 : decode cX0_sureTold 16 = .ok (.if_icmp .gt 59, 3) := dk_163 0 59 (dk_at dksX0_sureTold_0 16 rfl rfl)
theorem dX0_sureTold_19 : decode cX0_sureTold 19 = .ok (.iconst 1, 1) := dk_4 (dk_at dksX0_sureTold_0 19 rfl rfl)
theorem dX0_sureTold_20 : decode cX0_sureTold 20 = .ok (.istore 6, 2) := dk_54 6 (dk_at dksX0_sureTold_0 20 rfl rfl)
theorem dX0_sureTold_22 : decode cX0_sureTold 22 = .ok (.iload 6, 2) := dk_21 6 (dk_at dksX0_sureTold_0 22 rfl rfl)
theorem dX0_sureTold_24 : decode cX0_sureTold 24 = .ok (.bipush 64, 2) := dk_16 64 (dk_at dksX0_sureTold_1 0 rfl rfl)
theorem dX0_sureTold_26 : decode cX0_sureTold 26 = .ok (.if_icmp .ge 43, 3) := dk_162 0 43 (dk_at dksX0_sureTold_1 2 rfl rfl)
theorem dX0_sureTold_29 : decode cX0_sureTold 29 = .ok (.iload 6, 2) := dk_21 6 (dk_at dksX0_sureTold_1 5 rfl rfl)
theorem dX0_sureTold_31 : decode cX0_sureTold 31 = .ok (.invokestatic 159, 3) := dk_184 0 159 (dk_at dksX0_sureTold_1 7 rfl rfl)
theorem dX0_sureTold_34 : decode cX0_sureTold 34 = .ok (.iload 5, 2) := dk_21 5 (dk_at dksX0_sureTold_1 10 rfl rfl)
theorem dX0_sureTold_36 : decode cX0_sureTold 36 = .ok (.if_icmp .ne 27, 3) := dk_160 0 27 (dk_at dksX0_sureTold_1 12 rfl rfl)
theorem dX0_sureTold_39 : decode cX0_sureTold 39 = .ok (.aload_n 0, 1) := dk_42 (dk_at dksX0_sureTold_1 15 rfl rfl)
theorem dX0_sureTold_40 : decode cX0_sureTold 40 = .ok (.aload 4, 2) := dk_25 4 (dk_at dksX0_sureTold_1 16 rfl rfl)
theorem dX0_sureTold_42 : decode cX0_sureTold 42 = .ok (.iload 6, 2) := dk_21 6 (dk_at dksX0_sureTold_1 18 rfl rfl)
theorem dX0_sureTold_44 : decode cX0_sureTold 44 = .ok (.iload_n 2, 1) := dk_28 (dk_at dksX0_sureTold_1 20 rfl rfl)
theorem dX0_sureTold_45 : decode cX0_sureTold 45 = .ok (.invokevirtual 202, 3) := dk_182 0 202 (dk_at dksX0_sureTold_1 21 rfl rfl)
theorem dX0_sureTold_48 : decode cX0_sureTold 48 = .ok (.ifCond .eq 15, 3) := dk_153 0 15 (dk_at dksX0_sureTold_2 0 rfl rfl)
theorem dX0_sureTold_51 : decode cX0_sureTold 51 = .ok (.iload_n 3, 1) := dk_29 (dk_at dksX0_sureTold_2 3 rfl rfl)
theorem dX0_sureTold_52 : decode cX0_sureTold 52 = .ok (.ifCond .ne 8, 3) := dk_154 0 8 (dk_at dksX0_sureTold_2 4 rfl rfl)
theorem dX0_sureTold_55 : decode cX0_sureTold 55 = .ok (.iload 5, 2) := dk_21 5 (dk_at dksX0_sureTold_2 7 rfl rfl)
theorem dX0_sureTold_57 : decode cX0_sureTold 57 = .ok (.goto 5, 3) := dk_167 0 5 (dk_at dksX0_sureTold_2 9 rfl rfl)
theorem dX0_sureTold_60 : decode cX0_sureTold 60 = .ok (.iload 6, 2) := dk_21 6 (dk_at dksX0_sureTold_2 12 rfl rfl)
theorem dX0_sureTold_62 : decode cX0_sureTold 62 = .ok (.ireturn, 1) := dk_172 (dk_at dksX0_sureTold_2 14 rfl rfl)
theorem dX0_sureTold_63 : decode cX0_sureTold 63 = .ok (.iinc 6 1, 3) := dk_132 6 1 (dk_at dksX0_sureTold_2 15 rfl rfl)
theorem dX0_sureTold_66 : decode cX0_sureTold 66 = .ok (.goto (-44), 3) := dk_167 255 212 (dk_at dksX0_sureTold_2 18 rfl rfl)
theorem dX0_sureTold_69 : decode cX0_sureTold 69 = .ok (.iinc 5 1, 3) := dk_132 5 1 (dk_at dksX0_sureTold_2 21 rfl rfl)
theorem dX0_sureTold_72 : decode cX0_sureTold 72 = .ok (.goto (-63), 3) := dk_167 255 193 (dk_at dksX0_sureTold_3 0 rfl rfl)
theorem dX0_sureTold_75 : decode cX0_sureTold 75 = .ok (.iconst (-1), 1) := dk_2 (dk_at dksX0_sureTold_3 3 rfl rfl)
theorem dX0_sureTold_76 : decode cX0_sureTold 76 = .ok (.ireturn, 1) := dk_172 (dk_at dksX0_sureTold_3 4 rfl rfl)
abbrev cX0_isSure : ByteArray := prog_1_method_27_code
def yX0_isSure : MethodName := ⟨RX0, "isSure", "(LBurntLetters$Paper;II)Z"⟩
def dkwX0_isSure_4 : List UInt8 := [154, 0, 5, 3, 172, 132, 4, 1, 167, 255, 157, 4, 172]
abbrev dktX0_isSure_4 : List UInt8 := dkwX0_isSure_4 ++ []
def dkwX0_isSure_3 : List UInt8 := [54, 6, 21, 5, 16, 6, 108, 54, 5, 132, 8, 1, 167, 255, 199, 21, 7, 153, 0, 10, 21, 6]
abbrev dktX0_isSure_3 : List UInt8 := dkwX0_isSure_3 ++ dktX0_isSure_4
def dkwX0_isSure_2 : List UInt8 := [4, 167, 0, 4, 3, 126, 54, 7, 21, 6, 43, 21, 6, 21, 5, 16, 6, 112, 182, 0, 199, 2, 130, 126]
abbrev dktX0_isSure_2 : List UInt8 := dkwX0_isSure_2 ++ dktX0_isSure_3
def dkwX0_isSure_1 : List UInt8 := [3, 54, 8, 21, 8, 29, 162, 0, 57, 21, 7, 42, 180, 0, 16, 21, 5, 16, 6, 112, 46, 158, 0, 7]
abbrev dktX0_isSure_1 : List UInt8 := dkwX0_isSure_1 ++ dktX0_isSure_2
def dkwX0_isSure_0 : List UInt8 := [3, 54, 4, 21, 4, 16, 6, 29, 184, 0, 174, 162, 0, 94, 21, 4, 54, 5, 28, 54, 6, 4, 54, 7]
abbrev dktX0_isSure_0 : List UInt8 := dkwX0_isSure_0 ++ dktX0_isSure_1
theorem dksX0_isSure_0 : cX0_isSure.data.toList.drop 0 = dktX0_isSure_0 := by decide +kernel
theorem dksX0_isSure_1 : cX0_isSure.data.toList.drop 24 = dktX0_isSure_1 := dk_seg dksX0_isSure_0 24 rfl rfl
theorem dksX0_isSure_2 : cX0_isSure.data.toList.drop 48 = dktX0_isSure_2 := dk_seg dksX0_isSure_1 24 rfl rfl
theorem dksX0_isSure_3 : cX0_isSure.data.toList.drop 72 = dktX0_isSure_3 := dk_seg dksX0_isSure_2 24 rfl rfl
theorem dksX0_isSure_4 : cX0_isSure.data.toList.drop 94 = dktX0_isSure_4 := dk_seg dksX0_isSure_3 22 rfl rfl
theorem dX0_isSure_0 : decode cX0_isSure 0 = .ok (.iconst 0, 1) := dk_3 (dk_at dksX0_isSure_0 0 rfl rfl)
theorem dX0_isSure_1 : decode cX0_isSure 1 = .ok (.istore 4, 2) := dk_54 4 (dk_at dksX0_isSure_0 1 rfl rfl)
theorem dX0_isSure_3 : decode cX0_isSure 3 = .ok (.iload 4, 2) := dk_21 4 (dk_at dksX0_isSure_0 3 rfl rfl)
theorem dX0_isSure_5 : decode cX0_isSure 5 = .ok (.bipush 6, 2) := dk_16 6 (dk_at dksX0_isSure_0 5 rfl rfl)
theorem dX0_isSure_7 : decode cX0_isSure 7 = .ok (.iload_n 3, 1) := dk_29 (dk_at dksX0_isSure_0 7 rfl rfl)
theorem dX0_isSure_8 : decode cX0_isSure 8 = .ok (.invokestatic 174, 3) := dk_184 0 174 (dk_at dksX0_isSure_0 8 rfl rfl)
theorem dX0_isSure_11 : decode cX0_isSure 11 = .ok (.if_icmp .ge 94, 3) := dk_162 0 94 (dk_at dksX0_isSure_0 11 rfl rfl)
theorem dX0_isSure_14 : decode cX0_isSure 14 = .ok (.iload 4, 2) := dk_21 4 (dk_at dksX0_isSure_0 14 rfl rfl)
theorem dX0_isSure_16 : decode cX0_isSure 16 = .ok (.istore 5, 2) := dk_54 5 (dk_at dksX0_isSure_0 16 rfl rfl)
theorem dX0_isSure_18 : decode cX0_isSure 18 = .ok (.iload_n 2, 1) := dk_28 (dk_at dksX0_isSure_0 18 rfl rfl)
theorem dX0_isSure_19 : decode cX0_isSure 19 = .ok (.istore 6, 2) := dk_54 6 (dk_at dksX0_isSure_0 19 rfl rfl)
theorem dX0_isSure_21 : decode cX0_isSure 21 = .ok (.iconst 1, 1) := dk_4 (dk_at dksX0_isSure_0 21 rfl rfl)
theorem dX0_isSure_22 : decode cX0_isSure 22 = .ok (.istore 7, 2) := dk_54 7 (dk_at dksX0_isSure_0 22 rfl rfl)
theorem dX0_isSure_24 : decode cX0_isSure 24 = .ok (.iconst 0, 1) := dk_3 (dk_at dksX0_isSure_1 0 rfl rfl)
theorem dX0_isSure_25 : decode cX0_isSure 25 = .ok (.istore 8, 2) := dk_54 8 (dk_at dksX0_isSure_1 1 rfl rfl)
theorem dX0_isSure_27 : decode cX0_isSure 27 = .ok (.iload 8, 2) := dk_21 8 (dk_at dksX0_isSure_1 3 rfl rfl)
theorem dX0_isSure_29 : decode cX0_isSure 29 = .ok (.iload_n 3, 1) := dk_29 (dk_at dksX0_isSure_1 5 rfl rfl)
theorem dX0_isSure_30 : decode cX0_isSure 30 = .ok (.if_icmp .ge 57, 3) := dk_162 0 57 (dk_at dksX0_isSure_1 6 rfl rfl)
theorem dX0_isSure_33 : decode cX0_isSure 33 = .ok (.iload 7, 2) := dk_21 7 (dk_at dksX0_isSure_1 9 rfl rfl)
theorem dX0_isSure_35 : decode cX0_isSure 35 = .ok (.aload_n 0, 1) := dk_42 (dk_at dksX0_isSure_1 11 rfl rfl)
theorem dX0_isSure_36 : decode cX0_isSure 36 = .ok (.getfield 16, 3) := dk_180 0 16 (dk_at dksX0_isSure_1 12 rfl rfl)
theorem dX0_isSure_39 : decode cX0_isSure 39 = .ok (.iload 5, 2) := dk_21 5 (dk_at dksX0_isSure_1 15 rfl rfl)
theorem dX0_isSure_41 : decode cX0_isSure 41 = .ok (.bipush 6, 2) := dk_16 6 (dk_at dksX0_isSure_1 17 rfl rfl)
theorem dX0_isSure_43 : decode cX0_isSure 43 = .ok (.irem, 1) := dk_112 (dk_at dksX0_isSure_1 19 rfl rfl)
theorem dX0_isSure_44 : decode cX0_isSure 44 = .ok (.iaload, 1) := dk_46 (dk_at dksX0_isSure_1 20 rfl rfl)
theorem dX0_isSure_45 : decode cX0_isSure 45 = .ok (.ifCond .le 7, 3) := dk_158 0 7 (dk_at dksX0_isSure_1 21 rfl rfl)
theorem dX0_isSure_48 : decode cX0_isSure 48 = .ok (.iconst 1, 1) := dk_4 (dk_at dksX0_isSure_2 0 rfl rfl)
theorem dX0_isSure_49 : decode cX0_isSure 49 = .ok (.goto 4, 3) := dk_167 0 4 (dk_at dksX0_isSure_2 1 rfl rfl)
theorem dX0_isSure_52 : decode cX0_isSure 52 = .ok (.iconst 0, 1) := dk_3 (dk_at dksX0_isSure_2 4 rfl rfl)
theorem dX0_isSure_53 : decode cX0_isSure 53 = .ok (.iand, 1) := dk_126 (dk_at dksX0_isSure_2 5 rfl rfl)
theorem dX0_isSure_54 : decode cX0_isSure 54 = .ok (.istore 7, 2) := dk_54 7 (dk_at dksX0_isSure_2 6 rfl rfl)
theorem dX0_isSure_56 : decode cX0_isSure 56 = .ok (.iload 6, 2) := dk_21 6 (dk_at dksX0_isSure_2 8 rfl rfl)
theorem dX0_isSure_58 : decode cX0_isSure 58 = .ok (.aload_n 1, 1) := dk_43 (dk_at dksX0_isSure_2 10 rfl rfl)
theorem dX0_isSure_59 : decode cX0_isSure 59 = .ok (.iload 6, 2) := dk_21 6 (dk_at dksX0_isSure_2 11 rfl rfl)
theorem dX0_isSure_61 : decode cX0_isSure 61 = .ok (.iload 5, 2) := dk_21 5 (dk_at dksX0_isSure_2 13 rfl rfl)
theorem dX0_isSure_63 : decode cX0_isSure 63 = .ok (.bipush 6, 2) := dk_16 6 (dk_at dksX0_isSure_2 15 rfl rfl)
theorem dX0_isSure_65 : decode cX0_isSure 65 = .ok (.irem, 1) := dk_112 (dk_at dksX0_isSure_2 17 rfl rfl)
theorem dX0_isSure_66 : decode cX0_isSure 66 = .ok (.invokevirtual 199, 3) := dk_182 0 199 (dk_at dksX0_isSure_2 18 rfl rfl)
theorem dX0_isSure_69 : decode cX0_isSure 69 = .ok (.iconst (-1), 1) := dk_2 (dk_at dksX0_isSure_2 21 rfl rfl)
theorem dX0_isSure_70 : decode cX0_isSure 70 = .ok (.ixor, 1) := dk_130 (dk_at dksX0_isSure_2 22 rfl rfl)
theorem dX0_isSure_71 : decode cX0_isSure 71 = .ok (.iand, 1) := dk_126 (dk_at dksX0_isSure_2 23 rfl rfl)
theorem dX0_isSure_72 : decode cX0_isSure 72 = .ok (.istore 6, 2) := dk_54 6 (dk_at dksX0_isSure_3 0 rfl rfl)
theorem dX0_isSure_74 : decode cX0_isSure 74 = .ok (.iload 5, 2) := dk_21 5 (dk_at dksX0_isSure_3 2 rfl rfl)
theorem dX0_isSure_76 : decode cX0_isSure 76 = .ok (.bipush 6, 2) := dk_16 6 (dk_at dksX0_isSure_3 4 rfl rfl)
theorem dX0_isSure_78 : decode cX0_isSure 78 = .ok (.idiv, 1) := dk_108 (dk_at dksX0_isSure_3 6 rfl rfl)
theorem dX0_isSure_79 : decode cX0_isSure 79 = .ok (.istore 5, 2) := dk_54 5 (dk_at dksX0_isSure_3 7 rfl rfl)
theorem dX0_isSure_81 : decode cX0_isSure 81 = .ok (.iinc 8 1, 3) := dk_132 8 1 (dk_at dksX0_isSure_3 9 rfl rfl)
theorem dX0_isSure_84 : decode cX0_isSure 84 = .ok (.goto (-57), 3) := dk_167 255 199 (dk_at dksX0_isSure_3 12 rfl rfl)
theorem dX0_isSure_87 : decode cX0_isSure 87 = .ok (.iload 7, 2) := dk_21 7 (dk_at dksX0_isSure_3 15 rfl rfl)
theorem dX0_isSure_89 : decode cX0_isSure 89 = .ok (.ifCond .eq 10, 3) := dk_153 0 10 (dk_at dksX0_isSure_3 17 rfl rfl)
theorem dX0_isSure_92 : decode cX0_isSure 92 = .ok (.iload 6, 2) := dk_21 6 (dk_at dksX0_isSure_3 20 rfl rfl)
theorem dX0_isSure_94 : decode cX0_isSure 94 = .ok (.ifCond .ne 5, 3) := dk_154 0 5 (dk_at dksX0_isSure_4 0 rfl rfl)
theorem dX0_isSure_97 : decode cX0_isSure 97 = .ok (.iconst 0, 1) := dk_3 (dk_at dksX0_isSure_4 3 rfl rfl)
theorem dX0_isSure_98 : decode cX0_isSure 98 = .ok (.ireturn, 1) := dk_172 (dk_at dksX0_isSure_4 4 rfl rfl)
theorem dX0_isSure_99 : decode cX0_isSure 99 = .ok (.iinc 4 1, 3) := dk_132 4 1 (dk_at dksX0_isSure_4 5 rfl rfl)
theorem dX0_isSure_102 : decode cX0_isSure 102 = .ok (.goto (-99), 3) := dk_167 255 157 (dk_at dksX0_isSure_4 8 rfl rfl)
theorem dX0_isSure_105 : decode cX0_isSure 105 = .ok (.iconst 1, 1) := dk_4 (dk_at dksX0_isSure_4 11 rfl rfl)
theorem dX0_isSure_106 : decode cX0_isSure 106 = .ok (.ireturn, 1) := dk_172 (dk_at dksX0_isSure_4 12 rfl rfl)
abbrev cX0_nowhere : ByteArray := prog_1_method_31_code
def yX0_nowhere : MethodName := ⟨RX0, "nowhere", "()I"⟩
theorem dX0_nowhere_0 : decode cX0_nowhere 0 = .ok (.aload_n 0, 1) := by decide +kernel
theorem dX0_nowhere_1 : decode cX0_nowhere 1 = .ok (.invokevirtual 212, 3) := by decide +kernel
theorem dX0_nowhere_4 : decode cX0_nowhere 4 = .ok (.ireturn, 1) := by decide +kernel
abbrev cX0_nowhereNow : ByteArray := prog_1_method_30_code
def yX0_nowhereNow : MethodName := ⟨RX0, "nowhereNow", "()I"⟩
def dkwX0_nowhereNow_2 : List UInt8 := [182, 0, 139, 154, 0, 9, 4, 28, 120, 167, 0, 4, 3, 128, 60, 132, 2, 1, 167, 255, 195, 27, 172]
abbrev dktX0_nowhereNow_2 : List UInt8 := dkwX0_nowhereNow_2 ++ []
def dkwX0_nowhereNow_1 : List UInt8 := [62, 27, 42, 180, 0, 25, 28, 182, 0, 139, 153, 0, 25, 29, 2, 159, 0, 20, 42, 180, 0, 25, 29]
abbrev dktX0_nowhereNow_1 : List UInt8 := dkwX0_nowhereNow_1 ++ dktX0_nowhereNow_2
def dkwX0_nowhereNow_0 : List UInt8 := [3, 60, 3, 61, 28, 42, 180, 0, 10, 182, 0, 63, 162, 0, 56, 42, 180, 0, 25, 180, 0, 119, 28, 46]
abbrev dktX0_nowhereNow_0 : List UInt8 := dkwX0_nowhereNow_0 ++ dktX0_nowhereNow_1
theorem dksX0_nowhereNow_0 : cX0_nowhereNow.data.toList.drop 0 = dktX0_nowhereNow_0 := by decide +kernel
theorem dksX0_nowhereNow_1 : cX0_nowhereNow.data.toList.drop 24 = dktX0_nowhereNow_1 := dk_seg dksX0_nowhereNow_0 24 rfl rfl
theorem dksX0_nowhereNow_2 : cX0_nowhereNow.data.toList.drop 47 = dktX0_nowhereNow_2 := dk_seg dksX0_nowhereNow_1 23 rfl rfl
theorem dX0_nowhereNow_0 : decode cX0_nowhereNow 0 = .ok (.iconst 0, 1) := dk_3 (dk_at dksX0_nowhereNow_0 0 rfl rfl)
theorem dX0_nowhereNow_1 : decode cX0_nowhereNow 1 = .ok (.istore_n 1, 1) := dk_60 (dk_at dksX0_nowhereNow_0 1 rfl rfl)
theorem dX0_nowhereNow_2 : decode cX0_nowhereNow 2 = .ok (.iconst 0, 1) := dk_3 (dk_at dksX0_nowhereNow_0 2 rfl rfl)
theorem dX0_nowhereNow_3 : decode cX0_nowhereNow 3 = .ok (.istore_n 2, 1) := dk_61 (dk_at dksX0_nowhereNow_0 3 rfl rfl)
theorem dX0_nowhereNow_4 : decode cX0_nowhereNow 4 = .ok (.iload_n 2, 1) := dk_28 (dk_at dksX0_nowhereNow_0 4 rfl rfl)
theorem dX0_nowhereNow_5 : decode cX0_nowhereNow 5 = .ok (.aload_n 0, 1) := dk_42 (dk_at dksX0_nowhereNow_0 5 rfl rfl)
theorem dX0_nowhereNow_6 : decode cX0_nowhereNow 6 = .ok (.getfield 10, 3) := dk_180 0 10 (dk_at dksX0_nowhereNow_0 6 rfl rfl)
theorem dX0_nowhereNow_9 : decode cX0_nowhereNow 9 = .ok (.invokevirtual 63, 3) := dk_182 0 63 (dk_at dksX0_nowhereNow_0 9 rfl rfl)
theorem dX0_nowhereNow_12 : decode cX0_nowhereNow 12 = .ok (.if_icmp .ge 56, 3) := dk_162 0 56 (dk_at dksX0_nowhereNow_0 12 rfl rfl)
theorem dX0_nowhereNow_15 : decode cX0_nowhereNow 15 = .ok (.aload_n 0, 1) := dk_42 (dk_at dksX0_nowhereNow_0 15 rfl rfl)
theorem dX0_nowhereNow_16 : decode cX0_nowhereNow 16 = .ok (.getfield 25, 3) := dk_180 0 25 (dk_at dksX0_nowhereNow_0 16 rfl rfl)
theorem dX0_nowhereNow_19 : decode cX0_nowhereNow 19 = .ok (.getfield 119, 3) := dk_180 0 119 (dk_at dksX0_nowhereNow_0 19 rfl rfl)
theorem dX0_nowhereNow_22 : decode cX0_nowhereNow 22 = .ok (.iload_n 2, 1) := dk_28 (dk_at dksX0_nowhereNow_0 22 rfl rfl)
theorem dX0_nowhereNow_23 : decode cX0_nowhereNow 23 = .ok (.iaload, 1) := dk_46 (dk_at dksX0_nowhereNow_0 23 rfl rfl)
theorem dX0_nowhereNow_24 : decode cX0_nowhereNow 24 = .ok (.istore_n 3, 1) := dk_62 (dk_at dksX0_nowhereNow_1 0 rfl rfl)
theorem dX0_nowhereNow_25 : decode cX0_nowhereNow 25 = .ok (.iload_n 1, 1) := dk_27 (dk_at dksX0_nowhereNow_1 1 rfl rfl)
theorem dX0_nowhereNow_26 : decode cX0_nowhereNow 26 = .ok (.aload_n 0, 1) := dk_42 (dk_at dksX0_nowhereNow_1 2 rfl rfl)
theorem dX0_nowhereNow_27 : decode cX0_nowhereNow 27 = .ok (.getfield 25, 3) := dk_180 0 25 (dk_at dksX0_nowhereNow_1 3 rfl rfl)
theorem dX0_nowhereNow_30 : decode cX0_nowhereNow 30 = .ok (.iload_n 2, 1) := dk_28 (dk_at dksX0_nowhereNow_1 6 rfl rfl)
theorem dX0_nowhereNow_31 : decode cX0_nowhereNow 31 = .ok (.invokevirtual 139, 3) := dk_182 0 139 (dk_at dksX0_nowhereNow_1 7 rfl rfl)
theorem dX0_nowhereNow_34 : decode cX0_nowhereNow 34 = .ok (.ifCond .eq 25, 3) := dk_153 0 25 (dk_at dksX0_nowhereNow_1 10 rfl rfl)
theorem dX0_nowhereNow_37 : decode cX0_nowhereNow 37 = .ok (.iload_n 3, 1) := dk_29 (dk_at dksX0_nowhereNow_1 13 rfl rfl)
theorem dX0_nowhereNow_38 : decode cX0_nowhereNow 38 = .ok (.iconst (-1), 1) := dk_2 (dk_at dksX0_nowhereNow_1 14 rfl rfl)
theorem dX0_nowhereNow_39 : decode cX0_nowhereNow 39 = .ok (.if_icmp .eq 20, 3) := dk_159 0 20 (dk_at dksX0_nowhereNow_1 15 rfl rfl)
theorem dX0_nowhereNow_42 : decode cX0_nowhereNow 42 = .ok (.aload_n 0, 1) := dk_42 (dk_at dksX0_nowhereNow_1 18 rfl rfl)
theorem dX0_nowhereNow_43 : decode cX0_nowhereNow 43 = .ok (.getfield 25, 3) := dk_180 0 25 (dk_at dksX0_nowhereNow_1 19 rfl rfl)
theorem dX0_nowhereNow_46 : decode cX0_nowhereNow 46 = .ok (.iload_n 3, 1) := dk_29 (dk_at dksX0_nowhereNow_1 22 rfl rfl)
theorem dX0_nowhereNow_47 : decode cX0_nowhereNow 47 = .ok (.invokevirtual 139, 3) := dk_182 0 139 (dk_at dksX0_nowhereNow_2 0 rfl rfl)
theorem dX0_nowhereNow_50 : decode cX0_nowhereNow 50 = .ok (.ifCond .ne 9, 3) := dk_154 0 9 (dk_at dksX0_nowhereNow_2 3 rfl rfl)
theorem dX0_nowhereNow_53 : decode cX0_nowhereNow 53 = .ok (.iconst 1, 1) := dk_4 (dk_at dksX0_nowhereNow_2 6 rfl rfl)
theorem dX0_nowhereNow_54 : decode cX0_nowhereNow 54 = .ok (.iload_n 2, 1) := dk_28 (dk_at dksX0_nowhereNow_2 7 rfl rfl)
theorem dX0_nowhereNow_55 : decode cX0_nowhereNow 55 = .ok (.ishl, 1) := dk_120 (dk_at dksX0_nowhereNow_2 8 rfl rfl)
theorem dX0_nowhereNow_56 : decode cX0_nowhereNow 56 = .ok (.goto 4, 3) := dk_167 0 4 (dk_at dksX0_nowhereNow_2 9 rfl rfl)
theorem dX0_nowhereNow_59 : decode cX0_nowhereNow 59 = .ok (.iconst 0, 1) := dk_3 (dk_at dksX0_nowhereNow_2 12 rfl rfl)
theorem dX0_nowhereNow_60 : decode cX0_nowhereNow 60 = .ok (.ior, 1) := dk_128 (dk_at dksX0_nowhereNow_2 13 rfl rfl)
theorem dX0_nowhereNow_61 : decode cX0_nowhereNow 61 = .ok (.istore_n 1, 1) := dk_60 (dk_at dksX0_nowhereNow_2 14 rfl rfl)
theorem dX0_nowhereNow_62 : decode cX0_nowhereNow 62 = .ok (.iinc 2 1, 3) := dk_132 2 1 (dk_at dksX0_nowhereNow_2 15 rfl rfl)
theorem dX0_nowhereNow_65 : decode cX0_nowhereNow 65 = .ok (.goto (-61), 3) := dk_167 255 195 (dk_at dksX0_nowhereNow_2 18 rfl rfl)
theorem dX0_nowhereNow_68 : decode cX0_nowhereNow 68 = .ok (.iload_n 1, 1) := dk_27 (dk_at dksX0_nowhereNow_2 21 rfl rfl)
theorem dX0_nowhereNow_69 : decode cX0_nowhereNow 69 = .ok (.ireturn, 1) := dk_172 (dk_at dksX0_nowhereNow_2 22 rfl rfl)
abbrev cX0_moving : ByteArray := prog_1_method_35_code
def yX0_moving : MethodName := ⟨RX0, "moving", "(I)I"⟩
def dkwX0_moving_1 : List UInt8 := [16, 10, 160, 0, 6, 16, 153, 172, 42, 89, 180, 0, 224, 4, 96, 181, 0, 224, 42, 27, 182, 0, 227, 172]
abbrev dktX0_moving_1 : List UInt8 := dkwX0_moving_1 ++ []
def dkwX0_moving_0 : List UInt8 := [27, 4, 16, 9, 184, 0, 67, 154, 0, 6, 16, 154, 172, 42, 180, 0, 92, 153, 0, 12, 42, 180, 0, 224]
abbrev dktX0_moving_0 : List UInt8 := dkwX0_moving_0 ++ dktX0_moving_1
theorem dksX0_moving_0 : cX0_moving.data.toList.drop 0 = dktX0_moving_0 := by decide +kernel
theorem dksX0_moving_1 : cX0_moving.data.toList.drop 24 = dktX0_moving_1 := dk_seg dksX0_moving_0 24 rfl rfl
theorem dX0_moving_0 : decode cX0_moving 0 = .ok (.iload_n 1, 1) := dk_27 (dk_at dksX0_moving_0 0 rfl rfl)
theorem dX0_moving_1 : decode cX0_moving 1 = .ok (.iconst 1, 1) := dk_4 (dk_at dksX0_moving_0 1 rfl rfl)
theorem dX0_moving_2 : decode cX0_moving 2 = .ok (.bipush 9, 2) := dk_16 9 (dk_at dksX0_moving_0 2 rfl rfl)
theorem dX0_moving_4 : decode cX0_moving 4 = .ok (.invokestatic 67, 3) := dk_184 0 67 (dk_at dksX0_moving_0 4 rfl rfl)
theorem dX0_moving_7 : decode cX0_moving 7 = .ok (.ifCond .ne 6, 3) := dk_154 0 6 (dk_at dksX0_moving_0 7 rfl rfl)
theorem dX0_moving_10 : decode cX0_moving 10 = .ok (.bipush (-102), 2) := dk_16 154 (dk_at dksX0_moving_0 10 rfl rfl)
theorem dX0_moving_12 : decode cX0_moving 12 = .ok (.ireturn, 1) := dk_172 (dk_at dksX0_moving_0 12 rfl rfl)
theorem dX0_moving_13 : decode cX0_moving 13 = .ok (.aload_n 0, 1) := dk_42 (dk_at dksX0_moving_0 13 rfl rfl)
theorem dX0_moving_14 : decode cX0_moving 14 = .ok (.getfield 92, 3) := dk_180 0 92 (dk_at dksX0_moving_0 14 rfl rfl)
theorem dX0_moving_17 : decode cX0_moving 17 = .ok (.ifCond .eq 12, 3) := dk_153 0 12 (dk_at dksX0_moving_0 17 rfl rfl)
theorem dX0_moving_20 : decode cX0_moving 20 = .ok (.aload_n 0, 1) := dk_42 (dk_at dksX0_moving_0 20 rfl rfl)
theorem dX0_moving_21 : decode cX0_moving 21 = .ok (.getfield 224, 3) := dk_180 0 224 (dk_at dksX0_moving_0 21 rfl rfl)
theorem dX0_moving_24 : decode cX0_moving 24 = .ok (.bipush 10, 2) := dk_16 10 (dk_at dksX0_moving_1 0 rfl rfl)
theorem dX0_moving_26 : decode cX0_moving 26 = .ok (.if_icmp .ne 6, 3) := dk_160 0 6 (dk_at dksX0_moving_1 2 rfl rfl)
theorem dX0_moving_29 : decode cX0_moving 29 = .ok (.bipush (-103), 2) := dk_16 153 (dk_at dksX0_moving_1 5 rfl rfl)
theorem dX0_moving_31 : decode cX0_moving 31 = .ok (.ireturn, 1) := dk_172 (dk_at dksX0_moving_1 7 rfl rfl)
theorem dX0_moving_32 : decode cX0_moving 32 = .ok (.aload_n 0, 1) := dk_42 (dk_at dksX0_moving_1 8 rfl rfl)
theorem dX0_moving_33 : decode cX0_moving 33 = .ok (.dup, 1) := dk_89 (dk_at dksX0_moving_1 9 rfl rfl)
theorem dX0_moving_34 : decode cX0_moving 34 = .ok (.getfield 224, 3) := dk_180 0 224 (dk_at dksX0_moving_1 10 rfl rfl)
theorem dX0_moving_37 : decode cX0_moving 37 = .ok (.iconst 1, 1) := dk_4 (dk_at dksX0_moving_1 13 rfl rfl)
theorem dX0_moving_38 : decode cX0_moving 38 = .ok (.iadd, 1) := dk_96 (dk_at dksX0_moving_1 14 rfl rfl)
theorem dX0_moving_39 : decode cX0_moving 39 = .ok (.putfield 224, 3) := dk_181 0 224 (dk_at dksX0_moving_1 15 rfl rfl)
theorem dX0_moving_42 : decode cX0_moving 42 = .ok (.aload_n 0, 1) := dk_42 (dk_at dksX0_moving_1 18 rfl rfl)
theorem dX0_moving_43 : decode cX0_moving 43 = .ok (.iload_n 1, 1) := dk_27 (dk_at dksX0_moving_1 19 rfl rfl)
theorem dX0_moving_44 : decode cX0_moving 44 = .ok (.invokevirtual 227, 3) := dk_182 0 227 (dk_at dksX0_moving_1 20 rfl rfl)
theorem dX0_moving_47 : decode cX0_moving 47 = .ok (.ireturn, 1) := dk_172 (dk_at dksX0_moving_1 23 rfl rfl)
abbrev cX0_movingTold : ByteArray := prog_1_method_34_code
def yX0_movingTold : MethodName := ⟨RX0, "movingTold", "(I)I"⟩
def dkwX0_movingTold_2 : List UInt8 := [132, 2, 1, 167, 255, 237, 2, 172]
abbrev dktX0_movingTold_2 : List UInt8 := dkwX0_movingTold_2 ++ []
def dkwX0_movingTold_1 : List UInt8 := [164, 0, 5, 2, 172, 3, 61, 28, 6, 163, 0, 20, 42, 27, 28, 182, 0, 218, 153, 0, 5, 28, 172]
abbrev dktX0_movingTold_1 : List UInt8 := dkwX0_movingTold_1 ++ dktX0_movingTold_2
def dkwX0_movingTold_0 : List UInt8 := [42, 180, 0, 29, 42, 180, 0, 25, 182, 0, 177, 42, 180, 0, 25, 182, 0, 221, 16, 6, 27, 104]
abbrev dktX0_movingTold_0 : List UInt8 := dkwX0_movingTold_0 ++ dktX0_movingTold_1
theorem dksX0_movingTold_0 : cX0_movingTold.data.toList.drop 0 = dktX0_movingTold_0 := by decide +kernel
theorem dksX0_movingTold_1 : cX0_movingTold.data.toList.drop 22 = dktX0_movingTold_1 := dk_seg dksX0_movingTold_0 22 rfl rfl
theorem dksX0_movingTold_2 : cX0_movingTold.data.toList.drop 45 = dktX0_movingTold_2 := dk_seg dksX0_movingTold_1 23 rfl rfl
theorem dX0_movingTold_0 : decode cX0_movingTold 0 = .ok (.aload_n 0, 1) := dk_42 (dk_at dksX0_movingTold_0 0 rfl rfl)
theorem dX0_movingTold_1 : decode cX0_movingTold 1 = .ok (.getfield 29, 3) := dk_180 0 29 (dk_at dksX0_movingTold_0 1 rfl rfl)
theorem dX0_movingTold_4 : decode cX0_movingTold 4 = .ok (.aload_n 0, 1) := dk_42 (dk_at dksX0_movingTold_0 4 rfl rfl)
theorem dX0_movingTold_5 : decode cX0_movingTold 5 = .ok (.getfield 25, 3) := dk_180 0 25 (dk_at dksX0_movingTold_0 5 rfl rfl)
theorem dX0_movingTold_8 : decode cX0_movingTold 8 = .ok (.invokevirtual 177, 3) := dk_182 0 177 (dk_at dksX0_movingTold_0 8 rfl rfl)
theorem dX0_movingTold_11 : decode cX0_movingTold 11 = .ok (.aload_n 0, 1) := dk_42 (dk_at dksX0_movingTold_0 11 rfl rfl)
theorem dX0_movingTold_12 : decode cX0_movingTold 12 = .ok (.getfield 25, 3) := dk_180 0 25 (dk_at dksX0_movingTold_0 12 rfl rfl)
theorem dX0_movingTold_15 : decode cX0_movingTold 15 = .ok (.invokevirtual 221, 3) := dk_182 0 221 (dk_at dksX0_movingTold_0 15 rfl rfl)
theorem dX0_movingTold_18 : decode cX0_movingTold 18 = .ok (.bipush 6, 2) := dk_16 6 (dk_at dksX0_movingTold_0 18 rfl rfl)
theorem dX0_movingTold_20 : decode cX0_movingTold 20 = .ok (.iload_n 1, 1) := dk_27 (dk_at dksX0_movingTold_0 20 rfl rfl)
theorem dX0_movingTold_21 : decode cX0_movingTold 21 = .ok (.imul, 1) := dk_104 (dk_at dksX0_movingTold_0 21 rfl rfl)
theorem dX0_movingTold_22 : decode cX0_movingTold 22 = .ok (.if_icmp .le 5, 3) := dk_164 0 5 (dk_at dksX0_movingTold_1 0 rfl rfl)
theorem dX0_movingTold_25 : decode cX0_movingTold 25 = .ok (.iconst (-1), 1) := dk_2 (dk_at dksX0_movingTold_1 3 rfl rfl)
theorem dX0_movingTold_26 : decode cX0_movingTold 26 = .ok (.ireturn, 1) := dk_172 (dk_at dksX0_movingTold_1 4 rfl rfl)
theorem dX0_movingTold_27 : decode cX0_movingTold 27 = .ok (.iconst 0, 1) := dk_3 (dk_at dksX0_movingTold_1 5 rfl rfl)
theorem dX0_movingTold_28 : decode cX0_movingTold 28 = .ok (.istore_n 2, 1) := dk_61 (dk_at dksX0_movingTold_1 6 rfl rfl)
theorem dX0_movingTold_29 : decode cX0_movingTold 29 = .ok (.iload_n 2, 1) := dk_28 (dk_at dksX0_movingTold_1 7 rfl rfl)
theorem dX0_movingTold_30 : decode cX0_movingTold 30 = .ok (.iconst 3, 1) := dk_6 (dk_at dksX0_movingTold_1 8 rfl rfl)
theorem dX0_movingTold_31 : decode cX0_movingTold 31 = .ok (.if_icmp .gt 20, 3) := dk_163 0 20 (dk_at dksX0_movingTold_1 9 rfl rfl)
theorem dX0_movingTold_34 : decode cX0_movingTold 34 = .ok (.aload_n 0, 1) := dk_42 (dk_at dksX0_movingTold_1 12 rfl rfl)
theorem dX0_movingTold_35 : decode cX0_movingTold 35 = .ok (.iload_n 1, 1) := dk_27 (dk_at dksX0_movingTold_1 13 rfl rfl)
theorem dX0_movingTold_36 : decode cX0_movingTold 36 = .ok (.iload_n 2, 1) := dk_28 (dk_at dksX0_movingTold_1 14 rfl rfl)
theorem dX0_movingTold_37 : decode cX0_movingTold 37 = .ok (.invokevirtual 218, 3) := dk_182 0 218 (dk_at dksX0_movingTold_1 15 rfl rfl)
theorem dX0_movingTold_40 : decode cX0_movingTold 40 = .ok (.ifCond .eq 5, 3) := dk_153 0 5 (dk_at dksX0_movingTold_1 18 rfl rfl)
theorem dX0_movingTold_43 : decode cX0_movingTold 43 = .ok (.iload_n 2, 1) := dk_28 (dk_at dksX0_movingTold_1 21 rfl rfl)
theorem dX0_movingTold_44 : decode cX0_movingTold 44 = .ok (.ireturn, 1) := dk_172 (dk_at dksX0_movingTold_1 22 rfl rfl)
theorem dX0_movingTold_45 : decode cX0_movingTold 45 = .ok (.iinc 2 1, 3) := dk_132 2 1 (dk_at dksX0_movingTold_2 0 rfl rfl)
theorem dX0_movingTold_48 : decode cX0_movingTold 48 = .ok (.goto (-19), 3) := dk_167 255 237 (dk_at dksX0_movingTold_2 3 rfl rfl)
theorem dX0_movingTold_51 : decode cX0_movingTold 51 = .ok (.iconst (-1), 1) := dk_2 (dk_at dksX0_movingTold_2 6 rfl rfl)
theorem dX0_movingTold_52 : decode cX0_movingTold 52 = .ok (.ireturn, 1) := dk_172 (dk_at dksX0_movingTold_2 7 rfl rfl)
abbrev cX0_isEnough : ByteArray := prog_1_method_33_code
def yX0_isEnough : MethodName := ⟨RX0, "isEnough", "(II)Z"⟩
def dkwX0_isEnough_5 : List UInt8 := [21, 5, 182, 0, 167, 21, 7, 153, 0, 5, 4, 172, 132, 3, 1, 167, 255, 149, 3, 172]
abbrev dktX0_isEnough_5 : List UInt8 := dkwX0_isEnough_5 ++ []
def dkwX0_isEnough_4 : List UInt8 := [21, 6, 182, 0, 167, 42, 27, 28, 4, 100, 182, 0, 218, 54, 7, 42, 180, 0, 29, 21, 4, 21, 6]
abbrev dktX0_isEnough_4 : List UInt8 := dkwX0_isEnough_4 ++ dktX0_isEnough_5
def dkwX0_isEnough_3 : List UInt8 := [180, 0, 29, 21, 4, 21, 5, 21, 6, 182, 0, 164, 153, 0, 46, 42, 180, 0, 29, 21, 4, 21, 5]
abbrev dktX0_isEnough_3 : List UInt8 := dkwX0_isEnough_3 ++ dktX0_isEnough_4
def dkwX0_isEnough_2 : List UInt8 := [16, 6, 108, 16, 6, 112, 54, 5, 29, 16, 6, 112, 54, 6, 21, 5, 21, 6, 159, 0, 62, 42]
abbrev dktX0_isEnough_2 : List UInt8 := dkwX0_isEnough_2 ++ dktX0_isEnough_3
def dkwX0_isEnough_1 : List UInt8 := [42, 180, 0, 10, 182, 0, 63, 16, 6, 104, 16, 6, 104, 162, 0, 96, 29, 16, 36, 108, 54, 4, 29]
abbrev dktX0_isEnough_1 : List UInt8 := dkwX0_isEnough_1 ++ dktX0_isEnough_2
def dkwX0_isEnough_0 : List UInt8 := [42, 27, 182, 0, 215, 154, 0, 5, 4, 172, 42, 27, 182, 0, 215, 28, 164, 0, 5, 3, 172, 3, 62, 29]
abbrev dktX0_isEnough_0 : List UInt8 := dkwX0_isEnough_0 ++ dktX0_isEnough_1
theorem dksX0_isEnough_0 : cX0_isEnough.data.toList.drop 0 = dktX0_isEnough_0 := by decide +kernel
theorem dksX0_isEnough_1 : cX0_isEnough.data.toList.drop 24 = dktX0_isEnough_1 := dk_seg dksX0_isEnough_0 24 rfl rfl
theorem dksX0_isEnough_2 : cX0_isEnough.data.toList.drop 47 = dktX0_isEnough_2 := dk_seg dksX0_isEnough_1 23 rfl rfl
theorem dksX0_isEnough_3 : cX0_isEnough.data.toList.drop 69 = dktX0_isEnough_3 := dk_seg dksX0_isEnough_2 22 rfl rfl
theorem dksX0_isEnough_4 : cX0_isEnough.data.toList.drop 92 = dktX0_isEnough_4 := dk_seg dksX0_isEnough_3 23 rfl rfl
theorem dksX0_isEnough_5 : cX0_isEnough.data.toList.drop 115 = dktX0_isEnough_5 := dk_seg dksX0_isEnough_4 23 rfl rfl
theorem dX0_isEnough_0 : decode cX0_isEnough 0 = .ok (.aload_n 0, 1) := dk_42 (dk_at dksX0_isEnough_0 0 rfl rfl)
theorem dX0_isEnough_1 : decode cX0_isEnough 1 = .ok (.iload_n 1, 1) := dk_27 (dk_at dksX0_isEnough_0 1 rfl rfl)
theorem dX0_isEnough_2 : decode cX0_isEnough 2 = .ok (.invokevirtual 215, 3) := dk_182 0 215 (dk_at dksX0_isEnough_0 2 rfl rfl)
theorem dX0_isEnough_5 : decode cX0_isEnough 5 = .ok (.ifCond .ne 5, 3) := dk_154 0 5 (dk_at dksX0_isEnough_0 5 rfl rfl)
theorem dX0_isEnough_8 : decode cX0_isEnough 8 = .ok (.iconst 1, 1) := dk_4 (dk_at dksX0_isEnough_0 8 rfl rfl)
theorem dX0_isEnough_9 : decode cX0_isEnough 9 = .ok (.ireturn, 1) := dk_172 (dk_at dksX0_isEnough_0 9 rfl rfl)
theorem dX0_isEnough_10 : decode cX0_isEnough 10 = .ok (.aload_n 0, 1) := dk_42 (dk_at dksX0_isEnough_0 10 rfl rfl)
theorem dX0_isEnough_11 : decode cX0_isEnough 11 = .ok (.iload_n 1, 1) := dk_27 (dk_at dksX0_isEnough_0 11 rfl rfl)
theorem dX0_isEnough_12 : decode cX0_isEnough 12 = .ok (.invokevirtual 215, 3) := dk_182 0 215 (dk_at dksX0_isEnough_0 12 rfl rfl)
theorem dX0_isEnough_15 : decode cX0_isEnough 15 = .ok (.iload_n 2, 1) := dk_28 (dk_at dksX0_isEnough_0 15 rfl rfl)
theorem dX0_isEnough_16 : decode cX0_isEnough 16 = .ok (.if_icmp .le 5, 3) := dk_164 0 5 (dk_at dksX0_isEnough_0 16 rfl rfl)
theorem dX0_isEnough_19 : decode cX0_isEnough 19 = .ok (.iconst 0, 1) := dk_3 (dk_at dksX0_isEnough_0 19 rfl rfl)
theorem dX0_isEnough_20 : decode cX0_isEnough 20 = .ok (.ireturn, 1) := dk_172 (dk_at dksX0_isEnough_0 20 rfl rfl)
theorem dX0_isEnough_21 : decode cX0_isEnough 21 = .ok (.iconst 0, 1) := dk_3 (dk_at dksX0_isEnough_0 21 rfl rfl)
theorem dX0_isEnough_22 : decode cX0_isEnough 22 = .ok (.istore_n 3, 1) := dk_62 (dk_at dksX0_isEnough_0 22 rfl rfl)
theorem dX0_isEnough_23 : decode cX0_isEnough 23 = .ok (.iload_n 3, 1) := dk_29 (dk_at dksX0_isEnough_0 23 rfl rfl)
theorem dX0_isEnough_24 : decode cX0_isEnough 24 = .ok (.aload_n 0, 1) := dk_42 (dk_at dksX0_isEnough_1 0 rfl rfl)
theorem dX0_isEnough_25 : decode cX0_isEnough 25 = .ok (.getfield 10, 3) := dk_180 0 10 (dk_at dksX0_isEnough_1 1 rfl rfl)
theorem dX0_isEnough_28 : decode cX0_isEnough 28 = .ok (.invokevirtual 63, 3) := dk_182 0 63 (dk_at dksX0_isEnough_1 4 rfl rfl)
theorem dX0_isEnough_31 : decode cX0_isEnough 31 = .ok (.bipush 6, 2) := dk_16 6 (dk_at dksX0_isEnough_1 7 rfl rfl)
theorem dX0_isEnough_33 : decode cX0_isEnough 33 = .ok (.imul, 1) := dk_104 (dk_at dksX0_isEnough_1 9 rfl rfl)
theorem dX0_isEnough_34 : decode cX0_isEnough 34 = .ok (.bipush 6, 2) := dk_16 6 (dk_at dksX0_isEnough_1 10 rfl rfl)
theorem dX0_isEnough_36 : decode cX0_isEnough 36 = .ok (.imul, 1) := dk_104 (dk_at dksX0_isEnough_1 12 rfl rfl)
theorem dX0_isEnough_37 : decode cX0_isEnough 37 = .ok (.if_icmp .ge 96, 3) := dk_162 0 96 (dk_at dksX0_isEnough_1 13 rfl rfl)
theorem dX0_isEnough_40 : decode cX0_isEnough 40 = .ok (.iload_n 3, 1) := dk_29 (dk_at dksX0_isEnough_1 16 rfl rfl)
theorem dX0_isEnough_41 : decode cX0_isEnough 41 = .ok (.bipush 36, 2) := dk_16 36 (dk_at dksX0_isEnough_1 17 rfl rfl)
theorem dX0_isEnough_43 : decode cX0_isEnough 43 = .ok (.idiv, 1) := dk_108 (dk_at dksX0_isEnough_1 19 rfl rfl)
theorem dX0_isEnough_44 : decode cX0_isEnough 44 = .ok (.istore 4, 2) := dk_54 4 (dk_at dksX0_isEnough_1 20 rfl rfl)
theorem dX0_isEnough_46 : decode cX0_isEnough 46 = .ok (.iload_n 3, 1) := dk_29 (dk_at dksX0_isEnough_1 22 rfl rfl)
theorem dX0_isEnough_47 : decode cX0_isEnough 47 = .ok (.bipush 6, 2) := dk_16 6 (dk_at dksX0_isEnough_2 0 rfl rfl)
theorem dX0_isEnough_49 : decode cX0_isEnough 49 = .ok (.idiv, 1) := dk_108 (dk_at dksX0_isEnough_2 2 rfl rfl)
theorem dX0_isEnough_50 : decode cX0_isEnough 50 = .ok (.bipush 6, 2) := dk_16 6 (dk_at dksX0_isEnough_2 3 rfl rfl)
theorem dX0_isEnough_52 : decode cX0_isEnough 52 = .ok (.irem, 1) := dk_112 (dk_at dksX0_isEnough_2 5 rfl rfl)
theorem dX0_isEnough_53 : decode cX0_isEnough 53 = .ok (.istore 5, 2) := dk_54 5 (dk_at dksX0_isEnough_2 6 rfl rfl)
theorem dX0_isEnough_55 : decode cX0_isEnough 55 = .ok (.iload_n 3, 1) := dk_29 (dk_at dksX0_isEnough_2 8 rfl rfl)
theorem dX0_isEnough_56 : decode cX0_isEnough 56 = .ok (.bipush 6, 2) := dk_16 6 (dk_at dksX0_isEnough_2 9 rfl rfl)
theorem dX0_isEnough_58 : decode cX0_isEnough 58 = .ok (.irem, 1) := dk_112 (dk_at dksX0_isEnough_2 11 rfl rfl)
theorem dX0_isEnough_59 : decode cX0_isEnough 59 = .ok (.istore 6, 2) := dk_54 6 (dk_at dksX0_isEnough_2 12 rfl rfl)
theorem dX0_isEnough_61 : decode cX0_isEnough 61 = .ok (.iload 5, 2) := dk_21 5 (dk_at dksX0_isEnough_2 14 rfl rfl)
theorem dX0_isEnough_63 : decode cX0_isEnough 63 = .ok (.iload 6, 2) := dk_21 6 (dk_at dksX0_isEnough_2 16 rfl rfl)
theorem dX0_isEnough_65 : decode cX0_isEnough 65 = .ok (.if_icmp .eq 62, 3) := dk_159 0 62 (dk_at dksX0_isEnough_2 18 rfl rfl)
theorem dX0_isEnough_68 : decode cX0_isEnough 68 = .ok (.aload_n 0, 1) := dk_42 (dk_at dksX0_isEnough_2 21 rfl rfl)
theorem dX0_isEnough_69 : decode cX0_isEnough 69 = .ok (.getfield 29, 3) := dk_180 0 29 (dk_at dksX0_isEnough_3 0 rfl rfl)
theorem dX0_isEnough_72 : decode cX0_isEnough 72 = .ok (.iload 4, 2) := dk_21 4 (dk_at dksX0_isEnough_3 3 rfl rfl)
theorem dX0_isEnough_74 : decode cX0_isEnough 74 = .ok (.iload 5, 2) := dk_21 5 (dk_at dksX0_isEnough_3 5 rfl rfl)
theorem dX0_isEnough_76 : decode cX0_isEnough 76 = .ok (.iload 6, 2) := dk_21 6 (dk_at dksX0_isEnough_3 7 rfl rfl)
theorem dX0_isEnough_78 : decode cX0_isEnough 78 = .ok (.invokevirtual 164, 3) := dk_182 0 164 (dk_at dksX0_isEnough_3 9 rfl rfl)
theorem dX0_isEnough_81 : decode cX0_isEnough 81 = .ok (.ifCond .eq 46, 3) := dk_153 0 46 (dk_at dksX0_isEnough_3 12 rfl rfl)
theorem dX0_isEnough_84 : decode cX0_isEnough 84 = .ok (.aload_n 0, 1) := dk_42 (dk_at dksX0_isEnough_3 15 rfl rfl)
theorem dX0_isEnough_85 : decode cX0_isEnough 85 = .ok (.getfield 29, 3) := dk_180 0 29 (dk_at dksX0_isEnough_3 16 rfl rfl)
theorem dX0_isEnough_88 : decode cX0_isEnough 88 = .ok (.iload 4, 2) := dk_21 4 (dk_at dksX0_isEnough_3 19 rfl rfl)
theorem dX0_isEnough_90 : decode cX0_isEnough 90 = .ok (.iload 5, 2) := dk_21 5 (dk_at dksX0_isEnough_3 21 rfl rfl)
theorem dX0_isEnough_92 : decode cX0_isEnough 92 = .ok (.iload 6, 2) := dk_21 6 (dk_at dksX0_isEnough_4 0 rfl rfl)
theorem dX0_isEnough_94 : decode cX0_isEnough 94 = .ok (.invokevirtual 167, 3) := dk_182 0 167 (dk_at dksX0_isEnough_4 2 rfl rfl)
theorem dX0_isEnough_97 : decode cX0_isEnough 97 = .ok (.aload_n 0, 1) := dk_42 (dk_at dksX0_isEnough_4 5 rfl rfl)
theorem dX0_isEnough_98 : decode cX0_isEnough 98 = .ok (.iload_n 1, 1) := dk_27 (dk_at dksX0_isEnough_4 6 rfl rfl)
theorem dX0_isEnough_99 : decode cX0_isEnough 99 = .ok (.iload_n 2, 1) := dk_28 (dk_at dksX0_isEnough_4 7 rfl rfl)
theorem dX0_isEnough_100 : decode cX0_isEnough 100 = .ok (.iconst 1, 1) := dk_4 (dk_at dksX0_isEnough_4 8 rfl rfl)
theorem dX0_isEnough_101 : decode cX0_isEnough 101 = .ok (.isub, 1) := dk_100 (dk_at dksX0_isEnough_4 9 rfl rfl)
theorem dX0_isEnough_102 : decode cX0_isEnough 102 = .ok (.invokevirtual 218, 3) := dk_182 0 218 (dk_at dksX0_isEnough_4 10 rfl rfl)
theorem dX0_isEnough_105 : decode cX0_isEnough 105 = .ok (.istore 7, 2) := dk_54 7 (dk_at dksX0_isEnough_4 13 rfl rfl)
theorem dX0_isEnough_107 : decode cX0_isEnough 107 = .ok (.aload_n 0, 1) := dk_42 (dk_at dksX0_isEnough_4 15 rfl rfl)
theorem dX0_isEnough_108 : decode cX0_isEnough 108 = .ok (.getfield 29, 3) := dk_180 0 29 (dk_at dksX0_isEnough_4 16 rfl rfl)
theorem dX0_isEnough_111 : decode cX0_isEnough 111 = .ok (.iload 4, 2) := dk_21 4 (dk_at dksX0_isEnough_4 19 rfl rfl)
theorem dX0_isEnough_113 : decode cX0_isEnough 113 = .ok (.iload 6, 2) := dk_21 6 (dk_at dksX0_isEnough_4 21 rfl rfl)
theorem dX0_isEnough_115 : decode cX0_isEnough 115 = .ok (.iload 5, 2) := dk_21 5 (dk_at dksX0_isEnough_5 0 rfl rfl)
theorem dX0_isEnough_117 : decode cX0_isEnough 117 = .ok (.invokevirtual 167, 3) := dk_182 0 167 (dk_at dksX0_isEnough_5 2 rfl rfl)
theorem dX0_isEnough_120 : decode cX0_isEnough 120 = .ok (.iload 7, 2) := dk_21 7 (dk_at dksX0_isEnough_5 5 rfl rfl)
theorem dX0_isEnough_122 : decode cX0_isEnough 122 = .ok (.ifCond .eq 5, 3) := dk_153 0 5 (dk_at dksX0_isEnough_5 7 rfl rfl)
theorem dX0_isEnough_125 : decode cX0_isEnough 125 = .ok (.iconst 1, 1) := dk_4 (dk_at dksX0_isEnough_5 10 rfl rfl)
theorem dX0_isEnough_126 : decode cX0_isEnough 126 = .ok (.ireturn, 1) := dk_172 (dk_at dksX0_isEnough_5 11 rfl rfl)
theorem dX0_isEnough_127 : decode cX0_isEnough 127 = .ok (.iinc 3 1, 3) := dk_132 3 1 (dk_at dksX0_isEnough_5 12 rfl rfl)
theorem dX0_isEnough_130 : decode cX0_isEnough 130 = .ok (.goto (-107), 3) := dk_167 255 149 (dk_at dksX0_isEnough_5 15 rfl rfl)
theorem dX0_isEnough_133 : decode cX0_isEnough 133 = .ok (.iconst 0, 1) := dk_3 (dk_at dksX0_isEnough_5 18 rfl rfl)
theorem dX0_isEnough_134 : decode cX0_isEnough 134 = .ok (.ireturn, 1) := dk_172 (dk_at dksX0_isEnough_5 19 rfl rfl)
abbrev cX0_above : ByteArray := prog_1_method_32_code
def yX0_above : MethodName := ⟨RX0, "above", "(I)I"⟩
def dkwX0_above_1 : List UInt8 := [184, 0, 191, 96, 61, 132, 3, 1, 167, 255, 230, 28, 172]
abbrev dktX0_above_1 : List UInt8 := dkwX0_above_1 ++ []
def dkwX0_above_0 : List UInt8 := [3, 61, 3, 62, 29, 16, 6, 162, 0, 26, 28, 3, 42, 180, 0, 29, 29, 182, 0, 112, 27, 100]
abbrev dktX0_above_0 : List UInt8 := dkwX0_above_0 ++ dktX0_above_1
theorem dksX0_above_0 : cX0_above.data.toList.drop 0 = dktX0_above_0 := by decide +kernel
theorem dksX0_above_1 : cX0_above.data.toList.drop 22 = dktX0_above_1 := dk_seg dksX0_above_0 22 rfl rfl
theorem dX0_above_0 : decode cX0_above 0 = .ok (.iconst 0, 1) := dk_3 (dk_at dksX0_above_0 0 rfl rfl)
theorem dX0_above_1 : decode cX0_above 1 = .ok (.istore_n 2, 1) := dk_61 (dk_at dksX0_above_0 1 rfl rfl)
theorem dX0_above_2 : decode cX0_above 2 = .ok (.iconst 0, 1) := dk_3 (dk_at dksX0_above_0 2 rfl rfl)
theorem dX0_above_3 : decode cX0_above 3 = .ok (.istore_n 3, 1) := dk_62 (dk_at dksX0_above_0 3 rfl rfl)
theorem dX0_above_4 : decode cX0_above 4 = .ok (.iload_n 3, 1) := dk_29 (dk_at dksX0_above_0 4 rfl rfl)
theorem dX0_above_5 : decode cX0_above 5 = .ok (.bipush 6, 2) := dk_16 6 (dk_at dksX0_above_0 5 rfl rfl)
theorem dX0_above_7 : decode cX0_above 7 = .ok (.if_icmp .ge 26, 3) := dk_162 0 26 (dk_at dksX0_above_0 7 rfl rfl)
theorem dX0_above_10 : decode cX0_above 10 = .ok (.iload_n 2, 1) := dk_28 (dk_at dksX0_above_0 10 rfl rfl)
theorem dX0_above_11 : decode cX0_above 11 = .ok (.iconst 0, 1) := dk_3 (dk_at dksX0_above_0 11 rfl rfl)
theorem dX0_above_12 : decode cX0_above 12 = .ok (.aload_n 0, 1) := dk_42 (dk_at dksX0_above_0 12 rfl rfl)
theorem dX0_above_13 : decode cX0_above 13 = .ok (.getfield 29, 3) := dk_180 0 29 (dk_at dksX0_above_0 13 rfl rfl)
theorem dX0_above_16 : decode cX0_above 16 = .ok (.iload_n 3, 1) := dk_29 (dk_at dksX0_above_0 16 rfl rfl)
theorem dX0_above_17 : decode cX0_above 17 = .ok (.invokevirtual 112, 3) := dk_182 0 112 (dk_at dksX0_above_0 17 rfl rfl)
theorem dX0_above_20 : decode cX0_above 20 = .ok (.iload_n 1, 1) := dk_27 (dk_at dksX0_above_0 20 rfl rfl)
theorem dX0_above_21 : decode cX0_above 21 = .ok (.isub, 1) := dk_100 (dk_at dksX0_above_0 21 rfl rfl)
theorem dX0_above_22 : decode cX0_above 22 = .ok (.invokestatic 191, 3) := dk_184 0 191 (dk_at dksX0_above_1 0 rfl rfl)
theorem dX0_above_25 : decode cX0_above 25 = .ok (.iadd, 1) := dk_96 (dk_at dksX0_above_1 3 rfl rfl)
theorem dX0_above_26 : decode cX0_above 26 = .ok (.istore_n 2, 1) := dk_61 (dk_at dksX0_above_1 4 rfl rfl)
theorem dX0_above_27 : decode cX0_above 27 = .ok (.iinc 3 1, 3) := dk_132 3 1 (dk_at dksX0_above_1 5 rfl rfl)
theorem dX0_above_30 : decode cX0_above 30 = .ok (.goto (-26), 3) := dk_167 255 230 (dk_at dksX0_above_1 8 rfl rfl)
theorem dX0_above_33 : decode cX0_above 33 = .ok (.iload_n 2, 1) := dk_28 (dk_at dksX0_above_1 11 rfl rfl)
theorem dX0_above_34 : decode cX0_above 34 = .ok (.ireturn, 1) := dk_172 (dk_at dksX0_above_1 12 rfl rfl)
abbrev cX0_ashes : ByteArray := prog_1_method_36_code
def yX0_ashes : MethodName := ⟨RX0, "ashes", "(I)I"⟩
def dkwX0_ashes_2 : List UInt8 := [42, 89, 180, 0, 105, 4, 96, 181, 0, 105, 42, 180, 0, 105, 172]
abbrev dktX0_ashes_2 : List UInt8 := dkwX0_ashes_2 ++ []
def dkwX0_ashes_1 : List UInt8 := [16, 154, 172, 42, 180, 0, 105, 8, 160, 0, 6, 16, 152, 172, 42, 180, 0, 39, 42, 180, 0, 105, 27, 79]
abbrev dktX0_ashes_1 : List UInt8 := dkwX0_ashes_1 ++ dktX0_ashes_2
def dkwX0_ashes_0 : List UInt8 := [27, 2, 159, 0, 25, 27, 3, 4, 42, 180, 0, 10, 182, 0, 63, 120, 4, 100, 184, 0, 67, 154, 0, 6]
abbrev dktX0_ashes_0 : List UInt8 := dkwX0_ashes_0 ++ dktX0_ashes_1
theorem dksX0_ashes_0 : cX0_ashes.data.toList.drop 0 = dktX0_ashes_0 := by decide +kernel
theorem dksX0_ashes_1 : cX0_ashes.data.toList.drop 24 = dktX0_ashes_1 := dk_seg dksX0_ashes_0 24 rfl rfl
theorem dksX0_ashes_2 : cX0_ashes.data.toList.drop 48 = dktX0_ashes_2 := dk_seg dksX0_ashes_1 24 rfl rfl
theorem dX0_ashes_0 : decode cX0_ashes 0 = .ok (.iload_n 1, 1) := dk_27 (dk_at dksX0_ashes_0 0 rfl rfl)
theorem dX0_ashes_1 : decode cX0_ashes 1 = .ok (.iconst (-1), 1) := dk_2 (dk_at dksX0_ashes_0 1 rfl rfl)
theorem dX0_ashes_2 : decode cX0_ashes 2 = .ok (.if_icmp .eq 25, 3) := dk_159 0 25 (dk_at dksX0_ashes_0 2 rfl rfl)
theorem dX0_ashes_5 : decode cX0_ashes 5 = .ok (.iload_n 1, 1) := dk_27 (dk_at dksX0_ashes_0 5 rfl rfl)
theorem dX0_ashes_6 : decode cX0_ashes 6 = .ok (.iconst 0, 1) := dk_3 (dk_at dksX0_ashes_0 6 rfl rfl)
theorem dX0_ashes_7 : decode cX0_ashes 7 = .ok (.iconst 1, 1) := dk_4 (dk_at dksX0_ashes_0 7 rfl rfl)
theorem dX0_ashes_8 : decode cX0_ashes 8 = .ok (.aload_n 0, 1) := dk_42 (dk_at dksX0_ashes_0 8 rfl rfl)
theorem dX0_ashes_9 : decode cX0_ashes 9 = .ok (.getfield 10, 3) := dk_180 0 10 (dk_at dksX0_ashes_0 9 rfl rfl)
theorem dX0_ashes_12 : decode cX0_ashes 12 = .ok (.invokevirtual 63, 3) := dk_182 0 63 (dk_at dksX0_ashes_0 12 rfl rfl)
theorem dX0_ashes_15 : decode cX0_ashes 15 = .ok (.ishl, 1) := dk_120 (dk_at dksX0_ashes_0 15 rfl rfl)
theorem dX0_ashes_16 : decode cX0_ashes 16 = .ok (.iconst 1, 1) := dk_4 (dk_at dksX0_ashes_0 16 rfl rfl)
theorem dX0_ashes_17 : decode cX0_ashes 17 = .ok (.isub, 1) := dk_100 (dk_at dksX0_ashes_0 17 rfl rfl)
theorem dX0_ashes_18 : decode cX0_ashes 18 = .ok (.invokestatic 67, 3) := dk_184 0 67 (dk_at dksX0_ashes_0 18 rfl rfl)
theorem dX0_ashes_21 : decode cX0_ashes 21 = .ok (.ifCond .ne 6, 3) := dk_154 0 6 (dk_at dksX0_ashes_0 21 rfl rfl)
theorem dX0_ashes_24 : decode cX0_ashes 24 = .ok (.bipush (-102), 2) := dk_16 154 (dk_at dksX0_ashes_1 0 rfl rfl)
theorem dX0_ashes_26 : decode cX0_ashes 26 = .ok (.ireturn, 1) := dk_172 (dk_at dksX0_ashes_1 2 rfl rfl)
theorem dX0_ashes_27 : decode cX0_ashes 27 = .ok (.aload_n 0, 1) := dk_42 (dk_at dksX0_ashes_1 3 rfl rfl)
theorem dX0_ashes_28 : decode cX0_ashes 28 = .ok (.getfield 105, 3) := dk_180 0 105 (dk_at dksX0_ashes_1 4 rfl rfl)
theorem dX0_ashes_31 : decode cX0_ashes 31 = .ok (.iconst 5, 1) := dk_8 (dk_at dksX0_ashes_1 7 rfl rfl)
theorem dX0_ashes_32 : decode cX0_ashes 32 = .ok (.if_icmp .ne 6, 3) := dk_160 0 6 (dk_at dksX0_ashes_1 8 rfl rfl)
theorem dX0_ashes_35 : decode cX0_ashes 35 = .ok (.bipush (-104), 2) := dk_16 152 (dk_at dksX0_ashes_1 11 rfl rfl)
theorem dX0_ashes_37 : decode cX0_ashes 37 = .ok (.ireturn, 1) := dk_172 (dk_at dksX0_ashes_1 13 rfl rfl)
theorem dX0_ashes_38 : decode cX0_ashes 38 = .ok (.aload_n 0, 1) := dk_42 (dk_at dksX0_ashes_1 14 rfl rfl)
theorem dX0_ashes_39 : decode cX0_ashes 39 = .ok (.getfield 39, 3) := dk_180 0 39 (dk_at dksX0_ashes_1 15 rfl rfl)
theorem dX0_ashes_42 : decode cX0_ashes 42 = .ok (.aload_n 0, 1) := dk_42 (dk_at dksX0_ashes_1 18 rfl rfl)
theorem dX0_ashes_43 : decode cX0_ashes 43 = .ok (.getfield 105, 3) := dk_180 0 105 (dk_at dksX0_ashes_1 19 rfl rfl)
theorem dX0_ashes_46 : decode cX0_ashes 46 = .ok (.iload_n 1, 1) := dk_27 (dk_at dksX0_ashes_1 22 rfl rfl)
theorem dX0_ashes_47 : decode cX0_ashes 47 = .ok (.iastore, 1) := dk_79 (dk_at dksX0_ashes_1 23 rfl rfl)
theorem dX0_ashes_48 : decode cX0_ashes 48 = .ok (.aload_n 0, 1) := dk_42 (dk_at dksX0_ashes_2 0 rfl rfl)
theorem dX0_ashes_49 : decode cX0_ashes 49 = .ok (.dup, 1) := dk_89 (dk_at dksX0_ashes_2 1 rfl rfl)
theorem dX0_ashes_50 : decode cX0_ashes 50 = .ok (.getfield 105, 3) := dk_180 0 105 (dk_at dksX0_ashes_2 2 rfl rfl)
theorem dX0_ashes_53 : decode cX0_ashes 53 = .ok (.iconst 1, 1) := dk_4 (dk_at dksX0_ashes_2 5 rfl rfl)
theorem dX0_ashes_54 : decode cX0_ashes 54 = .ok (.iadd, 1) := dk_96 (dk_at dksX0_ashes_2 6 rfl rfl)
theorem dX0_ashes_55 : decode cX0_ashes 55 = .ok (.putfield 105, 3) := dk_181 0 105 (dk_at dksX0_ashes_2 7 rfl rfl)
theorem dX0_ashes_58 : decode cX0_ashes 58 = .ok (.aload_n 0, 1) := dk_42 (dk_at dksX0_ashes_2 10 rfl rfl)
theorem dX0_ashes_59 : decode cX0_ashes 59 = .ok (.getfield 105, 3) := dk_180 0 105 (dk_at dksX0_ashes_2 11 rfl rfl)
theorem dX0_ashes_62 : decode cX0_ashes 62 = .ok (.ireturn, 1) := dk_172 (dk_at dksX0_ashes_2 14 rfl rfl)
abbrev cX0_forget : ByteArray := prog_1_method_37_code
def yX0_forget : MethodName := ⟨RX0, "forget", "()I"⟩
def dkwX0_forget_0 : List UInt8 := [42, 180, 0, 105, 60, 42, 3, 181, 0, 105, 27, 172]
abbrev dktX0_forget_0 : List UInt8 := dkwX0_forget_0 ++ []
theorem dksX0_forget_0 : cX0_forget.data.toList.drop 0 = dktX0_forget_0 := by decide +kernel
theorem dX0_forget_0 : decode cX0_forget 0 = .ok (.aload_n 0, 1) := dk_42 (dk_at dksX0_forget_0 0 rfl rfl)
theorem dX0_forget_1 : decode cX0_forget 1 = .ok (.getfield 105, 3) := dk_180 0 105 (dk_at dksX0_forget_0 1 rfl rfl)
theorem dX0_forget_4 : decode cX0_forget 4 = .ok (.istore_n 1, 1) := dk_60 (dk_at dksX0_forget_0 4 rfl rfl)
theorem dX0_forget_5 : decode cX0_forget 5 = .ok (.aload_n 0, 1) := dk_42 (dk_at dksX0_forget_0 5 rfl rfl)
theorem dX0_forget_6 : decode cX0_forget 6 = .ok (.iconst 0, 1) := dk_3 (dk_at dksX0_forget_0 6 rfl rfl)
theorem dX0_forget_7 : decode cX0_forget 7 = .ok (.putfield 105, 3) := dk_181 0 105 (dk_at dksX0_forget_0 7 rfl rfl)
theorem dX0_forget_10 : decode cX0_forget 10 = .ok (.iload_n 1, 1) := dk_27 (dk_at dksX0_forget_0 10 rfl rfl)
theorem dX0_forget_11 : decode cX0_forget 11 = .ok (.ireturn, 1) := dk_172 (dk_at dksX0_forget_0 11 rfl rfl)
abbrev cX0_fits : ByteArray := prog_1_method_40_code
def yX0_fits : MethodName := ⟨RX0, "fits", "()I"⟩
def dkwX0_fits_0 : List UInt8 := [42, 180, 0, 92, 153, 0, 10, 42, 182, 0, 236, 167, 0, 5, 16, 153, 172]
abbrev dktX0_fits_0 : List UInt8 := dkwX0_fits_0 ++ []
theorem dksX0_fits_0 : cX0_fits.data.toList.drop 0 = dktX0_fits_0 := by decide +kernel
theorem dX0_fits_0 : decode cX0_fits 0 = .ok (.aload_n 0, 1) := dk_42 (dk_at dksX0_fits_0 0 rfl rfl)
theorem dX0_fits_1 : decode cX0_fits 1 = .ok (.getfield 92, 3) := dk_180 0 92 (dk_at dksX0_fits_0 1 rfl rfl)
theorem dX0_fits_4 : decode cX0_fits 4 = .ok (.ifCond .eq 10, 3) := dk_153 0 10 (dk_at dksX0_fits_0 4 rfl rfl)
theorem dX0_fits_7 : decode cX0_fits 7 = .ok (.aload_n 0, 1) := dk_42 (dk_at dksX0_fits_0 7 rfl rfl)
theorem dX0_fits_8 : decode cX0_fits 8 = .ok (.invokevirtual 236, 3) := dk_182 0 236 (dk_at dksX0_fits_0 8 rfl rfl)
theorem dX0_fits_11 : decode cX0_fits 11 = .ok (.goto 5, 3) := dk_167 0 5 (dk_at dksX0_fits_0 11 rfl rfl)
theorem dX0_fits_14 : decode cX0_fits 14 = .ok (.bipush (-103), 2) := dk_16 153 (dk_at dksX0_fits_0 14 rfl rfl)
theorem dX0_fits_16 : decode cX0_fits 16 = .ok (.ireturn, 1) := dk_172 (dk_at dksX0_fits_0 16 rfl rfl)
abbrev cX0_layFits : ByteArray := prog_1_method_39_code
def yX0_layFits : MethodName := ⟨RX0, "layFits", "()I"⟩
def dkwX0_layFits_4 : List UInt8 := [172]
abbrev dktX0_layFits_4 : List UInt8 := dkwX0_layFits_4 ++ []
def dkwX0_layFits_3 : List UInt8 := [16, 6, 112, 120, 128, 79, 29, 16, 6, 108, 62, 132, 4, 1, 167, 255, 223, 132, 2, 1, 167, 255, 188, 27]
abbrev dktX0_layFits_3 : List UInt8 := dkwX0_layFits_3 ++ dktX0_layFits_4
def dkwX0_layFits_2 : List UInt8 := [28, 62, 3, 54, 4, 21, 4, 42, 180, 0, 105, 162, 0, 30, 42, 180, 0, 42, 21, 4, 92, 46, 4, 29]
abbrev dktX0_layFits_2 : List UInt8 := dkwX0_layFits_2 ++ dktX0_layFits_3
def dkwX0_layFits_1 : List UInt8 := [28, 16, 6, 42, 180, 0, 105, 184, 0, 174, 162, 0, 61, 42, 28, 182, 0, 233, 153, 0, 47, 132, 1, 1]
abbrev dktX0_layFits_1 : List UInt8 := dkwX0_layFits_1 ++ dktX0_layFits_2
def dkwX0_layFits_0 : List UInt8 := [3, 60, 3, 61, 28, 8, 162, 0, 16, 42, 180, 0, 42, 28, 3, 79, 132, 2, 1, 167, 255, 241, 3, 61]
abbrev dktX0_layFits_0 : List UInt8 := dkwX0_layFits_0 ++ dktX0_layFits_1
theorem dksX0_layFits_0 : cX0_layFits.data.toList.drop 0 = dktX0_layFits_0 := by decide +kernel
theorem dksX0_layFits_1 : cX0_layFits.data.toList.drop 24 = dktX0_layFits_1 := dk_seg dksX0_layFits_0 24 rfl rfl
theorem dksX0_layFits_2 : cX0_layFits.data.toList.drop 48 = dktX0_layFits_2 := dk_seg dksX0_layFits_1 24 rfl rfl
theorem dksX0_layFits_3 : cX0_layFits.data.toList.drop 72 = dktX0_layFits_3 := dk_seg dksX0_layFits_2 24 rfl rfl
theorem dksX0_layFits_4 : cX0_layFits.data.toList.drop 96 = dktX0_layFits_4 := dk_seg dksX0_layFits_3 24 rfl rfl
theorem dX0_layFits_0 : decode cX0_layFits 0 = .ok (.iconst 0, 1) := dk_3 (dk_at dksX0_layFits_0 0 rfl rfl)
theorem dX0_layFits_1 : decode cX0_layFits 1 = .ok (.istore_n 1, 1) := dk_60 (dk_at dksX0_layFits_0 1 rfl rfl)
theorem dX0_layFits_2 : decode cX0_layFits 2 = .ok (.iconst 0, 1) := dk_3 (dk_at dksX0_layFits_0 2 rfl rfl)
theorem dX0_layFits_3 : decode cX0_layFits 3 = .ok (.istore_n 2, 1) := dk_61 (dk_at dksX0_layFits_0 3 rfl rfl)
theorem dX0_layFits_4 : decode cX0_layFits 4 = .ok (.iload_n 2, 1) := dk_28 (dk_at dksX0_layFits_0 4 rfl rfl)
theorem dX0_layFits_5 : decode cX0_layFits 5 = .ok (.iconst 5, 1) := dk_8 (dk_at dksX0_layFits_0 5 rfl rfl)
theorem dX0_layFits_6 : decode cX0_layFits 6 = .ok (.if_icmp .ge 16, 3) := dk_162 0 16 (dk_at dksX0_layFits_0 6 rfl rfl)
theorem dX0_layFits_9 : decode cX0_layFits 9 = .ok (.aload_n 0, 1) := dk_42 (dk_at dksX0_layFits_0 9 rfl rfl)
theorem dX0_layFits_10 : decode cX0_layFits 10 = .ok (.getfield 42, 3) := dk_180 0 42 (dk_at dksX0_layFits_0 10 rfl rfl)
theorem dX0_layFits_13 : decode cX0_layFits 13 = .ok (.iload_n 2, 1) := dk_28 (dk_at dksX0_layFits_0 13 rfl rfl)
theorem dX0_layFits_14 : decode cX0_layFits 14 = .ok (.iconst 0, 1) := dk_3 (dk_at dksX0_layFits_0 14 rfl rfl)
theorem dX0_layFits_15 : decode cX0_layFits 15 = .ok (.iastore, 1) := dk_79 (dk_at dksX0_layFits_0 15 rfl rfl)
theorem dX0_layFits_16 : decode cX0_layFits 16 = .ok (.iinc 2 1, 3) := dk_132 2 1 (dk_at dksX0_layFits_0 16 rfl rfl)
theorem dX0_layFits_19 : decode cX0_layFits 19 = .ok (.goto (-15), 3) := dk_167 255 241 (dk_at dksX0_layFits_0 19 rfl rfl)
theorem dX0_layFits_22 : decode cX0_layFits 22 = .ok (.iconst 0, 1) := dk_3 (dk_at dksX0_layFits_0 22 rfl rfl)
theorem dX0_layFits_23 : decode cX0_layFits 23 = .ok (.istore_n 2, 1) := dk_61 (dk_at dksX0_layFits_0 23 rfl rfl)
theorem dX0_layFits_24 : decode cX0_layFits 24 = .ok (.iload_n 2, 1) := dk_28 (dk_at dksX0_layFits_1 0 rfl rfl)
theorem dX0_layFits_25 : decode cX0_layFits 25 = .ok (.bipush 6, 2) := dk_16 6 (dk_at dksX0_layFits_1 1 rfl rfl)
theorem dX0_layFits_27 : decode cX0_layFits 27 = .ok (.aload_n 0, 1) := dk_42 (dk_at dksX0_layFits_1 3 rfl rfl)
theorem dX0_layFits_28 : decode cX0_layFits 28 = .ok (.getfield 105, 3) := dk_180 0 105 (dk_at dksX0_layFits_1 4 rfl rfl)
theorem dX0_layFits_31 : decode cX0_layFits 31 = .ok (.invokestatic 174, 3) := dk_184 0 174 (dk_at dksX0_layFits_1 7 rfl rfl)
theorem dX0_layFits_34 : decode cX0_layFits 34 = .ok (.if_icmp .ge 61, 3) := dk_162 0 61 (dk_at dksX0_layFits_1 10 rfl rfl)
theorem dX0_layFits_37 : decode cX0_layFits 37 = .ok (.aload_n 0, 1) := dk_42 (dk_at dksX0_layFits_1 13 rfl rfl)
theorem dX0_layFits_38 : decode cX0_layFits 38 = .ok (.iload_n 2, 1) := dk_28 (dk_at dksX0_layFits_1 14 rfl rfl)
theorem dX0_layFits_39 : decode cX0_layFits 39 = .ok (.invokevirtual 233, 3) := dk_182 0 233 (dk_at dksX0_layFits_1 15 rfl rfl)
theorem dX0_layFits_42 : decode cX0_layFits 42 = .ok (.ifCond .eq 47, 3) := dk_153 0 47 (dk_at dksX0_layFits_1 18 rfl rfl)
theorem dX0_layFits_45 : decode cX0_layFits 45 = .ok (.iinc 1 1, 3) := dk_132 1 1 (dk_at dksX0_layFits_1 21 rfl rfl)
theorem dX0_layFits_48 : decode cX0_layFits 48 = .ok (.iload_n 2, 1) := dk_28 (dk_at dksX0_layFits_2 0 rfl rfl)
theorem dX0_layFits_49 : decode cX0_layFits 49 = .ok (.istore_n 3, 1) := dk_62 (dk_at dksX0_layFits_2 1 rfl rfl)
theorem dX0_layFits_50 : decode cX0_layFits 50 = .ok (.iconst 0, 1) := dk_3 (dk_at dksX0_layFits_2 2 rfl rfl)
theorem dX0_layFits_51 : decode cX0_layFits 51 = .ok (.istore 4, 2) := dk_54 4 (dk_at dksX0_layFits_2 3 rfl rfl)
theorem dX0_layFits_53 : decode cX0_layFits 53 = .ok (.iload 4, 2) := dk_21 4 (dk_at dksX0_layFits_2 5 rfl rfl)
theorem dX0_layFits_55 : decode cX0_layFits 55 = .ok (.aload_n 0, 1) := dk_42 (dk_at dksX0_layFits_2 7 rfl rfl)
theorem dX0_layFits_56 : decode cX0_layFits 56 = .ok (.getfield 105, 3) := dk_180 0 105 (dk_at dksX0_layFits_2 8 rfl rfl)
theorem dX0_layFits_59 : decode cX0_layFits 59 = .ok (.if_icmp .ge 30, 3) := dk_162 0 30 (dk_at dksX0_layFits_2 11 rfl rfl)
theorem dX0_layFits_62 : decode cX0_layFits 62 = .ok (.aload_n 0, 1) := dk_42 (dk_at dksX0_layFits_2 14 rfl rfl)
theorem dX0_layFits_63 : decode cX0_layFits 63 = .ok (.getfield 42, 3) := dk_180 0 42 (dk_at dksX0_layFits_2 15 rfl rfl)
theorem dX0_layFits_66 : decode cX0_layFits 66 = .ok (.iload 4, 2) := dk_21 4 (dk_at dksX0_layFits_2 18 rfl rfl)
theorem dX0_layFits_68 : decode cX0_layFits 68 = .ok (.dup2, 1) := dk_92 (dk_at dksX0_layFits_2 20 rfl rfl)
theorem dX0_layFits_69 : decode cX0_layFits 69 = .ok (.iaload, 1) := dk_46 (dk_at dksX0_layFits_2 21 rfl rfl)
theorem dX0_layFits_70 : decode cX0_layFits 70 = .ok (.iconst 1, 1) := dk_4 (dk_at dksX0_layFits_2 22 rfl rfl)
theorem dX0_layFits_71 : decode cX0_layFits 71 = .ok (.iload_n 3, 1) := dk_29 (dk_at dksX0_layFits_2 23 rfl rfl)
theorem dX0_layFits_72 : decode cX0_layFits 72 = .ok (.bipush 6, 2) := dk_16 6 (dk_at dksX0_layFits_3 0 rfl rfl)
theorem dX0_layFits_74 : decode cX0_layFits 74 = .ok (.irem, 1) := dk_112 (dk_at dksX0_layFits_3 2 rfl rfl)
theorem dX0_layFits_75 : decode cX0_layFits 75 = .ok (.ishl, 1) := dk_120 (dk_at dksX0_layFits_3 3 rfl rfl)
theorem dX0_layFits_76 : decode cX0_layFits 76 = .ok (.ior, 1) := dk_128 (dk_at dksX0_layFits_3 4 rfl rfl)
theorem dX0_layFits_77 : decode cX0_layFits 77 = .ok (.iastore, 1) := dk_79 (dk_at dksX0_layFits_3 5 rfl rfl)
theorem dX0_layFits_78 : decode cX0_layFits 78 = .ok (.iload_n 3, 1) := dk_29 (dk_at dksX0_layFits_3 6 rfl rfl)
theorem dX0_layFits_79 : decode cX0_layFits 79 = .ok (.bipush 6, 2) := dk_16 6 (dk_at dksX0_layFits_3 7 rfl rfl)
theorem dX0_layFits_81 : decode cX0_layFits 81 = .ok (.idiv, 1) := dk_108 (dk_at dksX0_layFits_3 9 rfl rfl)
theorem dX0_layFits_82 : decode cX0_layFits 82 = .ok (.istore_n 3, 1) := dk_62 (dk_at dksX0_layFits_3 10 rfl rfl)
theorem dX0_layFits_83 : decode cX0_layFits 83 = .ok (.iinc 4 1, 3) := dk_132 4 1 (dk_at dksX0_layFits_3 11 rfl rfl)
theorem dX0_layFits_86 : decode cX0_layFits 86 = .ok (.goto (-33), 3) := dk_167 255 223 (dk_at dksX0_layFits_3 14 rfl rfl)
theorem dX0_layFits_89 : decode cX0_layFits 89 = .ok (.iinc 2 1, 3) := dk_132 2 1 (dk_at dksX0_layFits_3 17 rfl rfl)
theorem dX0_layFits_92 : decode cX0_layFits 92 = .ok (.goto (-68), 3) := dk_167 255 188 (dk_at dksX0_layFits_3 20 rfl rfl)
theorem dX0_layFits_95 : decode cX0_layFits 95 = .ok (.iload_n 1, 1) := dk_27 (dk_at dksX0_layFits_3 23 rfl rfl)
theorem dX0_layFits_96 : decode cX0_layFits 96 = .ok (.ireturn, 1) := dk_172 (dk_at dksX0_layFits_4 0 rfl rfl)
abbrev cX0_isSo : ByteArray := prog_1_method_38_code
def yX0_isSo : MethodName := ⟨RX0, "isSo", "(I)Z"⟩
def dkwX0_isSo_4 : List UInt8 := [132, 4, 1, 167, 255, 177, 29, 172]
abbrev dktX0_isSo_4 : List UInt8 := dkwX0_isSo_4 ++ []
def dkwX0_isSo_3 : List UInt8 := [46, 42, 180, 0, 29, 182, 0, 230, 160, 0, 7, 4, 167, 0, 4, 3, 62, 28, 16, 6, 108, 61]
abbrev dktX0_isSo_3 : List UInt8 := dkwX0_isSo_3 ++ dktX0_isSo_4
def dkwX0_isSo_2 : List UInt8 := [16, 6, 112, 46, 158, 0, 35, 42, 180, 0, 39, 21, 4, 46, 2, 159, 0, 20, 42, 180, 0, 39, 21, 4]
abbrev dktX0_isSo_2 : List UInt8 := dkwX0_isSo_2 ++ dktX0_isSo_3
def dkwX0_isSo_1 : List UInt8 := [162, 0, 76, 29, 153, 0, 72, 42, 180, 0, 29, 28, 16, 6, 112, 182, 0, 171, 87, 42, 180, 0, 16, 28]
abbrev dktX0_isSo_1 : List UInt8 := dkwX0_isSo_1 ++ dktX0_isSo_2
def dkwX0_isSo_0 : List UInt8 := [42, 180, 0, 29, 42, 180, 0, 25, 182, 0, 177, 27, 61, 4, 62, 3, 54, 4, 21, 4, 42, 180, 0, 105]
abbrev dktX0_isSo_0 : List UInt8 := dkwX0_isSo_0 ++ dktX0_isSo_1
theorem dksX0_isSo_0 : cX0_isSo.data.toList.drop 0 = dktX0_isSo_0 := by decide +kernel
theorem dksX0_isSo_1 : cX0_isSo.data.toList.drop 24 = dktX0_isSo_1 := dk_seg dksX0_isSo_0 24 rfl rfl
theorem dksX0_isSo_2 : cX0_isSo.data.toList.drop 48 = dktX0_isSo_2 := dk_seg dksX0_isSo_1 24 rfl rfl
theorem dksX0_isSo_3 : cX0_isSo.data.toList.drop 72 = dktX0_isSo_3 := dk_seg dksX0_isSo_2 24 rfl rfl
theorem dksX0_isSo_4 : cX0_isSo.data.toList.drop 94 = dktX0_isSo_4 := dk_seg dksX0_isSo_3 22 rfl rfl
theorem dX0_isSo_0 : decode cX0_isSo 0 = .ok (.aload_n 0, 1) := dk_42 (dk_at dksX0_isSo_0 0 rfl rfl)
theorem dX0_isSo_1 : decode cX0_isSo 1 = .ok (.getfield 29, 3) := dk_180 0 29 (dk_at dksX0_isSo_0 1 rfl rfl)
theorem dX0_isSo_4 : decode cX0_isSo 4 = .ok (.aload_n 0, 1) := dk_42 (dk_at dksX0_isSo_0 4 rfl rfl)
theorem dX0_isSo_5 : decode cX0_isSo 5 = .ok (.getfield 25, 3) := dk_180 0 25 (dk_at dksX0_isSo_0 5 rfl rfl)
theorem dX0_isSo_8 : decode cX0_isSo 8 = .ok (.invokevirtual 177, 3) := dk_182 0 177 (dk_at dksX0_isSo_0 8 rfl rfl)
theorem dX0_isSo_11 : decode cX0_isSo 11 = .ok (.iload_n 1, 1) := dk_27 (dk_at dksX0_isSo_0 11 rfl rfl)
theorem dX0_isSo_12 : decode cX0_isSo 12 = .ok (.istore_n 2, 1) := dk_61 (dk_at dksX0_isSo_0 12 rfl rfl)
theorem dX0_isSo_13 : decode cX0_isSo 13 = .ok (.iconst 1, 1) := dk_4 (dk_at dksX0_isSo_0 13 rfl rfl)
theorem dX0_isSo_14 : decode cX0_isSo 14 = .ok (.istore_n 3, 1) := dk_62 (dk_at dksX0_isSo_0 14 rfl rfl)
theorem dX0_isSo_15 : decode cX0_isSo 15 = .ok (.iconst 0, 1) := dk_3 (dk_at dksX0_isSo_0 15 rfl rfl)
theorem dX0_isSo_16 : decode cX0_isSo 16 = .ok (.istore 4, 2) := dk_54 4 (dk_at dksX0_isSo_0 16 rfl rfl)
theorem dX0_isSo_18 : decode cX0_isSo 18 = .ok (.iload 4, 2) := dk_21 4 (dk_at dksX0_isSo_0 18 rfl rfl)
theorem dX0_isSo_20 : decode cX0_isSo 20 = .ok (.aload_n 0, 1) := dk_42 (dk_at dksX0_isSo_0 20 rfl rfl)
theorem dX0_isSo_21 : decode cX0_isSo 21 = .ok (.getfield 105, 3) := dk_180 0 105 (dk_at dksX0_isSo_0 21 rfl rfl)
theorem dX0_isSo_24 : decode cX0_isSo 24 = .ok (.if_icmp .ge 76, 3) := dk_162 0 76 (dk_at dksX0_isSo_1 0 rfl rfl)
theorem dX0_isSo_27 : decode cX0_isSo 27 = .ok (.iload_n 3, 1) := dk_29 (dk_at dksX0_isSo_1 3 rfl rfl)
theorem dX0_isSo_28 : decode cX0_isSo 28 = .ok (.ifCond .eq 72, 3) := dk_153 0 72 (dk_at dksX0_isSo_1 4 rfl rfl)
theorem dX0_isSo_31 : decode cX0_isSo 31 = .ok (.aload_n 0, 1) := dk_42 (dk_at dksX0_isSo_1 7 rfl rfl)
theorem dX0_isSo_32 : decode cX0_isSo 32 = .ok (.getfield 29, 3) := dk_180 0 29 (dk_at dksX0_isSo_1 8 rfl rfl)
theorem dX0_isSo_35 : decode cX0_isSo 35 = .ok (.iload_n 2, 1) := dk_28 (dk_at dksX0_isSo_1 11 rfl rfl)
theorem dX0_isSo_36 : decode cX0_isSo 36 = .ok (.bipush 6, 2) := dk_16 6 (dk_at dksX0_isSo_1 12 rfl rfl)
theorem dX0_isSo_38 : decode cX0_isSo 38 = .ok (.irem, 1) := dk_112 (dk_at dksX0_isSo_1 14 rfl rfl)
theorem dX0_isSo_39 : decode cX0_isSo 39 = .ok (.invokevirtual 171, 3) := dk_182 0 171 (dk_at dksX0_isSo_1 15 rfl rfl)
theorem dX0_isSo_42 : decode cX0_isSo 42 = .ok (.pop, 1) := dk_87 (dk_at dksX0_isSo_1 18 rfl rfl)
theorem dX0_isSo_43 : decode cX0_isSo 43 = .ok (.aload_n 0, 1) := dk_42 (dk_at dksX0_isSo_1 19 rfl rfl)
theorem dX0_isSo_44 : decode cX0_isSo 44 = .ok (.getfield 16, 3) := dk_180 0 16 (dk_at dksX0_isSo_1 20 rfl rfl)
theorem dX0_isSo_47 : decode cX0_isSo 47 = .ok (.iload_n 2, 1) := dk_28 (dk_at dksX0_isSo_1 23 rfl rfl)
theorem dX0_isSo_48 : decode cX0_isSo 48 = .ok (.bipush 6, 2) := dk_16 6 (dk_at dksX0_isSo_2 0 rfl rfl)
theorem dX0_isSo_50 : decode cX0_isSo 50 = .ok (.irem, 1) := dk_112 (dk_at dksX0_isSo_2 2 rfl rfl)
theorem dX0_isSo_51 : decode cX0_isSo 51 = .ok (.iaload, 1) := dk_46 (dk_at dksX0_isSo_2 3 rfl rfl)
theorem dX0_isSo_52 : decode cX0_isSo 52 = .ok (.ifCond .le 35, 3) := dk_158 0 35 (dk_at dksX0_isSo_2 4 rfl rfl)
theorem dX0_isSo_55 : decode cX0_isSo 55 = .ok (.aload_n 0, 1) := dk_42 (dk_at dksX0_isSo_2 7 rfl rfl)
theorem dX0_isSo_56 : decode cX0_isSo 56 = .ok (.getfield 39, 3) := dk_180 0 39 (dk_at dksX0_isSo_2 8 rfl rfl)
theorem dX0_isSo_59 : decode cX0_isSo 59 = .ok (.iload 4, 2) := dk_21 4 (dk_at dksX0_isSo_2 11 rfl rfl)
theorem dX0_isSo_61 : decode cX0_isSo 61 = .ok (.iaload, 1) := dk_46 (dk_at dksX0_isSo_2 13 rfl rfl)
theorem dX0_isSo_62 : decode cX0_isSo 62 = .ok (.iconst (-1), 1) := dk_2 (dk_at dksX0_isSo_2 14 rfl rfl)
theorem dX0_isSo_63 : decode cX0_isSo 63 = .ok (.if_icmp .eq 20, 3) := dk_159 0 20 (dk_at dksX0_isSo_2 15 rfl rfl)
theorem dX0_isSo_66 : decode cX0_isSo 66 = .ok (.aload_n 0, 1) := dk_42 (dk_at dksX0_isSo_2 18 rfl rfl)
theorem dX0_isSo_67 : decode cX0_isSo 67 = .ok (.getfield 39, 3) := dk_180 0 39 (dk_at dksX0_isSo_2 19 rfl rfl)
theorem dX0_isSo_70 : decode cX0_isSo 70 = .ok (.iload 4, 2) := dk_21 4 (dk_at dksX0_isSo_2 22 rfl rfl)
theorem dX0_isSo_72 : decode cX0_isSo 72 = .ok (.iaload, 1) := dk_46 (dk_at dksX0_isSo_3 0 rfl rfl)
theorem dX0_isSo_73 : decode cX0_isSo 73 = .ok (.aload_n 0, 1) := dk_42 (dk_at dksX0_isSo_3 1 rfl rfl)
theorem dX0_isSo_74 : decode cX0_isSo 74 = .ok (.getfield 29, 3) := dk_180 0 29 (dk_at dksX0_isSo_3 2 rfl rfl)
theorem dX0_isSo_77 : decode cX0_isSo 77 = .ok (.invokevirtual 230, 3) := dk_182 0 230 (dk_at dksX0_isSo_3 5 rfl rfl)
theorem dX0_isSo_80 : decode cX0_isSo 80 = .ok (.if_icmp .ne 7, 3) := dk_160 0 7 (dk_at dksX0_isSo_3 8 rfl rfl)
theorem dX0_isSo_83 : decode cX0_isSo 83 = .ok (.iconst 1, 1) := dk_4 (dk_at dksX0_isSo_3 11 rfl rfl)
theorem dX0_isSo_84 : decode cX0_isSo 84 = .ok (.goto 4, 3) := dk_167 0 4 (dk_at dksX0_isSo_3 12 rfl rfl)
theorem dX0_isSo_87 : decode cX0_isSo 87 = .ok (.iconst 0, 1) := dk_3 (dk_at dksX0_isSo_3 15 rfl rfl)
theorem dX0_isSo_88 : decode cX0_isSo 88 = .ok (.istore_n 3, 1) := dk_62 (dk_at dksX0_isSo_3 16 rfl rfl)
theorem dX0_isSo_89 : decode cX0_isSo 89 = .ok (.iload_n 2, 1) := dk_28 (dk_at dksX0_isSo_3 17 rfl rfl)
theorem dX0_isSo_90 : decode cX0_isSo 90 = .ok (.bipush 6, 2) := dk_16 6 (dk_at dksX0_isSo_3 18 rfl rfl)
theorem dX0_isSo_92 : decode cX0_isSo 92 = .ok (.idiv, 1) := dk_108 (dk_at dksX0_isSo_3 20 rfl rfl)
theorem dX0_isSo_93 : decode cX0_isSo 93 = .ok (.istore_n 2, 1) := dk_61 (dk_at dksX0_isSo_3 21 rfl rfl)
theorem dX0_isSo_94 : decode cX0_isSo 94 = .ok (.iinc 4 1, 3) := dk_132 4 1 (dk_at dksX0_isSo_4 0 rfl rfl)
theorem dX0_isSo_97 : decode cX0_isSo 97 = .ok (.goto (-79), 3) := dk_167 255 177 (dk_at dksX0_isSo_4 3 rfl rfl)
theorem dX0_isSo_100 : decode cX0_isSo 100 = .ok (.iload_n 3, 1) := dk_29 (dk_at dksX0_isSo_4 6 rfl rfl)
theorem dX0_isSo_101 : decode cX0_isSo 101 = .ok (.ireturn, 1) := dk_172 (dk_at dksX0_isSo_4 7 rfl rfl)
abbrev cX0_burnt : ByteArray := prog_1_method_42_code
def yX0_burnt : MethodName := ⟨RX0, "burnt", "(I)I"⟩
def dkwX0_burnt_1 : List UInt8 := [42, 27, 182, 0, 242, 167, 0, 5, 16, 153, 172]
abbrev dktX0_burnt_1 : List UInt8 := dkwX0_burnt_1 ++ []
def dkwX0_burnt_0 : List UInt8 := [27, 3, 42, 180, 0, 105, 4, 100, 184, 0, 67, 154, 0, 6, 16, 155, 172, 42, 180, 0, 92, 153, 0, 11]
abbrev dktX0_burnt_0 : List UInt8 := dkwX0_burnt_0 ++ dktX0_burnt_1
theorem dksX0_burnt_0 : cX0_burnt.data.toList.drop 0 = dktX0_burnt_0 := by decide +kernel
theorem dksX0_burnt_1 : cX0_burnt.data.toList.drop 24 = dktX0_burnt_1 := dk_seg dksX0_burnt_0 24 rfl rfl
theorem dX0_burnt_0 : decode cX0_burnt 0 = .ok (.iload_n 1, 1) := dk_27 (dk_at dksX0_burnt_0 0 rfl rfl)
theorem dX0_burnt_1 : decode cX0_burnt 1 = .ok (.iconst 0, 1) := dk_3 (dk_at dksX0_burnt_0 1 rfl rfl)
theorem dX0_burnt_2 : decode cX0_burnt 2 = .ok (.aload_n 0, 1) := dk_42 (dk_at dksX0_burnt_0 2 rfl rfl)
theorem dX0_burnt_3 : decode cX0_burnt 3 = .ok (.getfield 105, 3) := dk_180 0 105 (dk_at dksX0_burnt_0 3 rfl rfl)
theorem dX0_burnt_6 : decode cX0_burnt 6 = .ok (.iconst 1, 1) := dk_4 (dk_at dksX0_burnt_0 6 rfl rfl)
theorem dX0_burnt_7 : decode cX0_burnt 7 = .ok (.isub, 1) := dk_100 (dk_at dksX0_burnt_0 7 rfl rfl)
theorem dX0_burnt_8 : decode cX0_burnt 8 = .ok (.invokestatic 67, 3) := dk_184 0 67 (dk_at dksX0_burnt_0 8 rfl rfl)
theorem dX0_burnt_11 : decode cX0_burnt 11 = .ok (.ifCond .ne 6, 3) := dk_154 0 6 (dk_at dksX0_burnt_0 11 rfl rfl)
theorem dX0_burnt_14 : decode cX0_burnt 14 = .ok (.bipush (-101), 2) := dk_16 155 (dk_at dksX0_burnt_0 14 rfl rfl)
theorem dX0_burnt_16 : decode cX0_burnt 16 = .ok (.ireturn, 1) := dk_172 (dk_at dksX0_burnt_0 16 rfl rfl)
theorem dX0_burnt_17 : decode cX0_burnt 17 = .ok (.aload_n 0, 1) := dk_42 (dk_at dksX0_burnt_0 17 rfl rfl)
theorem dX0_burnt_18 : decode cX0_burnt 18 = .ok (.getfield 92, 3) := dk_180 0 92 (dk_at dksX0_burnt_0 18 rfl rfl)
theorem dX0_burnt_21 : decode cX0_burnt 21 = .ok (.ifCond .eq 11, 3) := dk_153 0 11 (dk_at dksX0_burnt_0 21 rfl rfl)
theorem dX0_burnt_24 : decode cX0_burnt 24 = .ok (.aload_n 0, 1) := dk_42 (dk_at dksX0_burnt_1 0 rfl rfl)
theorem dX0_burnt_25 : decode cX0_burnt 25 = .ok (.iload_n 1, 1) := dk_27 (dk_at dksX0_burnt_1 1 rfl rfl)
theorem dX0_burnt_26 : decode cX0_burnt 26 = .ok (.invokevirtual 242, 3) := dk_182 0 242 (dk_at dksX0_burnt_1 2 rfl rfl)
theorem dX0_burnt_29 : decode cX0_burnt 29 = .ok (.goto 5, 3) := dk_167 0 5 (dk_at dksX0_burnt_1 5 rfl rfl)
theorem dX0_burnt_32 : decode cX0_burnt 32 = .ok (.bipush (-103), 2) := dk_16 153 (dk_at dksX0_burnt_1 8 rfl rfl)
theorem dX0_burnt_34 : decode cX0_burnt 34 = .ok (.ireturn, 1) := dk_172 (dk_at dksX0_burnt_1 10 rfl rfl)
abbrev cX0_burntOf : ByteArray := prog_1_method_41_code
def yX0_burntOf : MethodName := ⟨RX0, "burntOf", "(I)I"⟩
def dkwX0_burntOf_1 : List UInt8 := [167, 0, 4, 2, 172]
abbrev dktX0_burntOf_1 : List UInt8 := dkwX0_burntOf_1 ++ []
def dkwX0_burntOf_0 : List UInt8 := [42, 182, 0, 236, 87, 42, 180, 0, 42, 27, 46, 61, 28, 184, 0, 159, 4, 160, 0, 10, 28, 184, 0, 239]
abbrev dktX0_burntOf_0 : List UInt8 := dkwX0_burntOf_0 ++ dktX0_burntOf_1
theorem dksX0_burntOf_0 : cX0_burntOf.data.toList.drop 0 = dktX0_burntOf_0 := by decide +kernel
theorem dksX0_burntOf_1 : cX0_burntOf.data.toList.drop 24 = dktX0_burntOf_1 := dk_seg dksX0_burntOf_0 24 rfl rfl
theorem dX0_burntOf_0 : decode cX0_burntOf 0 = .ok (.aload_n 0, 1) := dk_42 (dk_at dksX0_burntOf_0 0 rfl rfl)
theorem dX0_burntOf_1 : decode cX0_burntOf 1 = .ok (.invokevirtual 236, 3) := dk_182 0 236 (dk_at dksX0_burntOf_0 1 rfl rfl)
theorem dX0_burntOf_4 : decode cX0_burntOf 4 = .ok (.pop, 1) := dk_87 (dk_at dksX0_burntOf_0 4 rfl rfl)
theorem dX0_burntOf_5 : decode cX0_burntOf 5 = .ok (.aload_n 0, 1) := dk_42 (dk_at dksX0_burntOf_0 5 rfl rfl)
theorem dX0_burntOf_6 : decode cX0_burntOf 6 = .ok (.getfield 42, 3) := dk_180 0 42 (dk_at dksX0_burntOf_0 6 rfl rfl)
theorem dX0_burntOf_9 : decode cX0_burntOf 9 = .ok (.iload_n 1, 1) := dk_27 (dk_at dksX0_burntOf_0 9 rfl rfl)
theorem dX0_burntOf_10 : decode cX0_burntOf 10 = .ok (.iaload, 1) := dk_46 (dk_at dksX0_burntOf_0 10 rfl rfl)
theorem dX0_burntOf_11 : decode cX0_burntOf 11 = .ok (.istore_n 2, 1) := dk_61 (dk_at dksX0_burntOf_0 11 rfl rfl)
theorem dX0_burntOf_12 : decode cX0_burntOf 12 = .ok (.iload_n 2, 1) := dk_28 (dk_at dksX0_burntOf_0 12 rfl rfl)
theorem dX0_burntOf_13 : decode cX0_burntOf 13 = .ok (.invokestatic 159, 3) := dk_184 0 159 (dk_at dksX0_burntOf_0 13 rfl rfl)
theorem dX0_burntOf_16 : decode cX0_burntOf 16 = .ok (.iconst 1, 1) := dk_4 (dk_at dksX0_burntOf_0 16 rfl rfl)
theorem dX0_burntOf_17 : decode cX0_burntOf 17 = .ok (.if_icmp .ne 10, 3) := dk_160 0 10 (dk_at dksX0_burntOf_0 17 rfl rfl)
theorem dX0_burntOf_20 : decode cX0_burntOf 20 = .ok (.iload_n 2, 1) := dk_28 (dk_at dksX0_burntOf_0 20 rfl rfl)
theorem dX0_burntOf_21 : decode cX0_burntOf 21 = .ok (.invokestatic 239, 3) := dk_184 0 239 (dk_at dksX0_burntOf_0 21 rfl rfl)
theorem dX0_burntOf_24 : decode cX0_burntOf 24 = .ok (.goto 4, 3) := dk_167 0 4 (dk_at dksX0_burntOf_1 0 rfl rfl)
theorem dX0_burntOf_27 : decode cX0_burntOf 27 = .ok (.iconst (-1), 1) := dk_2 (dk_at dksX0_burntOf_1 3 rfl rfl)
theorem dX0_burntOf_28 : decode cX0_burntOf 28 = .ok (.ireturn, 1) := dk_172 (dk_at dksX0_burntOf_1 4 rfl rfl)
abbrev cX0_years : ByteArray := prog_1_method_46_code
def yX0_years : MethodName := ⟨RX0, "years", "(III)I"⟩
def dkwX0_years_1 : List UInt8 := [16, 154, 172, 42, 180, 0, 92, 153, 0, 13, 42, 27, 28, 29, 182, 1, 7, 167, 0, 5, 16, 153, 172]
abbrev dktX0_years_1 : List UInt8 := dkwX0_years_1 ++ []
def dkwX0_years_0 : List UInt8 := [27, 4, 16, 60, 184, 0, 67, 153, 0, 16, 28, 155, 0, 12, 29, 3, 5, 184, 0, 67, 154, 0, 6]
abbrev dktX0_years_0 : List UInt8 := dkwX0_years_0 ++ dktX0_years_1
theorem dksX0_years_0 : cX0_years.data.toList.drop 0 = dktX0_years_0 := by decide +kernel
theorem dksX0_years_1 : cX0_years.data.toList.drop 23 = dktX0_years_1 := dk_seg dksX0_years_0 23 rfl rfl
theorem dX0_years_0 : decode cX0_years 0 = .ok (.iload_n 1, 1) := dk_27 (dk_at dksX0_years_0 0 rfl rfl)
theorem dX0_years_1 : decode cX0_years 1 = .ok (.iconst 1, 1) := dk_4 (dk_at dksX0_years_0 1 rfl rfl)
theorem dX0_years_2 : decode cX0_years 2 = .ok (.bipush 60, 2) := dk_16 60 (dk_at dksX0_years_0 2 rfl rfl)
theorem dX0_years_4 : decode cX0_years 4 = .ok (.invokestatic 67, 3) := dk_184 0 67 (dk_at dksX0_years_0 4 rfl rfl)
theorem dX0_years_7 : decode cX0_years 7 = .ok (.ifCond .eq 16, 3) := dk_153 0 16 (dk_at dksX0_years_0 7 rfl rfl)
theorem dX0_years_10 : decode cX0_years 10 = .ok (.iload_n 2, 1) := dk_28 (dk_at dksX0_years_0 10 rfl rfl)
theorem dX0_years_11 : decode cX0_years 11 = .ok (.ifCond .lt 12, 3) := dk_155 0 12 (dk_at dksX0_years_0 11 rfl rfl)
theorem dX0_years_14 : decode cX0_years 14 = .ok (.iload_n 3, 1) := dk_29 (dk_at dksX0_years_0 14 rfl rfl)
theorem dX0_years_15 : decode cX0_years 15 = .ok (.iconst 0, 1) := dk_3 (dk_at dksX0_years_0 15 rfl rfl)
theorem dX0_years_16 : decode cX0_years 16 = .ok (.iconst 2, 1) := dk_5 (dk_at dksX0_years_0 16 rfl rfl)
theorem dX0_years_17 : decode cX0_years 17 = .ok (.invokestatic 67, 3) := dk_184 0 67 (dk_at dksX0_years_0 17 rfl rfl)
theorem dX0_years_20 : decode cX0_years 20 = .ok (.ifCond .ne 6, 3) := dk_154 0 6 (dk_at dksX0_years_0 20 rfl rfl)
theorem dX0_years_23 : decode cX0_years 23 = .ok (.bipush (-102), 2) := dk_16 154 (dk_at dksX0_years_1 0 rfl rfl)
theorem dX0_years_25 : decode cX0_years 25 = .ok (.ireturn, 1) := dk_172 (dk_at dksX0_years_1 2 rfl rfl)
theorem dX0_years_26 : decode cX0_years 26 = .ok (.aload_n 0, 1) := dk_42 (dk_at dksX0_years_1 3 rfl rfl)
theorem dX0_years_27 : decode cX0_years 27 = .ok (.getfield 92, 3) := dk_180 0 92 (dk_at dksX0_years_1 4 rfl rfl)
theorem dX0_years_30 : decode cX0_years 30 = .ok (.ifCond .eq 13, 3) := dk_153 0 13 (dk_at dksX0_years_1 7 rfl rfl)
theorem dX0_years_33 : decode cX0_years 33 = .ok (.aload_n 0, 1) := dk_42 (dk_at dksX0_years_1 10 rfl rfl)
theorem dX0_years_34 : decode cX0_years 34 = .ok (.iload_n 1, 1) := dk_27 (dk_at dksX0_years_1 11 rfl rfl)
theorem dX0_years_35 : decode cX0_years 35 = .ok (.iload_n 2, 1) := dk_28 (dk_at dksX0_years_1 12 rfl rfl)
theorem dX0_years_36 : decode cX0_years 36 = .ok (.iload_n 3, 1) := dk_29 (dk_at dksX0_years_1 13 rfl rfl)
theorem dX0_years_37 : decode cX0_years 37 = .ok (.invokevirtual 263, 3) := dk_182 1 7 (dk_at dksX0_years_1 14 rfl rfl)
theorem dX0_years_40 : decode cX0_years 40 = .ok (.goto 5, 3) := dk_167 0 5 (dk_at dksX0_years_1 17 rfl rfl)
theorem dX0_years_43 : decode cX0_years 43 = .ok (.bipush (-103), 2) := dk_16 153 (dk_at dksX0_years_1 20 rfl rfl)
theorem dX0_years_45 : decode cX0_years 45 = .ok (.ireturn, 1) := dk_172 (dk_at dksX0_years_1 22 rfl rfl)
abbrev cX0_yearsTold : ByteArray := prog_1_method_45_code
def yX0_yearsTold : MethodName := ⟨RX0, "yearsTold", "(III)I"⟩
def dkwX0_yearsTold_3 : List UInt8 := [180, 0, 29, 182, 0, 221, 167, 0, 8, 42, 180, 0, 247, 136, 172]
abbrev dktX0_yearsTold_3 : List UInt8 := dkwX0_yearsTold_3 ++ []
def dkwX0_yearsTold_2 : List UInt8 := [167, 255, 229, 29, 154, 0, 13, 42, 180, 0, 29, 182, 0, 230, 167, 0, 23, 29, 4, 160, 0, 13, 42]
abbrev dktX0_yearsTold_2 : List UInt8 := dkwX0_yearsTold_2 ++ dktX0_yearsTold_3
def dkwX0_yearsTold_1 : List UInt8 := [162, 0, 27, 42, 180, 0, 29, 42, 42, 16, 10, 182, 1, 1, 182, 1, 4, 182, 0, 171, 87, 132, 4, 1]
abbrev dktX0_yearsTold_1 : List UInt8 := dkwX0_yearsTold_1 ++ dktX0_yearsTold_2
def dkwX0_yearsTold_0 : List UInt8 := [42, 180, 0, 29, 42, 180, 0, 25, 182, 0, 177, 42, 28, 133, 181, 0, 247, 3, 54, 4, 21, 4, 27]
abbrev dktX0_yearsTold_0 : List UInt8 := dkwX0_yearsTold_0 ++ dktX0_yearsTold_1
theorem dksX0_yearsTold_0 : cX0_yearsTold.data.toList.drop 0 = dktX0_yearsTold_0 := by decide +kernel
theorem dksX0_yearsTold_1 : cX0_yearsTold.data.toList.drop 23 = dktX0_yearsTold_1 := dk_seg dksX0_yearsTold_0 23 rfl rfl
theorem dksX0_yearsTold_2 : cX0_yearsTold.data.toList.drop 47 = dktX0_yearsTold_2 := dk_seg dksX0_yearsTold_1 24 rfl rfl
theorem dksX0_yearsTold_3 : cX0_yearsTold.data.toList.drop 70 = dktX0_yearsTold_3 := dk_seg dksX0_yearsTold_2 23 rfl rfl
theorem dX0_yearsTold_0 : decode cX0_yearsTold 0 = .ok (.aload_n 0, 1) := dk_42 (dk_at dksX0_yearsTold_0 0 rfl rfl)
theorem dX0_yearsTold_1 : decode cX0_yearsTold 1 = .ok (.getfield 29, 3) := dk_180 0 29 (dk_at dksX0_yearsTold_0 1 rfl rfl)
theorem dX0_yearsTold_4 : decode cX0_yearsTold 4 = .ok (.aload_n 0, 1) := dk_42 (dk_at dksX0_yearsTold_0 4 rfl rfl)
theorem dX0_yearsTold_5 : decode cX0_yearsTold 5 = .ok (.getfield 25, 3) := dk_180 0 25 (dk_at dksX0_yearsTold_0 5 rfl rfl)
theorem dX0_yearsTold_8 : decode cX0_yearsTold 8 = .ok (.invokevirtual 177, 3) := dk_182 0 177 (dk_at dksX0_yearsTold_0 8 rfl rfl)
theorem dX0_yearsTold_11 : decode cX0_yearsTold 11 = .ok (.aload_n 0, 1) := dk_42 (dk_at dksX0_yearsTold_0 11 rfl rfl)
theorem dX0_yearsTold_12 : decode cX0_yearsTold 12 = .ok (.iload_n 2, 1) := dk_28 (dk_at dksX0_yearsTold_0 12 rfl rfl)
theorem dX0_yearsTold_13 : decode cX0_yearsTold 13 = .ok (.i2l, 1) := dk_133 (dk_at dksX0_yearsTold_0 13 rfl rfl)
theorem dX0_yearsTold_14 : decode cX0_yearsTold 14 = .ok (.putfield 247, 3) := dk_181 0 247 (dk_at dksX0_yearsTold_0 14 rfl rfl)
theorem dX0_yearsTold_17 : decode cX0_yearsTold 17 = .ok (.iconst 0, 1) := dk_3 (dk_at dksX0_yearsTold_0 17 rfl rfl)
theorem dX0_yearsTold_18 : decode cX0_yearsTold 18 = .ok (.istore 4, 2) := dk_54 4 (dk_at dksX0_yearsTold_0 18 rfl rfl)
theorem dX0_yearsTold_20 : decode cX0_yearsTold 20 = .ok (.iload 4, 2) := dk_21 4 (dk_at dksX0_yearsTold_0 20 rfl rfl)
theorem dX0_yearsTold_22 : decode cX0_yearsTold 22 = .ok (.iload_n 1, 1) := dk_27 (dk_at dksX0_yearsTold_0 22 rfl rfl)
theorem dX0_yearsTold_23 : decode cX0_yearsTold 23 = .ok (.if_icmp .ge 27, 3) := dk_162 0 27 (dk_at dksX0_yearsTold_1 0 rfl rfl)
theorem dX0_yearsTold_26 : decode cX0_yearsTold 26 = .ok (.aload_n 0, 1) := dk_42 (dk_at dksX0_yearsTold_1 3 rfl rfl)
theorem dX0_yearsTold_27 : decode cX0_yearsTold 27 = .ok (.getfield 29, 3) := dk_180 0 29 (dk_at dksX0_yearsTold_1 4 rfl rfl)
theorem dX0_yearsTold_30 : decode cX0_yearsTold 30 = .ok (.aload_n 0, 1) := dk_42 (dk_at dksX0_yearsTold_1 7 rfl rfl)
theorem dX0_yearsTold_31 : decode cX0_yearsTold 31 = .ok (.aload_n 0, 1) := dk_42 (dk_at dksX0_yearsTold_1 8 rfl rfl)
theorem dX0_yearsTold_32 : decode cX0_yearsTold 32 = .ok (.bipush 10, 2) := dk_16 10 (dk_at dksX0_yearsTold_1 9 rfl rfl)
theorem dX0_yearsTold_34 : decode cX0_yearsTold 34 = .ok (.invokevirtual 257, 3) := dk_182 1 1 (dk_at dksX0_yearsTold_1 11 rfl rfl)
theorem dX0_yearsTold_37 : decode cX0_yearsTold 37 = .ok (.invokevirtual 260, 3) := dk_182 1 4 (dk_at dksX0_yearsTold_1 14 rfl rfl)
theorem dX0_yearsTold_40 : decode cX0_yearsTold 40 = .ok (.invokevirtual 171, 3) := dk_182 0 171 (dk_at dksX0_yearsTold_1 17 rfl rfl)
theorem dX0_yearsTold_43 : decode cX0_yearsTold 43 = .ok (.pop, 1) := dk_87 (dk_at dksX0_yearsTold_1 20 rfl rfl)
theorem dX0_yearsTold_44 : decode cX0_yearsTold 44 = .ok (.iinc 4 1, 3) := dk_132 4 1 (dk_at dksX0_yearsTold_1 21 rfl rfl)
theorem dX0_yearsTold_47 : decode cX0_yearsTold 47 = .ok (.goto (-27), 3) := dk_167 255 229 (dk_at dksX0_yearsTold_2 0 rfl rfl)
theorem dX0_yearsTold_50 : decode cX0_yearsTold 50 = .ok (.iload_n 3, 1) := dk_29 (dk_at dksX0_yearsTold_2 3 rfl rfl)
theorem dX0_yearsTold_51 : decode cX0_yearsTold 51 = .ok (.ifCond .ne 13, 3) := dk_154 0 13 (dk_at dksX0_yearsTold_2 4 rfl rfl)
theorem dX0_yearsTold_54 : decode cX0_yearsTold 54 = .ok (.aload_n 0, 1) := dk_42 (dk_at dksX0_yearsTold_2 7 rfl rfl)
theorem dX0_yearsTold_55 : decode cX0_yearsTold 55 = .ok (.getfield 29, 3) := dk_180 0 29 (dk_at dksX0_yearsTold_2 8 rfl rfl)
theorem dX0_yearsTold_58 : decode cX0_yearsTold 58 = .ok (.invokevirtual 230, 3) := dk_182 0 230 (dk_at dksX0_yearsTold_2 11 rfl rfl)
theorem dX0_yearsTold_61 : decode cX0_yearsTold 61 = .ok (.goto 23, 3) := dk_167 0 23 (dk_at dksX0_yearsTold_2 14 rfl rfl)
theorem dX0_yearsTold_64 : decode cX0_yearsTold 64 = .ok (.iload_n 3, 1) := dk_29 (dk_at dksX0_yearsTold_2 17 rfl rfl)
theorem dX0_yearsTold_65 : decode cX0_yearsTold 65 = .ok (.iconst 1, 1) := dk_4 (dk_at dksX0_yearsTold_2 18 rfl rfl)
theorem dX0_yearsTold_66 : decode cX0_yearsTold 66 = .ok (.if_icmp .ne 13, 3) := dk_160 0 13 (dk_at dksX0_yearsTold_2 19 rfl rfl)
theorem dX0_yearsTold_69 : decode cX0_yearsTold 69 = .ok (.aload_n 0, 1) := dk_42 (dk_at dksX0_yearsTold_2 22 rfl rfl)
theorem dX0_yearsTold_70 : decode cX0_yearsTold 70 = .ok (.getfield 29, 3) := dk_180 0 29 (dk_at dksX0_yearsTold_3 0 rfl rfl)
theorem dX0_yearsTold_73 : decode cX0_yearsTold 73 = .ok (.invokevirtual 221, 3) := dk_182 0 221 (dk_at dksX0_yearsTold_3 3 rfl rfl)
theorem dX0_yearsTold_76 : decode cX0_yearsTold 76 = .ok (.goto 8, 3) := dk_167 0 8 (dk_at dksX0_yearsTold_3 6 rfl rfl)
theorem dX0_yearsTold_79 : decode cX0_yearsTold 79 = .ok (.aload_n 0, 1) := dk_42 (dk_at dksX0_yearsTold_3 9 rfl rfl)
theorem dX0_yearsTold_80 : decode cX0_yearsTold 80 = .ok (.getfield 247, 3) := dk_180 0 247 (dk_at dksX0_yearsTold_3 10 rfl rfl)
theorem dX0_yearsTold_83 : decode cX0_yearsTold 83 = .ok (.l2i, 1) := dk_136 (dk_at dksX0_yearsTold_3 13 rfl rfl)
theorem dX0_yearsTold_84 : decode cX0_yearsTold 84 = .ok (.ireturn, 1) := dk_172 (dk_at dksX0_yearsTold_3 14 rfl rfl)
abbrev cX0_draw : ByteArray := prog_1_method_43_code
def yX0_draw : MethodName := ⟨RX0, "draw", "(I)I"⟩
def dkwX0_draw_1 : List UInt8 := [20, 0, 255, 109, 27, 133, 113, 136, 172]
abbrev dktX0_draw_1 : List UInt8 := dkwX0_draw_1 ++ []
def dkwX0_draw_0 : List UInt8 := [42, 20, 0, 245, 42, 180, 0, 247, 105, 20, 0, 251, 97, 20, 0, 253, 127, 181, 0, 247, 42, 180, 0, 247]
abbrev dktX0_draw_0 : List UInt8 := dkwX0_draw_0 ++ dktX0_draw_1
theorem dksX0_draw_0 : cX0_draw.data.toList.drop 0 = dktX0_draw_0 := by decide +kernel
theorem dksX0_draw_1 : cX0_draw.data.toList.drop 24 = dktX0_draw_1 := dk_seg dksX0_draw_0 24 rfl rfl
theorem dX0_draw_0 : decode cX0_draw 0 = .ok (.aload_n 0, 1) := dk_42 (dk_at dksX0_draw_0 0 rfl rfl)
theorem dX0_draw_1 : decode cX0_draw 1 = .ok (.ldc2_w 245, 3) := dk_20 0 245 (dk_at dksX0_draw_0 1 rfl rfl)
theorem dX0_draw_4 : decode cX0_draw 4 = .ok (.aload_n 0, 1) := dk_42 (dk_at dksX0_draw_0 4 rfl rfl)
theorem dX0_draw_5 : decode cX0_draw 5 = .ok (.getfield 247, 3) := dk_180 0 247 (dk_at dksX0_draw_0 5 rfl rfl)
theorem dX0_draw_8 : decode cX0_draw 8 = .ok (.lmul, 1) := dk_105 (dk_at dksX0_draw_0 8 rfl rfl)
theorem dX0_draw_9 : decode cX0_draw 9 = .ok (.ldc2_w 251, 3) := dk_20 0 251 (dk_at dksX0_draw_0 9 rfl rfl)
theorem dX0_draw_12 : decode cX0_draw 12 = .ok (.ladd, 1) := dk_97 (dk_at dksX0_draw_0 12 rfl rfl)
theorem dX0_draw_13 : decode cX0_draw 13 = .ok (.ldc2_w 253, 3) := dk_20 0 253 (dk_at dksX0_draw_0 13 rfl rfl)
theorem dX0_draw_16 : decode cX0_draw 16 = .ok (.land, 1) := dk_127 (dk_at dksX0_draw_0 16 rfl rfl)
theorem dX0_draw_17 : decode cX0_draw 17 = .ok (.putfield 247, 3) := dk_181 0 247 (dk_at dksX0_draw_0 17 rfl rfl)
theorem dX0_draw_20 : decode cX0_draw 20 = .ok (.aload_n 0, 1) := dk_42 (dk_at dksX0_draw_0 20 rfl rfl)
theorem dX0_draw_21 : decode cX0_draw 21 = .ok (.getfield 247, 3) := dk_180 0 247 (dk_at dksX0_draw_0 21 rfl rfl)
theorem dX0_draw_24 : decode cX0_draw 24 = .ok (.ldc2_w 255, 3) := dk_20 0 255 (dk_at dksX0_draw_1 0 rfl rfl)
theorem dX0_draw_27 : decode cX0_draw 27 = .ok (.ldiv, 1) := dk_109 (dk_at dksX0_draw_1 3 rfl rfl)
theorem dX0_draw_28 : decode cX0_draw 28 = .ok (.iload_n 1, 1) := dk_27 (dk_at dksX0_draw_1 4 rfl rfl)
theorem dX0_draw_29 : decode cX0_draw 29 = .ok (.i2l, 1) := dk_133 (dk_at dksX0_draw_1 5 rfl rfl)
theorem dX0_draw_30 : decode cX0_draw 30 = .ok (.lrem, 1) := dk_113 (dk_at dksX0_draw_1 6 rfl rfl)
theorem dX0_draw_31 : decode cX0_draw 31 = .ok (.l2i, 1) := dk_136 (dk_at dksX0_draw_1 7 rfl rfl)
theorem dX0_draw_32 : decode cX0_draw 32 = .ok (.ireturn, 1) := dk_172 (dk_at dksX0_draw_1 8 rfl rfl)
abbrev cX0_letterBy : ByteArray := prog_1_method_44_code
def yX0_letterBy : MethodName := ⟨RX0, "letterBy", "(I)I"⟩
def dkwX0_letterBy_1 : List UInt8 := [96, 62, 167, 255, 239, 28, 172]
abbrev dktX0_letterBy_1 : List UInt8 := dkwX0_letterBy_1 ++ []
def dkwX0_letterBy_0 : List UInt8 := [3, 61, 42, 180, 0, 16, 3, 46, 62, 27, 29, 161, 0, 18, 132, 2, 1, 29, 42, 180, 0, 16, 28, 46]
abbrev dktX0_letterBy_0 : List UInt8 := dkwX0_letterBy_0 ++ dktX0_letterBy_1
theorem dksX0_letterBy_0 : cX0_letterBy.data.toList.drop 0 = dktX0_letterBy_0 := by decide +kernel
theorem dksX0_letterBy_1 : cX0_letterBy.data.toList.drop 24 = dktX0_letterBy_1 := dk_seg dksX0_letterBy_0 24 rfl rfl
theorem dX0_letterBy_0 : decode cX0_letterBy 0 = .ok (.iconst 0, 1) := dk_3 (dk_at dksX0_letterBy_0 0 rfl rfl)
theorem dX0_letterBy_1 : decode cX0_letterBy 1 = .ok (.istore_n 2, 1) := dk_61 (dk_at dksX0_letterBy_0 1 rfl rfl)
theorem dX0_letterBy_2 : decode cX0_letterBy 2 = .ok (.aload_n 0, 1) := dk_42 (dk_at dksX0_letterBy_0 2 rfl rfl)
theorem dX0_letterBy_3 : decode cX0_letterBy 3 = .ok (.getfield 16, 3) := dk_180 0 16 (dk_at dksX0_letterBy_0 3 rfl rfl)
theorem dX0_letterBy_6 : decode cX0_letterBy 6 = .ok (.iconst 0, 1) := dk_3 (dk_at dksX0_letterBy_0 6 rfl rfl)
theorem dX0_letterBy_7 : decode cX0_letterBy 7 = .ok (.iaload, 1) := dk_46 (dk_at dksX0_letterBy_0 7 rfl rfl)
theorem dX0_letterBy_8 : decode cX0_letterBy 8 = .ok (.istore_n 3, 1) := dk_62 (dk_at dksX0_letterBy_0 8 rfl rfl)
theorem dX0_letterBy_9 : decode cX0_letterBy 9 = .ok (.iload_n 1, 1) := dk_27 (dk_at dksX0_letterBy_0 9 rfl rfl)
theorem dX0_letterBy_10 : decode cX0_letterBy 10 = .ok (.iload_n 3, 1) := dk_29 (dk_at dksX0_letterBy_0 10 rfl rfl)
theorem dX0_letterBy_11 : decode cX0_letterBy 11 = .ok (.if_icmp .lt 18, 3) := dk_161 0 18 (dk_at dksX0_letterBy_0 11 rfl rfl)
theorem dX0_letterBy_14 : decode cX0_letterBy 14 = .ok (.iinc 2 1, 3) := dk_132 2 1 (dk_at dksX0_letterBy_0 14 rfl rfl)
theorem dX0_letterBy_17 : decode cX0_letterBy 17 = .ok (.iload_n 3, 1) := dk_29 (dk_at dksX0_letterBy_0 17 rfl rfl)
theorem dX0_letterBy_18 : decode cX0_letterBy 18 = .ok (.aload_n 0, 1) := dk_42 (dk_at dksX0_letterBy_0 18 rfl rfl)
theorem dX0_letterBy_19 : decode cX0_letterBy 19 = .ok (.getfield 16, 3) := dk_180 0 16 (dk_at dksX0_letterBy_0 19 rfl rfl)
theorem dX0_letterBy_22 : decode cX0_letterBy 22 = .ok (.iload_n 2, 1) := dk_28 (dk_at dksX0_letterBy_0 22 rfl rfl)
theorem dX0_letterBy_23 : decode cX0_letterBy 23 = .ok (.iaload, 1) := dk_46 (dk_at dksX0_letterBy_0 23 rfl rfl)
theorem dX0_letterBy_24 : decode cX0_letterBy 24 = .ok (.iadd, 1) := dk_96 (dk_at dksX0_letterBy_1 0 rfl rfl)
theorem dX0_letterBy_25 : decode cX0_letterBy 25 = .ok (.istore_n 3, 1) := dk_62 (dk_at dksX0_letterBy_1 1 rfl rfl)
theorem dX0_letterBy_26 : decode cX0_letterBy 26 = .ok (.goto (-17), 3) := dk_167 255 239 (dk_at dksX0_letterBy_1 2 rfl rfl)
theorem dX0_letterBy_29 : decode cX0_letterBy 29 = .ok (.iload_n 2, 1) := dk_28 (dk_at dksX0_letterBy_1 5 rfl rfl)
theorem dX0_letterBy_30 : decode cX0_letterBy 30 = .ok (.ireturn, 1) := dk_172 (dk_at dksX0_letterBy_1 6 rfl rfl)
abbrev cX0_image : ByteArray := prog_1_method_47_code
def yX0_image : MethodName := ⟨RX0, "image", "()I"⟩
def dkwX0_image_3 : List UInt8 := [180, 0, 39, 27, 46, 79, 132, 1, 1, 167, 255, 236, 42, 180, 0, 99, 172]
abbrev dktX0_image_3 : List UInt8 := dkwX0_image_3 ++ []
def dkwX0_image_2 : List UInt8 := [180, 0, 32, 42, 180, 0, 25, 182, 0, 177, 3, 60, 27, 8, 162, 0, 21, 42, 180, 0, 45, 27, 42]
abbrev dktX0_image_2 : List UInt8 := dkwX0_image_2 ++ dktX0_image_3
def dkwX0_image_1 : List UInt8 := [182, 0, 63, 181, 1, 13, 42, 42, 180, 0, 99, 181, 1, 16, 42, 42, 180, 0, 105, 181, 1, 19, 42]
abbrev dktX0_image_1 : List UInt8 := dkwX0_image_1 ++ dktX0_image_2
def dkwX0_image_0 : List UInt8 := [42, 180, 0, 92, 154, 0, 6, 16, 153, 172, 42, 42, 180, 0, 96, 181, 1, 10, 42, 42, 180, 0, 10]
abbrev dktX0_image_0 : List UInt8 := dkwX0_image_0 ++ dktX0_image_1
theorem dksX0_image_0 : cX0_image.data.toList.drop 0 = dktX0_image_0 := by decide +kernel
theorem dksX0_image_1 : cX0_image.data.toList.drop 23 = dktX0_image_1 := dk_seg dksX0_image_0 23 rfl rfl
theorem dksX0_image_2 : cX0_image.data.toList.drop 46 = dktX0_image_2 := dk_seg dksX0_image_1 23 rfl rfl
theorem dksX0_image_3 : cX0_image.data.toList.drop 69 = dktX0_image_3 := dk_seg dksX0_image_2 23 rfl rfl
theorem dX0_image_0 : decode cX0_image 0 = .ok (.aload_n 0, 1) := dk_42 (dk_at dksX0_image_0 0 rfl rfl)
theorem dX0_image_1 : decode cX0_image 1 = .ok (.getfield 92, 3) := dk_180 0 92 (dk_at dksX0_image_0 1 rfl rfl)
theorem dX0_image_4 : decode cX0_image 4 = .ok (.ifCond .ne 6, 3) := dk_154 0 6 (dk_at dksX0_image_0 4 rfl rfl)
theorem dX0_image_7 : decode cX0_image 7 = .ok (.bipush (-103), 2) := dk_16 153 (dk_at dksX0_image_0 7 rfl rfl)
theorem dX0_image_9 : decode cX0_image 9 = .ok (.ireturn, 1) := dk_172 (dk_at dksX0_image_0 9 rfl rfl)
theorem dX0_image_10 : decode cX0_image 10 = .ok (.aload_n 0, 1) := dk_42 (dk_at dksX0_image_0 10 rfl rfl)
theorem dX0_image_11 : decode cX0_image 11 = .ok (.aload_n 0, 1) := dk_42 (dk_at dksX0_image_0 11 rfl rfl)
theorem dX0_image_12 : decode cX0_image 12 = .ok (.getfield 96, 3) := dk_180 0 96 (dk_at dksX0_image_0 12 rfl rfl)
theorem dX0_image_15 : decode cX0_image 15 = .ok (.putfield 266, 3) := dk_181 1 10 (dk_at dksX0_image_0 15 rfl rfl)
theorem dX0_image_18 : decode cX0_image 18 = .ok (.aload_n 0, 1) := dk_42 (dk_at dksX0_image_0 18 rfl rfl)
theorem dX0_image_19 : decode cX0_image 19 = .ok (.aload_n 0, 1) := dk_42 (dk_at dksX0_image_0 19 rfl rfl)
theorem dX0_image_20 : decode cX0_image 20 = .ok (.getfield 10, 3) := dk_180 0 10 (dk_at dksX0_image_0 20 rfl rfl)
theorem dX0_image_23 : decode cX0_image 23 = .ok (.invokevirtual 63, 3) := dk_182 0 63 (dk_at dksX0_image_1 0 rfl rfl)
theorem dX0_image_26 : decode cX0_image 26 = .ok (.putfield 269, 3) := dk_181 1 13 (dk_at dksX0_image_1 3 rfl rfl)
theorem dX0_image_29 : decode cX0_image 29 = .ok (.aload_n 0, 1) := dk_42 (dk_at dksX0_image_1 6 rfl rfl)
theorem dX0_image_30 : decode cX0_image 30 = .ok (.aload_n 0, 1) := dk_42 (dk_at dksX0_image_1 7 rfl rfl)
theorem dX0_image_31 : decode cX0_image 31 = .ok (.getfield 99, 3) := dk_180 0 99 (dk_at dksX0_image_1 8 rfl rfl)
theorem dX0_image_34 : decode cX0_image 34 = .ok (.putfield 272, 3) := dk_181 1 16 (dk_at dksX0_image_1 11 rfl rfl)
theorem dX0_image_37 : decode cX0_image 37 = .ok (.aload_n 0, 1) := dk_42 (dk_at dksX0_image_1 14 rfl rfl)
theorem dX0_image_38 : decode cX0_image 38 = .ok (.aload_n 0, 1) := dk_42 (dk_at dksX0_image_1 15 rfl rfl)
theorem dX0_image_39 : decode cX0_image 39 = .ok (.getfield 105, 3) := dk_180 0 105 (dk_at dksX0_image_1 16 rfl rfl)
theorem dX0_image_42 : decode cX0_image 42 = .ok (.putfield 275, 3) := dk_181 1 19 (dk_at dksX0_image_1 19 rfl rfl)
theorem dX0_image_45 : decode cX0_image 45 = .ok (.aload_n 0, 1) := dk_42 (dk_at dksX0_image_1 22 rfl rfl)
theorem dX0_image_46 : decode cX0_image 46 = .ok (.getfield 32, 3) := dk_180 0 32 (dk_at dksX0_image_2 0 rfl rfl)
theorem dX0_image_49 : decode cX0_image 49 = .ok (.aload_n 0, 1) := dk_42 (dk_at dksX0_image_2 3 rfl rfl)
theorem dX0_image_50 : decode cX0_image 50 = .ok (.getfield 25, 3) := dk_180 0 25 (dk_at dksX0_image_2 4 rfl rfl)
theorem dX0_image_53 : decode cX0_image 53 = .ok (.invokevirtual 177, 3) := dk_182 0 177 (dk_at dksX0_image_2 7 rfl rfl)
theorem dX0_image_56 : decode cX0_image 56 = .ok (.iconst 0, 1) := dk_3 (dk_at dksX0_image_2 10 rfl rfl)
theorem dX0_image_57 : decode cX0_image 57 = .ok (.istore_n 1, 1) := dk_60 (dk_at dksX0_image_2 11 rfl rfl)
theorem dX0_image_58 : decode cX0_image 58 = .ok (.iload_n 1, 1) := dk_27 (dk_at dksX0_image_2 12 rfl rfl)
theorem dX0_image_59 : decode cX0_image 59 = .ok (.iconst 5, 1) := dk_8 (dk_at dksX0_image_2 13 rfl rfl)
theorem dX0_image_60 : decode cX0_image 60 = .ok (.if_icmp .ge 21, 3) := dk_162 0 21 (dk_at dksX0_image_2 14 rfl rfl)
theorem dX0_image_63 : decode cX0_image 63 = .ok (.aload_n 0, 1) := dk_42 (dk_at dksX0_image_2 17 rfl rfl)
theorem dX0_image_64 : decode cX0_image 64 = .ok (.getfield 45, 3) := dk_180 0 45 (dk_at dksX0_image_2 18 rfl rfl)
theorem dX0_image_67 : decode cX0_image 67 = .ok (.iload_n 1, 1) := dk_27 (dk_at dksX0_image_2 21 rfl rfl)
theorem dX0_image_68 : decode cX0_image 68 = .ok (.aload_n 0, 1) := dk_42 (dk_at dksX0_image_2 22 rfl rfl)
theorem dX0_image_69 : decode cX0_image 69 = .ok (.getfield 39, 3) := dk_180 0 39 (dk_at dksX0_image_3 0 rfl rfl)
theorem dX0_image_72 : decode cX0_image 72 = .ok (.iload_n 1, 1) := dk_27 (dk_at dksX0_image_3 3 rfl rfl)
theorem dX0_image_73 : decode cX0_image 73 = .ok (.iaload, 1) := dk_46 (dk_at dksX0_image_3 4 rfl rfl)
theorem dX0_image_74 : decode cX0_image 74 = .ok (.iastore, 1) := dk_79 (dk_at dksX0_image_3 5 rfl rfl)
theorem dX0_image_75 : decode cX0_image 75 = .ok (.iinc 1 1, 3) := dk_132 1 1 (dk_at dksX0_image_3 6 rfl rfl)
theorem dX0_image_78 : decode cX0_image 78 = .ok (.goto (-20), 3) := dk_167 255 236 (dk_at dksX0_image_3 9 rfl rfl)
theorem dX0_image_81 : decode cX0_image 81 = .ok (.aload_n 0, 1) := dk_42 (dk_at dksX0_image_3 12 rfl rfl)
theorem dX0_image_82 : decode cX0_image 82 = .ok (.getfield 99, 3) := dk_180 0 99 (dk_at dksX0_image_3 13 rfl rfl)
theorem dX0_image_85 : decode cX0_image 85 = .ok (.ireturn, 1) := dk_172 (dk_at dksX0_image_3 16 rfl rfl)
abbrev cX0_restore : ByteArray := prog_1_method_48_code
def yX0_restore : MethodName := ⟨RX0, "restore", "()I"⟩
def dkwX0_restore_4 : List UInt8 := [180, 0, 39, 27, 42, 180, 0, 45, 27, 46, 79, 132, 1, 1, 167, 255, 236, 42, 180, 0, 99, 172]
abbrev dktX0_restore_4 : List UInt8 := dkwX0_restore_4 ++ []
def dkwX0_restore_3 : List UInt8 := [181, 0, 105, 42, 180, 0, 25, 42, 180, 0, 32, 182, 0, 177, 3, 60, 27, 8, 162, 0, 21, 42]
abbrev dktX0_restore_3 : List UInt8 := dkwX0_restore_3 ++ dktX0_restore_4
def dkwX0_restore_2 : List UInt8 := [4, 100, 182, 1, 22, 87, 167, 255, 225, 42, 42, 180, 1, 16, 181, 0, 99, 42, 42, 180, 1, 19]
abbrev dktX0_restore_2 : List UInt8 := dkwX0_restore_2 ++ dktX0_restore_3
def dkwX0_restore_1 : List UInt8 := [180, 0, 10, 182, 0, 63, 42, 180, 1, 13, 164, 0, 23, 42, 180, 0, 10, 42, 180, 0, 10, 182, 0, 63]
abbrev dktX0_restore_1 : List UInt8 := dkwX0_restore_1 ++ dktX0_restore_2
def dkwX0_restore_0 : List UInt8 := [42, 180, 1, 10, 153, 0, 14, 42, 180, 1, 10, 42, 180, 0, 96, 159, 0, 6, 16, 153, 172, 42]
abbrev dktX0_restore_0 : List UInt8 := dkwX0_restore_0 ++ dktX0_restore_1
theorem dksX0_restore_0 : cX0_restore.data.toList.drop 0 = dktX0_restore_0 := by decide +kernel
theorem dksX0_restore_1 : cX0_restore.data.toList.drop 22 = dktX0_restore_1 := dk_seg dksX0_restore_0 22 rfl rfl
theorem dksX0_restore_2 : cX0_restore.data.toList.drop 46 = dktX0_restore_2 := dk_seg dksX0_restore_1 24 rfl rfl
theorem dksX0_restore_3 : cX0_restore.data.toList.drop 68 = dktX0_restore_3 := dk_seg dksX0_restore_2 22 rfl rfl
theorem dksX0_restore_4 : cX0_restore.data.toList.drop 90 = dktX0_restore_4 := dk_seg dksX0_restore_3 22 rfl rfl
theorem dX0_restore_0 : decode cX0_restore 0 = .ok (.aload_n 0, 1) := dk_42 (dk_at dksX0_restore_0 0 rfl rfl)
theorem dX0_restore_1 : decode cX0_restore 1 = .ok (.getfield 266, 3) := dk_180 1 10 (dk_at dksX0_restore_0 1 rfl rfl)
theorem dX0_restore_4 : decode cX0_restore 4 = .ok (.ifCond .eq 14, 3) := dk_153 0 14 (dk_at dksX0_restore_0 4 rfl rfl)
theorem dX0_restore_7 : decode cX0_restore 7 = .ok (.aload_n 0, 1) := dk_42 (dk_at dksX0_restore_0 7 rfl rfl)
theorem dX0_restore_8 : decode cX0_restore 8 = .ok (.getfield 266, 3) := dk_180 1 10 (dk_at dksX0_restore_0 8 rfl rfl)
theorem dX0_restore_11 : decode cX0_restore 11 = .ok (.aload_n 0, 1) := dk_42 (dk_at dksX0_restore_0 11 rfl rfl)
theorem dX0_restore_12 : decode cX0_restore 12 = .ok (.getfield 96, 3) := dk_180 0 96 (dk_at dksX0_restore_0 12 rfl rfl)
theorem dX0_restore_15 : decode cX0_restore 15 = .ok (.if_icmp .eq 6, 3) := dk_159 0 6 (dk_at dksX0_restore_0 15 rfl rfl)
theorem dX0_restore_18 : decode cX0_restore 18 = .ok (.bipush (-103), 2) := dk_16 153 (dk_at dksX0_restore_0 18 rfl rfl)
theorem dX0_restore_20 : decode cX0_restore 20 = .ok (.ireturn, 1) := dk_172 (dk_at dksX0_restore_0 20 rfl rfl)
theorem dX0_restore_21 : decode cX0_restore 21 = .ok (.aload_n 0, 1) := dk_42 (dk_at dksX0_restore_0 21 rfl rfl)
theorem dX0_restore_22 : decode cX0_restore 22 = .ok (.getfield 10, 3) := dk_180 0 10 (dk_at dksX0_restore_1 0 rfl rfl)
theorem dX0_restore_25 : decode cX0_restore 25 = .ok (.invokevirtual 63, 3) := dk_182 0 63 (dk_at dksX0_restore_1 3 rfl rfl)
theorem dX0_restore_28 : decode cX0_restore 28 = .ok (.aload_n 0, 1) := dk_42 (dk_at dksX0_restore_1 6 rfl rfl)
theorem dX0_restore_29 : decode cX0_restore 29 = .ok (.getfield 269, 3) := dk_180 1 13 (dk_at dksX0_restore_1 7 rfl rfl)
theorem dX0_restore_32 : decode cX0_restore 32 = .ok (.if_icmp .le 23, 3) := dk_164 0 23 (dk_at dksX0_restore_1 10 rfl rfl)
theorem dX0_restore_35 : decode cX0_restore 35 = .ok (.aload_n 0, 1) := dk_42 (dk_at dksX0_restore_1 13 rfl rfl)
theorem dX0_restore_36 : decode cX0_restore 36 = .ok (.getfield 10, 3) := dk_180 0 10 (dk_at dksX0_restore_1 14 rfl rfl)
theorem dX0_restore_39 : decode cX0_restore 39 = .ok (.aload_n 0, 1) := dk_42 (dk_at dksX0_restore_1 17 rfl rfl)
theorem dX0_restore_40 : decode cX0_restore 40 = .ok (.getfield 10, 3) := dk_180 0 10 (dk_at dksX0_restore_1 18 rfl rfl)
theorem dX0_restore_43 : decode cX0_restore 43 = .ok (.invokevirtual 63, 3) := dk_182 0 63 (dk_at dksX0_restore_1 21 rfl rfl)
theorem dX0_restore_46 : decode cX0_restore 46 = .ok (.iconst 1, 1) := dk_4 (dk_at dksX0_restore_2 0 rfl rfl)
theorem dX0_restore_47 : decode cX0_restore 47 = .ok (.isub, 1) := dk_100 (dk_at dksX0_restore_2 1 rfl rfl)
theorem dX0_restore_48 : decode cX0_restore 48 = .ok (.invokevirtual 278, 3) := dk_182 1 22 (dk_at dksX0_restore_2 2 rfl rfl)
theorem dX0_restore_51 : decode cX0_restore 51 = .ok (.pop, 1) := dk_87 (dk_at dksX0_restore_2 5 rfl rfl)
theorem dX0_restore_52 : decode cX0_restore 52 = .ok (.goto (-31), 3) := dk_167 255 225 (dk_at dksX0_restore_2 6 rfl rfl)
theorem dX0_restore_55 : decode cX0_restore 55 = .ok (.aload_n 0, 1) := dk_42 (dk_at dksX0_restore_2 9 rfl rfl)
theorem dX0_restore_56 : decode cX0_restore 56 = .ok (.aload_n 0, 1) := dk_42 (dk_at dksX0_restore_2 10 rfl rfl)
theorem dX0_restore_57 : decode cX0_restore 57 = .ok (.getfield 272, 3) := dk_180 1 16 (dk_at dksX0_restore_2 11 rfl rfl)
theorem dX0_restore_60 : decode cX0_restore 60 = .ok (.putfield 99, 3) := dk_181 0 99 (dk_at dksX0_restore_2 14 rfl rfl)
theorem dX0_restore_63 : decode cX0_restore 63 = .ok (.aload_n 0, 1) := dk_42 (dk_at dksX0_restore_2 17 rfl rfl)
theorem dX0_restore_64 : decode cX0_restore 64 = .ok (.aload_n 0, 1) := dk_42 (dk_at dksX0_restore_2 18 rfl rfl)
theorem dX0_restore_65 : decode cX0_restore 65 = .ok (.getfield 275, 3) := dk_180 1 19 (dk_at dksX0_restore_2 19 rfl rfl)
theorem dX0_restore_68 : decode cX0_restore 68 = .ok (.putfield 105, 3) := dk_181 0 105 (dk_at dksX0_restore_3 0 rfl rfl)
theorem dX0_restore_71 : decode cX0_restore 71 = .ok (.aload_n 0, 1) := dk_42 (dk_at dksX0_restore_3 3 rfl rfl)
theorem dX0_restore_72 : decode cX0_restore 72 = .ok (.getfield 25, 3) := dk_180 0 25 (dk_at dksX0_restore_3 4 rfl rfl)
theorem dX0_restore_75 : decode cX0_restore 75 = .ok (.aload_n 0, 1) := dk_42 (dk_at dksX0_restore_3 7 rfl rfl)
theorem dX0_restore_76 : decode cX0_restore 76 = .ok (.getfield 32, 3) := dk_180 0 32 (dk_at dksX0_restore_3 8 rfl rfl)
theorem dX0_restore_79 : decode cX0_restore 79 = .ok (.invokevirtual 177, 3) := dk_182 0 177 (dk_at dksX0_restore_3 11 rfl rfl)
theorem dX0_restore_82 : decode cX0_restore 82 = .ok (.iconst 0, 1) := dk_3 (dk_at dksX0_restore_3 14 rfl rfl)
theorem dX0_restore_83 : decode cX0_restore 83 = .ok (.istore_n 1, 1) := dk_60 (dk_at dksX0_restore_3 15 rfl rfl)
theorem dX0_restore_84 : decode cX0_restore 84 = .ok (.iload_n 1, 1) := dk_27 (dk_at dksX0_restore_3 16 rfl rfl)
theorem dX0_restore_85 : decode cX0_restore 85 = .ok (.iconst 5, 1) := dk_8 (dk_at dksX0_restore_3 17 rfl rfl)
theorem dX0_restore_86 : decode cX0_restore 86 = .ok (.if_icmp .ge 21, 3) := dk_162 0 21 (dk_at dksX0_restore_3 18 rfl rfl)
theorem dX0_restore_89 : decode cX0_restore 89 = .ok (.aload_n 0, 1) := dk_42 (dk_at dksX0_restore_3 21 rfl rfl)
theorem dX0_restore_90 : decode cX0_restore 90 = .ok (.getfield 39, 3) := dk_180 0 39 (dk_at dksX0_restore_4 0 rfl rfl)
theorem dX0_restore_93 : decode cX0_restore 93 = .ok (.iload_n 1, 1) := dk_27 (dk_at dksX0_restore_4 3 rfl rfl)
theorem dX0_restore_94 : decode cX0_restore 94 = .ok (.aload_n 0, 1) := dk_42 (dk_at dksX0_restore_4 4 rfl rfl)
theorem dX0_restore_95 : decode cX0_restore 95 = .ok (.getfield 45, 3) := dk_180 0 45 (dk_at dksX0_restore_4 5 rfl rfl)
theorem dX0_restore_98 : decode cX0_restore 98 = .ok (.iload_n 1, 1) := dk_27 (dk_at dksX0_restore_4 8 rfl rfl)
theorem dX0_restore_99 : decode cX0_restore 99 = .ok (.iaload, 1) := dk_46 (dk_at dksX0_restore_4 9 rfl rfl)
theorem dX0_restore_100 : decode cX0_restore 100 = .ok (.iastore, 1) := dk_79 (dk_at dksX0_restore_4 10 rfl rfl)
theorem dX0_restore_101 : decode cX0_restore 101 = .ok (.iinc 1 1, 3) := dk_132 1 1 (dk_at dksX0_restore_4 11 rfl rfl)
theorem dX0_restore_104 : decode cX0_restore 104 = .ok (.goto (-20), 3) := dk_167 255 236 (dk_at dksX0_restore_4 14 rfl rfl)
theorem dX0_restore_107 : decode cX0_restore 107 = .ok (.aload_n 0, 1) := dk_42 (dk_at dksX0_restore_4 17 rfl rfl)
theorem dX0_restore_108 : decode cX0_restore 108 = .ok (.getfield 99, 3) := dk_180 0 99 (dk_at dksX0_restore_4 18 rfl rfl)
theorem dX0_restore_111 : decode cX0_restore 111 = .ok (.ireturn, 1) := dk_172 (dk_at dksX0_restore_4 21 rfl rfl)
abbrev cX0_count : ByteArray := prog_1_method_50_code
def yX0_count : MethodName := ⟨RX0, "count", "(I)I"⟩
def dkwX0_count_0 : List UInt8 := [42, 27, 182, 1, 25, 172]
abbrev dktX0_count_0 : List UInt8 := dkwX0_count_0 ++ []
theorem dksX0_count_0 : cX0_count.data.toList.drop 0 = dktX0_count_0 := by decide +kernel
theorem dX0_count_0 : decode cX0_count 0 = .ok (.aload_n 0, 1) := dk_42 (dk_at dksX0_count_0 0 rfl rfl)
theorem dX0_count_1 : decode cX0_count 1 = .ok (.iload_n 1, 1) := dk_27 (dk_at dksX0_count_0 1 rfl rfl)
theorem dX0_count_2 : decode cX0_count 2 = .ok (.invokevirtual 281, 3) := dk_182 1 25 (dk_at dksX0_count_0 2 rfl rfl)
theorem dX0_count_5 : decode cX0_count 5 = .ok (.ireturn, 1) := dk_172 (dk_at dksX0_count_0 5 rfl rfl)
abbrev cX0_countOf : ByteArray := prog_1_method_49_code
def yX0_countOf : MethodName := ⟨RX0, "countOf", "(I)I"⟩
def dkwX0_countOf_4 : List UInt8 := [180, 0, 96, 172, 42, 180, 0, 206, 172, 42, 180, 0, 224, 172, 16, 154, 172]
abbrev dktX0_countOf_4 : List UInt8 := dkwX0_countOf_4 ++ []
def dkwX0_countOf_3 : List UInt8 := [42, 180, 0, 25, 182, 0, 221, 172, 42, 180, 0, 99, 172, 42, 180, 0, 105, 172, 42, 180, 0, 71, 172, 42]
abbrev dktX0_countOf_3 : List UInt8 := dkwX0_countOf_3 ++ dktX0_countOf_4
def dkwX0_countOf_2 : List UInt8 := [42, 180, 0, 90, 172, 42, 180, 0, 10, 182, 0, 63, 172, 42, 180, 0, 25, 182, 0, 230, 184, 0, 159, 172]
abbrev dktX0_countOf_2 : List UInt8 := dkwX0_countOf_2 ++ dktX0_countOf_3
def dkwX0_countOf_1 : List UInt8 := [170, 0, 0, 0, 0, 0, 117, 0, 0, 0, 0, 0, 0, 0, 9, 0, 0, 0, 55, 0, 0, 0, 60, 0, 0, 0, 68, 0, 0, 0, 79, 0, 0, 0, 87, 0, 0, 0, 92, 0, 0, 0, 97, 0, 0, 0, 102, 0, 0, 0, 107, 0, 0, 0, 112]
abbrev dktX0_countOf_1 : List UInt8 := dkwX0_countOf_1 ++ dktX0_countOf_2
def dkwX0_countOf_0 : List UInt8 := [27]
abbrev dktX0_countOf_0 : List UInt8 := dkwX0_countOf_0 ++ dktX0_countOf_1
theorem dksX0_countOf_0 : cX0_countOf.data.toList.drop 0 = dktX0_countOf_0 := by decide +kernel
theorem dksX0_countOf_1 : cX0_countOf.data.toList.drop 1 = dktX0_countOf_1 := dk_seg dksX0_countOf_0 1 rfl rfl
theorem dksX0_countOf_2 : cX0_countOf.data.toList.drop 56 = dktX0_countOf_2 := dk_seg dksX0_countOf_1 55 rfl rfl
theorem dksX0_countOf_3 : cX0_countOf.data.toList.drop 80 = dktX0_countOf_3 := dk_seg dksX0_countOf_2 24 rfl rfl
theorem dksX0_countOf_4 : cX0_countOf.data.toList.drop 104 = dktX0_countOf_4 := dk_seg dksX0_countOf_3 24 rfl rfl
theorem dX0_countOf_0 : decode cX0_countOf 0 = .ok (.iload_n 1, 1) := dk_27 (dk_at dksX0_countOf_0 0 rfl rfl)
theorem dX0_countOf_1 : decode cX0_countOf 1 = .ok (.tableswitch 117 0 9 #[55, 60, 68, 79, 87, 92, 97, 102, 107, 112], 55) := by decide +kernel
theorem dX0_countOf_56 : decode cX0_countOf 56 = .ok (.aload_n 0, 1) := dk_42 (dk_at dksX0_countOf_2 0 rfl rfl)
theorem dX0_countOf_57 : decode cX0_countOf 57 = .ok (.getfield 90, 3) := dk_180 0 90 (dk_at dksX0_countOf_2 1 rfl rfl)
theorem dX0_countOf_60 : decode cX0_countOf 60 = .ok (.ireturn, 1) := dk_172 (dk_at dksX0_countOf_2 4 rfl rfl)
theorem dX0_countOf_61 : decode cX0_countOf 61 = .ok (.aload_n 0, 1) := dk_42 (dk_at dksX0_countOf_2 5 rfl rfl)
theorem dX0_countOf_62 : decode cX0_countOf 62 = .ok (.getfield 10, 3) := dk_180 0 10 (dk_at dksX0_countOf_2 6 rfl rfl)
theorem dX0_countOf_65 : decode cX0_countOf 65 = .ok (.invokevirtual 63, 3) := dk_182 0 63 (dk_at dksX0_countOf_2 9 rfl rfl)
theorem dX0_countOf_68 : decode cX0_countOf 68 = .ok (.ireturn, 1) := dk_172 (dk_at dksX0_countOf_2 12 rfl rfl)
theorem dX0_countOf_69 : decode cX0_countOf 69 = .ok (.aload_n 0, 1) := dk_42 (dk_at dksX0_countOf_2 13 rfl rfl)
theorem dX0_countOf_70 : decode cX0_countOf 70 = .ok (.getfield 25, 3) := dk_180 0 25 (dk_at dksX0_countOf_2 14 rfl rfl)
theorem dX0_countOf_73 : decode cX0_countOf 73 = .ok (.invokevirtual 230, 3) := dk_182 0 230 (dk_at dksX0_countOf_2 17 rfl rfl)
theorem dX0_countOf_76 : decode cX0_countOf 76 = .ok (.invokestatic 159, 3) := dk_184 0 159 (dk_at dksX0_countOf_2 20 rfl rfl)
theorem dX0_countOf_79 : decode cX0_countOf 79 = .ok (.ireturn, 1) := dk_172 (dk_at dksX0_countOf_2 23 rfl rfl)
theorem dX0_countOf_80 : decode cX0_countOf 80 = .ok (.aload_n 0, 1) := dk_42 (dk_at dksX0_countOf_3 0 rfl rfl)
theorem dX0_countOf_81 : decode cX0_countOf 81 = .ok (.getfield 25, 3) := dk_180 0 25 (dk_at dksX0_countOf_3 1 rfl rfl)
theorem dX0_countOf_84 : decode cX0_countOf 84 = .ok (.invokevirtual 221, 3) := dk_182 0 221 (dk_at dksX0_countOf_3 4 rfl rfl)
theorem dX0_countOf_87 : decode cX0_countOf 87 = .ok (.ireturn, 1) := dk_172 (dk_at dksX0_countOf_3 7 rfl rfl)
theorem dX0_countOf_88 : decode cX0_countOf 88 = .ok (.aload_n 0, 1) := dk_42 (dk_at dksX0_countOf_3 8 rfl rfl)
theorem dX0_countOf_89 : decode cX0_countOf 89 = .ok (.getfield 99, 3) := dk_180 0 99 (dk_at dksX0_countOf_3 9 rfl rfl)
theorem dX0_countOf_92 : decode cX0_countOf 92 = .ok (.ireturn, 1) := dk_172 (dk_at dksX0_countOf_3 12 rfl rfl)
theorem dX0_countOf_93 : decode cX0_countOf 93 = .ok (.aload_n 0, 1) := dk_42 (dk_at dksX0_countOf_3 13 rfl rfl)
theorem dX0_countOf_94 : decode cX0_countOf 94 = .ok (.getfield 105, 3) := dk_180 0 105 (dk_at dksX0_countOf_3 14 rfl rfl)
theorem dX0_countOf_97 : decode cX0_countOf 97 = .ok (.ireturn, 1) := dk_172 (dk_at dksX0_countOf_3 17 rfl rfl)
theorem dX0_countOf_98 : decode cX0_countOf 98 = .ok (.aload_n 0, 1) := dk_42 (dk_at dksX0_countOf_3 18 rfl rfl)
theorem dX0_countOf_99 : decode cX0_countOf 99 = .ok (.getfield 71, 3) := dk_180 0 71 (dk_at dksX0_countOf_3 19 rfl rfl)
theorem dX0_countOf_102 : decode cX0_countOf 102 = .ok (.ireturn, 1) := dk_172 (dk_at dksX0_countOf_3 22 rfl rfl)
theorem dX0_countOf_103 : decode cX0_countOf 103 = .ok (.aload_n 0, 1) := dk_42 (dk_at dksX0_countOf_3 23 rfl rfl)
theorem dX0_countOf_104 : decode cX0_countOf 104 = .ok (.getfield 96, 3) := dk_180 0 96 (dk_at dksX0_countOf_4 0 rfl rfl)
theorem dX0_countOf_107 : decode cX0_countOf 107 = .ok (.ireturn, 1) := dk_172 (dk_at dksX0_countOf_4 3 rfl rfl)
theorem dX0_countOf_108 : decode cX0_countOf 108 = .ok (.aload_n 0, 1) := dk_42 (dk_at dksX0_countOf_4 4 rfl rfl)
theorem dX0_countOf_109 : decode cX0_countOf 109 = .ok (.getfield 206, 3) := dk_180 0 206 (dk_at dksX0_countOf_4 5 rfl rfl)
theorem dX0_countOf_112 : decode cX0_countOf 112 = .ok (.ireturn, 1) := dk_172 (dk_at dksX0_countOf_4 8 rfl rfl)
theorem dX0_countOf_113 : decode cX0_countOf 113 = .ok (.aload_n 0, 1) := dk_42 (dk_at dksX0_countOf_4 9 rfl rfl)
theorem dX0_countOf_114 : decode cX0_countOf 114 = .ok (.getfield 224, 3) := dk_180 0 224 (dk_at dksX0_countOf_4 10 rfl rfl)
theorem dX0_countOf_117 : decode cX0_countOf 117 = .ok (.ireturn, 1) := dk_172 (dk_at dksX0_countOf_4 13 rfl rfl)
theorem dX0_countOf_118 : decode cX0_countOf 118 = .ok (.bipush (-102), 2) := dk_16 154 (dk_at dksX0_countOf_4 14 rfl rfl)
theorem dX0_countOf_120 : decode cX0_countOf 120 = .ok (.ireturn, 1) := dk_172 (dk_at dksX0_countOf_4 16 rfl rfl)
abbrev cX0_digest : ByteArray := prog_1_method_53_code
def yX0_digest : MethodName := ⟨RX0, "digest", "()J"⟩
def dkwX0_digest_6 : List UInt8 := [133, 184, 1, 30, 64, 132, 3, 1, 167, 255, 236, 31, 173]
abbrev dktX0_digest_6 : List UInt8 := dkwX0_digest_6 ++ []
def dkwX0_digest_5 : List UInt8 := [184, 1, 30, 64, 132, 3, 1, 167, 255, 233, 3, 62, 29, 16, 10, 162, 0, 20, 31, 42, 29, 182, 1, 25]
abbrev dktX0_digest_5 : List UInt8 := dkwX0_digest_5 ++ dktX0_digest_6
def dkwX0_digest_4 : List UInt8 := [167, 0, 4, 31, 64, 3, 62, 29, 42, 180, 0, 71, 162, 0, 21, 31, 42, 180, 0, 35, 29, 51, 133]
abbrev dktX0_digest_4 : List UInt8 := dkwX0_digest_4 ++ dktX0_digest_5
def dkwX0_digest_3 : List UInt8 := [182, 0, 212, 133, 184, 1, 30, 64, 42, 180, 0, 92, 153, 0, 15, 31, 42, 182, 0, 236, 133, 184, 1, 30]
abbrev dktX0_digest_3 : List UInt8 := dkwX0_digest_3 ++ dktX0_digest_4
def dkwX0_digest_2 : List UInt8 := [180, 0, 10, 182, 0, 63, 162, 0, 16, 42, 31, 29, 182, 1, 36, 64, 132, 3, 1, 167, 255, 235, 31, 42]
abbrev dktX0_digest_2 : List UInt8 := dkwX0_digest_2 ++ dktX0_digest_3
def dkwX0_digest_1 : List UInt8 := [180, 0, 25, 29, 182, 0, 112, 133, 184, 1, 30, 64, 132, 3, 1, 167, 255, 223, 3, 62, 29, 42]
abbrev dktX0_digest_1 : List UInt8 := dkwX0_digest_1 ++ dktX0_digest_2
def dkwX0_digest_0 : List UInt8 := [20, 1, 34, 64, 3, 62, 29, 16, 6, 162, 0, 33, 31, 42, 180, 0, 16, 29, 46, 133, 184, 1, 30, 42]
abbrev dktX0_digest_0 : List UInt8 := dkwX0_digest_0 ++ dktX0_digest_1
theorem dksX0_digest_0 : cX0_digest.data.toList.drop 0 = dktX0_digest_0 := by decide +kernel
theorem dksX0_digest_1 : cX0_digest.data.toList.drop 24 = dktX0_digest_1 := dk_seg dksX0_digest_0 24 rfl rfl
theorem dksX0_digest_2 : cX0_digest.data.toList.drop 46 = dktX0_digest_2 := dk_seg dksX0_digest_1 22 rfl rfl
theorem dksX0_digest_3 : cX0_digest.data.toList.drop 70 = dktX0_digest_3 := dk_seg dksX0_digest_2 24 rfl rfl
theorem dksX0_digest_4 : cX0_digest.data.toList.drop 94 = dktX0_digest_4 := dk_seg dksX0_digest_3 24 rfl rfl
theorem dksX0_digest_5 : cX0_digest.data.toList.drop 117 = dktX0_digest_5 := dk_seg dksX0_digest_4 23 rfl rfl
theorem dksX0_digest_6 : cX0_digest.data.toList.drop 141 = dktX0_digest_6 := dk_seg dksX0_digest_5 24 rfl rfl
theorem dX0_digest_0 : decode cX0_digest 0 = .ok (.ldc2_w 290, 3) := dk_20 1 34 (dk_at dksX0_digest_0 0 rfl rfl)
theorem dX0_digest_3 : decode cX0_digest 3 = .ok (.lstore_n 1, 1) := dk_64 (dk_at dksX0_digest_0 3 rfl rfl)
theorem dX0_digest_4 : decode cX0_digest 4 = .ok (.iconst 0, 1) := dk_3 (dk_at dksX0_digest_0 4 rfl rfl)
theorem dX0_digest_5 : decode cX0_digest 5 = .ok (.istore_n 3, 1) := dk_62 (dk_at dksX0_digest_0 5 rfl rfl)
theorem dX0_digest_6 : decode cX0_digest 6 = .ok (.iload_n 3, 1) := dk_29 (dk_at dksX0_digest_0 6 rfl rfl)
theorem dX0_digest_7 : decode cX0_digest 7 = .ok (.bipush 6, 2) := dk_16 6 (dk_at dksX0_digest_0 7 rfl rfl)
theorem dX0_digest_9 : decode cX0_digest 9 = .ok (.if_icmp .ge 33, 3) := dk_162 0 33 (dk_at dksX0_digest_0 9 rfl rfl)
theorem dX0_digest_12 : decode cX0_digest 12 = .ok (.lload_n 1, 1) := dk_31 (dk_at dksX0_digest_0 12 rfl rfl)
theorem dX0_digest_13 : decode cX0_digest 13 = .ok (.aload_n 0, 1) := dk_42 (dk_at dksX0_digest_0 13 rfl rfl)
theorem dX0_digest_14 : decode cX0_digest 14 = .ok (.getfield 16, 3) := dk_180 0 16 (dk_at dksX0_digest_0 14 rfl rfl)
theorem dX0_digest_17 : decode cX0_digest 17 = .ok (.iload_n 3, 1) := dk_29 (dk_at dksX0_digest_0 17 rfl rfl)
theorem dX0_digest_18 : decode cX0_digest 18 = .ok (.iaload, 1) := dk_46 (dk_at dksX0_digest_0 18 rfl rfl)
theorem dX0_digest_19 : decode cX0_digest 19 = .ok (.i2l, 1) := dk_133 (dk_at dksX0_digest_0 19 rfl rfl)
theorem dX0_digest_20 : decode cX0_digest 20 = .ok (.invokestatic 286, 3) := dk_184 1 30 (dk_at dksX0_digest_0 20 rfl rfl)
theorem dX0_digest_23 : decode cX0_digest 23 = .ok (.aload_n 0, 1) := dk_42 (dk_at dksX0_digest_0 23 rfl rfl)
theorem dX0_digest_24 : decode cX0_digest 24 = .ok (.getfield 25, 3) := dk_180 0 25 (dk_at dksX0_digest_1 0 rfl rfl)
theorem dX0_digest_27 : decode cX0_digest 27 = .ok (.iload_n 3, 1) := dk_29 (dk_at dksX0_digest_1 3 rfl rfl)
theorem dX0_digest_28 : decode cX0_digest 28 = .ok (.invokevirtual 112, 3) := dk_182 0 112 (dk_at dksX0_digest_1 4 rfl rfl)
theorem dX0_digest_31 : decode cX0_digest 31 = .ok (.i2l, 1) := dk_133 (dk_at dksX0_digest_1 7 rfl rfl)
theorem dX0_digest_32 : decode cX0_digest 32 = .ok (.invokestatic 286, 3) := dk_184 1 30 (dk_at dksX0_digest_1 8 rfl rfl)
theorem dX0_digest_35 : decode cX0_digest 35 = .ok (.lstore_n 1, 1) := dk_64 (dk_at dksX0_digest_1 11 rfl rfl)
theorem dX0_digest_36 : decode cX0_digest 36 = .ok (.iinc 3 1, 3) := dk_132 3 1 (dk_at dksX0_digest_1 12 rfl rfl)
theorem dX0_digest_39 : decode cX0_digest 39 = .ok (.goto (-33), 3) := dk_167 255 223 (dk_at dksX0_digest_1 15 rfl rfl)
theorem dX0_digest_42 : decode cX0_digest 42 = .ok (.iconst 0, 1) := dk_3 (dk_at dksX0_digest_1 18 rfl rfl)
theorem dX0_digest_43 : decode cX0_digest 43 = .ok (.istore_n 3, 1) := dk_62 (dk_at dksX0_digest_1 19 rfl rfl)
theorem dX0_digest_44 : decode cX0_digest 44 = .ok (.iload_n 3, 1) := dk_29 (dk_at dksX0_digest_1 20 rfl rfl)
theorem dX0_digest_45 : decode cX0_digest 45 = .ok (.aload_n 0, 1) := dk_42 (dk_at dksX0_digest_1 21 rfl rfl)
theorem dX0_digest_46 : decode cX0_digest 46 = .ok (.getfield 10, 3) := dk_180 0 10 (dk_at dksX0_digest_2 0 rfl rfl)
theorem dX0_digest_49 : decode cX0_digest 49 = .ok (.invokevirtual 63, 3) := dk_182 0 63 (dk_at dksX0_digest_2 3 rfl rfl)
theorem dX0_digest_52 : decode cX0_digest 52 = .ok (.if_icmp .ge 16, 3) := dk_162 0 16 (dk_at dksX0_digest_2 6 rfl rfl)
theorem dX0_digest_55 : decode cX0_digest 55 = .ok (.aload_n 0, 1) := dk_42 (dk_at dksX0_digest_2 9 rfl rfl)
theorem dX0_digest_56 : decode cX0_digest 56 = .ok (.lload_n 1, 1) := dk_31 (dk_at dksX0_digest_2 10 rfl rfl)
theorem dX0_digest_57 : decode cX0_digest 57 = .ok (.iload_n 3, 1) := dk_29 (dk_at dksX0_digest_2 11 rfl rfl)
theorem dX0_digest_58 : decode cX0_digest 58 = .ok (.invokevirtual 292, 3) := dk_182 1 36 (dk_at dksX0_digest_2 12 rfl rfl)
theorem dX0_digest_61 : decode cX0_digest 61 = .ok (.lstore_n 1, 1) := dk_64 (dk_at dksX0_digest_2 15 rfl rfl)
theorem dX0_digest_62 : decode cX0_digest 62 = .ok (.iinc 3 1, 3) := dk_132 3 1 (dk_at dksX0_digest_2 16 rfl rfl)
theorem dX0_digest_65 : decode cX0_digest 65 = .ok (.goto (-21), 3) := dk_167 255 235 (dk_at dksX0_digest_2 19 rfl rfl)
theorem dX0_digest_68 : decode cX0_digest 68 = .ok (.lload_n 1, 1) := dk_31 (dk_at dksX0_digest_2 22 rfl rfl)
theorem dX0_digest_69 : decode cX0_digest 69 = .ok (.aload_n 0, 1) := dk_42 (dk_at dksX0_digest_2 23 rfl rfl)
theorem dX0_digest_70 : decode cX0_digest 70 = .ok (.invokevirtual 212, 3) := dk_182 0 212 (dk_at dksX0_digest_3 0 rfl rfl)
theorem dX0_digest_73 : decode cX0_digest 73 = .ok (.i2l, 1) := dk_133 (dk_at dksX0_digest_3 3 rfl rfl)
theorem dX0_digest_74 : decode cX0_digest 74 = .ok (.invokestatic 286, 3) := dk_184 1 30 (dk_at dksX0_digest_3 4 rfl rfl)
theorem dX0_digest_77 : decode cX0_digest 77 = .ok (.lstore_n 1, 1) := dk_64 (dk_at dksX0_digest_3 7 rfl rfl)
theorem dX0_digest_78 : decode cX0_digest 78 = .ok (.aload_n 0, 1) := dk_42 (dk_at dksX0_digest_3 8 rfl rfl)
theorem dX0_digest_79 : decode cX0_digest 79 = .ok (.getfield 92, 3) := dk_180 0 92 (dk_at dksX0_digest_3 9 rfl rfl)
theorem dX0_digest_82 : decode cX0_digest 82 = .ok (.ifCond .eq 15, 3) := dk_153 0 15 (dk_at dksX0_digest_3 12 rfl rfl)
theorem dX0_digest_85 : decode cX0_digest 85 = .ok (.lload_n 1, 1) := dk_31 (dk_at dksX0_digest_3 15 rfl rfl)
theorem dX0_digest_86 : decode cX0_digest 86 = .ok (.aload_n 0, 1) := dk_42 (dk_at dksX0_digest_3 16 rfl rfl)
theorem dX0_digest_87 : decode cX0_digest 87 = .ok (.invokevirtual 236, 3) := dk_182 0 236 (dk_at dksX0_digest_3 17 rfl rfl)
theorem dX0_digest_90 : decode cX0_digest 90 = .ok (.i2l, 1) := dk_133 (dk_at dksX0_digest_3 20 rfl rfl)
theorem dX0_digest_91 : decode cX0_digest 91 = .ok (.invokestatic 286, 3) := dk_184 1 30 (dk_at dksX0_digest_3 21 rfl rfl)
theorem dX0_digest_94 : decode cX0_digest 94 = .ok (.goto 4, 3) := dk_167 0 4 (dk_at dksX0_digest_4 0 rfl rfl)
theorem dX0_digest_97 : decode cX0_digest 97 = .ok (.lload_n 1, 1) := dk_31 (dk_at dksX0_digest_4 3 rfl rfl)
theorem dX0_digest_98 : decode cX0_digest 98 = .ok (.lstore_n 1, 1) := dk_64 (dk_at dksX0_digest_4 4 rfl rfl)
theorem dX0_digest_99 : decode cX0_digest 99 = .ok (.iconst 0, 1) := dk_3 (dk_at dksX0_digest_4 5 rfl rfl)
theorem dX0_digest_100 : decode cX0_digest 100 = .ok (.istore_n 3, 1) := dk_62 (dk_at dksX0_digest_4 6 rfl rfl)
theorem dX0_digest_101 : decode cX0_digest 101 = .ok (.iload_n 3, 1) := dk_29 (dk_at dksX0_digest_4 7 rfl rfl)
theorem dX0_digest_102 : decode cX0_digest 102 = .ok (.aload_n 0, 1) := dk_42 (dk_at dksX0_digest_4 8 rfl rfl)
theorem dX0_digest_103 : decode cX0_digest 103 = .ok (.getfield 71, 3) := dk_180 0 71 (dk_at dksX0_digest_4 9 rfl rfl)
theorem dX0_digest_106 : decode cX0_digest 106 = .ok (.if_icmp .ge 21, 3) := dk_162 0 21 (dk_at dksX0_digest_4 12 rfl rfl)
theorem dX0_digest_109 : decode cX0_digest 109 = .ok (.lload_n 1, 1) := dk_31 (dk_at dksX0_digest_4 15 rfl rfl)
theorem dX0_digest_110 : decode cX0_digest 110 = .ok (.aload_n 0, 1) := dk_42 (dk_at dksX0_digest_4 16 rfl rfl)
theorem dX0_digest_111 : decode cX0_digest 111 = .ok (.getfield 35, 3) := dk_180 0 35 (dk_at dksX0_digest_4 17 rfl rfl)
theorem dX0_digest_114 : decode cX0_digest 114 = .ok (.iload_n 3, 1) := dk_29 (dk_at dksX0_digest_4 20 rfl rfl)
theorem dX0_digest_115 : decode cX0_digest 115 = .ok (.baload, 1) := dk_51 (dk_at dksX0_digest_4 21 rfl rfl)
theorem dX0_digest_116 : decode cX0_digest 116 = .ok (.i2l, 1) := dk_133 (dk_at dksX0_digest_4 22 rfl rfl)
theorem dX0_digest_117 : decode cX0_digest 117 = .ok (.invokestatic 286, 3) := dk_184 1 30 (dk_at dksX0_digest_5 0 rfl rfl)
theorem dX0_digest_120 : decode cX0_digest 120 = .ok (.lstore_n 1, 1) := dk_64 (dk_at dksX0_digest_5 3 rfl rfl)
theorem dX0_digest_121 : decode cX0_digest 121 = .ok (.iinc 3 1, 3) := dk_132 3 1 (dk_at dksX0_digest_5 4 rfl rfl)
theorem dX0_digest_124 : decode cX0_digest 124 = .ok (.goto (-23), 3) := dk_167 255 233 (dk_at dksX0_digest_5 7 rfl rfl)
theorem dX0_digest_127 : decode cX0_digest 127 = .ok (.iconst 0, 1) := dk_3 (dk_at dksX0_digest_5 10 rfl rfl)
theorem dX0_digest_128 : decode cX0_digest 128 = .ok (.istore_n 3, 1) := dk_62 (dk_at dksX0_digest_5 11 rfl rfl)
theorem dX0_digest_129 : decode cX0_digest 129 = .ok (.iload_n 3, 1) := dk_29 (dk_at dksX0_digest_5 12 rfl rfl)
theorem dX0_digest_130 : decode cX0_digest 130 = .ok (.bipush 10, 2) := dk_16 10 (dk_at dksX0_digest_5 13 rfl rfl)
theorem dX0_digest_132 : decode cX0_digest 132 = .ok (.if_icmp .ge 20, 3) := dk_162 0 20 (dk_at dksX0_digest_5 15 rfl rfl)
theorem dX0_digest_135 : decode cX0_digest 135 = .ok (.lload_n 1, 1) := dk_31 (dk_at dksX0_digest_5 18 rfl rfl)
theorem dX0_digest_136 : decode cX0_digest 136 = .ok (.aload_n 0, 1) := dk_42 (dk_at dksX0_digest_5 19 rfl rfl)
theorem dX0_digest_137 : decode cX0_digest 137 = .ok (.iload_n 3, 1) := dk_29 (dk_at dksX0_digest_5 20 rfl rfl)
theorem dX0_digest_138 : decode cX0_digest 138 = .ok (.invokevirtual 281, 3) := dk_182 1 25 (dk_at dksX0_digest_5 21 rfl rfl)
theorem dX0_digest_141 : decode cX0_digest 141 = .ok (.i2l, 1) := dk_133 (dk_at dksX0_digest_6 0 rfl rfl)
theorem dX0_digest_142 : decode cX0_digest 142 = .ok (.invokestatic 286, 3) := dk_184 1 30 (dk_at dksX0_digest_6 1 rfl rfl)
theorem dX0_digest_145 : decode cX0_digest 145 = .ok (.lstore_n 1, 1) := dk_64 (dk_at dksX0_digest_6 4 rfl rfl)
theorem dX0_digest_146 : decode cX0_digest 146 = .ok (.iinc 3 1, 3) := dk_132 3 1 (dk_at dksX0_digest_6 5 rfl rfl)
theorem dX0_digest_149 : decode cX0_digest 149 = .ok (.goto (-20), 3) := dk_167 255 236 (dk_at dksX0_digest_6 8 rfl rfl)
theorem dX0_digest_152 : decode cX0_digest 152 = .ok (.lload_n 1, 1) := dk_31 (dk_at dksX0_digest_6 11 rfl rfl)
theorem dX0_digest_153 : decode cX0_digest 153 = .ok (.lreturn, 1) := dk_173 (dk_at dksX0_digest_6 12 rfl rfl)
abbrev cX0_mixed : ByteArray := prog_1_method_51_code
def yX0_mixed : MethodName := ⟨RX0, "mixed", "(JJ)J"⟩
def dkwX0_mixed_0 : List UInt8 := [20, 1, 28, 30, 105, 32, 97, 173]
abbrev dktX0_mixed_0 : List UInt8 := dkwX0_mixed_0 ++ []
theorem dksX0_mixed_0 : cX0_mixed.data.toList.drop 0 = dktX0_mixed_0 := by decide +kernel
theorem dX0_mixed_0 : decode cX0_mixed 0 = .ok (.ldc2_w 284, 3) := dk_20 1 28 (dk_at dksX0_mixed_0 0 rfl rfl)
theorem dX0_mixed_3 : decode cX0_mixed 3 = .ok (.lload_n 0, 1) := dk_30 (dk_at dksX0_mixed_0 3 rfl rfl)
theorem dX0_mixed_4 : decode cX0_mixed 4 = .ok (.lmul, 1) := dk_105 (dk_at dksX0_mixed_0 4 rfl rfl)
theorem dX0_mixed_5 : decode cX0_mixed 5 = .ok (.lload_n 2, 1) := dk_32 (dk_at dksX0_mixed_0 5 rfl rfl)
theorem dX0_mixed_6 : decode cX0_mixed 6 = .ok (.ladd, 1) := dk_97 (dk_at dksX0_mixed_0 6 rfl rfl)
theorem dX0_mixed_7 : decode cX0_mixed 7 = .ok (.lreturn, 1) := dk_173 (dk_at dksX0_mixed_0 7 rfl rfl)
abbrev cX0_mixedFile : ByteArray := prog_1_method_52_code
def yX0_mixedFile : MethodName := ⟨RX0, "mixedFile", "(JI)J"⟩
def dkwX0_mixedFile_2 : List UInt8 := [42, 29, 5, 4, 182, 0, 188, 133, 184, 1, 30, 42, 29, 5, 182, 0, 196, 133, 184, 1, 30, 173]
abbrev dktX0_mixedFile_2 : List UInt8 := dkwX0_mixedFile_2 ++ []
def dkwX0_mixedFile_1 : List UInt8 := [184, 1, 30, 55, 4, 132, 6, 1, 167, 255, 231, 22, 4, 42, 29, 5, 3, 182, 0, 188, 133, 184, 1, 30]
abbrev dktX0_mixedFile_1 : List UInt8 := dkwX0_mixedFile_1 ++ dktX0_mixedFile_2
def dkwX0_mixedFile_0 : List UInt8 := [31, 55, 4, 3, 54, 6, 21, 6, 16, 6, 162, 0, 24, 22, 4, 42, 29, 21, 6, 182, 0, 148, 133]
abbrev dktX0_mixedFile_0 : List UInt8 := dkwX0_mixedFile_0 ++ dktX0_mixedFile_1
theorem dksX0_mixedFile_0 : cX0_mixedFile.data.toList.drop 0 = dktX0_mixedFile_0 := by decide +kernel
theorem dksX0_mixedFile_1 : cX0_mixedFile.data.toList.drop 23 = dktX0_mixedFile_1 := dk_seg dksX0_mixedFile_0 23 rfl rfl
theorem dksX0_mixedFile_2 : cX0_mixedFile.data.toList.drop 47 = dktX0_mixedFile_2 := dk_seg dksX0_mixedFile_1 24 rfl rfl
theorem dX0_mixedFile_0 : decode cX0_mixedFile 0 = .ok (.lload_n 1, 1) := dk_31 (dk_at dksX0_mixedFile_0 0 rfl rfl)
theorem dX0_mixedFile_1 : decode cX0_mixedFile 1 = .ok (.lstore 4, 2) := dk_55 4 (dk_at dksX0_mixedFile_0 1 rfl rfl)
theorem dX0_mixedFile_3 : decode cX0_mixedFile 3 = .ok (.iconst 0, 1) := dk_3 (dk_at dksX0_mixedFile_0 3 rfl rfl)
theorem dX0_mixedFile_4 : decode cX0_mixedFile 4 = .ok (.istore 6, 2) := dk_54 6 (dk_at dksX0_mixedFile_0 4 rfl rfl)
theorem dX0_mixedFile_6 : decode cX0_mixedFile 6 = .ok (.iload 6, 2) := dk_21 6 (dk_at dksX0_mixedFile_0 6 rfl rfl)
theorem dX0_mixedFile_8 : decode cX0_mixedFile 8 = .ok (.bipush 6, 2) := dk_16 6 (dk_at dksX0_mixedFile_0 8 rfl rfl)
theorem dX0_mixedFile_10 : decode cX0_mixedFile 10 = .ok (.if_icmp .ge 24, 3) := dk_162 0 24 (dk_at dksX0_mixedFile_0 10 rfl rfl)
theorem dX0_mixedFile_13 : decode cX0_mixedFile 13 = .ok (.lload 4, 2) := dk_22 4 (dk_at dksX0_mixedFile_0 13 rfl rfl)
theorem dX0_mixedFile_15 : decode cX0_mixedFile 15 = .ok (.aload_n 0, 1) := dk_42 (dk_at dksX0_mixedFile_0 15 rfl rfl)
theorem dX0_mixedFile_16 : decode cX0_mixedFile 16 = .ok (.iload_n 3, 1) := dk_29 (dk_at dksX0_mixedFile_0 16 rfl rfl)
theorem dX0_mixedFile_17 : decode cX0_mixedFile 17 = .ok (.iload 6, 2) := dk_21 6 (dk_at dksX0_mixedFile_0 17 rfl rfl)
theorem dX0_mixedFile_19 : decode cX0_mixedFile 19 = .ok (.invokevirtual 148, 3) := dk_182 0 148 (dk_at dksX0_mixedFile_0 19 rfl rfl)
theorem dX0_mixedFile_22 : decode cX0_mixedFile 22 = .ok (.i2l, 1) := dk_133 (dk_at dksX0_mixedFile_0 22 rfl rfl)
theorem dX0_mixedFile_23 : decode cX0_mixedFile 23 = .ok (.invokestatic 286, 3) := dk_184 1 30 (dk_at dksX0_mixedFile_1 0 rfl rfl)
theorem dX0_mixedFile_26 : decode cX0_mixedFile 26 = .ok (.lstore 4, 2) := dk_55 4 (dk_at dksX0_mixedFile_1 3 rfl rfl)
theorem dX0_mixedFile_28 : decode cX0_mixedFile 28 = .ok (.iinc 6 1, 3) := dk_132 6 1 (dk_at dksX0_mixedFile_1 5 rfl rfl)
theorem dX0_mixedFile_31 : decode cX0_mixedFile 31 = .ok (.goto (-25), 3) := dk_167 255 231 (dk_at dksX0_mixedFile_1 8 rfl rfl)
theorem dX0_mixedFile_34 : decode cX0_mixedFile 34 = .ok (.lload 4, 2) := dk_22 4 (dk_at dksX0_mixedFile_1 11 rfl rfl)
theorem dX0_mixedFile_36 : decode cX0_mixedFile 36 = .ok (.aload_n 0, 1) := dk_42 (dk_at dksX0_mixedFile_1 13 rfl rfl)
theorem dX0_mixedFile_37 : decode cX0_mixedFile 37 = .ok (.iload_n 3, 1) := dk_29 (dk_at dksX0_mixedFile_1 14 rfl rfl)
theorem dX0_mixedFile_38 : decode cX0_mixedFile 38 = .ok (.iconst 2, 1) := dk_5 (dk_at dksX0_mixedFile_1 15 rfl rfl)
theorem dX0_mixedFile_39 : decode cX0_mixedFile 39 = .ok (.iconst 0, 1) := dk_3 (dk_at dksX0_mixedFile_1 16 rfl rfl)
theorem dX0_mixedFile_40 : decode cX0_mixedFile 40 = .ok (.invokevirtual 188, 3) := dk_182 0 188 (dk_at dksX0_mixedFile_1 17 rfl rfl)
theorem dX0_mixedFile_43 : decode cX0_mixedFile 43 = .ok (.i2l, 1) := dk_133 (dk_at dksX0_mixedFile_1 20 rfl rfl)
theorem dX0_mixedFile_44 : decode cX0_mixedFile 44 = .ok (.invokestatic 286, 3) := dk_184 1 30 (dk_at dksX0_mixedFile_1 21 rfl rfl)
theorem dX0_mixedFile_47 : decode cX0_mixedFile 47 = .ok (.aload_n 0, 1) := dk_42 (dk_at dksX0_mixedFile_2 0 rfl rfl)
theorem dX0_mixedFile_48 : decode cX0_mixedFile 48 = .ok (.iload_n 3, 1) := dk_29 (dk_at dksX0_mixedFile_2 1 rfl rfl)
theorem dX0_mixedFile_49 : decode cX0_mixedFile 49 = .ok (.iconst 2, 1) := dk_5 (dk_at dksX0_mixedFile_2 2 rfl rfl)
theorem dX0_mixedFile_50 : decode cX0_mixedFile 50 = .ok (.iconst 1, 1) := dk_4 (dk_at dksX0_mixedFile_2 3 rfl rfl)
theorem dX0_mixedFile_51 : decode cX0_mixedFile 51 = .ok (.invokevirtual 188, 3) := dk_182 0 188 (dk_at dksX0_mixedFile_2 4 rfl rfl)
theorem dX0_mixedFile_54 : decode cX0_mixedFile 54 = .ok (.i2l, 1) := dk_133 (dk_at dksX0_mixedFile_2 7 rfl rfl)
theorem dX0_mixedFile_55 : decode cX0_mixedFile 55 = .ok (.invokestatic 286, 3) := dk_184 1 30 (dk_at dksX0_mixedFile_2 8 rfl rfl)
theorem dX0_mixedFile_58 : decode cX0_mixedFile 58 = .ok (.aload_n 0, 1) := dk_42 (dk_at dksX0_mixedFile_2 11 rfl rfl)
theorem dX0_mixedFile_59 : decode cX0_mixedFile 59 = .ok (.iload_n 3, 1) := dk_29 (dk_at dksX0_mixedFile_2 12 rfl rfl)
theorem dX0_mixedFile_60 : decode cX0_mixedFile 60 = .ok (.iconst 2, 1) := dk_5 (dk_at dksX0_mixedFile_2 13 rfl rfl)
theorem dX0_mixedFile_61 : decode cX0_mixedFile 61 = .ok (.invokevirtual 196, 3) := dk_182 0 196 (dk_at dksX0_mixedFile_2 14 rfl rfl)
theorem dX0_mixedFile_64 : decode cX0_mixedFile 64 = .ok (.i2l, 1) := dk_133 (dk_at dksX0_mixedFile_2 17 rfl rfl)
theorem dX0_mixedFile_65 : decode cX0_mixedFile 65 = .ok (.invokestatic 286, 3) := dk_184 1 30 (dk_at dksX0_mixedFile_2 18 rfl rfl)
theorem dX0_mixedFile_68 : decode cX0_mixedFile 68 = .ok (.lreturn, 1) := dk_173 (dk_at dksX0_mixedFile_2 21 rfl rfl)
theorem q61 : (Jvm.Cond.initialized "BurntLetters") ∈ lw_all := lw_g (lw_at lw_m1 1 rfl) rfl
theorem q84 : (Jvm.Cond.instantiable "BurntLetters" (22 : Nat)) ∈ lw_all := lw_g (lw_at lw_m1 24 rfl) rfl
theorem q86 : (Jvm.Cond.instanceMethod ({ cls := "BurntLetters", name := "<init>", desc := "()V" } : Jvm.MethodName)) ∈ lw_all := lw_g (lw_at lw_m1 26 rfl) rfl
theorem q87 : (Jvm.Cond.code ({ cls := "BurntLetters", name := "<init>", desc := "()V" } : Jvm.MethodName) prog_1_method_5_code (1 : Nat) (Option.none : Option Jvm.ClassFile.FieldType)) ∈ lw_all := lw_g (lw_at lw_m1 27 rfl) rfl
theorem q88 : (Jvm.Cond.methodLink "BurntLetters" (1 : Nat) ({ cls := "java/lang/Object", name := "<init>", desc := "()V" } : Jvm.MethodName)) ∈ lw_all := lw_g (lw_at lw_m1 28 rfl) rfl
theorem q91 : (Jvm.Cond.classLink "BurntLetters" (7 : Nat) "java/util/ArrayList") ∈ lw_all := lw_g (lw_at lw_m1 31 rfl) rfl
theorem q93 : (Jvm.Cond.methodLink "BurntLetters" (9 : Nat) ({ cls := "java/util/ArrayList", name := "<init>", desc := "()V" } : Jvm.MethodName)) ∈ lw_all := lw_g (lw_at lw_m1 33 rfl) rfl
theorem q117 : (Jvm.Cond.classLink "BurntLetters" (20 : Nat) "BurntLetters$Archive") ∈ lw_all := lw_g (lw_at lw_m1 57 rfl) rfl
theorem q119 : (Jvm.Cond.methodLinkNest "BurntLetters" (22 : Nat) ({ cls := "BurntLetters$Archive", name := "<init>", desc := "(LBurntLetters;)V" } : Jvm.MethodName) "BurntLetters") ∈ lw_tbl := lw_at lw_m1 59 rfl
theorem q124 : (Jvm.Cond.fieldLinkNest "BurntLetters" (116 : Nat) "BurntLetters$Archive" "leaves" "[I" "BurntLetters") ∈ lw_tbl := lw_at lw_m1 64 rfl
theorem q126 : (Jvm.Cond.fieldLinkNest "BurntLetters" (119 : Nat) "BurntLetters$Archive" "points" "[I" "BurntLetters") ∈ lw_tbl := lw_at lw_m1 66 rfl
theorem q128 : (Jvm.Cond.fieldLinkNest "BurntLetters" (122 : Nat) "BurntLetters$Archive" "kept" "[I" "BurntLetters") ∈ lw_tbl := lw_at lw_m1 68 rfl
theorem q141 : (Jvm.Cond.fieldLink "BurntLetters" (10 : Nat) "BurntLetters" "papers" "Ljava/util/ArrayList;") ∈ lw_all := lw_g (lw_at lw_m1 81 rfl) rfl
theorem q142 : (Jvm.Cond.fieldLink "BurntLetters" (92 : Nat) "BurntLetters" "isLaw" "Z") ∈ lw_all := lw_g (lw_at lw_m1 82 rfl) rfl
theorem q143 : (Jvm.Cond.fieldLink "BurntLetters" (96 : Nat) "BurntLetters" "laws" "I") ∈ lw_all := lw_g (lw_at lw_m1 83 rfl) rfl
theorem q145 : (Jvm.Cond.fieldLink "BurntLetters" (90 : Nat) "BurntLetters" "room" "I") ∈ lw_all := lw_g (lw_at lw_m1 85 rfl) rfl
theorem q146 : (Jvm.Cond.fieldLink "BurntLetters" (16 : Nat) "BurntLetters" "lots" "[I") ∈ lw_all := lw_g (lw_at lw_m1 86 rfl) rfl
theorem q147 : (Jvm.Cond.fieldLink "BurntLetters" (99 : Nat) "BurntLetters" "yearsDone" "I") ∈ lw_all := lw_g (lw_at lw_m1 87 rfl) rfl
theorem q148 : (Jvm.Cond.fieldLink "BurntLetters" (25 : Nat) "BurntLetters" "archive" "LBurntLetters$Archive;") ∈ lw_all := lw_g (lw_at lw_m1 88 rfl) rfl
theorem q149 : (Jvm.Cond.fieldLink "BurntLetters" (29 : Nat) "BurntLetters" "thought" "LBurntLetters$Archive;") ∈ lw_all := lw_g (lw_at lw_m1 89 rfl) rfl
theorem q150 : (Jvm.Cond.fieldLink "BurntLetters" (32 : Nat) "BurntLetters" "kept" "LBurntLetters$Archive;") ∈ lw_all := lw_g (lw_at lw_m1 90 rfl) rfl
theorem q152 : (Jvm.Cond.fieldLink "BurntLetters" (35 : Nat) "BurntLetters" "page" "[B") ∈ lw_all := lw_g (lw_at lw_m1 92 rfl) rfl
theorem q154 : (Jvm.Cond.fieldLink "BurntLetters" (71 : Nat) "BurntLetters" "pageLength" "I") ∈ lw_all := lw_g (lw_at lw_m1 94 rfl) rfl
theorem q155 : (Jvm.Cond.fieldLink "BurntLetters" (206 : Nat) "BurntLetters" "sureAsks" "I") ∈ lw_all := lw_g (lw_at lw_m1 95 rfl) rfl
theorem q156 : (Jvm.Cond.fieldLink "BurntLetters" (224 : Nat) "BurntLetters" "moveAsks" "I") ∈ lw_all := lw_g (lw_at lw_m1 96 rfl) rfl
theorem q157 : (Jvm.Cond.fieldLink "BurntLetters" (105 : Nat) "BurntLetters" "ashMany" "I") ∈ lw_all := lw_g (lw_at lw_m1 97 rfl) rfl
theorem q158 : (Jvm.Cond.fieldLink "BurntLetters" (39 : Nat) "BurntLetters" "ashOf" "[I") ∈ lw_all := lw_g (lw_at lw_m1 98 rfl) rfl
theorem q159 : (Jvm.Cond.fieldLink "BurntLetters" (42 : Nat) "BurntLetters" "burntIn" "[I") ∈ lw_all := lw_g (lw_at lw_m1 99 rfl) rfl
theorem q160 : (Jvm.Cond.fieldLink "BurntLetters" (247 : Nat) "BurntLetters" "drawn" "J") ∈ lw_all := lw_g (lw_at lw_m1 100 rfl) rfl
theorem q161 : (Jvm.Cond.fieldLink "BurntLetters" (266 : Nat) "BurntLetters" "keptLaw" "I") ∈ lw_all := lw_g (lw_at lw_m1 101 rfl) rfl
theorem q162 : (Jvm.Cond.fieldLink "BurntLetters" (269 : Nat) "BurntLetters" "keptMany" "I") ∈ lw_all := lw_g (lw_at lw_m1 102 rfl) rfl
theorem q163 : (Jvm.Cond.fieldLink "BurntLetters" (272 : Nat) "BurntLetters" "keptYears" "I") ∈ lw_all := lw_g (lw_at lw_m1 103 rfl) rfl
theorem q164 : (Jvm.Cond.fieldLink "BurntLetters" (275 : Nat) "BurntLetters" "keptAsh" "I") ∈ lw_all := lw_g (lw_at lw_m1 104 rfl) rfl
theorem q165 : (Jvm.Cond.fieldLink "BurntLetters" (45 : Nat) "BurntLetters" "keptAshOf" "[I") ∈ lw_all := lw_g (lw_at lw_m1 105 rfl) rfl
theorem q166 : (Jvm.Cond.laysFinal "BurntLetters" "BurntLetters" "papers" "Ljava/util/ArrayList;") ∈ lw_all := lw_g (lw_at lw_m1 106 rfl) rfl
theorem q167 : (Jvm.Cond.soleField "BurntLetters" "papers") ∈ lw_all := lw_g (lw_at lw_m1 107 rfl) rfl
theorem q168 : (Jvm.Cond.lays "BurntLetters" "BurntLetters" "isLaw" "Z") ∈ lw_all := lw_g (lw_at lw_m1 108 rfl) rfl
theorem q169 : (Jvm.Cond.soleField "BurntLetters" "isLaw") ∈ lw_all := lw_g (lw_at lw_m1 109 rfl) rfl
theorem q170 : (Jvm.Cond.lays "BurntLetters" "BurntLetters" "laws" "I") ∈ lw_all := lw_g (lw_at lw_m1 110 rfl) rfl
theorem q171 : (Jvm.Cond.soleField "BurntLetters" "laws") ∈ lw_all := lw_g (lw_at lw_m1 111 rfl) rfl
theorem q172 : (Jvm.Cond.lays "BurntLetters" "BurntLetters" "room" "I") ∈ lw_all := lw_g (lw_at lw_m1 112 rfl) rfl
theorem q173 : (Jvm.Cond.soleField "BurntLetters" "room") ∈ lw_all := lw_g (lw_at lw_m1 113 rfl) rfl
theorem q174 : (Jvm.Cond.laysFinal "BurntLetters" "BurntLetters" "lots" "[I") ∈ lw_all := lw_g (lw_at lw_m1 114 rfl) rfl
theorem q175 : (Jvm.Cond.soleField "BurntLetters" "lots") ∈ lw_all := lw_g (lw_at lw_m1 115 rfl) rfl
theorem q176 : (Jvm.Cond.lays "BurntLetters" "BurntLetters" "yearsDone" "I") ∈ lw_all := lw_g (lw_at lw_m1 116 rfl) rfl
theorem q177 : (Jvm.Cond.soleField "BurntLetters" "yearsDone") ∈ lw_all := lw_g (lw_at lw_m1 117 rfl) rfl
theorem q178 : (Jvm.Cond.laysFinal "BurntLetters" "BurntLetters" "archive" "LBurntLetters$Archive;") ∈ lw_all := lw_g (lw_at lw_m1 118 rfl) rfl
theorem q179 : (Jvm.Cond.soleField "BurntLetters" "archive") ∈ lw_all := lw_g (lw_at lw_m1 119 rfl) rfl
theorem q180 : (Jvm.Cond.laysFinal "BurntLetters" "BurntLetters" "thought" "LBurntLetters$Archive;") ∈ lw_all := lw_g (lw_at lw_m1 120 rfl) rfl
theorem q181 : (Jvm.Cond.soleField "BurntLetters" "thought") ∈ lw_all := lw_g (lw_at lw_m1 121 rfl) rfl
theorem q182 : (Jvm.Cond.laysFinal "BurntLetters" "BurntLetters" "kept" "LBurntLetters$Archive;") ∈ lw_all := lw_g (lw_at lw_m1 122 rfl) rfl
theorem q183 : (Jvm.Cond.soleField "BurntLetters" "kept") ∈ lw_all := lw_g (lw_at lw_m1 123 rfl) rfl
theorem q184 : (Jvm.Cond.laysFinal "BurntLetters" "BurntLetters" "page" "[B") ∈ lw_all := lw_g (lw_at lw_m1 124 rfl) rfl
theorem q185 : (Jvm.Cond.soleField "BurntLetters" "page") ∈ lw_all := lw_g (lw_at lw_m1 125 rfl) rfl
theorem q186 : (Jvm.Cond.lays "BurntLetters" "BurntLetters" "pageLength" "I") ∈ lw_all := lw_g (lw_at lw_m1 126 rfl) rfl
theorem q187 : (Jvm.Cond.soleField "BurntLetters" "pageLength") ∈ lw_all := lw_g (lw_at lw_m1 127 rfl) rfl
theorem q188 : (Jvm.Cond.lays "BurntLetters" "BurntLetters" "sureAsks" "I") ∈ lw_all := lw_g (lw_at lw_m1 128 rfl) rfl
theorem q189 : (Jvm.Cond.soleField "BurntLetters" "sureAsks") ∈ lw_all := lw_g (lw_at lw_m1 129 rfl) rfl
theorem q190 : (Jvm.Cond.lays "BurntLetters" "BurntLetters" "moveAsks" "I") ∈ lw_all := lw_g (lw_at lw_m1 130 rfl) rfl
theorem q191 : (Jvm.Cond.soleField "BurntLetters" "moveAsks") ∈ lw_all := lw_g (lw_at lw_m1 131 rfl) rfl
theorem q192 : (Jvm.Cond.lays "BurntLetters" "BurntLetters" "ashMany" "I") ∈ lw_all := lw_g (lw_at lw_m1 132 rfl) rfl
theorem q193 : (Jvm.Cond.soleField "BurntLetters" "ashMany") ∈ lw_all := lw_g (lw_at lw_m1 133 rfl) rfl
theorem q194 : (Jvm.Cond.laysFinal "BurntLetters" "BurntLetters" "ashOf" "[I") ∈ lw_all := lw_g (lw_at lw_m1 134 rfl) rfl
theorem q195 : (Jvm.Cond.soleField "BurntLetters" "ashOf") ∈ lw_all := lw_g (lw_at lw_m1 135 rfl) rfl
theorem q196 : (Jvm.Cond.laysFinal "BurntLetters" "BurntLetters" "burntIn" "[I") ∈ lw_all := lw_g (lw_at lw_m1 136 rfl) rfl
theorem q197 : (Jvm.Cond.soleField "BurntLetters" "burntIn") ∈ lw_all := lw_g (lw_at lw_m1 137 rfl) rfl
theorem q198 : (Jvm.Cond.lays "BurntLetters" "BurntLetters" "drawn" "J") ∈ lw_all := lw_g (lw_at lw_m1 138 rfl) rfl
theorem q199 : (Jvm.Cond.soleField "BurntLetters" "drawn") ∈ lw_all := lw_g (lw_at lw_m1 139 rfl) rfl
theorem q200 : (Jvm.Cond.lays "BurntLetters" "BurntLetters" "keptLaw" "I") ∈ lw_all := lw_g (lw_at lw_m1 140 rfl) rfl
theorem q201 : (Jvm.Cond.soleField "BurntLetters" "keptLaw") ∈ lw_all := lw_g (lw_at lw_m1 141 rfl) rfl
theorem q202 : (Jvm.Cond.lays "BurntLetters" "BurntLetters" "keptMany" "I") ∈ lw_all := lw_g (lw_at lw_m1 142 rfl) rfl
theorem q203 : (Jvm.Cond.soleField "BurntLetters" "keptMany") ∈ lw_all := lw_g (lw_at lw_m1 143 rfl) rfl
theorem q204 : (Jvm.Cond.lays "BurntLetters" "BurntLetters" "keptYears" "I") ∈ lw_all := lw_g (lw_at lw_m1 144 rfl) rfl
theorem q205 : (Jvm.Cond.soleField "BurntLetters" "keptYears") ∈ lw_all := lw_g (lw_at lw_m1 145 rfl) rfl
theorem q206 : (Jvm.Cond.lays "BurntLetters" "BurntLetters" "keptAsh" "I") ∈ lw_all := lw_g (lw_at lw_m1 146 rfl) rfl
theorem q207 : (Jvm.Cond.soleField "BurntLetters" "keptAsh") ∈ lw_all := lw_g (lw_at lw_m1 147 rfl) rfl
theorem q208 : (Jvm.Cond.laysFinal "BurntLetters" "BurntLetters" "keptAshOf" "[I") ∈ lw_all := lw_g (lw_at lw_m1 148 rfl) rfl
theorem q209 : (Jvm.Cond.soleField "BurntLetters" "keptAshOf") ∈ lw_all := lw_g (lw_at lw_m1 149 rfl) rfl
theorem q210 : (Jvm.Cond.superclass "BurntLetters" "java/lang/Object") ∈ lw_all := lw_g (lw_at lw_m1 150 rfl) rfl
theorem q213 : (Jvm.Cond.instanceMethod ({ cls := "BurntLetters", name := "letter", desc := "(I)I" } : Jvm.MethodName)) ∈ lw_all := lw_g (lw_at lw_m1 153 rfl) rfl
theorem q214 : (Jvm.Cond.selects "BurntLetters" ({ cls := "BurntLetters", name := "letter", desc := "(I)I" } : Jvm.MethodName) ({ cls := "BurntLetters", name := "letter", desc := "(I)I" } : Jvm.MethodName)) ∈ lw_all := lw_g (lw_at lw_m1 154 rfl) rfl
theorem q215 : (Jvm.Cond.code ({ cls := "BurntLetters", name := "letter", desc := "(I)I" } : Jvm.MethodName) prog_1_method_9_code (2 : Nat) (Option.some Jvm.ClassFile.FieldType.int)) ∈ lw_all := lw_g (lw_at lw_m1 155 rfl) rfl
theorem q216 : (Jvm.Cond.methodLink "BurntLetters" (67 : Nat) ({ cls := "BurntLetters", name := "in", desc := "(III)Z" } : Jvm.MethodName)) ∈ lw_all := lw_g (lw_at lw_m1 156 rfl) rfl
theorem q217 : (Jvm.Cond.static ({ cls := "BurntLetters", name := "in", desc := "(III)Z" } : Jvm.MethodName)) ∈ lw_all := lw_g (lw_at lw_m1 157 rfl) rfl
theorem q218 : (Jvm.Cond.code ({ cls := "BurntLetters", name := "in", desc := "(III)Z" } : Jvm.MethodName) prog_1_method_1_code (3 : Nat) (Option.some Jvm.ClassFile.FieldType.boolean)) ∈ lw_all := lw_g (lw_at lw_m1 158 rfl) rfl
theorem q220 : (Jvm.Cond.instanceMethod ({ cls := "BurntLetters", name := "blank", desc := "()I" } : Jvm.MethodName)) ∈ lw_all := lw_g (lw_at lw_m1 160 rfl) rfl
theorem q221 : (Jvm.Cond.selects "BurntLetters" ({ cls := "BurntLetters", name := "blank", desc := "()I" } : Jvm.MethodName) ({ cls := "BurntLetters", name := "blank", desc := "()I" } : Jvm.MethodName)) ∈ lw_all := lw_g (lw_at lw_m1 161 rfl) rfl
theorem q222 : (Jvm.Cond.code ({ cls := "BurntLetters", name := "blank", desc := "()I" } : Jvm.MethodName) prog_1_method_10_code (2 : Nat) (Option.some Jvm.ClassFile.FieldType.int)) ∈ lw_all := lw_g (lw_at lw_m1 162 rfl) rfl
theorem q224 : (Jvm.Cond.instanceMethod ({ cls := "BurntLetters", name := "fault", desc := "()I" } : Jvm.MethodName)) ∈ lw_all := lw_g (lw_at lw_m1 164 rfl) rfl
theorem q225 : (Jvm.Cond.selects "BurntLetters" ({ cls := "BurntLetters", name := "fault", desc := "()I" } : Jvm.MethodName) ({ cls := "BurntLetters", name := "fault", desc := "()I" } : Jvm.MethodName)) ∈ lw_all := lw_g (lw_at lw_m1 165 rfl) rfl
theorem q226 : (Jvm.Cond.codeWith ({ cls := "BurntLetters", name := "fault", desc := "()I" } : Jvm.MethodName) prog_1_method_11_code (2 : Nat) (Option.some Jvm.ClassFile.FieldType.int) [((0 : Nat), (16 : Nat), (17 : Nat), (82 : Nat))]) ∈ lw_all := lw_g (lw_at lw_m1 166 rfl) rfl
theorem q227 : (Jvm.Cond.classLink "BurntLetters" (82 : Nat) "BurntLetters$Stop") ∈ lw_all := lw_g (lw_at lw_m1 167 rfl) rfl
theorem q228 : (Jvm.Cond.classLink "BurntLetters" (75 : Nat) "BurntLetters$Reader") ∈ lw_all := lw_g (lw_at lw_m1 168 rfl) rfl
theorem q230 : (Jvm.Cond.methodLinkNest "BurntLetters" (77 : Nat) ({ cls := "BurntLetters$Reader", name := "<init>", desc := "(LBurntLetters;)V" } : Jvm.MethodName) "BurntLetters") ∈ lw_tbl := lw_at lw_m1 170 rfl
theorem q236 : (Jvm.Cond.fieldLinkNest "BurntLetters" (87 : Nat) "BurntLetters$Reader" "room" "I" "BurntLetters") ∈ lw_tbl := lw_at lw_m1 176 rfl
theorem q238 : (Jvm.Cond.fieldLinkNest "BurntLetters" (91 : Nat) "BurntLetters$Reader" "lots" "[I" "BurntLetters") ∈ lw_tbl := lw_at lw_m1 178 rfl
theorem q249 : (Jvm.Cond.methodLink "BurntLetters" (78 : Nat) ({ cls := "BurntLetters$Reader", name := "law", desc := "()LBurntLetters$Reader;" } : Jvm.MethodName)) ∈ lw_all := lw_g (lw_at lw_m1 189 rfl) rfl
theorem q316 : (Jvm.Cond.fieldLinkNest "BurntLetters" (84 : Nat) "BurntLetters$Stop" "place" "I" "BurntLetters") ∈ lw_tbl := lw_at lw_m2 16 rfl
theorem q337 : (Jvm.Cond.instanceMethod ({ cls := "BurntLetters", name := "law", desc := "()I" } : Jvm.MethodName)) ∈ lw_all := lw_g (lw_at lw_m2 37 rfl) rfl
theorem q338 : (Jvm.Cond.selects "BurntLetters" ({ cls := "BurntLetters", name := "law", desc := "()I" } : Jvm.MethodName) ({ cls := "BurntLetters", name := "law", desc := "()I" } : Jvm.MethodName)) ∈ lw_all := lw_g (lw_at lw_m2 38 rfl) rfl
theorem q339 : (Jvm.Cond.codeWith ({ cls := "BurntLetters", name := "law", desc := "()I" } : Jvm.MethodName) prog_1_method_12_code (3 : Nat) (Option.some Jvm.ClassFile.FieldType.int) [((0 : Nat), (87 : Nat), (88 : Nat), (82 : Nat))]) ∈ lw_all := lw_g (lw_at lw_m2 39 rfl) rfl
theorem q340 : (Jvm.Cond.methodLink "BurntLetters" (102 : Nat) ({ cls := "java/util/ArrayList", name := "clear", desc := "()V" } : Jvm.MethodName)) ∈ lw_all := lw_g (lw_at lw_m2 40 rfl) rfl
theorem q345 : (Jvm.Cond.instanceMethod ({ cls := "BurntLetters", name := "under", desc := "(II)I" } : Jvm.MethodName)) ∈ lw_all := lw_g (lw_at lw_m2 45 rfl) rfl
theorem q346 : (Jvm.Cond.selects "BurntLetters" ({ cls := "BurntLetters", name := "under", desc := "(II)I" } : Jvm.MethodName) ({ cls := "BurntLetters", name := "under", desc := "(II)I" } : Jvm.MethodName)) ∈ lw_all := lw_g (lw_at lw_m2 46 rfl) rfl
theorem q347 : (Jvm.Cond.code ({ cls := "BurntLetters", name := "under", desc := "(II)I" } : Jvm.MethodName) prog_1_method_13_code (3 : Nat) (Option.some Jvm.ClassFile.FieldType.int)) ∈ lw_all := lw_g (lw_at lw_m2 47 rfl) rfl
theorem q348 : (Jvm.Cond.methodLink "BurntLetters" (108 : Nat) ({ cls := "BurntLetters", name := "isLetter", desc := "(I)Z" } : Jvm.MethodName)) ∈ lw_all := lw_g (lw_at lw_m2 48 rfl) rfl
theorem q349 : (Jvm.Cond.static ({ cls := "BurntLetters", name := "isLetter", desc := "(I)Z" } : Jvm.MethodName)) ∈ lw_all := lw_g (lw_at lw_m2 49 rfl) rfl
theorem q350 : (Jvm.Cond.code ({ cls := "BurntLetters", name := "isLetter", desc := "(I)Z" } : Jvm.MethodName) prog_1_method_8_code (1 : Nat) (Option.some Jvm.ClassFile.FieldType.boolean)) ∈ lw_all := lw_g (lw_at lw_m2 50 rfl) rfl
theorem q351 : (Jvm.Cond.methodLink "BurntLetters" (112 : Nat) ({ cls := "BurntLetters$Archive", name := "under", desc := "(I)I" } : Jvm.MethodName)) ∈ lw_all := lw_g (lw_at lw_m2 51 rfl) rfl
theorem q360 : (Jvm.Cond.instanceMethod ({ cls := "BurntLetters", name := "file", desc := "(II)I" } : Jvm.MethodName)) ∈ lw_all := lw_g (lw_at lw_m2 60 rfl) rfl
theorem q361 : (Jvm.Cond.selects "BurntLetters" ({ cls := "BurntLetters", name := "file", desc := "(II)I" } : Jvm.MethodName) ({ cls := "BurntLetters", name := "file", desc := "(II)I" } : Jvm.MethodName)) ∈ lw_all := lw_g (lw_at lw_m2 61 rfl) rfl
theorem q362 : (Jvm.Cond.code ({ cls := "BurntLetters", name := "file", desc := "(II)I" } : Jvm.MethodName) prog_1_method_14_code (4 : Nat) (Option.some Jvm.ClassFile.FieldType.int)) ∈ lw_all := lw_g (lw_at lw_m2 62 rfl) rfl
theorem q363 : (Jvm.Cond.methodLink "BurntLetters" (63 : Nat) ({ cls := "java/util/ArrayList", name := "size", desc := "()I" } : Jvm.MethodName)) ∈ lw_all := lw_g (lw_at lw_m2 63 rfl) rfl
theorem q364 : (Jvm.Cond.methodLink "BurntLetters" (124 : Nat) ({ cls := "BurntLetters", name := "made", desc := "(I)LBurntLetters$Paper;" } : Jvm.MethodName)) ∈ lw_all := lw_g (lw_at lw_m2 64 rfl) rfl
theorem q365 : (Jvm.Cond.static ({ cls := "BurntLetters", name := "made", desc := "(I)LBurntLetters$Paper;" } : Jvm.MethodName)) ∈ lw_all := lw_g (lw_at lw_m2 65 rfl) rfl
theorem q366 : (Jvm.Cond.code ({ cls := "BurntLetters", name := "made", desc := "(I)LBurntLetters$Paper;" } : Jvm.MethodName) prog_1_method_6_code (1 : Nat) (Option.some (Jvm.ClassFile.FieldType.object "BurntLetters$Paper"))) ∈ lw_all := lw_g (lw_at lw_m2 66 rfl) rfl
theorem q367 : (Jvm.Cond.classLink "BurntLetters" (48 : Nat) "BurntLetters$Rumour") ∈ lw_all := lw_g (lw_at lw_m2 67 rfl) rfl
theorem q369 : (Jvm.Cond.methodLinkNest "BurntLetters" (50 : Nat) ({ cls := "BurntLetters$Rumour", name := "<init>", desc := "()V" } : Jvm.MethodName) "BurntLetters") ∈ lw_tbl := lw_at lw_m2 69 rfl
theorem q377 : (Jvm.Cond.classLink "BurntLetters" (51 : Nat) "BurntLetters$Deed") ∈ lw_all := lw_g (lw_at lw_m2 77 rfl) rfl
theorem q379 : (Jvm.Cond.methodLinkNest "BurntLetters" (53 : Nat) ({ cls := "BurntLetters$Deed", name := "<init>", desc := "()V" } : Jvm.MethodName) "BurntLetters") ∈ lw_tbl := lw_at lw_m2 79 rfl
theorem q384 : (Jvm.Cond.classLink "BurntLetters" (54 : Nat) "BurntLetters$River") ∈ lw_all := lw_g (lw_at lw_m2 84 rfl) rfl
theorem q386 : (Jvm.Cond.methodLinkNest "BurntLetters" (56 : Nat) ({ cls := "BurntLetters$River", name := "<init>", desc := "()V" } : Jvm.MethodName) "BurntLetters") ∈ lw_tbl := lw_at lw_m2 86 rfl
theorem q391 : (Jvm.Cond.classLink "BurntLetters" (57 : Nat) "BurntLetters$Flood") ∈ lw_all := lw_g (lw_at lw_m2 91 rfl) rfl
theorem q393 : (Jvm.Cond.methodLinkNest "BurntLetters" (59 : Nat) ({ cls := "BurntLetters$Flood", name := "<init>", desc := "()V" } : Jvm.MethodName) "BurntLetters") ∈ lw_tbl := lw_at lw_m2 93 rfl
theorem q398 : (Jvm.Cond.classLink "BurntLetters" (60 : Nat) "BurntLetters$Paper") ∈ lw_all := lw_g (lw_at lw_m2 98 rfl) rfl
theorem q400 : (Jvm.Cond.methodLinkNest "BurntLetters" (62 : Nat) ({ cls := "BurntLetters$Paper", name := "<init>", desc := "()V" } : Jvm.MethodName) "BurntLetters") ∈ lw_tbl := lw_at lw_m2 100 rfl
theorem q402 : (Jvm.Cond.methodLink "BurntLetters" (128 : Nat) ({ cls := "java/util/ArrayList", name := "add", desc := "(Ljava/lang/Object;)Z" } : Jvm.MethodName)) ∈ lw_all := lw_g (lw_at lw_m2 102 rfl) rfl
theorem q434 : (Jvm.Cond.selects "BurntLetters" ({ cls := "java/lang/Object", name := "getClass", desc := "()Ljava/lang/Class;" } : Jvm.MethodName) ({ cls := "java/lang/Object", name := "getClass", desc := "()Ljava/lang/Class;" } : Jvm.MethodName)) ∈ lw_all := lw_g (lw_at lw_m2 134 rfl) rfl
theorem q459 : (Jvm.Cond.instanceMethod ({ cls := "BurntLetters", name := "about", desc := "(II)I" } : Jvm.MethodName)) ∈ lw_all := lw_g (lw_at lw_m2 159 rfl) rfl
theorem q460 : (Jvm.Cond.selects "BurntLetters" ({ cls := "BurntLetters", name := "about", desc := "(II)I" } : Jvm.MethodName) ({ cls := "BurntLetters", name := "about", desc := "(II)I" } : Jvm.MethodName)) ∈ lw_all := lw_g (lw_at lw_m2 160 rfl) rfl
theorem q461 : (Jvm.Cond.code ({ cls := "BurntLetters", name := "about", desc := "(II)I" } : Jvm.MethodName) prog_1_method_16_code (3 : Nat) (Option.some Jvm.ClassFile.FieldType.int)) ∈ lw_all := lw_g (lw_at lw_m2 161 rfl) rfl
theorem q462 : (Jvm.Cond.methodLink "BurntLetters" (145 : Nat) ({ cls := "BurntLetters", name := "isFile", desc := "(I)Z" } : Jvm.MethodName)) ∈ lw_all := lw_g (lw_at lw_m2 162 rfl) rfl
theorem q463 : (Jvm.Cond.privateMethod ({ cls := "BurntLetters", name := "isFile", desc := "(I)Z" } : Jvm.MethodName)) ∈ lw_tbl := lw_at lw_m2 163 rfl
theorem q464 : (Jvm.Cond.instanceMethod ({ cls := "BurntLetters", name := "isFile", desc := "(I)Z" } : Jvm.MethodName)) ∈ lw_all := lw_g (lw_at lw_m2 164 rfl) rfl
theorem q465 : (Jvm.Cond.code ({ cls := "BurntLetters", name := "isFile", desc := "(I)Z" } : Jvm.MethodName) prog_1_method_7_code (2 : Nat) (Option.some Jvm.ClassFile.FieldType.boolean)) ∈ lw_all := lw_g (lw_at lw_m2 165 rfl) rfl
theorem q466 : (Jvm.Cond.methodLink "BurntLetters" (148 : Nat) ({ cls := "BurntLetters", name := "told", desc := "(II)I" } : Jvm.MethodName)) ∈ lw_all := lw_g (lw_at lw_m2 166 rfl) rfl
theorem q467 : (Jvm.Cond.privateMethod ({ cls := "BurntLetters", name := "told", desc := "(II)I" } : Jvm.MethodName)) ∈ lw_tbl := lw_at lw_m2 167 rfl
theorem q468 : (Jvm.Cond.instanceMethod ({ cls := "BurntLetters", name := "told", desc := "(II)I" } : Jvm.MethodName)) ∈ lw_all := lw_g (lw_at lw_m2 168 rfl) rfl
theorem q469 : (Jvm.Cond.code ({ cls := "BurntLetters", name := "told", desc := "(II)I" } : Jvm.MethodName) prog_1_method_15_code (3 : Nat) (Option.some Jvm.ClassFile.FieldType.int)) ∈ lw_all := lw_g (lw_at lw_m2 169 rfl) rfl
theorem q470 : (Jvm.Cond.methodLink "BurntLetters" (132 : Nat) ({ cls := "java/util/ArrayList", name := "get", desc := "(I)Ljava/lang/Object;" } : Jvm.MethodName)) ∈ lw_all := lw_g (lw_at lw_m2 170 rfl) rfl
theorem q484 : (Jvm.Cond.methodLink "BurntLetters" (136 : Nat) ({ cls := "BurntLetters$Paper", name := "kind", desc := "()I" } : Jvm.MethodName)) ∈ lw_all := lw_g (lw_at lw_m2 184 rfl) rfl
theorem q501 : (Jvm.Cond.methodLink "BurntLetters" (139 : Nat) ({ cls := "BurntLetters$Archive", name := "lives", desc := "(I)Z" } : Jvm.MethodName)) ∈ lw_all := lw_g (lw_at lw_m2 201 rfl) rfl
theorem q505 : (Jvm.Cond.methodLink "BurntLetters" (142 : Nat) ({ cls := "BurntLetters$Paper", name := "names", desc := "()I" } : Jvm.MethodName)) ∈ lw_all := lw_g (lw_at lw_m2 205 rfl) rfl
theorem q520 : (Jvm.Cond.instanceMethod ({ cls := "BurntLetters", name := "as", desc := "(II)I" } : Jvm.MethodName)) ∈ lw_all := lw_g (lw_at lw_m2 220 rfl) rfl
theorem q521 : (Jvm.Cond.selects "BurntLetters" ({ cls := "BurntLetters", name := "as", desc := "(II)I" } : Jvm.MethodName) ({ cls := "BurntLetters", name := "as", desc := "(II)I" } : Jvm.MethodName)) ∈ lw_all := lw_g (lw_at lw_m2 221 rfl) rfl
theorem q522 : (Jvm.Cond.code ({ cls := "BurntLetters", name := "as", desc := "(II)I" } : Jvm.MethodName) prog_1_method_17_code (3 : Nat) (Option.some Jvm.ClassFile.FieldType.int)) ∈ lw_all := lw_g (lw_at lw_m2 222 rfl) rfl
theorem q523 : (Jvm.Cond.methodLink "BurntLetters" (152 : Nat) ({ cls := "BurntLetters$Paper", name := "isOf", desc := "(I)Z" } : Jvm.MethodName)) ∈ lw_all := lw_g (lw_at lw_m2 223 rfl) rfl
theorem q540 : (Jvm.Cond.instanceMethod ({ cls := "BurntLetters", name := "copy", desc := "(II)I" } : Jvm.MethodName)) ∈ lw_all := lw_g (lw_at lw_m3 0 rfl) rfl
theorem q541 : (Jvm.Cond.selects "BurntLetters" ({ cls := "BurntLetters", name := "copy", desc := "(II)I" } : Jvm.MethodName) ({ cls := "BurntLetters", name := "copy", desc := "(II)I" } : Jvm.MethodName)) ∈ lw_all := lw_g (lw_at lw_m3 1 rfl) rfl
theorem q542 : (Jvm.Cond.code ({ cls := "BurntLetters", name := "copy", desc := "(II)I" } : Jvm.MethodName) prog_1_method_18_code (3 : Nat) (Option.some Jvm.ClassFile.FieldType.int)) ∈ lw_all := lw_g (lw_at lw_m3 2 rfl) rfl
theorem q543 : (Jvm.Cond.methodLink "BurntLetters" (155 : Nat) ({ cls := "BurntLetters$Archive", name := "mayCopy", desc := "(II)Z" } : Jvm.MethodName)) ∈ lw_all := lw_g (lw_at lw_m3 3 rfl) rfl
theorem q549 : (Jvm.Cond.static ({ cls := "BurntLetters", name := "isIn", desc := "(II)Z" } : Jvm.MethodName)) ∈ lw_all := lw_g (lw_at lw_m3 9 rfl) rfl
theorem q550 : (Jvm.Cond.code ({ cls := "BurntLetters", name := "isIn", desc := "(II)Z" } : Jvm.MethodName) prog_1_method_2_code (2 : Nat) (Option.some Jvm.ClassFile.FieldType.boolean)) ∈ lw_all := lw_g (lw_at lw_m3 10 rfl) rfl
theorem q561 : (Jvm.Cond.methodLink "BurntLetters" (159 : Nat) ({ cls := "java/lang/Integer", name := "bitCount", desc := "(I)I" } : Jvm.MethodName)) ∈ lw_all := lw_g (lw_at lw_m3 21 rfl) rfl
theorem q563 : (Jvm.Cond.instanceMethod ({ cls := "BurntLetters", name := "rename", desc := "(III)I" } : Jvm.MethodName)) ∈ lw_all := lw_g (lw_at lw_m3 23 rfl) rfl
theorem q564 : (Jvm.Cond.selects "BurntLetters" ({ cls := "BurntLetters", name := "rename", desc := "(III)I" } : Jvm.MethodName) ({ cls := "BurntLetters", name := "rename", desc := "(III)I" } : Jvm.MethodName)) ∈ lw_all := lw_g (lw_at lw_m3 24 rfl) rfl
theorem q565 : (Jvm.Cond.code ({ cls := "BurntLetters", name := "rename", desc := "(III)I" } : Jvm.MethodName) prog_1_method_19_code (4 : Nat) (Option.some Jvm.ClassFile.FieldType.int)) ∈ lw_all := lw_g (lw_at lw_m3 25 rfl) rfl
theorem q566 : (Jvm.Cond.methodLink "BurntLetters" (164 : Nat) ({ cls := "BurntLetters$Archive", name := "mayRename", desc := "(III)Z" } : Jvm.MethodName)) ∈ lw_all := lw_g (lw_at lw_m3 26 rfl) rfl
theorem q570 : (Jvm.Cond.methodLink "BurntLetters" (167 : Nat) ({ cls := "BurntLetters$Archive", name := "rename", desc := "(III)V" } : Jvm.MethodName)) ∈ lw_all := lw_g (lw_at lw_m3 30 rfl) rfl
theorem q575 : (Jvm.Cond.instanceMethod ({ cls := "BurntLetters", name := "point", desc := "(II)I" } : Jvm.MethodName)) ∈ lw_all := lw_g (lw_at lw_m3 35 rfl) rfl
theorem q576 : (Jvm.Cond.selects "BurntLetters" ({ cls := "BurntLetters", name := "point", desc := "(II)I" } : Jvm.MethodName) ({ cls := "BurntLetters", name := "point", desc := "(II)I" } : Jvm.MethodName)) ∈ lw_all := lw_g (lw_at lw_m3 36 rfl) rfl
theorem q577 : (Jvm.Cond.code ({ cls := "BurntLetters", name := "point", desc := "(II)I" } : Jvm.MethodName) prog_1_method_20_code (4 : Nat) (Option.some Jvm.ClassFile.FieldType.int)) ∈ lw_all := lw_g (lw_at lw_m3 37 rfl) rfl
theorem q579 : (Jvm.Cond.instanceMethod ({ cls := "BurntLetters", name := "burn", desc := "(I)I" } : Jvm.MethodName)) ∈ lw_all := lw_g (lw_at lw_m3 39 rfl) rfl
theorem q580 : (Jvm.Cond.selects "BurntLetters" ({ cls := "BurntLetters", name := "burn", desc := "(I)I" } : Jvm.MethodName) ({ cls := "BurntLetters", name := "burn", desc := "(I)I" } : Jvm.MethodName)) ∈ lw_all := lw_g (lw_at lw_m3 40 rfl) rfl
theorem q581 : (Jvm.Cond.code ({ cls := "BurntLetters", name := "burn", desc := "(I)I" } : Jvm.MethodName) prog_1_method_21_code (2 : Nat) (Option.some Jvm.ClassFile.FieldType.int)) ∈ lw_all := lw_g (lw_at lw_m3 41 rfl) rfl
theorem q582 : (Jvm.Cond.methodLink "BurntLetters" (171 : Nat) ({ cls := "BurntLetters$Archive", name := "burn", desc := "(I)I" } : Jvm.MethodName)) ∈ lw_all := lw_g (lw_at lw_m3 42 rfl) rfl
theorem q642 : (Jvm.Cond.instanceMethod ({ cls := "BurntLetters", name := "odds", desc := "(III)I" } : Jvm.MethodName)) ∈ lw_all := lw_g (lw_at lw_m3 102 rfl) rfl
theorem q643 : (Jvm.Cond.selects "BurntLetters" ({ cls := "BurntLetters", name := "odds", desc := "(III)I" } : Jvm.MethodName) ({ cls := "BurntLetters", name := "odds", desc := "(III)I" } : Jvm.MethodName)) ∈ lw_all := lw_g (lw_at lw_m3 103 rfl) rfl
theorem q644 : (Jvm.Cond.code ({ cls := "BurntLetters", name := "odds", desc := "(III)I" } : Jvm.MethodName) prog_1_method_24_code (4 : Nat) (Option.some Jvm.ClassFile.FieldType.int)) ∈ lw_all := lw_g (lw_at lw_m3 104 rfl) rfl
theorem q645 : (Jvm.Cond.methodLink "BurntLetters" (188 : Nat) ({ cls := "BurntLetters", name := "oddsOf", desc := "(III)I" } : Jvm.MethodName)) ∈ lw_all := lw_g (lw_at lw_m3 105 rfl) rfl
theorem q646 : (Jvm.Cond.privateMethod ({ cls := "BurntLetters", name := "oddsOf", desc := "(III)I" } : Jvm.MethodName)) ∈ lw_tbl := lw_at lw_m3 106 rfl
theorem q647 : (Jvm.Cond.instanceMethod ({ cls := "BurntLetters", name := "oddsOf", desc := "(III)I" } : Jvm.MethodName)) ∈ lw_all := lw_g (lw_at lw_m3 107 rfl) rfl
theorem q648 : (Jvm.Cond.code ({ cls := "BurntLetters", name := "oddsOf", desc := "(III)I" } : Jvm.MethodName) prog_1_method_23_code (4 : Nat) (Option.some Jvm.ClassFile.FieldType.int)) ∈ lw_all := lw_g (lw_at lw_m3 108 rfl) rfl
theorem q649 : (Jvm.Cond.methodLink "BurntLetters" (181 : Nat) ({ cls := "BurntLetters", name := "livesIn", desc := "(III)I" } : Jvm.MethodName)) ∈ lw_all := lw_g (lw_at lw_m3 109 rfl) rfl
theorem q650 : (Jvm.Cond.privateMethod ({ cls := "BurntLetters", name := "livesIn", desc := "(III)I" } : Jvm.MethodName)) ∈ lw_tbl := lw_at lw_m3 110 rfl
theorem q651 : (Jvm.Cond.instanceMethod ({ cls := "BurntLetters", name := "livesIn", desc := "(III)I" } : Jvm.MethodName)) ∈ lw_all := lw_g (lw_at lw_m3 111 rfl) rfl
theorem q652 : (Jvm.Cond.code ({ cls := "BurntLetters", name := "livesIn", desc := "(III)I" } : Jvm.MethodName) prog_1_method_22_code (9 : Nat) (Option.some Jvm.ClassFile.FieldType.int)) ∈ lw_all := lw_g (lw_at lw_m3 112 rfl) rfl
theorem q653 : (Jvm.Cond.methodLink "BurntLetters" (174 : Nat) ({ cls := "BurntLetters", name := "power", desc := "(II)I" } : Jvm.MethodName)) ∈ lw_all := lw_g (lw_at lw_m3 113 rfl) rfl
theorem q654 : (Jvm.Cond.static ({ cls := "BurntLetters", name := "power", desc := "(II)I" } : Jvm.MethodName)) ∈ lw_all := lw_g (lw_at lw_m3 114 rfl) rfl
theorem q655 : (Jvm.Cond.code ({ cls := "BurntLetters", name := "power", desc := "(II)I" } : Jvm.MethodName) prog_1_method_4_code (4 : Nat) (Option.some Jvm.ClassFile.FieldType.int)) ∈ lw_all := lw_g (lw_at lw_m3 115 rfl) rfl
theorem q656 : (Jvm.Cond.methodLink "BurntLetters" (177 : Nat) ({ cls := "BurntLetters$Archive", name := "become", desc := "(LBurntLetters$Archive;)V" } : Jvm.MethodName)) ∈ lw_all := lw_g (lw_at lw_m3 116 rfl) rfl
theorem q660 : (Jvm.Cond.methodLink "BurntLetters" (185 : Nat) ({ cls := "BurntLetters", name := "lowest", desc := "(III)I" } : Jvm.MethodName)) ∈ lw_all := lw_g (lw_at lw_m3 120 rfl) rfl
theorem q661 : (Jvm.Cond.static ({ cls := "BurntLetters", name := "lowest", desc := "(III)I" } : Jvm.MethodName)) ∈ lw_all := lw_g (lw_at lw_m3 121 rfl) rfl
theorem q662 : (Jvm.Cond.code ({ cls := "BurntLetters", name := "lowest", desc := "(III)I" } : Jvm.MethodName) prog_1_method_3_code (6 : Nat) (Option.some Jvm.ClassFile.FieldType.int)) ∈ lw_all := lw_g (lw_at lw_m3 122 rfl) rfl
theorem q664 : (Jvm.Cond.instanceMethod ({ cls := "BurntLetters", name := "where", desc := "(II)I" } : Jvm.MethodName)) ∈ lw_all := lw_g (lw_at lw_m3 124 rfl) rfl
theorem q665 : (Jvm.Cond.selects "BurntLetters" ({ cls := "BurntLetters", name := "where", desc := "(II)I" } : Jvm.MethodName) ({ cls := "BurntLetters", name := "where", desc := "(II)I" } : Jvm.MethodName)) ∈ lw_all := lw_g (lw_at lw_m3 125 rfl) rfl
theorem q666 : (Jvm.Cond.code ({ cls := "BurntLetters", name := "where", desc := "(II)I" } : Jvm.MethodName) prog_1_method_26_code (3 : Nat) (Option.some Jvm.ClassFile.FieldType.int)) ∈ lw_all := lw_g (lw_at lw_m3 126 rfl) rfl
theorem q667 : (Jvm.Cond.methodLink "BurntLetters" (196 : Nat) ({ cls := "BurntLetters", name := "whereOf", desc := "(II)I" } : Jvm.MethodName)) ∈ lw_all := lw_g (lw_at lw_m3 127 rfl) rfl
theorem q668 : (Jvm.Cond.privateMethod ({ cls := "BurntLetters", name := "whereOf", desc := "(II)I" } : Jvm.MethodName)) ∈ lw_tbl := lw_at lw_m3 128 rfl
theorem q669 : (Jvm.Cond.instanceMethod ({ cls := "BurntLetters", name := "whereOf", desc := "(II)I" } : Jvm.MethodName)) ∈ lw_all := lw_g (lw_at lw_m3 129 rfl) rfl
theorem q670 : (Jvm.Cond.code ({ cls := "BurntLetters", name := "whereOf", desc := "(II)I" } : Jvm.MethodName) prog_1_method_25_code (7 : Nat) (Option.some Jvm.ClassFile.FieldType.int)) ∈ lw_all := lw_g (lw_at lw_m3 130 rfl) rfl
theorem q671 : (Jvm.Cond.methodLink "BurntLetters" (191 : Nat) ({ cls := "java/lang/Math", name := "max", desc := "(II)I" } : Jvm.MethodName)) ∈ lw_all := lw_g (lw_at lw_m3 131 rfl) rfl
theorem q673 : (Jvm.Cond.instanceMethod ({ cls := "BurntLetters", name := "sure", desc := "(III)I" } : Jvm.MethodName)) ∈ lw_all := lw_g (lw_at lw_m3 133 rfl) rfl
theorem q674 : (Jvm.Cond.selects "BurntLetters" ({ cls := "BurntLetters", name := "sure", desc := "(III)I" } : Jvm.MethodName) ({ cls := "BurntLetters", name := "sure", desc := "(III)I" } : Jvm.MethodName)) ∈ lw_all := lw_g (lw_at lw_m3 134 rfl) rfl
theorem q675 : (Jvm.Cond.code ({ cls := "BurntLetters", name := "sure", desc := "(III)I" } : Jvm.MethodName) prog_1_method_29_code (4 : Nat) (Option.some Jvm.ClassFile.FieldType.int)) ∈ lw_all := lw_g (lw_at lw_m3 135 rfl) rfl
theorem q676 : (Jvm.Cond.methodLink "BurntLetters" (209 : Nat) ({ cls := "BurntLetters", name := "sureTold", desc := "(III)I" } : Jvm.MethodName)) ∈ lw_all := lw_g (lw_at lw_m3 136 rfl) rfl
theorem q677 : (Jvm.Cond.privateMethod ({ cls := "BurntLetters", name := "sureTold", desc := "(III)I" } : Jvm.MethodName)) ∈ lw_tbl := lw_at lw_m3 137 rfl
theorem q678 : (Jvm.Cond.instanceMethod ({ cls := "BurntLetters", name := "sureTold", desc := "(III)I" } : Jvm.MethodName)) ∈ lw_all := lw_g (lw_at lw_m3 138 rfl) rfl
theorem q679 : (Jvm.Cond.code ({ cls := "BurntLetters", name := "sureTold", desc := "(III)I" } : Jvm.MethodName) prog_1_method_28_code (7 : Nat) (Option.some Jvm.ClassFile.FieldType.int)) ∈ lw_all := lw_g (lw_at lw_m3 139 rfl) rfl
theorem q680 : (Jvm.Cond.methodLink "BurntLetters" (202 : Nat) ({ cls := "BurntLetters", name := "isSure", desc := "(LBurntLetters$Paper;II)Z" } : Jvm.MethodName)) ∈ lw_all := lw_g (lw_at lw_m3 140 rfl) rfl
theorem q681 : (Jvm.Cond.privateMethod ({ cls := "BurntLetters", name := "isSure", desc := "(LBurntLetters$Paper;II)Z" } : Jvm.MethodName)) ∈ lw_tbl := lw_at lw_m3 141 rfl
theorem q682 : (Jvm.Cond.instanceMethod ({ cls := "BurntLetters", name := "isSure", desc := "(LBurntLetters$Paper;II)Z" } : Jvm.MethodName)) ∈ lw_all := lw_g (lw_at lw_m3 142 rfl) rfl
theorem q683 : (Jvm.Cond.code ({ cls := "BurntLetters", name := "isSure", desc := "(LBurntLetters$Paper;II)Z" } : Jvm.MethodName) prog_1_method_27_code (9 : Nat) (Option.some Jvm.ClassFile.FieldType.boolean)) ∈ lw_all := lw_g (lw_at lw_m3 143 rfl) rfl
theorem q684 : (Jvm.Cond.methodLink "BurntLetters" (199 : Nat) ({ cls := "BurntLetters$Paper", name := "burntBy", desc := "(II)I" } : Jvm.MethodName)) ∈ lw_all := lw_g (lw_at lw_m3 144 rfl) rfl
theorem q686 : (Jvm.Cond.instanceMethod ({ cls := "BurntLetters", name := "nowhere", desc := "()I" } : Jvm.MethodName)) ∈ lw_all := lw_g (lw_at lw_m3 146 rfl) rfl
theorem q687 : (Jvm.Cond.selects "BurntLetters" ({ cls := "BurntLetters", name := "nowhere", desc := "()I" } : Jvm.MethodName) ({ cls := "BurntLetters", name := "nowhere", desc := "()I" } : Jvm.MethodName)) ∈ lw_all := lw_g (lw_at lw_m3 147 rfl) rfl
theorem q688 : (Jvm.Cond.code ({ cls := "BurntLetters", name := "nowhere", desc := "()I" } : Jvm.MethodName) prog_1_method_31_code (1 : Nat) (Option.some Jvm.ClassFile.FieldType.int)) ∈ lw_all := lw_g (lw_at lw_m3 148 rfl) rfl
theorem q689 : (Jvm.Cond.methodLink "BurntLetters" (212 : Nat) ({ cls := "BurntLetters", name := "nowhereNow", desc := "()I" } : Jvm.MethodName)) ∈ lw_all := lw_g (lw_at lw_m3 149 rfl) rfl
theorem q690 : (Jvm.Cond.privateMethod ({ cls := "BurntLetters", name := "nowhereNow", desc := "()I" } : Jvm.MethodName)) ∈ lw_tbl := lw_at lw_m3 150 rfl
theorem q691 : (Jvm.Cond.instanceMethod ({ cls := "BurntLetters", name := "nowhereNow", desc := "()I" } : Jvm.MethodName)) ∈ lw_all := lw_g (lw_at lw_m3 151 rfl) rfl
theorem q692 : (Jvm.Cond.code ({ cls := "BurntLetters", name := "nowhereNow", desc := "()I" } : Jvm.MethodName) prog_1_method_30_code (4 : Nat) (Option.some Jvm.ClassFile.FieldType.int)) ∈ lw_all := lw_g (lw_at lw_m3 152 rfl) rfl
theorem q694 : (Jvm.Cond.instanceMethod ({ cls := "BurntLetters", name := "moving", desc := "(I)I" } : Jvm.MethodName)) ∈ lw_all := lw_g (lw_at lw_m3 154 rfl) rfl
theorem q695 : (Jvm.Cond.selects "BurntLetters" ({ cls := "BurntLetters", name := "moving", desc := "(I)I" } : Jvm.MethodName) ({ cls := "BurntLetters", name := "moving", desc := "(I)I" } : Jvm.MethodName)) ∈ lw_all := lw_g (lw_at lw_m3 155 rfl) rfl
theorem q696 : (Jvm.Cond.code ({ cls := "BurntLetters", name := "moving", desc := "(I)I" } : Jvm.MethodName) prog_1_method_35_code (2 : Nat) (Option.some Jvm.ClassFile.FieldType.int)) ∈ lw_all := lw_g (lw_at lw_m3 156 rfl) rfl
theorem q697 : (Jvm.Cond.methodLink "BurntLetters" (227 : Nat) ({ cls := "BurntLetters", name := "movingTold", desc := "(I)I" } : Jvm.MethodName)) ∈ lw_all := lw_g (lw_at lw_m3 157 rfl) rfl
theorem q698 : (Jvm.Cond.privateMethod ({ cls := "BurntLetters", name := "movingTold", desc := "(I)I" } : Jvm.MethodName)) ∈ lw_tbl := lw_at lw_m3 158 rfl
theorem q699 : (Jvm.Cond.instanceMethod ({ cls := "BurntLetters", name := "movingTold", desc := "(I)I" } : Jvm.MethodName)) ∈ lw_all := lw_g (lw_at lw_m3 159 rfl) rfl
theorem q700 : (Jvm.Cond.code ({ cls := "BurntLetters", name := "movingTold", desc := "(I)I" } : Jvm.MethodName) prog_1_method_34_code (3 : Nat) (Option.some Jvm.ClassFile.FieldType.int)) ∈ lw_all := lw_g (lw_at lw_m3 160 rfl) rfl
theorem q701 : (Jvm.Cond.methodLink "BurntLetters" (221 : Nat) ({ cls := "BurntLetters$Archive", name := "leavesAll", desc := "()I" } : Jvm.MethodName)) ∈ lw_all := lw_g (lw_at lw_m3 161 rfl) rfl
theorem q702 : (Jvm.Cond.methodLink "BurntLetters" (218 : Nat) ({ cls := "BurntLetters", name := "isEnough", desc := "(II)Z" } : Jvm.MethodName)) ∈ lw_all := lw_g (lw_at lw_m3 162 rfl) rfl
theorem q703 : (Jvm.Cond.privateMethod ({ cls := "BurntLetters", name := "isEnough", desc := "(II)Z" } : Jvm.MethodName)) ∈ lw_tbl := lw_at lw_m3 163 rfl
theorem q704 : (Jvm.Cond.instanceMethod ({ cls := "BurntLetters", name := "isEnough", desc := "(II)Z" } : Jvm.MethodName)) ∈ lw_all := lw_g (lw_at lw_m3 164 rfl) rfl
theorem q705 : (Jvm.Cond.code ({ cls := "BurntLetters", name := "isEnough", desc := "(II)Z" } : Jvm.MethodName) prog_1_method_33_code (8 : Nat) (Option.some Jvm.ClassFile.FieldType.boolean)) ∈ lw_all := lw_g (lw_at lw_m3 165 rfl) rfl
theorem q706 : (Jvm.Cond.methodLink "BurntLetters" (215 : Nat) ({ cls := "BurntLetters", name := "above", desc := "(I)I" } : Jvm.MethodName)) ∈ lw_all := lw_g (lw_at lw_m3 166 rfl) rfl
theorem q707 : (Jvm.Cond.privateMethod ({ cls := "BurntLetters", name := "above", desc := "(I)I" } : Jvm.MethodName)) ∈ lw_tbl := lw_at lw_m3 167 rfl
theorem q708 : (Jvm.Cond.instanceMethod ({ cls := "BurntLetters", name := "above", desc := "(I)I" } : Jvm.MethodName)) ∈ lw_all := lw_g (lw_at lw_m3 168 rfl) rfl
theorem q709 : (Jvm.Cond.code ({ cls := "BurntLetters", name := "above", desc := "(I)I" } : Jvm.MethodName) prog_1_method_32_code (4 : Nat) (Option.some Jvm.ClassFile.FieldType.int)) ∈ lw_all := lw_g (lw_at lw_m3 169 rfl) rfl
theorem q711 : (Jvm.Cond.instanceMethod ({ cls := "BurntLetters", name := "ashes", desc := "(I)I" } : Jvm.MethodName)) ∈ lw_all := lw_g (lw_at lw_m3 171 rfl) rfl
theorem q712 : (Jvm.Cond.selects "BurntLetters" ({ cls := "BurntLetters", name := "ashes", desc := "(I)I" } : Jvm.MethodName) ({ cls := "BurntLetters", name := "ashes", desc := "(I)I" } : Jvm.MethodName)) ∈ lw_all := lw_g (lw_at lw_m3 172 rfl) rfl
theorem q713 : (Jvm.Cond.code ({ cls := "BurntLetters", name := "ashes", desc := "(I)I" } : Jvm.MethodName) prog_1_method_36_code (2 : Nat) (Option.some Jvm.ClassFile.FieldType.int)) ∈ lw_all := lw_g (lw_at lw_m3 173 rfl) rfl
theorem q715 : (Jvm.Cond.instanceMethod ({ cls := "BurntLetters", name := "forget", desc := "()I" } : Jvm.MethodName)) ∈ lw_all := lw_g (lw_at lw_m3 175 rfl) rfl
theorem q716 : (Jvm.Cond.selects "BurntLetters" ({ cls := "BurntLetters", name := "forget", desc := "()I" } : Jvm.MethodName) ({ cls := "BurntLetters", name := "forget", desc := "()I" } : Jvm.MethodName)) ∈ lw_all := lw_g (lw_at lw_m3 176 rfl) rfl
theorem q717 : (Jvm.Cond.code ({ cls := "BurntLetters", name := "forget", desc := "()I" } : Jvm.MethodName) prog_1_method_37_code (2 : Nat) (Option.some Jvm.ClassFile.FieldType.int)) ∈ lw_all := lw_g (lw_at lw_m3 177 rfl) rfl
theorem q719 : (Jvm.Cond.instanceMethod ({ cls := "BurntLetters", name := "fits", desc := "()I" } : Jvm.MethodName)) ∈ lw_all := lw_g (lw_at lw_m3 179 rfl) rfl
theorem q720 : (Jvm.Cond.selects "BurntLetters" ({ cls := "BurntLetters", name := "fits", desc := "()I" } : Jvm.MethodName) ({ cls := "BurntLetters", name := "fits", desc := "()I" } : Jvm.MethodName)) ∈ lw_all := lw_g (lw_at lw_m3 180 rfl) rfl
theorem q721 : (Jvm.Cond.code ({ cls := "BurntLetters", name := "fits", desc := "()I" } : Jvm.MethodName) prog_1_method_40_code (1 : Nat) (Option.some Jvm.ClassFile.FieldType.int)) ∈ lw_all := lw_g (lw_at lw_m3 181 rfl) rfl
theorem q722 : (Jvm.Cond.methodLink "BurntLetters" (236 : Nat) ({ cls := "BurntLetters", name := "layFits", desc := "()I" } : Jvm.MethodName)) ∈ lw_all := lw_g (lw_at lw_m3 182 rfl) rfl
theorem q723 : (Jvm.Cond.privateMethod ({ cls := "BurntLetters", name := "layFits", desc := "()I" } : Jvm.MethodName)) ∈ lw_tbl := lw_at lw_m3 183 rfl
theorem q724 : (Jvm.Cond.instanceMethod ({ cls := "BurntLetters", name := "layFits", desc := "()I" } : Jvm.MethodName)) ∈ lw_all := lw_g (lw_at lw_m3 184 rfl) rfl
theorem q725 : (Jvm.Cond.code ({ cls := "BurntLetters", name := "layFits", desc := "()I" } : Jvm.MethodName) prog_1_method_39_code (5 : Nat) (Option.some Jvm.ClassFile.FieldType.int)) ∈ lw_all := lw_g (lw_at lw_m3 185 rfl) rfl
theorem q726 : (Jvm.Cond.methodLink "BurntLetters" (233 : Nat) ({ cls := "BurntLetters", name := "isSo", desc := "(I)Z" } : Jvm.MethodName)) ∈ lw_all := lw_g (lw_at lw_m3 186 rfl) rfl
theorem q727 : (Jvm.Cond.privateMethod ({ cls := "BurntLetters", name := "isSo", desc := "(I)Z" } : Jvm.MethodName)) ∈ lw_tbl := lw_at lw_m3 187 rfl
theorem q728 : (Jvm.Cond.instanceMethod ({ cls := "BurntLetters", name := "isSo", desc := "(I)Z" } : Jvm.MethodName)) ∈ lw_all := lw_g (lw_at lw_m3 188 rfl) rfl
theorem q729 : (Jvm.Cond.code ({ cls := "BurntLetters", name := "isSo", desc := "(I)Z" } : Jvm.MethodName) prog_1_method_38_code (5 : Nat) (Option.some Jvm.ClassFile.FieldType.boolean)) ∈ lw_all := lw_g (lw_at lw_m3 189 rfl) rfl
theorem q730 : (Jvm.Cond.methodLink "BurntLetters" (230 : Nat) ({ cls := "BurntLetters$Archive", name := "living", desc := "()I" } : Jvm.MethodName)) ∈ lw_all := lw_g (lw_at lw_m3 190 rfl) rfl
theorem q732 : (Jvm.Cond.instanceMethod ({ cls := "BurntLetters", name := "burnt", desc := "(I)I" } : Jvm.MethodName)) ∈ lw_all := lw_g (lw_at lw_m3 192 rfl) rfl
theorem q733 : (Jvm.Cond.selects "BurntLetters" ({ cls := "BurntLetters", name := "burnt", desc := "(I)I" } : Jvm.MethodName) ({ cls := "BurntLetters", name := "burnt", desc := "(I)I" } : Jvm.MethodName)) ∈ lw_all := lw_g (lw_at lw_m3 193 rfl) rfl
theorem q734 : (Jvm.Cond.code ({ cls := "BurntLetters", name := "burnt", desc := "(I)I" } : Jvm.MethodName) prog_1_method_42_code (2 : Nat) (Option.some Jvm.ClassFile.FieldType.int)) ∈ lw_all := lw_g (lw_at lw_m3 194 rfl) rfl
theorem q735 : (Jvm.Cond.methodLink "BurntLetters" (242 : Nat) ({ cls := "BurntLetters", name := "burntOf", desc := "(I)I" } : Jvm.MethodName)) ∈ lw_all := lw_g (lw_at lw_m3 195 rfl) rfl
theorem q736 : (Jvm.Cond.privateMethod ({ cls := "BurntLetters", name := "burntOf", desc := "(I)I" } : Jvm.MethodName)) ∈ lw_tbl := lw_at lw_m3 196 rfl
theorem q737 : (Jvm.Cond.instanceMethod ({ cls := "BurntLetters", name := "burntOf", desc := "(I)I" } : Jvm.MethodName)) ∈ lw_all := lw_g (lw_at lw_m3 197 rfl) rfl
theorem q738 : (Jvm.Cond.code ({ cls := "BurntLetters", name := "burntOf", desc := "(I)I" } : Jvm.MethodName) prog_1_method_41_code (3 : Nat) (Option.some Jvm.ClassFile.FieldType.int)) ∈ lw_all := lw_g (lw_at lw_m3 198 rfl) rfl
theorem q739 : (Jvm.Cond.methodLink "BurntLetters" (239 : Nat) ({ cls := "java/lang/Integer", name := "numberOfTrailingZeros", desc := "(I)I" } : Jvm.MethodName)) ∈ lw_all := lw_g (lw_at lw_m3 199 rfl) rfl
theorem q744 : (Jvm.Cond.instanceMethod ({ cls := "BurntLetters", name := "years", desc := "(III)I" } : Jvm.MethodName)) ∈ lw_all := lw_g (lw_at lw_m3 204 rfl) rfl
theorem q745 : (Jvm.Cond.selects "BurntLetters" ({ cls := "BurntLetters", name := "years", desc := "(III)I" } : Jvm.MethodName) ({ cls := "BurntLetters", name := "years", desc := "(III)I" } : Jvm.MethodName)) ∈ lw_all := lw_g (lw_at lw_m3 205 rfl) rfl
theorem q746 : (Jvm.Cond.code ({ cls := "BurntLetters", name := "years", desc := "(III)I" } : Jvm.MethodName) prog_1_method_46_code (4 : Nat) (Option.some Jvm.ClassFile.FieldType.int)) ∈ lw_all := lw_g (lw_at lw_m3 206 rfl) rfl
theorem q747 : (Jvm.Cond.methodLink "BurntLetters" (263 : Nat) ({ cls := "BurntLetters", name := "yearsTold", desc := "(III)I" } : Jvm.MethodName)) ∈ lw_all := lw_g (lw_at lw_m3 207 rfl) rfl
theorem q748 : (Jvm.Cond.privateMethod ({ cls := "BurntLetters", name := "yearsTold", desc := "(III)I" } : Jvm.MethodName)) ∈ lw_tbl := lw_at lw_m3 208 rfl
theorem q749 : (Jvm.Cond.instanceMethod ({ cls := "BurntLetters", name := "yearsTold", desc := "(III)I" } : Jvm.MethodName)) ∈ lw_all := lw_g (lw_at lw_m3 209 rfl) rfl
theorem q750 : (Jvm.Cond.code ({ cls := "BurntLetters", name := "yearsTold", desc := "(III)I" } : Jvm.MethodName) prog_1_method_45_code (5 : Nat) (Option.some Jvm.ClassFile.FieldType.int)) ∈ lw_all := lw_g (lw_at lw_m3 210 rfl) rfl
theorem q751 : (Jvm.Cond.methodLink "BurntLetters" (257 : Nat) ({ cls := "BurntLetters", name := "draw", desc := "(I)I" } : Jvm.MethodName)) ∈ lw_all := lw_g (lw_at lw_m3 211 rfl) rfl
theorem q752 : (Jvm.Cond.privateMethod ({ cls := "BurntLetters", name := "draw", desc := "(I)I" } : Jvm.MethodName)) ∈ lw_tbl := lw_at lw_m3 212 rfl
theorem q753 : (Jvm.Cond.instanceMethod ({ cls := "BurntLetters", name := "draw", desc := "(I)I" } : Jvm.MethodName)) ∈ lw_all := lw_g (lw_at lw_m3 213 rfl) rfl
theorem q754 : (Jvm.Cond.code ({ cls := "BurntLetters", name := "draw", desc := "(I)I" } : Jvm.MethodName) prog_1_method_43_code (2 : Nat) (Option.some Jvm.ClassFile.FieldType.int)) ∈ lw_all := lw_g (lw_at lw_m3 214 rfl) rfl
theorem q755 : (Jvm.Cond.constantLong "BurntLetters" (245 : Nat) (1103515245 : Int64)) ∈ lw_all := lw_g (lw_at lw_m3 215 rfl) rfl
theorem q756 : (Jvm.Cond.constantLong "BurntLetters" (251 : Nat) (12345 : Int64)) ∈ lw_all := lw_g (lw_at lw_m3 216 rfl) rfl
theorem q757 : (Jvm.Cond.constantLong "BurntLetters" (253 : Nat) (2147483647 : Int64)) ∈ lw_all := lw_g (lw_at lw_m3 217 rfl) rfl
theorem q758 : (Jvm.Cond.constantLong "BurntLetters" (255 : Nat) (65536 : Int64)) ∈ lw_all := lw_g (lw_at lw_m3 218 rfl) rfl
theorem q759 : (Jvm.Cond.methodLink "BurntLetters" (260 : Nat) ({ cls := "BurntLetters", name := "letterBy", desc := "(I)I" } : Jvm.MethodName)) ∈ lw_all := lw_g (lw_at lw_m3 219 rfl) rfl
theorem q760 : (Jvm.Cond.privateMethod ({ cls := "BurntLetters", name := "letterBy", desc := "(I)I" } : Jvm.MethodName)) ∈ lw_tbl := lw_at lw_m3 220 rfl
theorem q761 : (Jvm.Cond.instanceMethod ({ cls := "BurntLetters", name := "letterBy", desc := "(I)I" } : Jvm.MethodName)) ∈ lw_all := lw_g (lw_at lw_m3 221 rfl) rfl
theorem q762 : (Jvm.Cond.code ({ cls := "BurntLetters", name := "letterBy", desc := "(I)I" } : Jvm.MethodName) prog_1_method_44_code (4 : Nat) (Option.some Jvm.ClassFile.FieldType.int)) ∈ lw_all := lw_g (lw_at lw_m3 222 rfl) rfl
theorem q764 : (Jvm.Cond.instanceMethod ({ cls := "BurntLetters", name := "image", desc := "()I" } : Jvm.MethodName)) ∈ lw_all := lw_g (lw_at lw_m3 224 rfl) rfl
theorem q765 : (Jvm.Cond.selects "BurntLetters" ({ cls := "BurntLetters", name := "image", desc := "()I" } : Jvm.MethodName) ({ cls := "BurntLetters", name := "image", desc := "()I" } : Jvm.MethodName)) ∈ lw_all := lw_g (lw_at lw_m3 225 rfl) rfl
theorem q766 : (Jvm.Cond.code ({ cls := "BurntLetters", name := "image", desc := "()I" } : Jvm.MethodName) prog_1_method_47_code (2 : Nat) (Option.some Jvm.ClassFile.FieldType.int)) ∈ lw_all := lw_g (lw_at lw_m3 226 rfl) rfl
theorem q768 : (Jvm.Cond.instanceMethod ({ cls := "BurntLetters", name := "restore", desc := "()I" } : Jvm.MethodName)) ∈ lw_all := lw_g (lw_at lw_m3 228 rfl) rfl
theorem q769 : (Jvm.Cond.selects "BurntLetters" ({ cls := "BurntLetters", name := "restore", desc := "()I" } : Jvm.MethodName) ({ cls := "BurntLetters", name := "restore", desc := "()I" } : Jvm.MethodName)) ∈ lw_all := lw_g (lw_at lw_m3 229 rfl) rfl
theorem q770 : (Jvm.Cond.code ({ cls := "BurntLetters", name := "restore", desc := "()I" } : Jvm.MethodName) prog_1_method_48_code (2 : Nat) (Option.some Jvm.ClassFile.FieldType.int)) ∈ lw_all := lw_g (lw_at lw_m3 230 rfl) rfl
theorem q771 : (Jvm.Cond.methodLink "BurntLetters" (278 : Nat) ({ cls := "java/util/ArrayList", name := "remove", desc := "(I)Ljava/lang/Object;" } : Jvm.MethodName)) ∈ lw_all := lw_g (lw_at lw_m3 231 rfl) rfl
theorem q781 : (Jvm.Cond.instanceMethod ({ cls := "BurntLetters", name := "count", desc := "(I)I" } : Jvm.MethodName)) ∈ lw_all := lw_g (lw_at lw_m4 1 rfl) rfl
theorem q782 : (Jvm.Cond.selects "BurntLetters" ({ cls := "BurntLetters", name := "count", desc := "(I)I" } : Jvm.MethodName) ({ cls := "BurntLetters", name := "count", desc := "(I)I" } : Jvm.MethodName)) ∈ lw_all := lw_g (lw_at lw_m4 2 rfl) rfl
theorem q783 : (Jvm.Cond.code ({ cls := "BurntLetters", name := "count", desc := "(I)I" } : Jvm.MethodName) prog_1_method_50_code (2 : Nat) (Option.some Jvm.ClassFile.FieldType.int)) ∈ lw_all := lw_g (lw_at lw_m4 3 rfl) rfl
theorem q784 : (Jvm.Cond.methodLink "BurntLetters" (281 : Nat) ({ cls := "BurntLetters", name := "countOf", desc := "(I)I" } : Jvm.MethodName)) ∈ lw_all := lw_g (lw_at lw_m4 4 rfl) rfl
theorem q785 : (Jvm.Cond.privateMethod ({ cls := "BurntLetters", name := "countOf", desc := "(I)I" } : Jvm.MethodName)) ∈ lw_tbl := lw_at lw_m4 5 rfl
theorem q786 : (Jvm.Cond.instanceMethod ({ cls := "BurntLetters", name := "countOf", desc := "(I)I" } : Jvm.MethodName)) ∈ lw_all := lw_g (lw_at lw_m4 6 rfl) rfl
theorem q787 : (Jvm.Cond.code ({ cls := "BurntLetters", name := "countOf", desc := "(I)I" } : Jvm.MethodName) prog_1_method_49_code (2 : Nat) (Option.some Jvm.ClassFile.FieldType.int)) ∈ lw_all := lw_g (lw_at lw_m4 7 rfl) rfl
theorem q789 : (Jvm.Cond.instanceMethod ({ cls := "BurntLetters", name := "digest", desc := "()J" } : Jvm.MethodName)) ∈ lw_all := lw_g (lw_at lw_m4 9 rfl) rfl
theorem q790 : (Jvm.Cond.selects "BurntLetters" ({ cls := "BurntLetters", name := "digest", desc := "()J" } : Jvm.MethodName) ({ cls := "BurntLetters", name := "digest", desc := "()J" } : Jvm.MethodName)) ∈ lw_all := lw_g (lw_at lw_m4 10 rfl) rfl
theorem q791 : (Jvm.Cond.code ({ cls := "BurntLetters", name := "digest", desc := "()J" } : Jvm.MethodName) prog_1_method_53_code (4 : Nat) (Option.some Jvm.ClassFile.FieldType.long)) ∈ lw_all := lw_g (lw_at lw_m4 11 rfl) rfl
theorem q792 : (Jvm.Cond.constantLong "BurntLetters" (290 : Nat) (769 : Int64)) ∈ lw_all := lw_g (lw_at lw_m4 12 rfl) rfl
theorem q793 : (Jvm.Cond.methodLink "BurntLetters" (286 : Nat) ({ cls := "BurntLetters", name := "mixed", desc := "(JJ)J" } : Jvm.MethodName)) ∈ lw_all := lw_g (lw_at lw_m4 13 rfl) rfl
theorem q794 : (Jvm.Cond.static ({ cls := "BurntLetters", name := "mixed", desc := "(JJ)J" } : Jvm.MethodName)) ∈ lw_all := lw_g (lw_at lw_m4 14 rfl) rfl
theorem q795 : (Jvm.Cond.code ({ cls := "BurntLetters", name := "mixed", desc := "(JJ)J" } : Jvm.MethodName) prog_1_method_51_code (4 : Nat) (Option.some Jvm.ClassFile.FieldType.long)) ∈ lw_all := lw_g (lw_at lw_m4 15 rfl) rfl
theorem q796 : (Jvm.Cond.constantLong "BurntLetters" (284 : Nat) (31 : Int64)) ∈ lw_all := lw_g (lw_at lw_m4 16 rfl) rfl
theorem q797 : (Jvm.Cond.methodLink "BurntLetters" (292 : Nat) ({ cls := "BurntLetters", name := "mixedFile", desc := "(JI)J" } : Jvm.MethodName)) ∈ lw_all := lw_g (lw_at lw_m4 17 rfl) rfl
theorem q798 : (Jvm.Cond.privateMethod ({ cls := "BurntLetters", name := "mixedFile", desc := "(JI)J" } : Jvm.MethodName)) ∈ lw_tbl := lw_at lw_m4 18 rfl
theorem q799 : (Jvm.Cond.instanceMethod ({ cls := "BurntLetters", name := "mixedFile", desc := "(JI)J" } : Jvm.MethodName)) ∈ lw_all := lw_g (lw_at lw_m4 19 rfl) rfl
theorem q800 : (Jvm.Cond.code ({ cls := "BurntLetters", name := "mixedFile", desc := "(JI)J" } : Jvm.MethodName) prog_1_method_52_code (7 : Nat) (Option.some Jvm.ClassFile.FieldType.long)) ∈ lw_all := lw_g (lw_at lw_m4 20 rfl) rfl
theorem q1159 : (Jvm.Cond.castable "BurntLetters" "java/lang/Object") ∈ lw_tbl := lw_at lw_m5 139 rfl
theorem in_X0 : ∀ w ∈ wsX00, w ∈ lw_all := lw_in wsX00 [166, 168, 170, 172, 174, 176, 178, 180, 182, 184, 186, 188, 190, 192, 194, 196, 198, 200, 202, 204, 206, 208] (by decide +kernel) (by decide +kernel)
