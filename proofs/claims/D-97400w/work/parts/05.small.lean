/-! BurntLetters$Archive -/
set_option maxRecDepth 100000
def RX1 : String := "BurntLetters$Archive"
def TX1 : u_T := fun k => match k with
  | 0 => ("BurntLetters$Archive", "leaves", "[I", true)
  | 1 => ("BurntLetters$Archive", "points", "[I", true)
  | 2 => ("BurntLetters$Archive", "kept", "[I", true)
  | _ => ("BurntLetters$Archive", "this$0", "LBurntLetters;", true)
def tyX1 : Nat → FieldType := fun k => match k with
  | 0 => .array .int
  | 1 => .array .int
  | 2 => .array .int
  | _ => .object "BurntLetters"
abbrev wsX10 : List Cond := u_ws RX1 TX1 4
theorem nmX1 : ∀ a, a < 4 → ∀ b, b < 4 → a ≠ b → (TX1 a).2.1 ≠ (TX1 b).2.1 := by decide +kernel
theorem tyX1_ok : ∀ k, k < 4 → parseFieldDescriptor (TX1 k).2.2.1 = some (tyX1 k) := by decide +kernel
abbrev cX1_init : ByteArray := prog_2_method_1_code
def yX1_init : MethodName := ⟨RX1, "<init>", "(LBurntLetters;)V"⟩
def dkwX1_init_2 : List UInt8 := [181, 0, 22, 177]
abbrev dktX1_init_2 : List UInt8 := dkwX1_init_2 ++ []
def dkwX1_init_1 : List UInt8 := [89, 4, 2, 79, 89, 5, 2, 79, 89, 6, 2, 79, 89, 7, 2, 79, 181, 0, 19, 42, 8, 188, 10]
abbrev dktX1_init_1 : List UInt8 := dkwX1_init_1 ++ dktX1_init_2
def dkwX1_init_0 : List UInt8 := [42, 43, 181, 0, 3, 42, 183, 0, 9, 42, 8, 188, 10, 181, 0, 15, 42, 8, 188, 10, 89, 3, 2, 79]
abbrev dktX1_init_0 : List UInt8 := dkwX1_init_0 ++ dktX1_init_1
theorem dksX1_init_0 : cX1_init.data.toList.drop 0 = dktX1_init_0 := by decide +kernel
theorem dksX1_init_1 : cX1_init.data.toList.drop 24 = dktX1_init_1 := dk_seg dksX1_init_0 24 rfl rfl
theorem dksX1_init_2 : cX1_init.data.toList.drop 47 = dktX1_init_2 := dk_seg dksX1_init_1 23 rfl rfl
theorem dX1_init_0 : decode cX1_init 0 = .ok (.aload_n 0, 1) := dk_42 (dk_at dksX1_init_0 0 rfl rfl)
theorem dX1_init_1 : decode cX1_init 1 = .ok (.aload_n 1, 1) := dk_43 (dk_at dksX1_init_0 1 rfl rfl)
theorem dX1_init_2 : decode cX1_init 2 = .ok (.putfield 3, 3) := dk_181 0 3 (dk_at dksX1_init_0 2 rfl rfl)
theorem dX1_init_5 : decode cX1_init 5 = .ok (.aload_n 0, 1) := dk_42 (dk_at dksX1_init_0 5 rfl rfl)
theorem dX1_init_6 : decode cX1_init 6 = .ok (.invokespecial 9, 3) := dk_183 0 9 (dk_at dksX1_init_0 6 rfl rfl)
theorem dX1_init_9 : decode cX1_init 9 = .ok (.aload_n 0, 1) := dk_42 (dk_at dksX1_init_0 9 rfl rfl)
theorem dX1_init_10 : decode cX1_init 10 = .ok (.iconst 5, 1) := dk_8 (dk_at dksX1_init_0 10 rfl rfl)
theorem dX1_init_11 : decode cX1_init 11 = .ok (.newarray .int, 2) := dk_188_10 (dk_at dksX1_init_0 11 rfl rfl)
theorem dX1_init_13 : decode cX1_init 13 = .ok (.putfield 15, 3) := dk_181 0 15 (dk_at dksX1_init_0 13 rfl rfl)
theorem dX1_init_16 : decode cX1_init 16 = .ok (.aload_n 0, 1) := dk_42 (dk_at dksX1_init_0 16 rfl rfl)
theorem dX1_init_17 : decode cX1_init 17 = .ok (.iconst 5, 1) := dk_8 (dk_at dksX1_init_0 17 rfl rfl)
theorem dX1_init_18 : decode cX1_init 18 = .ok (.newarray .int, 2) := dk_188_10 (dk_at dksX1_init_0 18 rfl rfl)
theorem dX1_init_20 : decode cX1_init 20 = .ok (.dup, 1) := dk_89 (dk_at dksX1_init_0 20 rfl rfl)
theorem dX1_init_21 : decode cX1_init 21 = .ok (.iconst 0, 1) := dk_3 (dk_at dksX1_init_0 21 rfl rfl)
theorem dX1_init_22 : decode cX1_init 22 = .ok (.iconst (-1), 1) := dk_2 (dk_at dksX1_init_0 22 rfl rfl)
theorem dX1_init_23 : decode cX1_init 23 = .ok (.iastore, 1) := dk_79 (dk_at dksX1_init_0 23 rfl rfl)
theorem dX1_init_24 : decode cX1_init 24 = .ok (.dup, 1) := dk_89 (dk_at dksX1_init_1 0 rfl rfl)
theorem dX1_init_25 : decode cX1_init 25 = .ok (.iconst 1, 1) := dk_4 (dk_at dksX1_init_1 1 rfl rfl)
theorem dX1_init_26 : decode cX1_init 26 = .ok (.iconst (-1), 1) := dk_2 (dk_at dksX1_init_1 2 rfl rfl)
theorem dX1_init_27 : decode cX1_init 27 = .ok (.iastore, 1) := dk_79 (dk_at dksX1_init_1 3 rfl rfl)
theorem dX1_init_28 : decode cX1_init 28 = .ok (.dup, 1) := dk_89 (dk_at dksX1_init_1 4 rfl rfl)
theorem dX1_init_29 : decode cX1_init 29 = .ok (.iconst 2, 1) := dk_5 (dk_at dksX1_init_1 5 rfl rfl)
theorem dX1_init_30 : decode cX1_init 30 = .ok (.iconst (-1), 1) := dk_2 (dk_at dksX1_init_1 6 rfl rfl)
theorem dX1_init_31 : decode cX1_init 31 = .ok (.iastore, 1) := dk_79 (dk_at dksX1_init_1 7 rfl rfl)
theorem dX1_init_32 : decode cX1_init 32 = .ok (.dup, 1) := dk_89 (dk_at dksX1_init_1 8 rfl rfl)
theorem dX1_init_33 : decode cX1_init 33 = .ok (.iconst 3, 1) := dk_6 (dk_at dksX1_init_1 9 rfl rfl)
theorem dX1_init_34 : decode cX1_init 34 = .ok (.iconst (-1), 1) := dk_2 (dk_at dksX1_init_1 10 rfl rfl)
theorem dX1_init_35 : decode cX1_init 35 = .ok (.iastore, 1) := dk_79 (dk_at dksX1_init_1 11 rfl rfl)
theorem dX1_init_36 : decode cX1_init 36 = .ok (.dup, 1) := dk_89 (dk_at dksX1_init_1 12 rfl rfl)
theorem dX1_init_37 : decode cX1_init 37 = .ok (.iconst 4, 1) := dk_7 (dk_at dksX1_init_1 13 rfl rfl)
theorem dX1_init_38 : decode cX1_init 38 = .ok (.iconst (-1), 1) := dk_2 (dk_at dksX1_init_1 14 rfl rfl)
theorem dX1_init_39 : decode cX1_init 39 = .ok (.iastore, 1) := dk_79 (dk_at dksX1_init_1 15 rfl rfl)
theorem dX1_init_40 : decode cX1_init 40 = .ok (.putfield 19, 3) := dk_181 0 19 (dk_at dksX1_init_1 16 rfl rfl)
theorem dX1_init_43 : decode cX1_init 43 = .ok (.aload_n 0, 1) := dk_42 (dk_at dksX1_init_1 19 rfl rfl)
theorem dX1_init_44 : decode cX1_init 44 = .ok (.iconst 5, 1) := dk_8 (dk_at dksX1_init_1 20 rfl rfl)
theorem dX1_init_45 : decode cX1_init 45 = .ok (.newarray .int, 2) := dk_188_10 (dk_at dksX1_init_1 21 rfl rfl)
theorem dX1_init_47 : decode cX1_init 47 = .ok (.putfield 22, 3) := dk_181 0 22 (dk_at dksX1_init_2 0 rfl rfl)
theorem dX1_init_50 : decode cX1_init 50 = .ok (.return_, 1) := dk_177 (dk_at dksX1_init_2 3 rfl rfl)
abbrev cX1_under : ByteArray := prog_2_method_5_code
def yX1_under : MethodName := ⟨RX1, "under", "(I)I"⟩
def dkwX1_under_1 : List UInt8 := [46, 27, 122, 4, 126, 96, 61, 132, 3, 1, 167, 255, 226, 28, 172]
abbrev dktX1_under_1 : List UInt8 := dkwX1_under_1 ++ []
def dkwX1_under_0 : List UInt8 := [3, 61, 3, 62, 29, 42, 180, 0, 3, 180, 0, 25, 182, 0, 29, 162, 0, 22, 28, 42, 180, 0, 15, 29]
abbrev dktX1_under_0 : List UInt8 := dkwX1_under_0 ++ dktX1_under_1
theorem dksX1_under_0 : cX1_under.data.toList.drop 0 = dktX1_under_0 := by decide +kernel
theorem dksX1_under_1 : cX1_under.data.toList.drop 24 = dktX1_under_1 := dk_seg dksX1_under_0 24 rfl rfl
theorem dX1_under_0 : decode cX1_under 0 = .ok (.iconst 0, 1) := dk_3 (dk_at dksX1_under_0 0 rfl rfl)
theorem dX1_under_1 : decode cX1_under 1 = .ok (.istore_n 2, 1) := dk_61 (dk_at dksX1_under_0 1 rfl rfl)
theorem dX1_under_2 : decode cX1_under 2 = .ok (.iconst 0, 1) := dk_3 (dk_at dksX1_under_0 2 rfl rfl)
theorem dX1_under_3 : decode cX1_under 3 = .ok (.istore_n 3, 1) := dk_62 (dk_at dksX1_under_0 3 rfl rfl)
theorem dX1_under_4 : decode cX1_under 4 = .ok (.iload_n 3, 1) := dk_29 (dk_at dksX1_under_0 4 rfl rfl)
theorem dX1_under_5 : decode cX1_under 5 = .ok (.aload_n 0, 1) := dk_42 (dk_at dksX1_under_0 5 rfl rfl)
theorem dX1_under_6 : decode cX1_under 6 = .ok (.getfield 3, 3) := dk_180 0 3 (dk_at dksX1_under_0 6 rfl rfl)
theorem dX1_under_9 : decode cX1_under 9 = .ok (.getfield 25, 3) := dk_180 0 25 (dk_at dksX1_under_0 9 rfl rfl)
theorem dX1_under_12 : decode cX1_under 12 = .ok (.invokevirtual 29, 3) := dk_182 0 29 (dk_at dksX1_under_0 12 rfl rfl)
theorem dX1_under_15 : decode cX1_under 15 = .ok (.if_icmp .ge 22, 3) := dk_162 0 22 (dk_at dksX1_under_0 15 rfl rfl)
theorem dX1_under_18 : decode cX1_under 18 = .ok (.iload_n 2, 1) := dk_28 (dk_at dksX1_under_0 18 rfl rfl)
theorem dX1_under_19 : decode cX1_under 19 = .ok (.aload_n 0, 1) := dk_42 (dk_at dksX1_under_0 19 rfl rfl)
theorem dX1_under_20 : decode cX1_under 20 = .ok (.getfield 15, 3) := dk_180 0 15 (dk_at dksX1_under_0 20 rfl rfl)
theorem dX1_under_23 : decode cX1_under 23 = .ok (.iload_n 3, 1) := dk_29 (dk_at dksX1_under_0 23 rfl rfl)
theorem dX1_under_24 : decode cX1_under 24 = .ok (.iaload, 1) := dk_46 (dk_at dksX1_under_1 0 rfl rfl)
theorem dX1_under_25 : decode cX1_under 25 = .ok (.iload_n 1, 1) := dk_27 (dk_at dksX1_under_1 1 rfl rfl)
theorem dX1_under_26 : decode cX1_under 26 = .ok (.ishr, 1) := dk_122 (dk_at dksX1_under_1 2 rfl rfl)
theorem dX1_under_27 : decode cX1_under 27 = .ok (.iconst 1, 1) := dk_4 (dk_at dksX1_under_1 3 rfl rfl)
theorem dX1_under_28 : decode cX1_under 28 = .ok (.iand, 1) := dk_126 (dk_at dksX1_under_1 4 rfl rfl)
theorem dX1_under_29 : decode cX1_under 29 = .ok (.iadd, 1) := dk_96 (dk_at dksX1_under_1 5 rfl rfl)
theorem dX1_under_30 : decode cX1_under 30 = .ok (.istore_n 2, 1) := dk_61 (dk_at dksX1_under_1 6 rfl rfl)
theorem dX1_under_31 : decode cX1_under 31 = .ok (.iinc 3 1, 3) := dk_132 3 1 (dk_at dksX1_under_1 7 rfl rfl)
theorem dX1_under_34 : decode cX1_under 34 = .ok (.goto (-30), 3) := dk_167 255 226 (dk_at dksX1_under_1 10 rfl rfl)
theorem dX1_under_37 : decode cX1_under 37 = .ok (.iload_n 2, 1) := dk_28 (dk_at dksX1_under_1 13 rfl rfl)
theorem dX1_under_38 : decode cX1_under 38 = .ok (.ireturn, 1) := dk_172 (dk_at dksX1_under_1 14 rfl rfl)
abbrev cX1_lives : ByteArray := prog_2_method_3_code
def yX1_lives : MethodName := ⟨RX1, "lives", "(I)Z"⟩
def dkwX1_lives_0 : List UInt8 := [42, 180, 0, 15, 27, 46, 153, 0, 7, 4, 167, 0, 4, 3, 172]
abbrev dktX1_lives_0 : List UInt8 := dkwX1_lives_0 ++ []
theorem dksX1_lives_0 : cX1_lives.data.toList.drop 0 = dktX1_lives_0 := by decide +kernel
theorem dX1_lives_0 : decode cX1_lives 0 = .ok (.aload_n 0, 1) := dk_42 (dk_at dksX1_lives_0 0 rfl rfl)
theorem dX1_lives_1 : decode cX1_lives 1 = .ok (.getfield 15, 3) := dk_180 0 15 (dk_at dksX1_lives_0 1 rfl rfl)
theorem dX1_lives_4 : decode cX1_lives 4 = .ok (.iload_n 1, 1) := dk_27 (dk_at dksX1_lives_0 4 rfl rfl)
theorem dX1_lives_5 : decode cX1_lives 5 = .ok (.iaload, 1) := dk_46 (dk_at dksX1_lives_0 5 rfl rfl)
theorem dX1_lives_6 : decode cX1_lives 6 = .ok (.ifCond .eq 7, 3) := dk_153 0 7 (dk_at dksX1_lives_0 6 rfl rfl)
theorem dX1_lives_9 : decode cX1_lives 9 = .ok (.iconst 1, 1) := dk_4 (dk_at dksX1_lives_0 9 rfl rfl)
theorem dX1_lives_10 : decode cX1_lives 10 = .ok (.goto 4, 3) := dk_167 0 4 (dk_at dksX1_lives_0 10 rfl rfl)
theorem dX1_lives_13 : decode cX1_lives 13 = .ok (.iconst 0, 1) := dk_3 (dk_at dksX1_lives_0 13 rfl rfl)
theorem dX1_lives_14 : decode cX1_lives 14 = .ok (.ireturn, 1) := dk_172 (dk_at dksX1_lives_0 14 rfl rfl)
abbrev cX1_mayCopy : ByteArray := prog_2_method_7_code
def yX1_mayCopy : MethodName := ⟨RX1, "mayCopy", "(II)Z"⟩
def dkwX1_mayCopy_3 : List UInt8 := [182, 0, 62, 162, 0, 7, 4, 167, 0, 4, 3, 172]
abbrev dktX1_mayCopy_3 : List UInt8 := dkwX1_mayCopy_3 ++ []
def dkwX1_mayCopy_2 : List UInt8 := [180, 0, 15, 27, 46, 184, 0, 39, 42, 180, 0, 3, 180, 0, 25, 27, 182, 0, 56, 192, 0, 60]
abbrev dktX1_mayCopy_2 : List UInt8 := dkwX1_mayCopy_2 ++ dktX1_mayCopy_3
def dkwX1_mayCopy_1 : List UInt8 := [182, 0, 49, 42, 180, 0, 3, 180, 0, 52, 162, 0, 7, 4, 167, 0, 4, 3, 62, 29, 153, 0, 36, 42]
abbrev dktX1_mayCopy_1 : List UInt8 := dkwX1_mayCopy_1 ++ dktX1_mayCopy_2
def dkwX1_mayCopy_0 : List UInt8 := [42, 27, 182, 0, 35, 153, 0, 35, 42, 180, 0, 15, 27, 46, 28, 184, 0, 45, 154, 0, 22, 42, 28]
abbrev dktX1_mayCopy_0 : List UInt8 := dkwX1_mayCopy_0 ++ dktX1_mayCopy_1
theorem dksX1_mayCopy_0 : cX1_mayCopy.data.toList.drop 0 = dktX1_mayCopy_0 := by decide +kernel
theorem dksX1_mayCopy_1 : cX1_mayCopy.data.toList.drop 23 = dktX1_mayCopy_1 := dk_seg dksX1_mayCopy_0 23 rfl rfl
theorem dksX1_mayCopy_2 : cX1_mayCopy.data.toList.drop 47 = dktX1_mayCopy_2 := dk_seg dksX1_mayCopy_1 24 rfl rfl
theorem dksX1_mayCopy_3 : cX1_mayCopy.data.toList.drop 69 = dktX1_mayCopy_3 := dk_seg dksX1_mayCopy_2 22 rfl rfl
theorem dX1_mayCopy_0 : decode cX1_mayCopy 0 = .ok (.aload_n 0, 1) := dk_42 (dk_at dksX1_mayCopy_0 0 rfl rfl)
theorem dX1_mayCopy_1 : decode cX1_mayCopy 1 = .ok (.iload_n 1, 1) := dk_27 (dk_at dksX1_mayCopy_0 1 rfl rfl)
theorem dX1_mayCopy_2 : decode cX1_mayCopy 2 = .ok (.invokevirtual 35, 3) := dk_182 0 35 (dk_at dksX1_mayCopy_0 2 rfl rfl)
theorem dX1_mayCopy_5 : decode cX1_mayCopy 5 = .ok (.ifCond .eq 35, 3) := dk_153 0 35 (dk_at dksX1_mayCopy_0 5 rfl rfl)
theorem dX1_mayCopy_8 : decode cX1_mayCopy 8 = .ok (.aload_n 0, 1) := dk_42 (dk_at dksX1_mayCopy_0 8 rfl rfl)
theorem dX1_mayCopy_9 : decode cX1_mayCopy 9 = .ok (.getfield 15, 3) := dk_180 0 15 (dk_at dksX1_mayCopy_0 9 rfl rfl)
theorem dX1_mayCopy_12 : decode cX1_mayCopy 12 = .ok (.iload_n 1, 1) := dk_27 (dk_at dksX1_mayCopy_0 12 rfl rfl)
theorem dX1_mayCopy_13 : decode cX1_mayCopy 13 = .ok (.iaload, 1) := dk_46 (dk_at dksX1_mayCopy_0 13 rfl rfl)
theorem dX1_mayCopy_14 : decode cX1_mayCopy 14 = .ok (.iload_n 2, 1) := dk_28 (dk_at dksX1_mayCopy_0 14 rfl rfl)
theorem dX1_mayCopy_15 : decode cX1_mayCopy 15 = .ok (.invokestatic 45, 3) := dk_184 0 45 (dk_at dksX1_mayCopy_0 15 rfl rfl)
theorem dX1_mayCopy_18 : decode cX1_mayCopy 18 = .ok (.ifCond .ne 22, 3) := dk_154 0 22 (dk_at dksX1_mayCopy_0 18 rfl rfl)
theorem dX1_mayCopy_21 : decode cX1_mayCopy 21 = .ok (.aload_n 0, 1) := dk_42 (dk_at dksX1_mayCopy_0 21 rfl rfl)
theorem dX1_mayCopy_22 : decode cX1_mayCopy 22 = .ok (.iload_n 2, 1) := dk_28 (dk_at dksX1_mayCopy_0 22 rfl rfl)
theorem dX1_mayCopy_23 : decode cX1_mayCopy 23 = .ok (.invokevirtual 49, 3) := dk_182 0 49 (dk_at dksX1_mayCopy_1 0 rfl rfl)
theorem dX1_mayCopy_26 : decode cX1_mayCopy 26 = .ok (.aload_n 0, 1) := dk_42 (dk_at dksX1_mayCopy_1 3 rfl rfl)
theorem dX1_mayCopy_27 : decode cX1_mayCopy 27 = .ok (.getfield 3, 3) := dk_180 0 3 (dk_at dksX1_mayCopy_1 4 rfl rfl)
theorem dX1_mayCopy_30 : decode cX1_mayCopy 30 = .ok (.getfield 52, 3) := dk_180 0 52 (dk_at dksX1_mayCopy_1 7 rfl rfl)
theorem dX1_mayCopy_33 : decode cX1_mayCopy 33 = .ok (.if_icmp .ge 7, 3) := dk_162 0 7 (dk_at dksX1_mayCopy_1 10 rfl rfl)
theorem dX1_mayCopy_36 : decode cX1_mayCopy 36 = .ok (.iconst 1, 1) := dk_4 (dk_at dksX1_mayCopy_1 13 rfl rfl)
theorem dX1_mayCopy_37 : decode cX1_mayCopy 37 = .ok (.goto 4, 3) := dk_167 0 4 (dk_at dksX1_mayCopy_1 14 rfl rfl)
theorem dX1_mayCopy_40 : decode cX1_mayCopy 40 = .ok (.iconst 0, 1) := dk_3 (dk_at dksX1_mayCopy_1 17 rfl rfl)
theorem dX1_mayCopy_41 : decode cX1_mayCopy 41 = .ok (.istore_n 3, 1) := dk_62 (dk_at dksX1_mayCopy_1 18 rfl rfl)
theorem dX1_mayCopy_42 : decode cX1_mayCopy 42 = .ok (.iload_n 3, 1) := dk_29 (dk_at dksX1_mayCopy_1 19 rfl rfl)
theorem dX1_mayCopy_43 : decode cX1_mayCopy 43 = .ok (.ifCond .eq 36, 3) := dk_153 0 36 (dk_at dksX1_mayCopy_1 20 rfl rfl)
theorem dX1_mayCopy_46 : decode cX1_mayCopy 46 = .ok (.aload_n 0, 1) := dk_42 (dk_at dksX1_mayCopy_1 23 rfl rfl)
theorem dX1_mayCopy_47 : decode cX1_mayCopy 47 = .ok (.getfield 15, 3) := dk_180 0 15 (dk_at dksX1_mayCopy_2 0 rfl rfl)
theorem dX1_mayCopy_50 : decode cX1_mayCopy 50 = .ok (.iload_n 1, 1) := dk_27 (dk_at dksX1_mayCopy_2 3 rfl rfl)
theorem dX1_mayCopy_51 : decode cX1_mayCopy 51 = .ok (.iaload, 1) := dk_46 (dk_at dksX1_mayCopy_2 4 rfl rfl)
theorem dX1_mayCopy_52 : decode cX1_mayCopy 52 = .ok (.invokestatic 39, 3) := dk_184 0 39 (dk_at dksX1_mayCopy_2 5 rfl rfl)
theorem dX1_mayCopy_55 : decode cX1_mayCopy 55 = .ok (.aload_n 0, 1) := dk_42 (dk_at dksX1_mayCopy_2 8 rfl rfl)
theorem dX1_mayCopy_56 : decode cX1_mayCopy 56 = .ok (.getfield 3, 3) := dk_180 0 3 (dk_at dksX1_mayCopy_2 9 rfl rfl)
theorem dX1_mayCopy_59 : decode cX1_mayCopy 59 = .ok (.getfield 25, 3) := dk_180 0 25 (dk_at dksX1_mayCopy_2 12 rfl rfl)
theorem dX1_mayCopy_62 : decode cX1_mayCopy 62 = .ok (.iload_n 1, 1) := dk_27 (dk_at dksX1_mayCopy_2 15 rfl rfl)
theorem dX1_mayCopy_63 : decode cX1_mayCopy 63 = .ok (.invokevirtual 56, 3) := dk_182 0 56 (dk_at dksX1_mayCopy_2 16 rfl rfl)
theorem dX1_mayCopy_66 : decode cX1_mayCopy 66 = .ok (.checkcast 60, 3) := dk_192 0 60 (dk_at dksX1_mayCopy_2 19 rfl rfl)
theorem dX1_mayCopy_69 : decode cX1_mayCopy 69 = .ok (.invokevirtual 62, 3) := dk_182 0 62 (dk_at dksX1_mayCopy_3 0 rfl rfl)
theorem dX1_mayCopy_72 : decode cX1_mayCopy 72 = .ok (.if_icmp .ge 7, 3) := dk_162 0 7 (dk_at dksX1_mayCopy_3 3 rfl rfl)
theorem dX1_mayCopy_75 : decode cX1_mayCopy 75 = .ok (.iconst 1, 1) := dk_4 (dk_at dksX1_mayCopy_3 6 rfl rfl)
theorem dX1_mayCopy_76 : decode cX1_mayCopy 76 = .ok (.goto 4, 3) := dk_167 0 4 (dk_at dksX1_mayCopy_3 7 rfl rfl)
theorem dX1_mayCopy_79 : decode cX1_mayCopy 79 = .ok (.iconst 0, 1) := dk_3 (dk_at dksX1_mayCopy_3 10 rfl rfl)
theorem dX1_mayCopy_80 : decode cX1_mayCopy 80 = .ok (.ireturn, 1) := dk_172 (dk_at dksX1_mayCopy_3 11 rfl rfl)
abbrev cX1_mayRename : ByteArray := prog_2_method_8_code
def yX1_mayRename : MethodName := ⟨RX1, "mayRename", "(III)Z"⟩
def dkwX1_mayRename_1 : List UInt8 := [154, 0, 22, 42, 29, 182, 0, 49, 42, 180, 0, 3, 180, 0, 52, 162, 0, 7, 4, 167, 0, 4, 3, 172]
abbrev dktX1_mayRename_1 : List UInt8 := dkwX1_mayRename_1 ++ []
def dkwX1_mayRename_0 : List UInt8 := [42, 180, 0, 15, 27, 46, 28, 184, 0, 45, 153, 0, 35, 42, 180, 0, 15, 27, 46, 29, 184, 0, 45]
abbrev dktX1_mayRename_0 : List UInt8 := dkwX1_mayRename_0 ++ dktX1_mayRename_1
theorem dksX1_mayRename_0 : cX1_mayRename.data.toList.drop 0 = dktX1_mayRename_0 := by decide +kernel
theorem dksX1_mayRename_1 : cX1_mayRename.data.toList.drop 23 = dktX1_mayRename_1 := dk_seg dksX1_mayRename_0 23 rfl rfl
theorem dX1_mayRename_0 : decode cX1_mayRename 0 = .ok (.aload_n 0, 1) := dk_42 (dk_at dksX1_mayRename_0 0 rfl rfl)
theorem dX1_mayRename_1 : decode cX1_mayRename 1 = .ok (.getfield 15, 3) := dk_180 0 15 (dk_at dksX1_mayRename_0 1 rfl rfl)
theorem dX1_mayRename_4 : decode cX1_mayRename 4 = .ok (.iload_n 1, 1) := dk_27 (dk_at dksX1_mayRename_0 4 rfl rfl)
theorem dX1_mayRename_5 : decode cX1_mayRename 5 = .ok (.iaload, 1) := dk_46 (dk_at dksX1_mayRename_0 5 rfl rfl)
theorem dX1_mayRename_6 : decode cX1_mayRename 6 = .ok (.iload_n 2, 1) := dk_28 (dk_at dksX1_mayRename_0 6 rfl rfl)
theorem dX1_mayRename_7 : decode cX1_mayRename 7 = .ok (.invokestatic 45, 3) := dk_184 0 45 (dk_at dksX1_mayRename_0 7 rfl rfl)
theorem dX1_mayRename_10 : decode cX1_mayRename 10 = .ok (.ifCond .eq 35, 3) := dk_153 0 35 (dk_at dksX1_mayRename_0 10 rfl rfl)
theorem dX1_mayRename_13 : decode cX1_mayRename 13 = .ok (.aload_n 0, 1) := dk_42 (dk_at dksX1_mayRename_0 13 rfl rfl)
theorem dX1_mayRename_14 : decode cX1_mayRename 14 = .ok (.getfield 15, 3) := dk_180 0 15 (dk_at dksX1_mayRename_0 14 rfl rfl)
theorem dX1_mayRename_17 : decode cX1_mayRename 17 = .ok (.iload_n 1, 1) := dk_27 (dk_at dksX1_mayRename_0 17 rfl rfl)
theorem dX1_mayRename_18 : decode cX1_mayRename 18 = .ok (.iaload, 1) := dk_46 (dk_at dksX1_mayRename_0 18 rfl rfl)
theorem dX1_mayRename_19 : decode cX1_mayRename 19 = .ok (.iload_n 3, 1) := dk_29 (dk_at dksX1_mayRename_0 19 rfl rfl)
theorem dX1_mayRename_20 : decode cX1_mayRename 20 = .ok (.invokestatic 45, 3) := dk_184 0 45 (dk_at dksX1_mayRename_0 20 rfl rfl)
theorem dX1_mayRename_23 : decode cX1_mayRename 23 = .ok (.ifCond .ne 22, 3) := dk_154 0 22 (dk_at dksX1_mayRename_1 0 rfl rfl)
theorem dX1_mayRename_26 : decode cX1_mayRename 26 = .ok (.aload_n 0, 1) := dk_42 (dk_at dksX1_mayRename_1 3 rfl rfl)
theorem dX1_mayRename_27 : decode cX1_mayRename 27 = .ok (.iload_n 3, 1) := dk_29 (dk_at dksX1_mayRename_1 4 rfl rfl)
theorem dX1_mayRename_28 : decode cX1_mayRename 28 = .ok (.invokevirtual 49, 3) := dk_182 0 49 (dk_at dksX1_mayRename_1 5 rfl rfl)
theorem dX1_mayRename_31 : decode cX1_mayRename 31 = .ok (.aload_n 0, 1) := dk_42 (dk_at dksX1_mayRename_1 8 rfl rfl)
theorem dX1_mayRename_32 : decode cX1_mayRename 32 = .ok (.getfield 3, 3) := dk_180 0 3 (dk_at dksX1_mayRename_1 9 rfl rfl)
theorem dX1_mayRename_35 : decode cX1_mayRename 35 = .ok (.getfield 52, 3) := dk_180 0 52 (dk_at dksX1_mayRename_1 12 rfl rfl)
theorem dX1_mayRename_38 : decode cX1_mayRename 38 = .ok (.if_icmp .ge 7, 3) := dk_162 0 7 (dk_at dksX1_mayRename_1 15 rfl rfl)
theorem dX1_mayRename_41 : decode cX1_mayRename 41 = .ok (.iconst 1, 1) := dk_4 (dk_at dksX1_mayRename_1 18 rfl rfl)
theorem dX1_mayRename_42 : decode cX1_mayRename 42 = .ok (.goto 4, 3) := dk_167 0 4 (dk_at dksX1_mayRename_1 19 rfl rfl)
theorem dX1_mayRename_45 : decode cX1_mayRename 45 = .ok (.iconst 0, 1) := dk_3 (dk_at dksX1_mayRename_1 22 rfl rfl)
theorem dX1_mayRename_46 : decode cX1_mayRename 46 = .ok (.ireturn, 1) := dk_172 (dk_at dksX1_mayRename_1 23 rfl rfl)
abbrev cX1_rename : ByteArray := prog_2_method_9_code
def yX1_rename : MethodName := ⟨RX1, "rename", "(III)V"⟩
def dkwX1_rename_0 : List UInt8 := [42, 180, 0, 15, 27, 42, 180, 0, 15, 27, 46, 4, 28, 120, 2, 130, 126, 4, 29, 120, 128, 79, 177]
abbrev dktX1_rename_0 : List UInt8 := dkwX1_rename_0 ++ []
theorem dksX1_rename_0 : cX1_rename.data.toList.drop 0 = dktX1_rename_0 := by decide +kernel
theorem dX1_rename_0 : decode cX1_rename 0 = .ok (.aload_n 0, 1) := dk_42 (dk_at dksX1_rename_0 0 rfl rfl)
theorem dX1_rename_1 : decode cX1_rename 1 = .ok (.getfield 15, 3) := dk_180 0 15 (dk_at dksX1_rename_0 1 rfl rfl)
theorem dX1_rename_4 : decode cX1_rename 4 = .ok (.iload_n 1, 1) := dk_27 (dk_at dksX1_rename_0 4 rfl rfl)
theorem dX1_rename_5 : decode cX1_rename 5 = .ok (.aload_n 0, 1) := dk_42 (dk_at dksX1_rename_0 5 rfl rfl)
theorem dX1_rename_6 : decode cX1_rename 6 = .ok (.getfield 15, 3) := dk_180 0 15 (dk_at dksX1_rename_0 6 rfl rfl)
theorem dX1_rename_9 : decode cX1_rename 9 = .ok (.iload_n 1, 1) := dk_27 (dk_at dksX1_rename_0 9 rfl rfl)
theorem dX1_rename_10 : decode cX1_rename 10 = .ok (.iaload, 1) := dk_46 (dk_at dksX1_rename_0 10 rfl rfl)
theorem dX1_rename_11 : decode cX1_rename 11 = .ok (.iconst 1, 1) := dk_4 (dk_at dksX1_rename_0 11 rfl rfl)
theorem dX1_rename_12 : decode cX1_rename 12 = .ok (.iload_n 2, 1) := dk_28 (dk_at dksX1_rename_0 12 rfl rfl)
theorem dX1_rename_13 : decode cX1_rename 13 = .ok (.ishl, 1) := dk_120 (dk_at dksX1_rename_0 13 rfl rfl)
theorem dX1_rename_14 : decode cX1_rename 14 = .ok (.iconst (-1), 1) := dk_2 (dk_at dksX1_rename_0 14 rfl rfl)
theorem dX1_rename_15 : decode cX1_rename 15 = .ok (.ixor, 1) := dk_130 (dk_at dksX1_rename_0 15 rfl rfl)
theorem dX1_rename_16 : decode cX1_rename 16 = .ok (.iand, 1) := dk_126 (dk_at dksX1_rename_0 16 rfl rfl)
theorem dX1_rename_17 : decode cX1_rename 17 = .ok (.iconst 1, 1) := dk_4 (dk_at dksX1_rename_0 17 rfl rfl)
theorem dX1_rename_18 : decode cX1_rename 18 = .ok (.iload_n 3, 1) := dk_29 (dk_at dksX1_rename_0 18 rfl rfl)
theorem dX1_rename_19 : decode cX1_rename 19 = .ok (.ishl, 1) := dk_120 (dk_at dksX1_rename_0 19 rfl rfl)
theorem dX1_rename_20 : decode cX1_rename 20 = .ok (.ior, 1) := dk_128 (dk_at dksX1_rename_0 20 rfl rfl)
theorem dX1_rename_21 : decode cX1_rename 21 = .ok (.iastore, 1) := dk_79 (dk_at dksX1_rename_0 21 rfl rfl)
theorem dX1_rename_22 : decode cX1_rename 22 = .ok (.return_, 1) := dk_177 (dk_at dksX1_rename_0 22 rfl rfl)
abbrev cX1_burn : ByteArray := prog_2_method_12_code
def yX1_burn : MethodName := ⟨RX1, "burn", "(I)I"⟩
def dkwX1_burn_9 : List UInt8 := [182, 0, 88, 132, 5, 1, 167, 255, 202, 21, 4, 172]
abbrev dktX1_burn_9 : List UInt8 := dkwX1_burn_9 ++ []
def dkwX1_burn_8 : List UInt8 := [182, 0, 56, 192, 0, 60, 182, 0, 84, 153, 0, 18, 42, 21, 5, 182, 0, 35, 153, 0, 9, 42, 21, 5]
abbrev dktX1_burn_8 : List UInt8 := dkwX1_burn_8 ++ dktX1_burn_9
def dkwX1_burn_7 : List UInt8 := [21, 5, 42, 180, 0, 3, 180, 0, 25, 182, 0, 29, 162, 0, 45, 42, 180, 0, 3, 180, 0, 25, 21, 5]
abbrev dktX1_burn_7 : List UInt8 := dkwX1_burn_7 ++ dktX1_burn_8
def dkwX1_burn_6 : List UInt8 := [182, 0, 80, 2, 130, 126, 79, 132, 4, 1, 167, 255, 123, 29, 42, 182, 0, 71, 100, 54, 4, 3, 54, 5]
abbrev dktX1_burn_6 : List UInt8 := dkwX1_burn_6 ++ dktX1_burn_7
def dkwX1_burn_5 : List UInt8 := [180, 0, 3, 180, 0, 25, 21, 4, 182, 0, 56, 192, 0, 60, 42, 180, 0, 15, 21, 4, 46, 27]
abbrev dktX1_burn_5 : List UInt8 := dkwX1_burn_5 ++ dktX1_burn_6
def dkwX1_burn_4 : List UInt8 := [180, 0, 22, 21, 4, 92, 46, 4, 96, 79, 167, 0, 41, 42, 180, 0, 15, 21, 4, 92, 46, 42]
abbrev dktX1_burn_4 : List UInt8 := dkwX1_burn_4 ++ dktX1_burn_5
def dkwX1_burn_3 : List UInt8 := [46, 42, 180, 0, 3, 180, 0, 25, 21, 4, 182, 0, 56, 192, 0, 60, 182, 0, 77, 162, 0, 17, 42]
abbrev dktX1_burn_3 : List UInt8 := dkwX1_burn_3 ++ dktX1_burn_4
def dkwX1_burn_2 : List UInt8 := [182, 0, 74, 153, 0, 7, 4, 167, 0, 4, 3, 54, 5, 21, 5, 153, 0, 45, 42, 180, 0, 22, 21, 4]
abbrev dktX1_burn_2 : List UInt8 := dkwX1_burn_2 ++ dktX1_burn_3
def dkwX1_burn_1 : List UInt8 := [182, 0, 29, 162, 0, 124, 42, 180, 0, 15, 21, 4, 46, 4, 27, 120, 160, 0, 17, 42, 21, 4, 28]
abbrev dktX1_burn_1 : List UInt8 := dkwX1_burn_1 ++ dktX1_burn_2
def dkwX1_burn_0 : List UInt8 := [42, 182, 0, 68, 61, 42, 182, 0, 71, 62, 3, 54, 4, 21, 4, 42, 180, 0, 3, 180, 0, 25]
abbrev dktX1_burn_0 : List UInt8 := dkwX1_burn_0 ++ dktX1_burn_1
theorem dksX1_burn_0 : cX1_burn.data.toList.drop 0 = dktX1_burn_0 := by decide +kernel
theorem dksX1_burn_1 : cX1_burn.data.toList.drop 22 = dktX1_burn_1 := dk_seg dksX1_burn_0 22 rfl rfl
theorem dksX1_burn_2 : cX1_burn.data.toList.drop 45 = dktX1_burn_2 := dk_seg dksX1_burn_1 23 rfl rfl
theorem dksX1_burn_3 : cX1_burn.data.toList.drop 69 = dktX1_burn_3 := dk_seg dksX1_burn_2 24 rfl rfl
theorem dksX1_burn_4 : cX1_burn.data.toList.drop 92 = dktX1_burn_4 := dk_seg dksX1_burn_3 23 rfl rfl
theorem dksX1_burn_5 : cX1_burn.data.toList.drop 114 = dktX1_burn_5 := dk_seg dksX1_burn_4 22 rfl rfl
theorem dksX1_burn_6 : cX1_burn.data.toList.drop 136 = dktX1_burn_6 := dk_seg dksX1_burn_5 22 rfl rfl
theorem dksX1_burn_7 : cX1_burn.data.toList.drop 160 = dktX1_burn_7 := dk_seg dksX1_burn_6 24 rfl rfl
theorem dksX1_burn_8 : cX1_burn.data.toList.drop 184 = dktX1_burn_8 := dk_seg dksX1_burn_7 24 rfl rfl
theorem dksX1_burn_9 : cX1_burn.data.toList.drop 208 = dktX1_burn_9 := dk_seg dksX1_burn_8 24 rfl rfl
theorem dX1_burn_0 : decode cX1_burn 0 = .ok (.aload_n 0, 1) := dk_42 (dk_at dksX1_burn_0 0 rfl rfl)
theorem dX1_burn_1 : decode cX1_burn 1 = .ok (.invokevirtual 68, 3) := dk_182 0 68 (dk_at dksX1_burn_0 1 rfl rfl)
theorem dX1_burn_4 : decode cX1_burn 4 = .ok (.istore_n 2, 1) := dk_61 (dk_at dksX1_burn_0 4 rfl rfl)
theorem dX1_burn_5 : decode cX1_burn 5 = .ok (.aload_n 0, 1) := dk_42 (dk_at dksX1_burn_0 5 rfl rfl)
theorem dX1_burn_6 : decode cX1_burn 6 = .ok (.invokevirtual 71, 3) := dk_182 0 71 (dk_at dksX1_burn_0 6 rfl rfl)
theorem dX1_burn_9 : decode cX1_burn 9 = .ok (.istore_n 3, 1) := dk_62 (dk_at dksX1_burn_0 9 rfl rfl)
theorem dX1_burn_10 : decode cX1_burn 10 = .ok (.iconst 0, 1) := dk_3 (dk_at dksX1_burn_0 10 rfl rfl)
theorem dX1_burn_11 : decode cX1_burn 11 = .ok (.istore 4, 2) := dk_54 4 (dk_at dksX1_burn_0 11 rfl rfl)
theorem dX1_burn_13 : decode cX1_burn 13 = .ok (.iload 4, 2) := dk_21 4 (dk_at dksX1_burn_0 13 rfl rfl)
theorem dX1_burn_15 : decode cX1_burn 15 = .ok (.aload_n 0, 1) := dk_42 (dk_at dksX1_burn_0 15 rfl rfl)
theorem dX1_burn_16 : decode cX1_burn 16 = .ok (.getfield 3, 3) := dk_180 0 3 (dk_at dksX1_burn_0 16 rfl rfl)
theorem dX1_burn_19 : decode cX1_burn 19 = .ok (.getfield 25, 3) := dk_180 0 25 (dk_at dksX1_burn_0 19 rfl rfl)
theorem dX1_burn_22 : decode cX1_burn 22 = .ok (.invokevirtual 29, 3) := dk_182 0 29 (dk_at dksX1_burn_1 0 rfl rfl)
theorem dX1_burn_25 : decode cX1_burn 25 = .ok (.if_icmp .ge 124, 3) := dk_162 0 124 (dk_at dksX1_burn_1 3 rfl rfl)
theorem dX1_burn_28 : decode cX1_burn 28 = .ok (.aload_n 0, 1) := dk_42 (dk_at dksX1_burn_1 6 rfl rfl)
theorem dX1_burn_29 : decode cX1_burn 29 = .ok (.getfield 15, 3) := dk_180 0 15 (dk_at dksX1_burn_1 7 rfl rfl)
theorem dX1_burn_32 : decode cX1_burn 32 = .ok (.iload 4, 2) := dk_21 4 (dk_at dksX1_burn_1 10 rfl rfl)
theorem dX1_burn_34 : decode cX1_burn 34 = .ok (.iaload, 1) := dk_46 (dk_at dksX1_burn_1 12 rfl rfl)
theorem dX1_burn_35 : decode cX1_burn 35 = .ok (.iconst 1, 1) := dk_4 (dk_at dksX1_burn_1 13 rfl rfl)
theorem dX1_burn_36 : decode cX1_burn 36 = .ok (.iload_n 1, 1) := dk_27 (dk_at dksX1_burn_1 14 rfl rfl)
theorem dX1_burn_37 : decode cX1_burn 37 = .ok (.ishl, 1) := dk_120 (dk_at dksX1_burn_1 15 rfl rfl)
theorem dX1_burn_38 : decode cX1_burn 38 = .ok (.if_icmp .ne 17, 3) := dk_160 0 17 (dk_at dksX1_burn_1 16 rfl rfl)
theorem dX1_burn_41 : decode cX1_burn 41 = .ok (.aload_n 0, 1) := dk_42 (dk_at dksX1_burn_1 19 rfl rfl)
theorem dX1_burn_42 : decode cX1_burn 42 = .ok (.iload 4, 2) := dk_21 4 (dk_at dksX1_burn_1 20 rfl rfl)
theorem dX1_burn_44 : decode cX1_burn 44 = .ok (.iload_n 2, 1) := dk_28 (dk_at dksX1_burn_1 22 rfl rfl)
theorem dX1_burn_45 : decode cX1_burn 45 = .ok (.invokevirtual 74, 3) := dk_182 0 74 (dk_at dksX1_burn_2 0 rfl rfl)
theorem dX1_burn_48 : decode cX1_burn 48 = .ok (.ifCond .eq 7, 3) := dk_153 0 7 (dk_at dksX1_burn_2 3 rfl rfl)
theorem dX1_burn_51 : decode cX1_burn 51 = .ok (.iconst 1, 1) := dk_4 (dk_at dksX1_burn_2 6 rfl rfl)
theorem dX1_burn_52 : decode cX1_burn 52 = .ok (.goto 4, 3) := dk_167 0 4 (dk_at dksX1_burn_2 7 rfl rfl)
theorem dX1_burn_55 : decode cX1_burn 55 = .ok (.iconst 0, 1) := dk_3 (dk_at dksX1_burn_2 10 rfl rfl)
theorem dX1_burn_56 : decode cX1_burn 56 = .ok (.istore 5, 2) := dk_54 5 (dk_at dksX1_burn_2 11 rfl rfl)
theorem dX1_burn_58 : decode cX1_burn 58 = .ok (.iload 5, 2) := dk_21 5 (dk_at dksX1_burn_2 13 rfl rfl)
theorem dX1_burn_60 : decode cX1_burn 60 = .ok (.ifCond .eq 45, 3) := dk_153 0 45 (dk_at dksX1_burn_2 15 rfl rfl)
theorem dX1_burn_63 : decode cX1_burn 63 = .ok (.aload_n 0, 1) := dk_42 (dk_at dksX1_burn_2 18 rfl rfl)
theorem dX1_burn_64 : decode cX1_burn 64 = .ok (.getfield 22, 3) := dk_180 0 22 (dk_at dksX1_burn_2 19 rfl rfl)
theorem dX1_burn_67 : decode cX1_burn 67 = .ok (.iload 4, 2) := dk_21 4 (dk_at dksX1_burn_2 22 rfl rfl)
theorem dX1_burn_69 : decode cX1_burn 69 = .ok (.iaload, 1) := dk_46 (dk_at dksX1_burn_3 0 rfl rfl)
theorem dX1_burn_70 : decode cX1_burn 70 = .ok (.aload_n 0, 1) := dk_42 (dk_at dksX1_burn_3 1 rfl rfl)
theorem dX1_burn_71 : decode cX1_burn 71 = .ok (.getfield 3, 3) := dk_180 0 3 (dk_at dksX1_burn_3 2 rfl rfl)
theorem dX1_burn_74 : decode cX1_burn 74 = .ok (.getfield 25, 3) := dk_180 0 25 (dk_at dksX1_burn_3 5 rfl rfl)
theorem dX1_burn_77 : decode cX1_burn 77 = .ok (.iload 4, 2) := dk_21 4 (dk_at dksX1_burn_3 8 rfl rfl)
theorem dX1_burn_79 : decode cX1_burn 79 = .ok (.invokevirtual 56, 3) := dk_182 0 56 (dk_at dksX1_burn_3 10 rfl rfl)
theorem dX1_burn_82 : decode cX1_burn 82 = .ok (.checkcast 60, 3) := dk_192 0 60 (dk_at dksX1_burn_3 13 rfl rfl)
theorem dX1_burn_85 : decode cX1_burn 85 = .ok (.invokevirtual 77, 3) := dk_182 0 77 (dk_at dksX1_burn_3 16 rfl rfl)
theorem dX1_burn_88 : decode cX1_burn 88 = .ok (.if_icmp .ge 17, 3) := dk_162 0 17 (dk_at dksX1_burn_3 19 rfl rfl)
theorem dX1_burn_91 : decode cX1_burn 91 = .ok (.aload_n 0, 1) := dk_42 (dk_at dksX1_burn_3 22 rfl rfl)
theorem dX1_burn_92 : decode cX1_burn 92 = .ok (.getfield 22, 3) := dk_180 0 22 (dk_at dksX1_burn_4 0 rfl rfl)
theorem dX1_burn_95 : decode cX1_burn 95 = .ok (.iload 4, 2) := dk_21 4 (dk_at dksX1_burn_4 3 rfl rfl)
theorem dX1_burn_97 : decode cX1_burn 97 = .ok (.dup2, 1) := dk_92 (dk_at dksX1_burn_4 5 rfl rfl)
theorem dX1_burn_98 : decode cX1_burn 98 = .ok (.iaload, 1) := dk_46 (dk_at dksX1_burn_4 6 rfl rfl)
theorem dX1_burn_99 : decode cX1_burn 99 = .ok (.iconst 1, 1) := dk_4 (dk_at dksX1_burn_4 7 rfl rfl)
theorem dX1_burn_100 : decode cX1_burn 100 = .ok (.iadd, 1) := dk_96 (dk_at dksX1_burn_4 8 rfl rfl)
theorem dX1_burn_101 : decode cX1_burn 101 = .ok (.iastore, 1) := dk_79 (dk_at dksX1_burn_4 9 rfl rfl)
theorem dX1_burn_102 : decode cX1_burn 102 = .ok (.goto 41, 3) := dk_167 0 41 (dk_at dksX1_burn_4 10 rfl rfl)
theorem dX1_burn_105 : decode cX1_burn 105 = .ok (.aload_n 0, 1) := dk_42 (dk_at dksX1_burn_4 13 rfl rfl)
theorem dX1_burn_106 : decode cX1_burn 106 = .ok (.getfield 15, 3) := dk_180 0 15 (dk_at dksX1_burn_4 14 rfl rfl)
theorem dX1_burn_109 : decode cX1_burn 109 = .ok (.iload 4, 2) := dk_21 4 (dk_at dksX1_burn_4 17 rfl rfl)
theorem dX1_burn_111 : decode cX1_burn 111 = .ok (.dup2, 1) := dk_92 (dk_at dksX1_burn_4 19 rfl rfl)
theorem dX1_burn_112 : decode cX1_burn 112 = .ok (.iaload, 1) := dk_46 (dk_at dksX1_burn_4 20 rfl rfl)
theorem dX1_burn_113 : decode cX1_burn 113 = .ok (.aload_n 0, 1) := dk_42 (dk_at dksX1_burn_4 21 rfl rfl)
theorem dX1_burn_114 : decode cX1_burn 114 = .ok (.getfield 3, 3) := dk_180 0 3 (dk_at dksX1_burn_5 0 rfl rfl)
theorem dX1_burn_117 : decode cX1_burn 117 = .ok (.getfield 25, 3) := dk_180 0 25 (dk_at dksX1_burn_5 3 rfl rfl)
theorem dX1_burn_120 : decode cX1_burn 120 = .ok (.iload 4, 2) := dk_21 4 (dk_at dksX1_burn_5 6 rfl rfl)
theorem dX1_burn_122 : decode cX1_burn 122 = .ok (.invokevirtual 56, 3) := dk_182 0 56 (dk_at dksX1_burn_5 8 rfl rfl)
theorem dX1_burn_125 : decode cX1_burn 125 = .ok (.checkcast 60, 3) := dk_192 0 60 (dk_at dksX1_burn_5 11 rfl rfl)
theorem dX1_burn_128 : decode cX1_burn 128 = .ok (.aload_n 0, 1) := dk_42 (dk_at dksX1_burn_5 14 rfl rfl)
theorem dX1_burn_129 : decode cX1_burn 129 = .ok (.getfield 15, 3) := dk_180 0 15 (dk_at dksX1_burn_5 15 rfl rfl)
theorem dX1_burn_132 : decode cX1_burn 132 = .ok (.iload 4, 2) := dk_21 4 (dk_at dksX1_burn_5 18 rfl rfl)
theorem dX1_burn_134 : decode cX1_burn 134 = .ok (.iaload, 1) := dk_46 (dk_at dksX1_burn_5 20 rfl rfl)
theorem dX1_burn_135 : decode cX1_burn 135 = .ok (.iload_n 1, 1) := dk_27 (dk_at dksX1_burn_5 21 rfl rfl)
theorem dX1_burn_136 : decode cX1_burn 136 = .ok (.invokevirtual 80, 3) := dk_182 0 80 (dk_at dksX1_burn_6 0 rfl rfl)
theorem dX1_burn_139 : decode cX1_burn 139 = .ok (.iconst (-1), 1) := dk_2 (dk_at dksX1_burn_6 3 rfl rfl)
theorem dX1_burn_140 : decode cX1_burn 140 = .ok (.ixor, 1) := dk_130 (dk_at dksX1_burn_6 4 rfl rfl)
theorem dX1_burn_141 : decode cX1_burn 141 = .ok (.iand, 1) := dk_126 (dk_at dksX1_burn_6 5 rfl rfl)
theorem dX1_burn_142 : decode cX1_burn 142 = .ok (.iastore, 1) := dk_79 (dk_at dksX1_burn_6 6 rfl rfl)
theorem dX1_burn_143 : decode cX1_burn 143 = .ok (.iinc 4 1, 3) := dk_132 4 1 (dk_at dksX1_burn_6 7 rfl rfl)
theorem dX1_burn_146 : decode cX1_burn 146 = .ok (.goto (-133), 3) := dk_167 255 123 (dk_at dksX1_burn_6 10 rfl rfl)
theorem dX1_burn_149 : decode cX1_burn 149 = .ok (.iload_n 3, 1) := dk_29 (dk_at dksX1_burn_6 13 rfl rfl)
theorem dX1_burn_150 : decode cX1_burn 150 = .ok (.aload_n 0, 1) := dk_42 (dk_at dksX1_burn_6 14 rfl rfl)
theorem dX1_burn_151 : decode cX1_burn 151 = .ok (.invokevirtual 71, 3) := dk_182 0 71 (dk_at dksX1_burn_6 15 rfl rfl)
theorem dX1_burn_154 : decode cX1_burn 154 = .ok (.isub, 1) := dk_100 (dk_at dksX1_burn_6 18 rfl rfl)
theorem dX1_burn_155 : decode cX1_burn 155 = .ok (.istore 4, 2) := dk_54 4 (dk_at dksX1_burn_6 19 rfl rfl)
theorem dX1_burn_157 : decode cX1_burn 157 = .ok (.iconst 0, 1) := dk_3 (dk_at dksX1_burn_6 21 rfl rfl)
theorem dX1_burn_158 : decode cX1_burn 158 = .ok (.istore 5, 2) := dk_54 5 (dk_at dksX1_burn_6 22 rfl rfl)
theorem dX1_burn_160 : decode cX1_burn 160 = .ok (.iload 5, 2) := dk_21 5 (dk_at dksX1_burn_7 0 rfl rfl)
theorem dX1_burn_162 : decode cX1_burn 162 = .ok (.aload_n 0, 1) := dk_42 (dk_at dksX1_burn_7 2 rfl rfl)
theorem dX1_burn_163 : decode cX1_burn 163 = .ok (.getfield 3, 3) := dk_180 0 3 (dk_at dksX1_burn_7 3 rfl rfl)
theorem dX1_burn_166 : decode cX1_burn 166 = .ok (.getfield 25, 3) := dk_180 0 25 (dk_at dksX1_burn_7 6 rfl rfl)
theorem dX1_burn_169 : decode cX1_burn 169 = .ok (.invokevirtual 29, 3) := dk_182 0 29 (dk_at dksX1_burn_7 9 rfl rfl)
theorem dX1_burn_172 : decode cX1_burn 172 = .ok (.if_icmp .ge 45, 3) := dk_162 0 45 (dk_at dksX1_burn_7 12 rfl rfl)
theorem dX1_burn_175 : decode cX1_burn 175 = .ok (.aload_n 0, 1) := dk_42 (dk_at dksX1_burn_7 15 rfl rfl)
theorem dX1_burn_176 : decode cX1_burn 176 = .ok (.getfield 3, 3) := dk_180 0 3 (dk_at dksX1_burn_7 16 rfl rfl)
theorem dX1_burn_179 : decode cX1_burn 179 = .ok (.getfield 25, 3) := dk_180 0 25 (dk_at dksX1_burn_7 19 rfl rfl)
theorem dX1_burn_182 : decode cX1_burn 182 = .ok (.iload 5, 2) := dk_21 5 (dk_at dksX1_burn_7 22 rfl rfl)
theorem dX1_burn_184 : decode cX1_burn 184 = .ok (.invokevirtual 56, 3) := dk_182 0 56 (dk_at dksX1_burn_8 0 rfl rfl)
theorem dX1_burn_187 : decode cX1_burn 187 = .ok (.checkcast 60, 3) := dk_192 0 60 (dk_at dksX1_burn_8 3 rfl rfl)
theorem dX1_burn_190 : decode cX1_burn 190 = .ok (.invokevirtual 84, 3) := dk_182 0 84 (dk_at dksX1_burn_8 6 rfl rfl)
theorem dX1_burn_193 : decode cX1_burn 193 = .ok (.ifCond .eq 18, 3) := dk_153 0 18 (dk_at dksX1_burn_8 9 rfl rfl)
theorem dX1_burn_196 : decode cX1_burn 196 = .ok (.aload_n 0, 1) := dk_42 (dk_at dksX1_burn_8 12 rfl rfl)
theorem dX1_burn_197 : decode cX1_burn 197 = .ok (.iload 5, 2) := dk_21 5 (dk_at dksX1_burn_8 13 rfl rfl)
theorem dX1_burn_199 : decode cX1_burn 199 = .ok (.invokevirtual 35, 3) := dk_182 0 35 (dk_at dksX1_burn_8 15 rfl rfl)
theorem dX1_burn_202 : decode cX1_burn 202 = .ok (.ifCond .eq 9, 3) := dk_153 0 9 (dk_at dksX1_burn_8 18 rfl rfl)
theorem dX1_burn_205 : decode cX1_burn 205 = .ok (.aload_n 0, 1) := dk_42 (dk_at dksX1_burn_8 21 rfl rfl)
theorem dX1_burn_206 : decode cX1_burn 206 = .ok (.iload 5, 2) := dk_21 5 (dk_at dksX1_burn_8 22 rfl rfl)
theorem dX1_burn_208 : decode cX1_burn 208 = .ok (.invokevirtual 88, 3) := dk_182 0 88 (dk_at dksX1_burn_9 0 rfl rfl)
theorem dX1_burn_211 : decode cX1_burn 211 = .ok (.iinc 5 1, 3) := dk_132 5 1 (dk_at dksX1_burn_9 3 rfl rfl)
theorem dX1_burn_214 : decode cX1_burn 214 = .ok (.goto (-54), 3) := dk_167 255 202 (dk_at dksX1_burn_9 6 rfl rfl)
theorem dX1_burn_217 : decode cX1_burn 217 = .ok (.iload 4, 2) := dk_21 4 (dk_at dksX1_burn_9 9 rfl rfl)
theorem dX1_burn_219 : decode cX1_burn 219 = .ok (.ireturn, 1) := dk_172 (dk_at dksX1_burn_9 11 rfl rfl)
abbrev cX1_living : ByteArray := prog_2_method_4_code
def yX1_living : MethodName := ⟨RX1, "living", "()I"⟩
def dkwX1_living_1 : List UInt8 := [153, 0, 9, 4, 28, 120, 167, 0, 4, 3, 128, 60, 132, 2, 1, 167, 255, 221, 27, 172]
abbrev dktX1_living_1 : List UInt8 := dkwX1_living_1 ++ []
def dkwX1_living_0 : List UInt8 := [3, 60, 3, 61, 28, 42, 180, 0, 3, 180, 0, 25, 182, 0, 29, 162, 0, 27, 27, 42, 28, 182, 0, 35]
abbrev dktX1_living_0 : List UInt8 := dkwX1_living_0 ++ dktX1_living_1
theorem dksX1_living_0 : cX1_living.data.toList.drop 0 = dktX1_living_0 := by decide +kernel
theorem dksX1_living_1 : cX1_living.data.toList.drop 24 = dktX1_living_1 := dk_seg dksX1_living_0 24 rfl rfl
theorem dX1_living_0 : decode cX1_living 0 = .ok (.iconst 0, 1) := dk_3 (dk_at dksX1_living_0 0 rfl rfl)
theorem dX1_living_1 : decode cX1_living 1 = .ok (.istore_n 1, 1) := dk_60 (dk_at dksX1_living_0 1 rfl rfl)
theorem dX1_living_2 : decode cX1_living 2 = .ok (.iconst 0, 1) := dk_3 (dk_at dksX1_living_0 2 rfl rfl)
theorem dX1_living_3 : decode cX1_living 3 = .ok (.istore_n 2, 1) := dk_61 (dk_at dksX1_living_0 3 rfl rfl)
theorem dX1_living_4 : decode cX1_living 4 = .ok (.iload_n 2, 1) := dk_28 (dk_at dksX1_living_0 4 rfl rfl)
theorem dX1_living_5 : decode cX1_living 5 = .ok (.aload_n 0, 1) := dk_42 (dk_at dksX1_living_0 5 rfl rfl)
theorem dX1_living_6 : decode cX1_living 6 = .ok (.getfield 3, 3) := dk_180 0 3 (dk_at dksX1_living_0 6 rfl rfl)
theorem dX1_living_9 : decode cX1_living 9 = .ok (.getfield 25, 3) := dk_180 0 25 (dk_at dksX1_living_0 9 rfl rfl)
theorem dX1_living_12 : decode cX1_living 12 = .ok (.invokevirtual 29, 3) := dk_182 0 29 (dk_at dksX1_living_0 12 rfl rfl)
theorem dX1_living_15 : decode cX1_living 15 = .ok (.if_icmp .ge 27, 3) := dk_162 0 27 (dk_at dksX1_living_0 15 rfl rfl)
theorem dX1_living_18 : decode cX1_living 18 = .ok (.iload_n 1, 1) := dk_27 (dk_at dksX1_living_0 18 rfl rfl)
theorem dX1_living_19 : decode cX1_living 19 = .ok (.aload_n 0, 1) := dk_42 (dk_at dksX1_living_0 19 rfl rfl)
theorem dX1_living_20 : decode cX1_living 20 = .ok (.iload_n 2, 1) := dk_28 (dk_at dksX1_living_0 20 rfl rfl)
theorem dX1_living_21 : decode cX1_living 21 = .ok (.invokevirtual 35, 3) := dk_182 0 35 (dk_at dksX1_living_0 21 rfl rfl)
theorem dX1_living_24 : decode cX1_living 24 = .ok (.ifCond .eq 9, 3) := dk_153 0 9 (dk_at dksX1_living_1 0 rfl rfl)
theorem dX1_living_27 : decode cX1_living 27 = .ok (.iconst 1, 1) := dk_4 (dk_at dksX1_living_1 3 rfl rfl)
theorem dX1_living_28 : decode cX1_living 28 = .ok (.iload_n 2, 1) := dk_28 (dk_at dksX1_living_1 4 rfl rfl)
theorem dX1_living_29 : decode cX1_living 29 = .ok (.ishl, 1) := dk_120 (dk_at dksX1_living_1 5 rfl rfl)
theorem dX1_living_30 : decode cX1_living 30 = .ok (.goto 4, 3) := dk_167 0 4 (dk_at dksX1_living_1 6 rfl rfl)
theorem dX1_living_33 : decode cX1_living 33 = .ok (.iconst 0, 1) := dk_3 (dk_at dksX1_living_1 9 rfl rfl)
theorem dX1_living_34 : decode cX1_living 34 = .ok (.ior, 1) := dk_128 (dk_at dksX1_living_1 10 rfl rfl)
theorem dX1_living_35 : decode cX1_living 35 = .ok (.istore_n 1, 1) := dk_60 (dk_at dksX1_living_1 11 rfl rfl)
theorem dX1_living_36 : decode cX1_living 36 = .ok (.iinc 2 1, 3) := dk_132 2 1 (dk_at dksX1_living_1 12 rfl rfl)
theorem dX1_living_39 : decode cX1_living 39 = .ok (.goto (-35), 3) := dk_167 255 221 (dk_at dksX1_living_1 15 rfl rfl)
theorem dX1_living_42 : decode cX1_living 42 = .ok (.iload_n 1, 1) := dk_27 (dk_at dksX1_living_1 18 rfl rfl)
theorem dX1_living_43 : decode cX1_living 43 = .ok (.ireturn, 1) := dk_172 (dk_at dksX1_living_1 19 rfl rfl)
abbrev cX1_leavesAll : ByteArray := prog_2_method_6_code
def yX1_leavesAll : MethodName := ⟨RX1, "leavesAll", "()I"⟩
def dkwX1_leavesAll_1 : List UInt8 := [46, 184, 0, 39, 96, 60, 132, 2, 1, 167, 255, 227, 27, 172]
abbrev dktX1_leavesAll_1 : List UInt8 := dkwX1_leavesAll_1 ++ []
def dkwX1_leavesAll_0 : List UInt8 := [3, 60, 3, 61, 28, 42, 180, 0, 3, 180, 0, 25, 182, 0, 29, 162, 0, 21, 27, 42, 180, 0, 15, 28]
abbrev dktX1_leavesAll_0 : List UInt8 := dkwX1_leavesAll_0 ++ dktX1_leavesAll_1
theorem dksX1_leavesAll_0 : cX1_leavesAll.data.toList.drop 0 = dktX1_leavesAll_0 := by decide +kernel
theorem dksX1_leavesAll_1 : cX1_leavesAll.data.toList.drop 24 = dktX1_leavesAll_1 := dk_seg dksX1_leavesAll_0 24 rfl rfl
theorem dX1_leavesAll_0 : decode cX1_leavesAll 0 = .ok (.iconst 0, 1) := dk_3 (dk_at dksX1_leavesAll_0 0 rfl rfl)
theorem dX1_leavesAll_1 : decode cX1_leavesAll 1 = .ok (.istore_n 1, 1) := dk_60 (dk_at dksX1_leavesAll_0 1 rfl rfl)
theorem dX1_leavesAll_2 : decode cX1_leavesAll 2 = .ok (.iconst 0, 1) := dk_3 (dk_at dksX1_leavesAll_0 2 rfl rfl)
theorem dX1_leavesAll_3 : decode cX1_leavesAll 3 = .ok (.istore_n 2, 1) := dk_61 (dk_at dksX1_leavesAll_0 3 rfl rfl)
theorem dX1_leavesAll_4 : decode cX1_leavesAll 4 = .ok (.iload_n 2, 1) := dk_28 (dk_at dksX1_leavesAll_0 4 rfl rfl)
theorem dX1_leavesAll_5 : decode cX1_leavesAll 5 = .ok (.aload_n 0, 1) := dk_42 (dk_at dksX1_leavesAll_0 5 rfl rfl)
theorem dX1_leavesAll_6 : decode cX1_leavesAll 6 = .ok (.getfield 3, 3) := dk_180 0 3 (dk_at dksX1_leavesAll_0 6 rfl rfl)
theorem dX1_leavesAll_9 : decode cX1_leavesAll 9 = .ok (.getfield 25, 3) := dk_180 0 25 (dk_at dksX1_leavesAll_0 9 rfl rfl)
theorem dX1_leavesAll_12 : decode cX1_leavesAll 12 = .ok (.invokevirtual 29, 3) := dk_182 0 29 (dk_at dksX1_leavesAll_0 12 rfl rfl)
theorem dX1_leavesAll_15 : decode cX1_leavesAll 15 = .ok (.if_icmp .ge 21, 3) := dk_162 0 21 (dk_at dksX1_leavesAll_0 15 rfl rfl)
theorem dX1_leavesAll_18 : decode cX1_leavesAll 18 = .ok (.iload_n 1, 1) := dk_27 (dk_at dksX1_leavesAll_0 18 rfl rfl)
theorem dX1_leavesAll_19 : decode cX1_leavesAll 19 = .ok (.aload_n 0, 1) := dk_42 (dk_at dksX1_leavesAll_0 19 rfl rfl)
theorem dX1_leavesAll_20 : decode cX1_leavesAll 20 = .ok (.getfield 15, 3) := dk_180 0 15 (dk_at dksX1_leavesAll_0 20 rfl rfl)
theorem dX1_leavesAll_23 : decode cX1_leavesAll 23 = .ok (.iload_n 2, 1) := dk_28 (dk_at dksX1_leavesAll_0 23 rfl rfl)
theorem dX1_leavesAll_24 : decode cX1_leavesAll 24 = .ok (.iaload, 1) := dk_46 (dk_at dksX1_leavesAll_1 0 rfl rfl)
theorem dX1_leavesAll_25 : decode cX1_leavesAll 25 = .ok (.invokestatic 39, 3) := dk_184 0 39 (dk_at dksX1_leavesAll_1 1 rfl rfl)
theorem dX1_leavesAll_28 : decode cX1_leavesAll 28 = .ok (.iadd, 1) := dk_96 (dk_at dksX1_leavesAll_1 4 rfl rfl)
theorem dX1_leavesAll_29 : decode cX1_leavesAll 29 = .ok (.istore_n 1, 1) := dk_60 (dk_at dksX1_leavesAll_1 5 rfl rfl)
theorem dX1_leavesAll_30 : decode cX1_leavesAll 30 = .ok (.iinc 2 1, 3) := dk_132 2 1 (dk_at dksX1_leavesAll_1 6 rfl rfl)
theorem dX1_leavesAll_33 : decode cX1_leavesAll 33 = .ok (.goto (-29), 3) := dk_167 255 227 (dk_at dksX1_leavesAll_1 9 rfl rfl)
theorem dX1_leavesAll_36 : decode cX1_leavesAll 36 = .ok (.iload_n 1, 1) := dk_27 (dk_at dksX1_leavesAll_1 12 rfl rfl)
theorem dX1_leavesAll_37 : decode cX1_leavesAll 37 = .ok (.ireturn, 1) := dk_172 (dk_at dksX1_leavesAll_1 13 rfl rfl)
abbrev cX1_isPointedTo : ByteArray := prog_2_method_10_code
def yX1_isPointedTo : MethodName := ⟨RX1, "isPointedTo", "(II)Z"⟩
def dkwX1_isPointedTo_2 : List UInt8 := [132, 4, 1, 167, 255, 210, 29, 172]
abbrev dktX1_isPointedTo_2 : List UInt8 := dkwX1_isPointedTo_2 ++ []
def dkwX1_isPointedTo_1 : List UInt8 := [184, 0, 45, 153, 0, 18, 42, 180, 0, 19, 21, 4, 46, 27, 160, 0, 7, 4, 167, 0, 4, 3, 128, 62]
abbrev dktX1_isPointedTo_1 : List UInt8 := dkwX1_isPointedTo_1 ++ dktX1_isPointedTo_2
def dkwX1_isPointedTo_0 : List UInt8 := [3, 62, 3, 54, 4, 21, 4, 42, 180, 0, 3, 180, 0, 25, 182, 0, 29, 162, 0, 37, 29, 28, 21, 4]
abbrev dktX1_isPointedTo_0 : List UInt8 := dkwX1_isPointedTo_0 ++ dktX1_isPointedTo_1
theorem dksX1_isPointedTo_0 : cX1_isPointedTo.data.toList.drop 0 = dktX1_isPointedTo_0 := by decide +kernel
theorem dksX1_isPointedTo_1 : cX1_isPointedTo.data.toList.drop 24 = dktX1_isPointedTo_1 := dk_seg dksX1_isPointedTo_0 24 rfl rfl
theorem dksX1_isPointedTo_2 : cX1_isPointedTo.data.toList.drop 48 = dktX1_isPointedTo_2 := dk_seg dksX1_isPointedTo_1 24 rfl rfl
theorem dX1_isPointedTo_0 : decode cX1_isPointedTo 0 = .ok (.iconst 0, 1) := dk_3 (dk_at dksX1_isPointedTo_0 0 rfl rfl)
theorem dX1_isPointedTo_1 : decode cX1_isPointedTo 1 = .ok (.istore_n 3, 1) := dk_62 (dk_at dksX1_isPointedTo_0 1 rfl rfl)
theorem dX1_isPointedTo_2 : decode cX1_isPointedTo 2 = .ok (.iconst 0, 1) := dk_3 (dk_at dksX1_isPointedTo_0 2 rfl rfl)
theorem dX1_isPointedTo_3 : decode cX1_isPointedTo 3 = .ok (.istore 4, 2) := dk_54 4 (dk_at dksX1_isPointedTo_0 3 rfl rfl)
theorem dX1_isPointedTo_5 : decode cX1_isPointedTo 5 = .ok (.iload 4, 2) := dk_21 4 (dk_at dksX1_isPointedTo_0 5 rfl rfl)
theorem dX1_isPointedTo_7 : decode cX1_isPointedTo 7 = .ok (.aload_n 0, 1) := dk_42 (dk_at dksX1_isPointedTo_0 7 rfl rfl)
theorem dX1_isPointedTo_8 : decode cX1_isPointedTo 8 = .ok (.getfield 3, 3) := dk_180 0 3 (dk_at dksX1_isPointedTo_0 8 rfl rfl)
theorem dX1_isPointedTo_11 : decode cX1_isPointedTo 11 = .ok (.getfield 25, 3) := dk_180 0 25 (dk_at dksX1_isPointedTo_0 11 rfl rfl)
theorem dX1_isPointedTo_14 : decode cX1_isPointedTo 14 = .ok (.invokevirtual 29, 3) := dk_182 0 29 (dk_at dksX1_isPointedTo_0 14 rfl rfl)
theorem dX1_isPointedTo_17 : decode cX1_isPointedTo 17 = .ok (.if_icmp .ge 37, 3) := dk_162 0 37 (dk_at dksX1_isPointedTo_0 17 rfl rfl)
theorem dX1_isPointedTo_20 : decode cX1_isPointedTo 20 = .ok (.iload_n 3, 1) := dk_29 (dk_at dksX1_isPointedTo_0 20 rfl rfl)
theorem dX1_isPointedTo_21 : decode cX1_isPointedTo 21 = .ok (.iload_n 2, 1) := dk_28 (dk_at dksX1_isPointedTo_0 21 rfl rfl)
theorem dX1_isPointedTo_22 : decode cX1_isPointedTo 22 = .ok (.iload 4, 2) := dk_21 4 (dk_at dksX1_isPointedTo_0 22 rfl rfl)
theorem dX1_isPointedTo_24 : decode cX1_isPointedTo 24 = .ok (.invokestatic 45, 3) := dk_184 0 45 (dk_at dksX1_isPointedTo_1 0 rfl rfl)
theorem dX1_isPointedTo_27 : decode cX1_isPointedTo 27 = .ok (.ifCond .eq 18, 3) := dk_153 0 18 (dk_at dksX1_isPointedTo_1 3 rfl rfl)
theorem dX1_isPointedTo_30 : decode cX1_isPointedTo 30 = .ok (.aload_n 0, 1) := dk_42 (dk_at dksX1_isPointedTo_1 6 rfl rfl)
theorem dX1_isPointedTo_31 : decode cX1_isPointedTo 31 = .ok (.getfield 19, 3) := dk_180 0 19 (dk_at dksX1_isPointedTo_1 7 rfl rfl)
theorem dX1_isPointedTo_34 : decode cX1_isPointedTo 34 = .ok (.iload 4, 2) := dk_21 4 (dk_at dksX1_isPointedTo_1 10 rfl rfl)
theorem dX1_isPointedTo_36 : decode cX1_isPointedTo 36 = .ok (.iaload, 1) := dk_46 (dk_at dksX1_isPointedTo_1 12 rfl rfl)
theorem dX1_isPointedTo_37 : decode cX1_isPointedTo 37 = .ok (.iload_n 1, 1) := dk_27 (dk_at dksX1_isPointedTo_1 13 rfl rfl)
theorem dX1_isPointedTo_38 : decode cX1_isPointedTo 38 = .ok (.if_icmp .ne 7, 3) := dk_160 0 7 (dk_at dksX1_isPointedTo_1 14 rfl rfl)
theorem dX1_isPointedTo_41 : decode cX1_isPointedTo 41 = .ok (.iconst 1, 1) := dk_4 (dk_at dksX1_isPointedTo_1 17 rfl rfl)
theorem dX1_isPointedTo_42 : decode cX1_isPointedTo 42 = .ok (.goto 4, 3) := dk_167 0 4 (dk_at dksX1_isPointedTo_1 18 rfl rfl)
theorem dX1_isPointedTo_45 : decode cX1_isPointedTo 45 = .ok (.iconst 0, 1) := dk_3 (dk_at dksX1_isPointedTo_1 21 rfl rfl)
theorem dX1_isPointedTo_46 : decode cX1_isPointedTo 46 = .ok (.ior, 1) := dk_128 (dk_at dksX1_isPointedTo_1 22 rfl rfl)
theorem dX1_isPointedTo_47 : decode cX1_isPointedTo 47 = .ok (.istore_n 3, 1) := dk_62 (dk_at dksX1_isPointedTo_1 23 rfl rfl)
theorem dX1_isPointedTo_48 : decode cX1_isPointedTo 48 = .ok (.iinc 4 1, 3) := dk_132 4 1 (dk_at dksX1_isPointedTo_2 0 rfl rfl)
theorem dX1_isPointedTo_51 : decode cX1_isPointedTo 51 = .ok (.goto (-46), 3) := dk_167 255 210 (dk_at dksX1_isPointedTo_2 3 rfl rfl)
theorem dX1_isPointedTo_54 : decode cX1_isPointedTo 54 = .ok (.iload_n 3, 1) := dk_29 (dk_at dksX1_isPointedTo_2 6 rfl rfl)
theorem dX1_isPointedTo_55 : decode cX1_isPointedTo 55 = .ok (.ireturn, 1) := dk_172 (dk_at dksX1_isPointedTo_2 7 rfl rfl)
abbrev cX1_spread : ByteArray := prog_2_method_11_code
def yX1_spread : MethodName := ⟨RX1, "spread", "(I)V"⟩
def dkwX1_spread_1 : List UInt8 := [4, 28, 120, 128, 79, 177, 132, 2, 1, 167, 255, 225, 177]
abbrev dktX1_spread_1 : List UInt8 := dkwX1_spread_1 ++ []
def dkwX1_spread_0 : List UInt8 := [3, 61, 28, 16, 6, 162, 0, 31, 42, 27, 28, 182, 0, 65, 153, 0, 16, 42, 180, 0, 15, 27, 92, 46]
abbrev dktX1_spread_0 : List UInt8 := dkwX1_spread_0 ++ dktX1_spread_1
theorem dksX1_spread_0 : cX1_spread.data.toList.drop 0 = dktX1_spread_0 := by decide +kernel
theorem dksX1_spread_1 : cX1_spread.data.toList.drop 24 = dktX1_spread_1 := dk_seg dksX1_spread_0 24 rfl rfl
theorem dX1_spread_0 : decode cX1_spread 0 = .ok (.iconst 0, 1) := dk_3 (dk_at dksX1_spread_0 0 rfl rfl)
theorem dX1_spread_1 : decode cX1_spread 1 = .ok (.istore_n 2, 1) := dk_61 (dk_at dksX1_spread_0 1 rfl rfl)
theorem dX1_spread_2 : decode cX1_spread 2 = .ok (.iload_n 2, 1) := dk_28 (dk_at dksX1_spread_0 2 rfl rfl)
theorem dX1_spread_3 : decode cX1_spread 3 = .ok (.bipush 6, 2) := dk_16 6 (dk_at dksX1_spread_0 3 rfl rfl)
theorem dX1_spread_5 : decode cX1_spread 5 = .ok (.if_icmp .ge 31, 3) := dk_162 0 31 (dk_at dksX1_spread_0 5 rfl rfl)
theorem dX1_spread_8 : decode cX1_spread 8 = .ok (.aload_n 0, 1) := dk_42 (dk_at dksX1_spread_0 8 rfl rfl)
theorem dX1_spread_9 : decode cX1_spread 9 = .ok (.iload_n 1, 1) := dk_27 (dk_at dksX1_spread_0 9 rfl rfl)
theorem dX1_spread_10 : decode cX1_spread 10 = .ok (.iload_n 2, 1) := dk_28 (dk_at dksX1_spread_0 10 rfl rfl)
theorem dX1_spread_11 : decode cX1_spread 11 = .ok (.invokevirtual 65, 3) := dk_182 0 65 (dk_at dksX1_spread_0 11 rfl rfl)
theorem dX1_spread_14 : decode cX1_spread 14 = .ok (.ifCond .eq 16, 3) := dk_153 0 16 (dk_at dksX1_spread_0 14 rfl rfl)
theorem dX1_spread_17 : decode cX1_spread 17 = .ok (.aload_n 0, 1) := dk_42 (dk_at dksX1_spread_0 17 rfl rfl)
theorem dX1_spread_18 : decode cX1_spread 18 = .ok (.getfield 15, 3) := dk_180 0 15 (dk_at dksX1_spread_0 18 rfl rfl)
theorem dX1_spread_21 : decode cX1_spread 21 = .ok (.iload_n 1, 1) := dk_27 (dk_at dksX1_spread_0 21 rfl rfl)
theorem dX1_spread_22 : decode cX1_spread 22 = .ok (.dup2, 1) := dk_92 (dk_at dksX1_spread_0 22 rfl rfl)
theorem dX1_spread_23 : decode cX1_spread 23 = .ok (.iaload, 1) := dk_46 (dk_at dksX1_spread_0 23 rfl rfl)
theorem dX1_spread_24 : decode cX1_spread 24 = .ok (.iconst 1, 1) := dk_4 (dk_at dksX1_spread_1 0 rfl rfl)
theorem dX1_spread_25 : decode cX1_spread 25 = .ok (.iload_n 2, 1) := dk_28 (dk_at dksX1_spread_1 1 rfl rfl)
theorem dX1_spread_26 : decode cX1_spread 26 = .ok (.ishl, 1) := dk_120 (dk_at dksX1_spread_1 2 rfl rfl)
theorem dX1_spread_27 : decode cX1_spread 27 = .ok (.ior, 1) := dk_128 (dk_at dksX1_spread_1 3 rfl rfl)
theorem dX1_spread_28 : decode cX1_spread 28 = .ok (.iastore, 1) := dk_79 (dk_at dksX1_spread_1 4 rfl rfl)
theorem dX1_spread_29 : decode cX1_spread 29 = .ok (.return_, 1) := dk_177 (dk_at dksX1_spread_1 5 rfl rfl)
theorem dX1_spread_30 : decode cX1_spread 30 = .ok (.iinc 2 1, 3) := dk_132 2 1 (dk_at dksX1_spread_1 6 rfl rfl)
theorem dX1_spread_33 : decode cX1_spread 33 = .ok (.goto (-31), 3) := dk_167 255 225 (dk_at dksX1_spread_1 9 rfl rfl)
theorem dX1_spread_36 : decode cX1_spread 36 = .ok (.return_, 1) := dk_177 (dk_at dksX1_spread_1 12 rfl rfl)
abbrev cX1_become : ByteArray := prog_2_method_2_code
def yX1_become : MethodName := ⟨RX1, "become", "(LBurntLetters$Archive;)V"⟩
def dkwX1_become_2 : List UInt8 := [167, 255, 212, 177]
abbrev dktX1_become_2 : List UInt8 := dkwX1_become_2 ++ []
def dkwX1_become_1 : List UInt8 := [43, 180, 0, 19, 28, 46, 79, 42, 180, 0, 22, 28, 43, 180, 0, 22, 28, 46, 79, 132, 2, 1]
abbrev dktX1_become_1 : List UInt8 := dkwX1_become_1 ++ dktX1_become_2
def dkwX1_become_0 : List UInt8 := [3, 61, 28, 8, 162, 0, 45, 42, 180, 0, 15, 28, 43, 180, 0, 15, 28, 46, 79, 42, 180, 0, 19, 28]
abbrev dktX1_become_0 : List UInt8 := dkwX1_become_0 ++ dktX1_become_1
theorem dksX1_become_0 : cX1_become.data.toList.drop 0 = dktX1_become_0 := by decide +kernel
theorem dksX1_become_1 : cX1_become.data.toList.drop 24 = dktX1_become_1 := dk_seg dksX1_become_0 24 rfl rfl
theorem dksX1_become_2 : cX1_become.data.toList.drop 46 = dktX1_become_2 := dk_seg dksX1_become_1 22 rfl rfl
theorem dX1_become_0 : decode cX1_become 0 = .ok (.iconst 0, 1) := dk_3 (dk_at dksX1_become_0 0 rfl rfl)
theorem dX1_become_1 : decode cX1_become 1 = .ok (.istore_n 2, 1) := dk_61 (dk_at dksX1_become_0 1 rfl rfl)
theorem dX1_become_2 : decode cX1_become 2 = .ok (.iload_n 2, 1) := dk_28 (dk_at dksX1_become_0 2 rfl rfl)
theorem dX1_become_3 : decode cX1_become 3 = .ok (.iconst 5, 1) := dk_8 (dk_at dksX1_become_0 3 rfl rfl)
theorem dX1_become_4 : decode cX1_become 4 = .ok (.if_icmp .ge 45, 3) := dk_162 0 45 (dk_at dksX1_become_0 4 rfl rfl)
theorem dX1_become_7 : decode cX1_become 7 = .ok (.aload_n 0, 1) := dk_42 (dk_at dksX1_become_0 7 rfl rfl)
theorem dX1_become_8 : decode cX1_become 8 = .ok (.getfield 15, 3) := dk_180 0 15 (dk_at dksX1_become_0 8 rfl rfl)
theorem dX1_become_11 : decode cX1_become 11 = .ok (.iload_n 2, 1) := dk_28 (dk_at dksX1_become_0 11 rfl rfl)
theorem dX1_become_12 : decode cX1_become 12 = .ok (.aload_n 1, 1) := dk_43 (dk_at dksX1_become_0 12 rfl rfl)
theorem dX1_become_13 : decode cX1_become 13 = .ok (.getfield 15, 3) := dk_180 0 15 (dk_at dksX1_become_0 13 rfl rfl)
theorem dX1_become_16 : decode cX1_become 16 = .ok (.iload_n 2, 1) := dk_28 (dk_at dksX1_become_0 16 rfl rfl)
theorem dX1_become_17 : decode cX1_become 17 = .ok (.iaload, 1) := dk_46 (dk_at dksX1_become_0 17 rfl rfl)
theorem dX1_become_18 : decode cX1_become 18 = .ok (.iastore, 1) := dk_79 (dk_at dksX1_become_0 18 rfl rfl)
theorem dX1_become_19 : decode cX1_become 19 = .ok (.aload_n 0, 1) := dk_42 (dk_at dksX1_become_0 19 rfl rfl)
theorem dX1_become_20 : decode cX1_become 20 = .ok (.getfield 19, 3) := dk_180 0 19 (dk_at dksX1_become_0 20 rfl rfl)
theorem dX1_become_23 : decode cX1_become 23 = .ok (.iload_n 2, 1) := dk_28 (dk_at dksX1_become_0 23 rfl rfl)
theorem dX1_become_24 : decode cX1_become 24 = .ok (.aload_n 1, 1) := dk_43 (dk_at dksX1_become_1 0 rfl rfl)
theorem dX1_become_25 : decode cX1_become 25 = .ok (.getfield 19, 3) := dk_180 0 19 (dk_at dksX1_become_1 1 rfl rfl)
theorem dX1_become_28 : decode cX1_become 28 = .ok (.iload_n 2, 1) := dk_28 (dk_at dksX1_become_1 4 rfl rfl)
theorem dX1_become_29 : decode cX1_become 29 = .ok (.iaload, 1) := dk_46 (dk_at dksX1_become_1 5 rfl rfl)
theorem dX1_become_30 : decode cX1_become 30 = .ok (.iastore, 1) := dk_79 (dk_at dksX1_become_1 6 rfl rfl)
theorem dX1_become_31 : decode cX1_become 31 = .ok (.aload_n 0, 1) := dk_42 (dk_at dksX1_become_1 7 rfl rfl)
theorem dX1_become_32 : decode cX1_become 32 = .ok (.getfield 22, 3) := dk_180 0 22 (dk_at dksX1_become_1 8 rfl rfl)
theorem dX1_become_35 : decode cX1_become 35 = .ok (.iload_n 2, 1) := dk_28 (dk_at dksX1_become_1 11 rfl rfl)
theorem dX1_become_36 : decode cX1_become 36 = .ok (.aload_n 1, 1) := dk_43 (dk_at dksX1_become_1 12 rfl rfl)
theorem dX1_become_37 : decode cX1_become 37 = .ok (.getfield 22, 3) := dk_180 0 22 (dk_at dksX1_become_1 13 rfl rfl)
theorem dX1_become_40 : decode cX1_become 40 = .ok (.iload_n 2, 1) := dk_28 (dk_at dksX1_become_1 16 rfl rfl)
theorem dX1_become_41 : decode cX1_become 41 = .ok (.iaload, 1) := dk_46 (dk_at dksX1_become_1 17 rfl rfl)
theorem dX1_become_42 : decode cX1_become 42 = .ok (.iastore, 1) := dk_79 (dk_at dksX1_become_1 18 rfl rfl)
theorem dX1_become_43 : decode cX1_become 43 = .ok (.iinc 2 1, 3) := dk_132 2 1 (dk_at dksX1_become_1 19 rfl rfl)
theorem dX1_become_46 : decode cX1_become 46 = .ok (.goto (-44), 3) := dk_167 255 212 (dk_at dksX1_become_2 0 rfl rfl)
theorem dX1_become_49 : decode cX1_become 49 = .ok (.return_, 1) := dk_177 (dk_at dksX1_become_2 3 rfl rfl)
theorem q65 : (Jvm.Cond.initialized "BurntLetters$Archive") ∈ lw_all := lw_g (lw_at lw_m1 5 rfl) rfl
theorem q118 : (Jvm.Cond.instantiable "BurntLetters$Archive" (4 : Nat)) ∈ lw_all := lw_g (lw_at lw_m1 58 rfl) rfl
theorem q120 : (Jvm.Cond.instanceMethod ({ cls := "BurntLetters$Archive", name := "<init>", desc := "(LBurntLetters;)V" } : Jvm.MethodName)) ∈ lw_all := lw_g (lw_at lw_m1 60 rfl) rfl
theorem q121 : (Jvm.Cond.code ({ cls := "BurntLetters$Archive", name := "<init>", desc := "(LBurntLetters;)V" } : Jvm.MethodName) prog_2_method_1_code (2 : Nat) (Option.none : Option Jvm.ClassFile.FieldType)) ∈ lw_all := lw_g (lw_at lw_m1 61 rfl) rfl
theorem q122 : (Jvm.Cond.methodLink "BurntLetters$Archive" (9 : Nat) ({ cls := "java/lang/Object", name := "<init>", desc := "()V" } : Jvm.MethodName)) ∈ lw_all := lw_g (lw_at lw_m1 62 rfl) rfl
theorem q123 : (Jvm.Cond.fieldLink "BurntLetters$Archive" (15 : Nat) "BurntLetters$Archive" "leaves" "[I") ∈ lw_all := lw_g (lw_at lw_m1 63 rfl) rfl
theorem q125 : (Jvm.Cond.fieldLink "BurntLetters$Archive" (19 : Nat) "BurntLetters$Archive" "points" "[I") ∈ lw_all := lw_g (lw_at lw_m1 65 rfl) rfl
theorem q127 : (Jvm.Cond.fieldLink "BurntLetters$Archive" (22 : Nat) "BurntLetters$Archive" "kept" "[I") ∈ lw_all := lw_g (lw_at lw_m1 67 rfl) rfl
theorem q129 : (Jvm.Cond.fieldLink "BurntLetters$Archive" (3 : Nat) "BurntLetters$Archive" "this$0" "LBurntLetters;") ∈ lw_all := lw_g (lw_at lw_m1 69 rfl) rfl
theorem q130 : (Jvm.Cond.laysFinal "BurntLetters$Archive" "BurntLetters$Archive" "leaves" "[I") ∈ lw_all := lw_g (lw_at lw_m1 70 rfl) rfl
theorem q131 : (Jvm.Cond.soleField "BurntLetters$Archive" "leaves") ∈ lw_all := lw_g (lw_at lw_m1 71 rfl) rfl
theorem q132 : (Jvm.Cond.laysFinal "BurntLetters$Archive" "BurntLetters$Archive" "points" "[I") ∈ lw_all := lw_g (lw_at lw_m1 72 rfl) rfl
theorem q133 : (Jvm.Cond.soleField "BurntLetters$Archive" "points") ∈ lw_all := lw_g (lw_at lw_m1 73 rfl) rfl
theorem q134 : (Jvm.Cond.laysFinal "BurntLetters$Archive" "BurntLetters$Archive" "kept" "[I") ∈ lw_all := lw_g (lw_at lw_m1 74 rfl) rfl
theorem q135 : (Jvm.Cond.soleField "BurntLetters$Archive" "kept") ∈ lw_all := lw_g (lw_at lw_m1 75 rfl) rfl
theorem q136 : (Jvm.Cond.laysFinal "BurntLetters$Archive" "BurntLetters$Archive" "this$0" "LBurntLetters;") ∈ lw_all := lw_g (lw_at lw_m1 76 rfl) rfl
theorem q137 : (Jvm.Cond.soleField "BurntLetters$Archive" "this$0") ∈ lw_all := lw_g (lw_at lw_m1 77 rfl) rfl
theorem q138 : (Jvm.Cond.superclass "BurntLetters$Archive" "java/lang/Object") ∈ lw_all := lw_g (lw_at lw_m1 78 rfl) rfl
theorem q140 : (Jvm.Cond.fieldLinkNest "BurntLetters$Archive" (25 : Nat) "BurntLetters" "papers" "Ljava/util/ArrayList;" "BurntLetters") ∈ lw_tbl := lw_at lw_m1 80 rfl
theorem q144 : (Jvm.Cond.fieldLinkNest "BurntLetters$Archive" (52 : Nat) "BurntLetters" "room" "I" "BurntLetters") ∈ lw_tbl := lw_at lw_m1 84 rfl
theorem q352 : (Jvm.Cond.instanceMethod ({ cls := "BurntLetters$Archive", name := "under", desc := "(I)I" } : Jvm.MethodName)) ∈ lw_all := lw_g (lw_at lw_m2 52 rfl) rfl
theorem q353 : (Jvm.Cond.selects "BurntLetters$Archive" ({ cls := "BurntLetters$Archive", name := "under", desc := "(I)I" } : Jvm.MethodName) ({ cls := "BurntLetters$Archive", name := "under", desc := "(I)I" } : Jvm.MethodName)) ∈ lw_all := lw_g (lw_at lw_m2 53 rfl) rfl
theorem q354 : (Jvm.Cond.code ({ cls := "BurntLetters$Archive", name := "under", desc := "(I)I" } : Jvm.MethodName) prog_2_method_5_code (4 : Nat) (Option.some Jvm.ClassFile.FieldType.int)) ∈ lw_all := lw_g (lw_at lw_m2 54 rfl) rfl
theorem q355 : (Jvm.Cond.methodLink "BurntLetters$Archive" (29 : Nat) ({ cls := "java/util/ArrayList", name := "size", desc := "()I" } : Jvm.MethodName)) ∈ lw_all := lw_g (lw_at lw_m2 55 rfl) rfl
theorem q435 : (Jvm.Cond.selects "BurntLetters$Archive" ({ cls := "java/lang/Object", name := "getClass", desc := "()Ljava/lang/Class;" } : Jvm.MethodName) ({ cls := "java/lang/Object", name := "getClass", desc := "()Ljava/lang/Class;" } : Jvm.MethodName)) ∈ lw_all := lw_g (lw_at lw_m2 135 rfl) rfl
theorem q502 : (Jvm.Cond.instanceMethod ({ cls := "BurntLetters$Archive", name := "lives", desc := "(I)Z" } : Jvm.MethodName)) ∈ lw_all := lw_g (lw_at lw_m2 202 rfl) rfl
theorem q503 : (Jvm.Cond.selects "BurntLetters$Archive" ({ cls := "BurntLetters$Archive", name := "lives", desc := "(I)Z" } : Jvm.MethodName) ({ cls := "BurntLetters$Archive", name := "lives", desc := "(I)Z" } : Jvm.MethodName)) ∈ lw_all := lw_g (lw_at lw_m2 203 rfl) rfl
theorem q504 : (Jvm.Cond.code ({ cls := "BurntLetters$Archive", name := "lives", desc := "(I)Z" } : Jvm.MethodName) prog_2_method_3_code (2 : Nat) (Option.some Jvm.ClassFile.FieldType.boolean)) ∈ lw_all := lw_g (lw_at lw_m2 204 rfl) rfl
theorem q544 : (Jvm.Cond.instanceMethod ({ cls := "BurntLetters$Archive", name := "mayCopy", desc := "(II)Z" } : Jvm.MethodName)) ∈ lw_all := lw_g (lw_at lw_m3 4 rfl) rfl
theorem q545 : (Jvm.Cond.selects "BurntLetters$Archive" ({ cls := "BurntLetters$Archive", name := "mayCopy", desc := "(II)Z" } : Jvm.MethodName) ({ cls := "BurntLetters$Archive", name := "mayCopy", desc := "(II)Z" } : Jvm.MethodName)) ∈ lw_all := lw_g (lw_at lw_m3 5 rfl) rfl
theorem q546 : (Jvm.Cond.code ({ cls := "BurntLetters$Archive", name := "mayCopy", desc := "(II)Z" } : Jvm.MethodName) prog_2_method_7_code (4 : Nat) (Option.some Jvm.ClassFile.FieldType.boolean)) ∈ lw_all := lw_g (lw_at lw_m3 6 rfl) rfl
theorem q547 : (Jvm.Cond.methodLink "BurntLetters$Archive" (35 : Nat) ({ cls := "BurntLetters$Archive", name := "lives", desc := "(I)Z" } : Jvm.MethodName)) ∈ lw_all := lw_g (lw_at lw_m3 7 rfl) rfl
theorem q548 : (Jvm.Cond.methodLinkNest "BurntLetters$Archive" (45 : Nat) ({ cls := "BurntLetters", name := "isIn", desc := "(II)Z" } : Jvm.MethodName) "BurntLetters") ∈ lw_tbl := lw_at lw_m3 8 rfl
theorem q551 : (Jvm.Cond.methodLink "BurntLetters$Archive" (49 : Nat) ({ cls := "BurntLetters$Archive", name := "under", desc := "(I)I" } : Jvm.MethodName)) ∈ lw_all := lw_g (lw_at lw_m3 11 rfl) rfl
theorem q552 : (Jvm.Cond.methodLink "BurntLetters$Archive" (39 : Nat) ({ cls := "java/lang/Integer", name := "bitCount", desc := "(I)I" } : Jvm.MethodName)) ∈ lw_all := lw_g (lw_at lw_m3 12 rfl) rfl
theorem q558 : (Jvm.Cond.methodLink "BurntLetters$Archive" (56 : Nat) ({ cls := "java/util/ArrayList", name := "get", desc := "(I)Ljava/lang/Object;" } : Jvm.MethodName)) ∈ lw_all := lw_g (lw_at lw_m3 18 rfl) rfl
theorem q559 : (Jvm.Cond.classLink "BurntLetters$Archive" (60 : Nat) "BurntLetters$Paper") ∈ lw_all := lw_g (lw_at lw_m3 19 rfl) rfl
theorem q560 : (Jvm.Cond.methodLink "BurntLetters$Archive" (62 : Nat) ({ cls := "BurntLetters$Paper", name := "names", desc := "()I" } : Jvm.MethodName)) ∈ lw_all := lw_g (lw_at lw_m3 20 rfl) rfl
theorem q567 : (Jvm.Cond.instanceMethod ({ cls := "BurntLetters$Archive", name := "mayRename", desc := "(III)Z" } : Jvm.MethodName)) ∈ lw_all := lw_g (lw_at lw_m3 27 rfl) rfl
theorem q568 : (Jvm.Cond.selects "BurntLetters$Archive" ({ cls := "BurntLetters$Archive", name := "mayRename", desc := "(III)Z" } : Jvm.MethodName) ({ cls := "BurntLetters$Archive", name := "mayRename", desc := "(III)Z" } : Jvm.MethodName)) ∈ lw_all := lw_g (lw_at lw_m3 28 rfl) rfl
theorem q569 : (Jvm.Cond.code ({ cls := "BurntLetters$Archive", name := "mayRename", desc := "(III)Z" } : Jvm.MethodName) prog_2_method_8_code (4 : Nat) (Option.some Jvm.ClassFile.FieldType.boolean)) ∈ lw_all := lw_g (lw_at lw_m3 29 rfl) rfl
theorem q571 : (Jvm.Cond.instanceMethod ({ cls := "BurntLetters$Archive", name := "rename", desc := "(III)V" } : Jvm.MethodName)) ∈ lw_all := lw_g (lw_at lw_m3 31 rfl) rfl
theorem q572 : (Jvm.Cond.selects "BurntLetters$Archive" ({ cls := "BurntLetters$Archive", name := "rename", desc := "(III)V" } : Jvm.MethodName) ({ cls := "BurntLetters$Archive", name := "rename", desc := "(III)V" } : Jvm.MethodName)) ∈ lw_all := lw_g (lw_at lw_m3 32 rfl) rfl
theorem q573 : (Jvm.Cond.code ({ cls := "BurntLetters$Archive", name := "rename", desc := "(III)V" } : Jvm.MethodName) prog_2_method_9_code (4 : Nat) (Option.none : Option Jvm.ClassFile.FieldType)) ∈ lw_all := lw_g (lw_at lw_m3 33 rfl) rfl
theorem q583 : (Jvm.Cond.instanceMethod ({ cls := "BurntLetters$Archive", name := "burn", desc := "(I)I" } : Jvm.MethodName)) ∈ lw_all := lw_g (lw_at lw_m3 43 rfl) rfl
theorem q584 : (Jvm.Cond.selects "BurntLetters$Archive" ({ cls := "BurntLetters$Archive", name := "burn", desc := "(I)I" } : Jvm.MethodName) ({ cls := "BurntLetters$Archive", name := "burn", desc := "(I)I" } : Jvm.MethodName)) ∈ lw_all := lw_g (lw_at lw_m3 44 rfl) rfl
theorem q585 : (Jvm.Cond.code ({ cls := "BurntLetters$Archive", name := "burn", desc := "(I)I" } : Jvm.MethodName) prog_2_method_12_code (6 : Nat) (Option.some Jvm.ClassFile.FieldType.int)) ∈ lw_all := lw_g (lw_at lw_m3 45 rfl) rfl
theorem q586 : (Jvm.Cond.methodLink "BurntLetters$Archive" (68 : Nat) ({ cls := "BurntLetters$Archive", name := "living", desc := "()I" } : Jvm.MethodName)) ∈ lw_all := lw_g (lw_at lw_m3 46 rfl) rfl
theorem q587 : (Jvm.Cond.instanceMethod ({ cls := "BurntLetters$Archive", name := "living", desc := "()I" } : Jvm.MethodName)) ∈ lw_all := lw_g (lw_at lw_m3 47 rfl) rfl
theorem q588 : (Jvm.Cond.selects "BurntLetters$Archive" ({ cls := "BurntLetters$Archive", name := "living", desc := "()I" } : Jvm.MethodName) ({ cls := "BurntLetters$Archive", name := "living", desc := "()I" } : Jvm.MethodName)) ∈ lw_all := lw_g (lw_at lw_m3 48 rfl) rfl
theorem q589 : (Jvm.Cond.code ({ cls := "BurntLetters$Archive", name := "living", desc := "()I" } : Jvm.MethodName) prog_2_method_4_code (3 : Nat) (Option.some Jvm.ClassFile.FieldType.int)) ∈ lw_all := lw_g (lw_at lw_m3 49 rfl) rfl
theorem q590 : (Jvm.Cond.methodLink "BurntLetters$Archive" (71 : Nat) ({ cls := "BurntLetters$Archive", name := "leavesAll", desc := "()I" } : Jvm.MethodName)) ∈ lw_all := lw_g (lw_at lw_m3 50 rfl) rfl
theorem q591 : (Jvm.Cond.instanceMethod ({ cls := "BurntLetters$Archive", name := "leavesAll", desc := "()I" } : Jvm.MethodName)) ∈ lw_all := lw_g (lw_at lw_m3 51 rfl) rfl
theorem q592 : (Jvm.Cond.selects "BurntLetters$Archive" ({ cls := "BurntLetters$Archive", name := "leavesAll", desc := "()I" } : Jvm.MethodName) ({ cls := "BurntLetters$Archive", name := "leavesAll", desc := "()I" } : Jvm.MethodName)) ∈ lw_all := lw_g (lw_at lw_m3 52 rfl) rfl
theorem q593 : (Jvm.Cond.code ({ cls := "BurntLetters$Archive", name := "leavesAll", desc := "()I" } : Jvm.MethodName) prog_2_method_6_code (3 : Nat) (Option.some Jvm.ClassFile.FieldType.int)) ∈ lw_all := lw_g (lw_at lw_m3 53 rfl) rfl
theorem q594 : (Jvm.Cond.methodLink "BurntLetters$Archive" (74 : Nat) ({ cls := "BurntLetters$Archive", name := "isPointedTo", desc := "(II)Z" } : Jvm.MethodName)) ∈ lw_all := lw_g (lw_at lw_m3 54 rfl) rfl
theorem q595 : (Jvm.Cond.privateMethod ({ cls := "BurntLetters$Archive", name := "isPointedTo", desc := "(II)Z" } : Jvm.MethodName)) ∈ lw_tbl := lw_at lw_m3 55 rfl
theorem q596 : (Jvm.Cond.instanceMethod ({ cls := "BurntLetters$Archive", name := "isPointedTo", desc := "(II)Z" } : Jvm.MethodName)) ∈ lw_all := lw_g (lw_at lw_m3 56 rfl) rfl
theorem q597 : (Jvm.Cond.code ({ cls := "BurntLetters$Archive", name := "isPointedTo", desc := "(II)Z" } : Jvm.MethodName) prog_2_method_10_code (5 : Nat) (Option.some Jvm.ClassFile.FieldType.boolean)) ∈ lw_all := lw_g (lw_at lw_m3 57 rfl) rfl
theorem q598 : (Jvm.Cond.methodLink "BurntLetters$Archive" (77 : Nat) ({ cls := "BurntLetters$Paper", name := "keeps", desc := "()I" } : Jvm.MethodName)) ∈ lw_all := lw_g (lw_at lw_m3 58 rfl) rfl
theorem q610 : (Jvm.Cond.methodLink "BurntLetters$Archive" (80 : Nat) ({ cls := "BurntLetters$Paper", name := "burntBy", desc := "(II)I" } : Jvm.MethodName)) ∈ lw_all := lw_g (lw_at lw_m3 70 rfl) rfl
theorem q624 : (Jvm.Cond.methodLink "BurntLetters$Archive" (84 : Nat) ({ cls := "BurntLetters$Paper", name := "spreads", desc := "()Z" } : Jvm.MethodName)) ∈ lw_all := lw_g (lw_at lw_m3 84 rfl) rfl
theorem q636 : (Jvm.Cond.methodLink "BurntLetters$Archive" (88 : Nat) ({ cls := "BurntLetters$Archive", name := "spread", desc := "(I)V" } : Jvm.MethodName)) ∈ lw_all := lw_g (lw_at lw_m3 96 rfl) rfl
theorem q637 : (Jvm.Cond.privateMethod ({ cls := "BurntLetters$Archive", name := "spread", desc := "(I)V" } : Jvm.MethodName)) ∈ lw_tbl := lw_at lw_m3 97 rfl
theorem q638 : (Jvm.Cond.instanceMethod ({ cls := "BurntLetters$Archive", name := "spread", desc := "(I)V" } : Jvm.MethodName)) ∈ lw_all := lw_g (lw_at lw_m3 98 rfl) rfl
theorem q639 : (Jvm.Cond.code ({ cls := "BurntLetters$Archive", name := "spread", desc := "(I)V" } : Jvm.MethodName) prog_2_method_11_code (3 : Nat) (Option.none : Option Jvm.ClassFile.FieldType)) ∈ lw_all := lw_g (lw_at lw_m3 99 rfl) rfl
theorem q640 : (Jvm.Cond.methodLink "BurntLetters$Archive" (65 : Nat) ({ cls := "BurntLetters$Archive", name := "mayCopy", desc := "(II)Z" } : Jvm.MethodName)) ∈ lw_all := lw_g (lw_at lw_m3 100 rfl) rfl
theorem q657 : (Jvm.Cond.instanceMethod ({ cls := "BurntLetters$Archive", name := "become", desc := "(LBurntLetters$Archive;)V" } : Jvm.MethodName)) ∈ lw_all := lw_g (lw_at lw_m3 117 rfl) rfl
theorem q658 : (Jvm.Cond.selects "BurntLetters$Archive" ({ cls := "BurntLetters$Archive", name := "become", desc := "(LBurntLetters$Archive;)V" } : Jvm.MethodName) ({ cls := "BurntLetters$Archive", name := "become", desc := "(LBurntLetters$Archive;)V" } : Jvm.MethodName)) ∈ lw_all := lw_g (lw_at lw_m3 118 rfl) rfl
theorem q659 : (Jvm.Cond.code ({ cls := "BurntLetters$Archive", name := "become", desc := "(LBurntLetters$Archive;)V" } : Jvm.MethodName) prog_2_method_2_code (3 : Nat) (Option.none : Option Jvm.ClassFile.FieldType)) ∈ lw_all := lw_g (lw_at lw_m3 119 rfl) rfl
theorem q1161 : (Jvm.Cond.castable "BurntLetters$Archive" "java/lang/Object") ∈ lw_tbl := lw_at lw_m5 141 rfl
theorem in_X1 : ∀ w ∈ wsX10, w ∈ lw_all := lw_in wsX10 [130, 132, 134, 136] (by decide +kernel) (by decide +kernel)
/-! BurntLetters$Reader -/
set_option maxRecDepth 100000
def RX3 : String := "BurntLetters$Reader"
def TX3 : u_T := fun k => match k with
  | 0 => ("BurntLetters$Reader", "place", "I", false)
  | 1 => ("BurntLetters$Reader", "room", "I", false)
  | 2 => ("BurntLetters$Reader", "lots", "[I", true)
  | _ => ("BurntLetters$Reader", "this$0", "LBurntLetters;", true)
def tyX3 : Nat → FieldType := fun k => match k with
  | 0 => .int
  | 1 => .int
  | 2 => .array .int
  | _ => .object "BurntLetters"
abbrev wsX30 : List Cond := u_ws RX3 TX3 4
theorem nmX3 : ∀ a, a < 4 → ∀ b, b < 4 → a ≠ b → (TX3 a).2.1 ≠ (TX3 b).2.1 := by decide +kernel
theorem tyX3_ok : ∀ k, k < 4 → parseFieldDescriptor (TX3 k).2.2.1 = some (tyX3 k) := by decide +kernel
abbrev cX3_init : ByteArray := prog_6_method_1_code
def yX3_init : MethodName := ⟨RX3, "<init>", "(LBurntLetters;)V"⟩
def dkwX3_init_0 : List UInt8 := [42, 43, 181, 0, 3, 42, 183, 0, 9, 42, 16, 6, 188, 10, 181, 0, 15, 177]
abbrev dktX3_init_0 : List UInt8 := dkwX3_init_0 ++ []
theorem dksX3_init_0 : cX3_init.data.toList.drop 0 = dktX3_init_0 := by decide +kernel
theorem dX3_init_0 : decode cX3_init 0 = .ok (.aload_n 0, 1) := dk_42 (dk_at dksX3_init_0 0 rfl rfl)
theorem dX3_init_1 : decode cX3_init 1 = .ok (.aload_n 1, 1) := dk_43 (dk_at dksX3_init_0 1 rfl rfl)
theorem dX3_init_2 : decode cX3_init 2 = .ok (.putfield 3, 3) := dk_181 0 3 (dk_at dksX3_init_0 2 rfl rfl)
theorem dX3_init_5 : decode cX3_init 5 = .ok (.aload_n 0, 1) := dk_42 (dk_at dksX3_init_0 5 rfl rfl)
theorem dX3_init_6 : decode cX3_init 6 = .ok (.invokespecial 9, 3) := dk_183 0 9 (dk_at dksX3_init_0 6 rfl rfl)
theorem dX3_init_9 : decode cX3_init 9 = .ok (.aload_n 0, 1) := dk_42 (dk_at dksX3_init_0 9 rfl rfl)
theorem dX3_init_10 : decode cX3_init 10 = .ok (.bipush 6, 2) := dk_16 6 (dk_at dksX3_init_0 10 rfl rfl)
theorem dX3_init_12 : decode cX3_init 12 = .ok (.newarray .int, 2) := dk_188_10 (dk_at dksX3_init_0 12 rfl rfl)
theorem dX3_init_14 : decode cX3_init 14 = .ok (.putfield 15, 3) := dk_181 0 15 (dk_at dksX3_init_0 14 rfl rfl)
theorem dX3_init_17 : decode cX3_init 17 = .ok (.return_, 1) := dk_177 (dk_at dksX3_init_0 17 rfl rfl)
abbrev cX3_law : ByteArray := prog_6_method_6_code
def yX3_law : MethodName := ⟨RX3, "law", "()LBurntLetters$Reader;"⟩
def dkwX3_law_3 : List UInt8 := [180, 0, 19, 42, 180, 0, 3, 180, 0, 23, 160, 0, 7, 4, 167, 0, 4, 3, 182, 0, 49, 42, 176]
abbrev dktX3_law_3 : List UInt8 := dkwX3_law_3 ++ []
def dkwX3_law_2 : List UInt8 := [42, 42, 16, 59, 182, 0, 56, 182, 0, 49, 42, 42, 4, 16, 9, 182, 0, 53, 181, 0, 60, 42, 42]
abbrev dktX3_law_2 : List UInt8 := dkwX3_law_2 ++ dktX3_law_3
def dkwX3_law_1 : List UInt8 := [167, 0, 4, 3, 27, 182, 0, 53, 79, 27, 42, 180, 0, 15, 28, 46, 100, 60, 132, 2, 1, 167, 255, 217]
abbrev dktX3_law_1 : List UInt8 := dkwX3_law_1 ++ dktX3_law_2
def dkwX3_law_0 : List UInt8 := [16, 10, 60, 3, 61, 28, 16, 6, 162, 0, 39, 42, 180, 0, 15, 28, 42, 28, 8, 160, 0, 7, 27]
abbrev dktX3_law_0 : List UInt8 := dkwX3_law_0 ++ dktX3_law_1
theorem dksX3_law_0 : cX3_law.data.toList.drop 0 = dktX3_law_0 := by decide +kernel
theorem dksX3_law_1 : cX3_law.data.toList.drop 23 = dktX3_law_1 := dk_seg dksX3_law_0 23 rfl rfl
theorem dksX3_law_2 : cX3_law.data.toList.drop 47 = dktX3_law_2 := dk_seg dksX3_law_1 24 rfl rfl
theorem dksX3_law_3 : cX3_law.data.toList.drop 70 = dktX3_law_3 := dk_seg dksX3_law_2 23 rfl rfl
theorem dX3_law_0 : decode cX3_law 0 = .ok (.bipush 10, 2) := dk_16 10 (dk_at dksX3_law_0 0 rfl rfl)
theorem dX3_law_2 : decode cX3_law 2 = .ok (.istore_n 1, 1) := dk_60 (dk_at dksX3_law_0 2 rfl rfl)
theorem dX3_law_3 : decode cX3_law 3 = .ok (.iconst 0, 1) := dk_3 (dk_at dksX3_law_0 3 rfl rfl)
theorem dX3_law_4 : decode cX3_law 4 = .ok (.istore_n 2, 1) := dk_61 (dk_at dksX3_law_0 4 rfl rfl)
theorem dX3_law_5 : decode cX3_law 5 = .ok (.iload_n 2, 1) := dk_28 (dk_at dksX3_law_0 5 rfl rfl)
theorem dX3_law_6 : decode cX3_law 6 = .ok (.bipush 6, 2) := dk_16 6 (dk_at dksX3_law_0 6 rfl rfl)
theorem dX3_law_8 : decode cX3_law 8 = .ok (.if_icmp .ge 39, 3) := dk_162 0 39 (dk_at dksX3_law_0 8 rfl rfl)
theorem dX3_law_11 : decode cX3_law 11 = .ok (.aload_n 0, 1) := dk_42 (dk_at dksX3_law_0 11 rfl rfl)
theorem dX3_law_12 : decode cX3_law 12 = .ok (.getfield 15, 3) := dk_180 0 15 (dk_at dksX3_law_0 12 rfl rfl)
theorem dX3_law_15 : decode cX3_law 15 = .ok (.iload_n 2, 1) := dk_28 (dk_at dksX3_law_0 15 rfl rfl)
theorem dX3_law_16 : decode cX3_law 16 = .ok (.aload_n 0, 1) := dk_42 (dk_at dksX3_law_0 16 rfl rfl)
theorem dX3_law_17 : decode cX3_law 17 = .ok (.iload_n 2, 1) := dk_28 (dk_at dksX3_law_0 17 rfl rfl)
theorem dX3_law_18 : decode cX3_law 18 = .ok (.iconst 5, 1) := dk_8 (dk_at dksX3_law_0 18 rfl rfl)
theorem dX3_law_19 : decode cX3_law 19 = .ok (.if_icmp .ne 7, 3) := dk_160 0 7 (dk_at dksX3_law_0 19 rfl rfl)
theorem dX3_law_22 : decode cX3_law 22 = .ok (.iload_n 1, 1) := dk_27 (dk_at dksX3_law_0 22 rfl rfl)
theorem dX3_law_23 : decode cX3_law 23 = .ok (.goto 4, 3) := dk_167 0 4 (dk_at dksX3_law_1 0 rfl rfl)
theorem dX3_law_26 : decode cX3_law 26 = .ok (.iconst 0, 1) := dk_3 (dk_at dksX3_law_1 3 rfl rfl)
theorem dX3_law_27 : decode cX3_law 27 = .ok (.iload_n 1, 1) := dk_27 (dk_at dksX3_law_1 4 rfl rfl)
theorem dX3_law_28 : decode cX3_law 28 = .ok (.invokevirtual 53, 3) := dk_182 0 53 (dk_at dksX3_law_1 5 rfl rfl)
theorem dX3_law_31 : decode cX3_law 31 = .ok (.iastore, 1) := dk_79 (dk_at dksX3_law_1 8 rfl rfl)
theorem dX3_law_32 : decode cX3_law 32 = .ok (.iload_n 1, 1) := dk_27 (dk_at dksX3_law_1 9 rfl rfl)
theorem dX3_law_33 : decode cX3_law 33 = .ok (.aload_n 0, 1) := dk_42 (dk_at dksX3_law_1 10 rfl rfl)
theorem dX3_law_34 : decode cX3_law 34 = .ok (.getfield 15, 3) := dk_180 0 15 (dk_at dksX3_law_1 11 rfl rfl)
theorem dX3_law_37 : decode cX3_law 37 = .ok (.iload_n 2, 1) := dk_28 (dk_at dksX3_law_1 14 rfl rfl)
theorem dX3_law_38 : decode cX3_law 38 = .ok (.iaload, 1) := dk_46 (dk_at dksX3_law_1 15 rfl rfl)
theorem dX3_law_39 : decode cX3_law 39 = .ok (.isub, 1) := dk_100 (dk_at dksX3_law_1 16 rfl rfl)
theorem dX3_law_40 : decode cX3_law 40 = .ok (.istore_n 1, 1) := dk_60 (dk_at dksX3_law_1 17 rfl rfl)
theorem dX3_law_41 : decode cX3_law 41 = .ok (.iinc 2 1, 3) := dk_132 2 1 (dk_at dksX3_law_1 18 rfl rfl)
theorem dX3_law_44 : decode cX3_law 44 = .ok (.goto (-39), 3) := dk_167 255 217 (dk_at dksX3_law_1 21 rfl rfl)
theorem dX3_law_47 : decode cX3_law 47 = .ok (.aload_n 0, 1) := dk_42 (dk_at dksX3_law_2 0 rfl rfl)
theorem dX3_law_48 : decode cX3_law 48 = .ok (.aload_n 0, 1) := dk_42 (dk_at dksX3_law_2 1 rfl rfl)
theorem dX3_law_49 : decode cX3_law 49 = .ok (.bipush 59, 2) := dk_16 59 (dk_at dksX3_law_2 2 rfl rfl)
theorem dX3_law_51 : decode cX3_law 51 = .ok (.invokevirtual 56, 3) := dk_182 0 56 (dk_at dksX3_law_2 4 rfl rfl)
theorem dX3_law_54 : decode cX3_law 54 = .ok (.invokevirtual 49, 3) := dk_182 0 49 (dk_at dksX3_law_2 7 rfl rfl)
theorem dX3_law_57 : decode cX3_law 57 = .ok (.aload_n 0, 1) := dk_42 (dk_at dksX3_law_2 10 rfl rfl)
theorem dX3_law_58 : decode cX3_law 58 = .ok (.aload_n 0, 1) := dk_42 (dk_at dksX3_law_2 11 rfl rfl)
theorem dX3_law_59 : decode cX3_law 59 = .ok (.iconst 1, 1) := dk_4 (dk_at dksX3_law_2 12 rfl rfl)
theorem dX3_law_60 : decode cX3_law 60 = .ok (.bipush 9, 2) := dk_16 9 (dk_at dksX3_law_2 13 rfl rfl)
theorem dX3_law_62 : decode cX3_law 62 = .ok (.invokevirtual 53, 3) := dk_182 0 53 (dk_at dksX3_law_2 15 rfl rfl)
theorem dX3_law_65 : decode cX3_law 65 = .ok (.putfield 60, 3) := dk_181 0 60 (dk_at dksX3_law_2 18 rfl rfl)
theorem dX3_law_68 : decode cX3_law 68 = .ok (.aload_n 0, 1) := dk_42 (dk_at dksX3_law_2 21 rfl rfl)
theorem dX3_law_69 : decode cX3_law 69 = .ok (.aload_n 0, 1) := dk_42 (dk_at dksX3_law_2 22 rfl rfl)
theorem dX3_law_70 : decode cX3_law 70 = .ok (.getfield 19, 3) := dk_180 0 19 (dk_at dksX3_law_3 0 rfl rfl)
theorem dX3_law_73 : decode cX3_law 73 = .ok (.aload_n 0, 1) := dk_42 (dk_at dksX3_law_3 3 rfl rfl)
theorem dX3_law_74 : decode cX3_law 74 = .ok (.getfield 3, 3) := dk_180 0 3 (dk_at dksX3_law_3 4 rfl rfl)
theorem dX3_law_77 : decode cX3_law 77 = .ok (.getfield 23, 3) := dk_180 0 23 (dk_at dksX3_law_3 7 rfl rfl)
theorem dX3_law_80 : decode cX3_law 80 = .ok (.if_icmp .ne 7, 3) := dk_160 0 7 (dk_at dksX3_law_3 10 rfl rfl)
theorem dX3_law_83 : decode cX3_law 83 = .ok (.iconst 1, 1) := dk_4 (dk_at dksX3_law_3 13 rfl rfl)
theorem dX3_law_84 : decode cX3_law 84 = .ok (.goto 4, 3) := dk_167 0 4 (dk_at dksX3_law_3 14 rfl rfl)
theorem dX3_law_87 : decode cX3_law 87 = .ok (.iconst 0, 1) := dk_3 (dk_at dksX3_law_3 17 rfl rfl)
theorem dX3_law_88 : decode cX3_law 88 = .ok (.invokevirtual 49, 3) := dk_182 0 49 (dk_at dksX3_law_3 18 rfl rfl)
theorem dX3_law_91 : decode cX3_law 91 = .ok (.aload_n 0, 1) := dk_42 (dk_at dksX3_law_3 21 rfl rfl)
theorem dX3_law_92 : decode cX3_law 92 = .ok (.areturn, 1) := dk_176 (dk_at dksX3_law_3 22 rfl rfl)
abbrev cX3_digit : ByteArray := prog_6_method_5_code
def yX3_digit : MethodName := ⟨RX3, "digit", "(II)I"⟩
def dkwX3_digit_2 : List UInt8 := [100, 172]
abbrev dktX3_digit_2 : List UInt8 := dkwX3_digit_2 ++ []
def dkwX3_digit_1 : List UInt8 := [180, 0, 19, 4, 96, 181, 0, 19, 42, 180, 0, 3, 180, 0, 26, 42, 180, 0, 19, 4, 100, 51, 16, 48]
abbrev dktX3_digit_1 : List UInt8 := dkwX3_digit_1 ++ dktX3_digit_2
def dkwX3_digit_0 : List UInt8 := [42, 42, 182, 0, 30, 16, 48, 100, 27, 16, 9, 28, 184, 0, 39, 184, 0, 45, 182, 0, 49, 42, 89]
abbrev dktX3_digit_0 : List UInt8 := dkwX3_digit_0 ++ dktX3_digit_1
theorem dksX3_digit_0 : cX3_digit.data.toList.drop 0 = dktX3_digit_0 := by decide +kernel
theorem dksX3_digit_1 : cX3_digit.data.toList.drop 23 = dktX3_digit_1 := dk_seg dksX3_digit_0 23 rfl rfl
theorem dksX3_digit_2 : cX3_digit.data.toList.drop 47 = dktX3_digit_2 := dk_seg dksX3_digit_1 24 rfl rfl
theorem dX3_digit_0 : decode cX3_digit 0 = .ok (.aload_n 0, 1) := dk_42 (dk_at dksX3_digit_0 0 rfl rfl)
theorem dX3_digit_1 : decode cX3_digit 1 = .ok (.aload_n 0, 1) := dk_42 (dk_at dksX3_digit_0 1 rfl rfl)
theorem dX3_digit_2 : decode cX3_digit 2 = .ok (.invokevirtual 30, 3) := dk_182 0 30 (dk_at dksX3_digit_0 2 rfl rfl)
theorem dX3_digit_5 : decode cX3_digit 5 = .ok (.bipush 48, 2) := dk_16 48 (dk_at dksX3_digit_0 5 rfl rfl)
theorem dX3_digit_7 : decode cX3_digit 7 = .ok (.isub, 1) := dk_100 (dk_at dksX3_digit_0 7 rfl rfl)
theorem dX3_digit_8 : decode cX3_digit 8 = .ok (.iload_n 1, 1) := dk_27 (dk_at dksX3_digit_0 8 rfl rfl)
theorem dX3_digit_9 : decode cX3_digit 9 = .ok (.bipush 9, 2) := dk_16 9 (dk_at dksX3_digit_0 9 rfl rfl)
theorem dX3_digit_11 : decode cX3_digit 11 = .ok (.iload_n 2, 1) := dk_28 (dk_at dksX3_digit_0 11 rfl rfl)
theorem dX3_digit_12 : decode cX3_digit 12 = .ok (.invokestatic 39, 3) := dk_184 0 39 (dk_at dksX3_digit_0 12 rfl rfl)
theorem dX3_digit_15 : decode cX3_digit 15 = .ok (.invokestatic 45, 3) := dk_184 0 45 (dk_at dksX3_digit_0 15 rfl rfl)
theorem dX3_digit_18 : decode cX3_digit 18 = .ok (.invokevirtual 49, 3) := dk_182 0 49 (dk_at dksX3_digit_0 18 rfl rfl)
theorem dX3_digit_21 : decode cX3_digit 21 = .ok (.aload_n 0, 1) := dk_42 (dk_at dksX3_digit_0 21 rfl rfl)
theorem dX3_digit_22 : decode cX3_digit 22 = .ok (.dup, 1) := dk_89 (dk_at dksX3_digit_0 22 rfl rfl)
theorem dX3_digit_23 : decode cX3_digit 23 = .ok (.getfield 19, 3) := dk_180 0 19 (dk_at dksX3_digit_1 0 rfl rfl)
theorem dX3_digit_26 : decode cX3_digit 26 = .ok (.iconst 1, 1) := dk_4 (dk_at dksX3_digit_1 3 rfl rfl)
theorem dX3_digit_27 : decode cX3_digit 27 = .ok (.iadd, 1) := dk_96 (dk_at dksX3_digit_1 4 rfl rfl)
theorem dX3_digit_28 : decode cX3_digit 28 = .ok (.putfield 19, 3) := dk_181 0 19 (dk_at dksX3_digit_1 5 rfl rfl)
theorem dX3_digit_31 : decode cX3_digit 31 = .ok (.aload_n 0, 1) := dk_42 (dk_at dksX3_digit_1 8 rfl rfl)
theorem dX3_digit_32 : decode cX3_digit 32 = .ok (.getfield 3, 3) := dk_180 0 3 (dk_at dksX3_digit_1 9 rfl rfl)
theorem dX3_digit_35 : decode cX3_digit 35 = .ok (.getfield 26, 3) := dk_180 0 26 (dk_at dksX3_digit_1 12 rfl rfl)
theorem dX3_digit_38 : decode cX3_digit 38 = .ok (.aload_n 0, 1) := dk_42 (dk_at dksX3_digit_1 15 rfl rfl)
theorem dX3_digit_39 : decode cX3_digit 39 = .ok (.getfield 19, 3) := dk_180 0 19 (dk_at dksX3_digit_1 16 rfl rfl)
theorem dX3_digit_42 : decode cX3_digit 42 = .ok (.iconst 1, 1) := dk_4 (dk_at dksX3_digit_1 19 rfl rfl)
theorem dX3_digit_43 : decode cX3_digit 43 = .ok (.isub, 1) := dk_100 (dk_at dksX3_digit_1 20 rfl rfl)
theorem dX3_digit_44 : decode cX3_digit 44 = .ok (.baload, 1) := dk_51 (dk_at dksX3_digit_1 21 rfl rfl)
theorem dX3_digit_45 : decode cX3_digit 45 = .ok (.bipush 48, 2) := dk_16 48 (dk_at dksX3_digit_1 22 rfl rfl)
theorem dX3_digit_47 : decode cX3_digit 47 = .ok (.isub, 1) := dk_100 (dk_at dksX3_digit_2 0 rfl rfl)
theorem dX3_digit_48 : decode cX3_digit 48 = .ok (.ireturn, 1) := dk_172 (dk_at dksX3_digit_2 1 rfl rfl)
abbrev cX3_next : ByteArray := prog_6_method_2_code
def yX3_next : MethodName := ⟨RX3, "next", "()I"⟩
def dkwX3_next_1 : List UInt8 := [180, 0, 19, 51, 167, 0, 4, 3, 172]
abbrev dktX3_next_1 : List UInt8 := dkwX3_next_1 ++ []
def dkwX3_next_0 : List UInt8 := [42, 180, 0, 19, 42, 180, 0, 3, 180, 0, 23, 162, 0, 18, 42, 180, 0, 3, 180, 0, 26, 42]
abbrev dktX3_next_0 : List UInt8 := dkwX3_next_0 ++ dktX3_next_1
theorem dksX3_next_0 : cX3_next.data.toList.drop 0 = dktX3_next_0 := by decide +kernel
theorem dksX3_next_1 : cX3_next.data.toList.drop 22 = dktX3_next_1 := dk_seg dksX3_next_0 22 rfl rfl
theorem dX3_next_0 : decode cX3_next 0 = .ok (.aload_n 0, 1) := dk_42 (dk_at dksX3_next_0 0 rfl rfl)
theorem dX3_next_1 : decode cX3_next 1 = .ok (.getfield 19, 3) := dk_180 0 19 (dk_at dksX3_next_0 1 rfl rfl)
theorem dX3_next_4 : decode cX3_next 4 = .ok (.aload_n 0, 1) := dk_42 (dk_at dksX3_next_0 4 rfl rfl)
theorem dX3_next_5 : decode cX3_next 5 = .ok (.getfield 3, 3) := dk_180 0 3 (dk_at dksX3_next_0 5 rfl rfl)
theorem dX3_next_8 : decode cX3_next 8 = .ok (.getfield 23, 3) := dk_180 0 23 (dk_at dksX3_next_0 8 rfl rfl)
theorem dX3_next_11 : decode cX3_next 11 = .ok (.if_icmp .ge 18, 3) := dk_162 0 18 (dk_at dksX3_next_0 11 rfl rfl)
theorem dX3_next_14 : decode cX3_next 14 = .ok (.aload_n 0, 1) := dk_42 (dk_at dksX3_next_0 14 rfl rfl)
theorem dX3_next_15 : decode cX3_next 15 = .ok (.getfield 3, 3) := dk_180 0 3 (dk_at dksX3_next_0 15 rfl rfl)
theorem dX3_next_18 : decode cX3_next 18 = .ok (.getfield 26, 3) := dk_180 0 26 (dk_at dksX3_next_0 18 rfl rfl)
theorem dX3_next_21 : decode cX3_next 21 = .ok (.aload_n 0, 1) := dk_42 (dk_at dksX3_next_0 21 rfl rfl)
theorem dX3_next_22 : decode cX3_next 22 = .ok (.getfield 19, 3) := dk_180 0 19 (dk_at dksX3_next_1 0 rfl rfl)
theorem dX3_next_25 : decode cX3_next 25 = .ok (.baload, 1) := dk_51 (dk_at dksX3_next_1 3 rfl rfl)
theorem dX3_next_26 : decode cX3_next 26 = .ok (.goto 4, 3) := dk_167 0 4 (dk_at dksX3_next_1 4 rfl rfl)
theorem dX3_next_29 : decode cX3_next 29 = .ok (.iconst 0, 1) := dk_3 (dk_at dksX3_next_1 7 rfl rfl)
theorem dX3_next_30 : decode cX3_next 30 = .ok (.ireturn, 1) := dk_172 (dk_at dksX3_next_1 8 rfl rfl)
abbrev cX3_want : ByteArray := prog_6_method_4_code
def yX3_want : MethodName := ⟨RX3, "want", "(Z)V"⟩
def dkwX3_want_0 : List UInt8 := [27, 154, 0, 15, 187, 0, 34, 89, 42, 180, 0, 19, 183, 0, 36, 191, 177]
abbrev dktX3_want_0 : List UInt8 := dkwX3_want_0 ++ []
theorem dksX3_want_0 : cX3_want.data.toList.drop 0 = dktX3_want_0 := by decide +kernel
theorem dX3_want_0 : decode cX3_want 0 = .ok (.iload_n 1, 1) := dk_27 (dk_at dksX3_want_0 0 rfl rfl)
theorem dX3_want_1 : decode cX3_want 1 = .ok (.ifCond .ne 15, 3) := dk_154 0 15 (dk_at dksX3_want_0 1 rfl rfl)
theorem dX3_want_4 : decode cX3_want 4 = .ok (.new 34, 3) := dk_187 0 34 (dk_at dksX3_want_0 4 rfl rfl)
theorem dX3_want_7 : decode cX3_want 7 = .ok (.dup, 1) := dk_89 (dk_at dksX3_want_0 7 rfl rfl)
theorem dX3_want_8 : decode cX3_want 8 = .ok (.aload_n 0, 1) := dk_42 (dk_at dksX3_want_0 8 rfl rfl)
theorem dX3_want_9 : decode cX3_want 9 = .ok (.getfield 19, 3) := dk_180 0 19 (dk_at dksX3_want_0 9 rfl rfl)
theorem dX3_want_12 : decode cX3_want 12 = .ok (.invokespecial 36, 3) := dk_183 0 36 (dk_at dksX3_want_0 12 rfl rfl)
theorem dX3_want_15 : decode cX3_want 15 = .ok (.athrow, 1) := dk_191 (dk_at dksX3_want_0 15 rfl rfl)
theorem dX3_want_16 : decode cX3_want 16 = .ok (.return_, 1) := dk_177 (dk_at dksX3_want_0 16 rfl rfl)
abbrev cX3_takes : ByteArray := prog_6_method_3_code
def yX3_takes : MethodName := ⟨RX3, "takes", "(C)Z"⟩
def dkwX3_takes_1 : List UInt8 := [167, 0, 4, 3, 96, 181, 0, 19, 28, 172]
abbrev dktX3_takes_1 : List UInt8 := dkwX3_takes_1 ++ []
def dkwX3_takes_0 : List UInt8 := [42, 182, 0, 30, 27, 160, 0, 7, 4, 167, 0, 4, 3, 61, 42, 89, 180, 0, 19, 28, 153, 0, 7, 4]
abbrev dktX3_takes_0 : List UInt8 := dkwX3_takes_0 ++ dktX3_takes_1
theorem dksX3_takes_0 : cX3_takes.data.toList.drop 0 = dktX3_takes_0 := by decide +kernel
theorem dksX3_takes_1 : cX3_takes.data.toList.drop 24 = dktX3_takes_1 := dk_seg dksX3_takes_0 24 rfl rfl
theorem dX3_takes_0 : decode cX3_takes 0 = .ok (.aload_n 0, 1) := dk_42 (dk_at dksX3_takes_0 0 rfl rfl)
theorem dX3_takes_1 : decode cX3_takes 1 = .ok (.invokevirtual 30, 3) := dk_182 0 30 (dk_at dksX3_takes_0 1 rfl rfl)
theorem dX3_takes_4 : decode cX3_takes 4 = .ok (.iload_n 1, 1) := dk_27 (dk_at dksX3_takes_0 4 rfl rfl)
theorem dX3_takes_5 : decode cX3_takes 5 = .ok (.if_icmp .ne 7, 3) := dk_160 0 7 (dk_at dksX3_takes_0 5 rfl rfl)
theorem dX3_takes_8 : decode cX3_takes 8 = .ok (.iconst 1, 1) := dk_4 (dk_at dksX3_takes_0 8 rfl rfl)
theorem dX3_takes_9 : decode cX3_takes 9 = .ok (.goto 4, 3) := dk_167 0 4 (dk_at dksX3_takes_0 9 rfl rfl)
theorem dX3_takes_12 : decode cX3_takes 12 = .ok (.iconst 0, 1) := dk_3 (dk_at dksX3_takes_0 12 rfl rfl)
theorem dX3_takes_13 : decode cX3_takes 13 = .ok (.istore_n 2, 1) := dk_61 (dk_at dksX3_takes_0 13 rfl rfl)
theorem dX3_takes_14 : decode cX3_takes 14 = .ok (.aload_n 0, 1) := dk_42 (dk_at dksX3_takes_0 14 rfl rfl)
theorem dX3_takes_15 : decode cX3_takes 15 = .ok (.dup, 1) := dk_89 (dk_at dksX3_takes_0 15 rfl rfl)
theorem dX3_takes_16 : decode cX3_takes 16 = .ok (.getfield 19, 3) := dk_180 0 19 (dk_at dksX3_takes_0 16 rfl rfl)
theorem dX3_takes_19 : decode cX3_takes 19 = .ok (.iload_n 2, 1) := dk_28 (dk_at dksX3_takes_0 19 rfl rfl)
theorem dX3_takes_20 : decode cX3_takes 20 = .ok (.ifCond .eq 7, 3) := dk_153 0 7 (dk_at dksX3_takes_0 20 rfl rfl)
theorem dX3_takes_23 : decode cX3_takes 23 = .ok (.iconst 1, 1) := dk_4 (dk_at dksX3_takes_0 23 rfl rfl)
theorem dX3_takes_24 : decode cX3_takes 24 = .ok (.goto 4, 3) := dk_167 0 4 (dk_at dksX3_takes_1 0 rfl rfl)
theorem dX3_takes_27 : decode cX3_takes 27 = .ok (.iconst 0, 1) := dk_3 (dk_at dksX3_takes_1 3 rfl rfl)
theorem dX3_takes_28 : decode cX3_takes 28 = .ok (.iadd, 1) := dk_96 (dk_at dksX3_takes_1 4 rfl rfl)
theorem dX3_takes_29 : decode cX3_takes 29 = .ok (.putfield 19, 3) := dk_181 0 19 (dk_at dksX3_takes_1 5 rfl rfl)
theorem dX3_takes_32 : decode cX3_takes 32 = .ok (.iload_n 2, 1) := dk_28 (dk_at dksX3_takes_1 8 rfl rfl)
theorem dX3_takes_33 : decode cX3_takes 33 = .ok (.ireturn, 1) := dk_172 (dk_at dksX3_takes_1 9 rfl rfl)
theorem q67 : (Jvm.Cond.initialized "BurntLetters$Reader") ∈ lw_all := lw_g (lw_at lw_m1 7 rfl) rfl
theorem q151 : (Jvm.Cond.fieldLinkNest "BurntLetters$Reader" (26 : Nat) "BurntLetters" "page" "[B" "BurntLetters") ∈ lw_tbl := lw_at lw_m1 91 rfl
theorem q153 : (Jvm.Cond.fieldLinkNest "BurntLetters$Reader" (23 : Nat) "BurntLetters" "pageLength" "I" "BurntLetters") ∈ lw_tbl := lw_at lw_m1 93 rfl
theorem q229 : (Jvm.Cond.instantiable "BurntLetters$Reader" (4 : Nat)) ∈ lw_all := lw_g (lw_at lw_m1 169 rfl) rfl
theorem q231 : (Jvm.Cond.instanceMethod ({ cls := "BurntLetters$Reader", name := "<init>", desc := "(LBurntLetters;)V" } : Jvm.MethodName)) ∈ lw_all := lw_g (lw_at lw_m1 171 rfl) rfl
theorem q232 : (Jvm.Cond.code ({ cls := "BurntLetters$Reader", name := "<init>", desc := "(LBurntLetters;)V" } : Jvm.MethodName) prog_6_method_1_code (2 : Nat) (Option.none : Option Jvm.ClassFile.FieldType)) ∈ lw_all := lw_g (lw_at lw_m1 172 rfl) rfl
theorem q233 : (Jvm.Cond.methodLink "BurntLetters$Reader" (9 : Nat) ({ cls := "java/lang/Object", name := "<init>", desc := "()V" } : Jvm.MethodName)) ∈ lw_all := lw_g (lw_at lw_m1 173 rfl) rfl
theorem q234 : (Jvm.Cond.fieldLink "BurntLetters$Reader" (19 : Nat) "BurntLetters$Reader" "place" "I") ∈ lw_all := lw_g (lw_at lw_m1 174 rfl) rfl
theorem q235 : (Jvm.Cond.fieldLink "BurntLetters$Reader" (60 : Nat) "BurntLetters$Reader" "room" "I") ∈ lw_all := lw_g (lw_at lw_m1 175 rfl) rfl
theorem q237 : (Jvm.Cond.fieldLink "BurntLetters$Reader" (15 : Nat) "BurntLetters$Reader" "lots" "[I") ∈ lw_all := lw_g (lw_at lw_m1 177 rfl) rfl
theorem q239 : (Jvm.Cond.fieldLink "BurntLetters$Reader" (3 : Nat) "BurntLetters$Reader" "this$0" "LBurntLetters;") ∈ lw_all := lw_g (lw_at lw_m1 179 rfl) rfl
theorem q240 : (Jvm.Cond.lays "BurntLetters$Reader" "BurntLetters$Reader" "place" "I") ∈ lw_all := lw_g (lw_at lw_m1 180 rfl) rfl
theorem q241 : (Jvm.Cond.soleField "BurntLetters$Reader" "place") ∈ lw_all := lw_g (lw_at lw_m1 181 rfl) rfl
theorem q242 : (Jvm.Cond.lays "BurntLetters$Reader" "BurntLetters$Reader" "room" "I") ∈ lw_all := lw_g (lw_at lw_m1 182 rfl) rfl
theorem q243 : (Jvm.Cond.soleField "BurntLetters$Reader" "room") ∈ lw_all := lw_g (lw_at lw_m1 183 rfl) rfl
theorem q244 : (Jvm.Cond.laysFinal "BurntLetters$Reader" "BurntLetters$Reader" "lots" "[I") ∈ lw_all := lw_g (lw_at lw_m1 184 rfl) rfl
theorem q245 : (Jvm.Cond.soleField "BurntLetters$Reader" "lots") ∈ lw_all := lw_g (lw_at lw_m1 185 rfl) rfl
theorem q246 : (Jvm.Cond.laysFinal "BurntLetters$Reader" "BurntLetters$Reader" "this$0" "LBurntLetters;") ∈ lw_all := lw_g (lw_at lw_m1 186 rfl) rfl
theorem q247 : (Jvm.Cond.soleField "BurntLetters$Reader" "this$0") ∈ lw_all := lw_g (lw_at lw_m1 187 rfl) rfl
theorem q248 : (Jvm.Cond.superclass "BurntLetters$Reader" "java/lang/Object") ∈ lw_all := lw_g (lw_at lw_m1 188 rfl) rfl
theorem q250 : (Jvm.Cond.instanceMethod ({ cls := "BurntLetters$Reader", name := "law", desc := "()LBurntLetters$Reader;" } : Jvm.MethodName)) ∈ lw_all := lw_g (lw_at lw_m1 190 rfl) rfl
theorem q251 : (Jvm.Cond.selects "BurntLetters$Reader" ({ cls := "BurntLetters$Reader", name := "law", desc := "()LBurntLetters$Reader;" } : Jvm.MethodName) ({ cls := "BurntLetters$Reader", name := "law", desc := "()LBurntLetters$Reader;" } : Jvm.MethodName)) ∈ lw_all := lw_g (lw_at lw_m1 191 rfl) rfl
theorem q252 : (Jvm.Cond.code ({ cls := "BurntLetters$Reader", name := "law", desc := "()LBurntLetters$Reader;" } : Jvm.MethodName) prog_6_method_6_code (3 : Nat) (Option.some (Jvm.ClassFile.FieldType.object "BurntLetters$Reader"))) ∈ lw_all := lw_g (lw_at lw_m1 192 rfl) rfl
theorem q253 : (Jvm.Cond.methodLink "BurntLetters$Reader" (53 : Nat) ({ cls := "BurntLetters$Reader", name := "digit", desc := "(II)I" } : Jvm.MethodName)) ∈ lw_all := lw_g (lw_at lw_m1 193 rfl) rfl
theorem q254 : (Jvm.Cond.privateMethod ({ cls := "BurntLetters$Reader", name := "digit", desc := "(II)I" } : Jvm.MethodName)) ∈ lw_tbl := lw_at lw_m1 194 rfl
theorem q255 : (Jvm.Cond.instanceMethod ({ cls := "BurntLetters$Reader", name := "digit", desc := "(II)I" } : Jvm.MethodName)) ∈ lw_all := lw_g (lw_at lw_m1 195 rfl) rfl
theorem q256 : (Jvm.Cond.code ({ cls := "BurntLetters$Reader", name := "digit", desc := "(II)I" } : Jvm.MethodName) prog_6_method_5_code (3 : Nat) (Option.some Jvm.ClassFile.FieldType.int)) ∈ lw_all := lw_g (lw_at lw_m1 196 rfl) rfl
theorem q257 : (Jvm.Cond.methodLink "BurntLetters$Reader" (30 : Nat) ({ cls := "BurntLetters$Reader", name := "next", desc := "()I" } : Jvm.MethodName)) ∈ lw_all := lw_g (lw_at lw_m1 197 rfl) rfl
theorem q258 : (Jvm.Cond.privateMethod ({ cls := "BurntLetters$Reader", name := "next", desc := "()I" } : Jvm.MethodName)) ∈ lw_tbl := lw_at lw_m1 198 rfl
theorem q259 : (Jvm.Cond.instanceMethod ({ cls := "BurntLetters$Reader", name := "next", desc := "()I" } : Jvm.MethodName)) ∈ lw_all := lw_g (lw_at lw_m1 199 rfl) rfl
theorem q260 : (Jvm.Cond.code ({ cls := "BurntLetters$Reader", name := "next", desc := "()I" } : Jvm.MethodName) prog_6_method_2_code (1 : Nat) (Option.some Jvm.ClassFile.FieldType.int)) ∈ lw_all := lw_g (lw_at lw_m1 200 rfl) rfl
theorem q261 : (Jvm.Cond.methodLink "BurntLetters$Reader" (39 : Nat) ({ cls := "java/lang/Math", name := "min", desc := "(II)I" } : Jvm.MethodName)) ∈ lw_all := lw_g (lw_at lw_m1 201 rfl) rfl
theorem q264 : (Jvm.Cond.methodLinkNest "BurntLetters$Reader" (45 : Nat) ({ cls := "BurntLetters", name := "in", desc := "(III)Z" } : Jvm.MethodName) "BurntLetters") ∈ lw_tbl := lw_at lw_m1 204 rfl
theorem q265 : (Jvm.Cond.methodLink "BurntLetters$Reader" (49 : Nat) ({ cls := "BurntLetters$Reader", name := "want", desc := "(Z)V" } : Jvm.MethodName)) ∈ lw_all := lw_g (lw_at lw_m1 205 rfl) rfl
theorem q266 : (Jvm.Cond.privateMethod ({ cls := "BurntLetters$Reader", name := "want", desc := "(Z)V" } : Jvm.MethodName)) ∈ lw_tbl := lw_at lw_m1 206 rfl
theorem q267 : (Jvm.Cond.instanceMethod ({ cls := "BurntLetters$Reader", name := "want", desc := "(Z)V" } : Jvm.MethodName)) ∈ lw_all := lw_g (lw_at lw_m1 207 rfl) rfl
theorem q268 : (Jvm.Cond.code ({ cls := "BurntLetters$Reader", name := "want", desc := "(Z)V" } : Jvm.MethodName) prog_6_method_4_code (2 : Nat) (Option.none : Option Jvm.ClassFile.FieldType)) ∈ lw_all := lw_g (lw_at lw_m1 208 rfl) rfl
theorem q269 : (Jvm.Cond.classLink "BurntLetters$Reader" (34 : Nat) "BurntLetters$Stop") ∈ lw_all := lw_g (lw_at lw_m1 209 rfl) rfl
theorem q306 : (Jvm.Cond.methodLink "BurntLetters$Reader" (36 : Nat) ({ cls := "BurntLetters$Stop", name := "<init>", desc := "(I)V" } : Jvm.MethodName)) ∈ lw_all := lw_g (lw_at lw_m2 6 rfl) rfl
theorem q332 : (Jvm.Cond.methodLink "BurntLetters$Reader" (56 : Nat) ({ cls := "BurntLetters$Reader", name := "takes", desc := "(C)Z" } : Jvm.MethodName)) ∈ lw_all := lw_g (lw_at lw_m2 32 rfl) rfl
theorem q333 : (Jvm.Cond.privateMethod ({ cls := "BurntLetters$Reader", name := "takes", desc := "(C)Z" } : Jvm.MethodName)) ∈ lw_tbl := lw_at lw_m2 33 rfl
theorem q334 : (Jvm.Cond.instanceMethod ({ cls := "BurntLetters$Reader", name := "takes", desc := "(C)Z" } : Jvm.MethodName)) ∈ lw_all := lw_g (lw_at lw_m2 34 rfl) rfl
theorem q335 : (Jvm.Cond.code ({ cls := "BurntLetters$Reader", name := "takes", desc := "(C)Z" } : Jvm.MethodName) prog_6_method_3_code (3 : Nat) (Option.some Jvm.ClassFile.FieldType.boolean)) ∈ lw_all := lw_g (lw_at lw_m2 35 rfl) rfl
theorem q439 : (Jvm.Cond.selects "BurntLetters$Reader" ({ cls := "java/lang/Object", name := "getClass", desc := "()Ljava/lang/Class;" } : Jvm.MethodName) ({ cls := "java/lang/Object", name := "getClass", desc := "()Ljava/lang/Class;" } : Jvm.MethodName)) ∈ lw_all := lw_g (lw_at lw_m2 139 rfl) rfl
theorem q1163 : (Jvm.Cond.castable "BurntLetters$Reader" "java/lang/Object") ∈ lw_tbl := lw_at lw_m5 143 rfl
theorem in_X3 : ∀ w ∈ wsX30, w ∈ lw_all := lw_in wsX30 [240, 242, 244, 246] (by decide +kernel) (by decide +kernel)
/-! BurntLetters$Stop -/
set_option maxRecDepth 100000
def RX4 : String := "BurntLetters$Stop"
def TX4 : u_T := fun k => match k with
  | 0 => ("java/lang/Throwable", "cause", "Ljava/lang/Throwable;", false)
  | 1 => ("java/lang/Throwable", "stackTrace", "[Ljava/lang/StackTraceElement;", false)
  | 2 => ("java/lang/Throwable", "suppressedExceptions", "Ljava/util/List;", false)
  | 3 => ("java/lang/Throwable", "detailMessage", "Ljava/lang/String;", false)
  | 4 => ("java/lang/Throwable", "backtrace", "Ljava/lang/Object;", false)
  | 5 => ("java/lang/Throwable", "depth", "I", false)
  | _ => ("BurntLetters$Stop", "place", "I", true)
def tyX4 : Nat → FieldType := fun k => match k with
  | 0 => .object "java/lang/Throwable"
  | 1 => .array (.object "java/lang/StackTraceElement")
  | 2 => .object "java/util/List"
  | 3 => .object "java/lang/String"
  | 4 => .object "java/lang/Object"
  | 5 => .int
  | _ => .int
abbrev wsX40 : List Cond := u_ws RX4 TX4 7
theorem nmX4 : ∀ a, a < 7 → ∀ b, b < 7 → a ≠ b → (TX4 a).2.1 ≠ (TX4 b).2.1 := by decide +kernel
theorem tyX4_ok : ∀ k, k < 7 → parseFieldDescriptor (TX4 k).2.2.1 = some (tyX4 k) := by decide +kernel
abbrev cX4_init : ByteArray := prog_9_method_1_code
def yX4_init : MethodName := ⟨RX4, "<init>", "(I)V"⟩
def dkwX4_init_0 : List UInt8 := [42, 1, 1, 3, 3, 183, 0, 1, 42, 27, 181, 0, 7, 177]
abbrev dktX4_init_0 : List UInt8 := dkwX4_init_0 ++ []
theorem dksX4_init_0 : cX4_init.data.toList.drop 0 = dktX4_init_0 := by decide +kernel
theorem dX4_init_0 : decode cX4_init 0 = .ok (.aload_n 0, 1) := dk_42 (dk_at dksX4_init_0 0 rfl rfl)
theorem dX4_init_1 : decode cX4_init 1 = .ok (.aconst_null, 1) := dk_1 (dk_at dksX4_init_0 1 rfl rfl)
theorem dX4_init_2 : decode cX4_init 2 = .ok (.aconst_null, 1) := dk_1 (dk_at dksX4_init_0 2 rfl rfl)
theorem dX4_init_3 : decode cX4_init 3 = .ok (.iconst 0, 1) := dk_3 (dk_at dksX4_init_0 3 rfl rfl)
theorem dX4_init_4 : decode cX4_init 4 = .ok (.iconst 0, 1) := dk_3 (dk_at dksX4_init_0 4 rfl rfl)
theorem dX4_init_5 : decode cX4_init 5 = .ok (.invokespecial 1, 3) := dk_183 0 1 (dk_at dksX4_init_0 5 rfl rfl)
theorem dX4_init_8 : decode cX4_init 8 = .ok (.aload_n 0, 1) := dk_42 (dk_at dksX4_init_0 8 rfl rfl)
theorem dX4_init_9 : decode cX4_init 9 = .ok (.iload_n 1, 1) := dk_27 (dk_at dksX4_init_0 9 rfl rfl)
theorem dX4_init_10 : decode cX4_init 10 = .ok (.putfield 7, 3) := dk_181 0 7 (dk_at dksX4_init_0 10 rfl rfl)
theorem dX4_init_13 : decode cX4_init 13 = .ok (.return_, 1) := dk_177 (dk_at dksX4_init_0 13 rfl rfl)
theorem q71 : (Jvm.Cond.initialized "BurntLetters$Stop") ∈ lw_all := lw_g (lw_at lw_m1 11 rfl) rfl
theorem q270 : (Jvm.Cond.instantiable "BurntLetters$Stop" (7 : Nat)) ∈ lw_all := lw_g (lw_at lw_m1 210 rfl) rfl
theorem q271 : (Jvm.Cond.castable "BurntLetters$Stop" "BurntLetters$Stop") ∈ lw_tbl := lw_at lw_m1 211 rfl
theorem q276 : (Jvm.Cond.selects "BurntLetters$Stop" ({ cls := "java/lang/Throwable", name := "fillInStackTrace", desc := "(I)Ljava/lang/Throwable;" } : Jvm.MethodName) ({ cls := "java/lang/Throwable", name := "fillInStackTrace", desc := "(I)Ljava/lang/Throwable;" } : Jvm.MethodName)) ∈ lw_all := lw_g (lw_at lw_m1 216 rfl) rfl
theorem q277 : (Jvm.Cond.selects "BurntLetters$Stop" ({ cls := "java/lang/Throwable", name := "fillInStackTrace", desc := "()Ljava/lang/Throwable;" } : Jvm.MethodName) ({ cls := "java/lang/Throwable", name := "fillInStackTrace", desc := "()Ljava/lang/Throwable;" } : Jvm.MethodName)) ∈ lw_all := lw_g (lw_at lw_m1 217 rfl) rfl
theorem q278 : (Jvm.Cond.lays "BurntLetters$Stop" "java/lang/Throwable" "cause" "Ljava/lang/Throwable;") ∈ lw_all := lw_g (lw_at lw_m1 218 rfl) rfl
theorem q280 : (Jvm.Cond.lays "BurntLetters$Stop" "java/lang/Throwable" "stackTrace" "[Ljava/lang/StackTraceElement;") ∈ lw_all := lw_g (lw_at lw_m1 220 rfl) rfl
theorem q282 : (Jvm.Cond.lays "BurntLetters$Stop" "java/lang/Throwable" "suppressedExceptions" "Ljava/util/List;") ∈ lw_all := lw_g (lw_at lw_m1 222 rfl) rfl
theorem q284 : (Jvm.Cond.lays "BurntLetters$Stop" "java/lang/Throwable" "detailMessage" "Ljava/lang/String;") ∈ lw_all := lw_g (lw_at lw_m1 224 rfl) rfl
theorem q286 : (Jvm.Cond.lays "BurntLetters$Stop" "java/lang/Throwable" "backtrace" "Ljava/lang/Object;") ∈ lw_all := lw_g (lw_at lw_m1 226 rfl) rfl
theorem q307 : (Jvm.Cond.instanceMethod ({ cls := "BurntLetters$Stop", name := "<init>", desc := "(I)V" } : Jvm.MethodName)) ∈ lw_all := lw_g (lw_at lw_m2 7 rfl) rfl
theorem q308 : (Jvm.Cond.code ({ cls := "BurntLetters$Stop", name := "<init>", desc := "(I)V" } : Jvm.MethodName) prog_9_method_1_code (2 : Nat) (Option.none : Option Jvm.ClassFile.FieldType)) ∈ lw_all := lw_g (lw_at lw_m2 8 rfl) rfl
theorem q309 : (Jvm.Cond.methodLink "BurntLetters$Stop" (1 : Nat) ({ cls := "java/lang/Exception", name := "<init>", desc := "(Ljava/lang/String;Ljava/lang/Throwable;ZZ)V" } : Jvm.MethodName)) ∈ lw_all := lw_g (lw_at lw_m2 9 rfl) rfl
theorem q315 : (Jvm.Cond.fieldLink "BurntLetters$Stop" (7 : Nat) "BurntLetters$Stop" "place" "I") ∈ lw_all := lw_g (lw_at lw_m2 15 rfl) rfl
theorem q322 : (Jvm.Cond.laysFinal "BurntLetters$Stop" "BurntLetters$Stop" "place" "I") ∈ lw_all := lw_g (lw_at lw_m2 22 rfl) rfl
theorem q323 : (Jvm.Cond.soleField "BurntLetters$Stop" "place") ∈ lw_all := lw_g (lw_at lw_m2 23 rfl) rfl
theorem q328 : (Jvm.Cond.lays "BurntLetters$Stop" "java/lang/Throwable" "depth" "I") ∈ lw_all := lw_g (lw_at lw_m2 28 rfl) rfl
theorem q331 : (Jvm.Cond.superclass "BurntLetters$Stop" "java/lang/Exception") ∈ lw_all := lw_g (lw_at lw_m2 31 rfl) rfl
theorem q442 : (Jvm.Cond.selects "BurntLetters$Stop" ({ cls := "java/lang/Object", name := "getClass", desc := "()Ljava/lang/Class;" } : Jvm.MethodName) ({ cls := "java/lang/Object", name := "getClass", desc := "()Ljava/lang/Class;" } : Jvm.MethodName)) ∈ lw_all := lw_g (lw_at lw_m2 142 rfl) rfl
theorem q1164 : (Jvm.Cond.castable "BurntLetters$Stop" "java/lang/Object") ∈ lw_tbl := lw_at lw_m5 144 rfl
theorem in_X4 : ∀ w ∈ wsX40, w ∈ lw_all := lw_in wsX40 [278, 280, 282, 284, 286, 328, 322] (by decide +kernel) (by decide +kernel)
/-! BurntLetters$Paper -/
set_option maxRecDepth 100000
def RX5 : String := "BurntLetters$Paper"
abbrev cX5_init : ByteArray := prog_5_method_1_code
def yX5_init : MethodName := ⟨RX5, "<init>", "()V"⟩
theorem dX5_init_0 : decode cX5_init 0 = .ok (.aload_n 0, 1) := by decide +kernel
theorem dX5_init_1 : decode cX5_init 1 = .ok (.invokespecial 1, 3) := by decide +kernel
theorem dX5_init_4 : decode cX5_init 4 = .ok (.return_, 1) := by decide +kernel
abbrev cX5_kind : ByteArray := prog_5_method_2_code
def yX5_kind : MethodName := ⟨RX5, "kind", "()I"⟩
theorem dX5_kind_0 : decode cX5_kind 0 = .ok (.iconst 0, 1) := by decide +kernel
theorem dX5_kind_1 : decode cX5_kind 1 = .ok (.ireturn, 1) := by decide +kernel
abbrev cX5_names : ByteArray := prog_5_method_4_code
def yX5_names : MethodName := ⟨RX5, "names", "()I"⟩
theorem dX5_names_0 : decode cX5_names 0 = .ok (.iconst 2, 1) := by decide +kernel
theorem dX5_names_1 : decode cX5_names 1 = .ok (.ireturn, 1) := by decide +kernel
abbrev cX5_isOf : ByteArray := prog_5_method_3_code
def yX5_isOf : MethodName := ⟨RX5, "isOf", "(I)Z"⟩
def dkwX5_isOf_0 : List UInt8 := [27, 153, 0, 11, 27, 42, 182, 0, 7, 160, 0, 7, 4, 167, 0, 4, 3, 172]
abbrev dktX5_isOf_0 : List UInt8 := dkwX5_isOf_0 ++ []
theorem dksX5_isOf_0 : cX5_isOf.data.toList.drop 0 = dktX5_isOf_0 := by decide +kernel
theorem dX5_isOf_0 : decode cX5_isOf 0 = .ok (.iload_n 1, 1) := dk_27 (dk_at dksX5_isOf_0 0 rfl rfl)
theorem dX5_isOf_1 : decode cX5_isOf 1 = .ok (.ifCond .eq 11, 3) := dk_153 0 11 (dk_at dksX5_isOf_0 1 rfl rfl)
theorem dX5_isOf_4 : decode cX5_isOf 4 = .ok (.iload_n 1, 1) := dk_27 (dk_at dksX5_isOf_0 4 rfl rfl)
theorem dX5_isOf_5 : decode cX5_isOf 5 = .ok (.aload_n 0, 1) := dk_42 (dk_at dksX5_isOf_0 5 rfl rfl)
theorem dX5_isOf_6 : decode cX5_isOf 6 = .ok (.invokevirtual 7, 3) := dk_182 0 7 (dk_at dksX5_isOf_0 6 rfl rfl)
theorem dX5_isOf_9 : decode cX5_isOf 9 = .ok (.if_icmp .ne 7, 3) := dk_160 0 7 (dk_at dksX5_isOf_0 9 rfl rfl)
theorem dX5_isOf_12 : decode cX5_isOf 12 = .ok (.iconst 1, 1) := dk_4 (dk_at dksX5_isOf_0 12 rfl rfl)
theorem dX5_isOf_13 : decode cX5_isOf 13 = .ok (.goto 4, 3) := dk_167 0 4 (dk_at dksX5_isOf_0 13 rfl rfl)
theorem dX5_isOf_16 : decode cX5_isOf 16 = .ok (.iconst 0, 1) := dk_3 (dk_at dksX5_isOf_0 16 rfl rfl)
theorem dX5_isOf_17 : decode cX5_isOf 17 = .ok (.ireturn, 1) := dk_172 (dk_at dksX5_isOf_0 17 rfl rfl)
abbrev cX5_keeps : ByteArray := prog_5_method_5_code
def yX5_keeps : MethodName := ⟨RX5, "keeps", "()I"⟩
theorem dX5_keeps_0 : decode cX5_keeps 0 = .ok (.iconst 1, 1) := by decide +kernel
theorem dX5_keeps_1 : decode cX5_keeps 1 = .ok (.ireturn, 1) := by decide +kernel
abbrev cX5_burntBy : ByteArray := prog_5_method_6_code
def yX5_burntBy : MethodName := ⟨RX5, "burntBy", "(II)I"⟩
def dkwX5_burntBy_0 : List UInt8 := [27, 4, 28, 120, 126, 172]
abbrev dktX5_burntBy_0 : List UInt8 := dkwX5_burntBy_0 ++ []
theorem dksX5_burntBy_0 : cX5_burntBy.data.toList.drop 0 = dktX5_burntBy_0 := by decide +kernel
theorem dX5_burntBy_0 : decode cX5_burntBy 0 = .ok (.iload_n 1, 1) := dk_27 (dk_at dksX5_burntBy_0 0 rfl rfl)
theorem dX5_burntBy_1 : decode cX5_burntBy 1 = .ok (.iconst 1, 1) := dk_4 (dk_at dksX5_burntBy_0 1 rfl rfl)
theorem dX5_burntBy_2 : decode cX5_burntBy 2 = .ok (.iload_n 2, 1) := dk_28 (dk_at dksX5_burntBy_0 2 rfl rfl)
theorem dX5_burntBy_3 : decode cX5_burntBy 3 = .ok (.ishl, 1) := dk_120 (dk_at dksX5_burntBy_0 3 rfl rfl)
theorem dX5_burntBy_4 : decode cX5_burntBy 4 = .ok (.iand, 1) := dk_126 (dk_at dksX5_burntBy_0 4 rfl rfl)
theorem dX5_burntBy_5 : decode cX5_burntBy 5 = .ok (.ireturn, 1) := dk_172 (dk_at dksX5_burntBy_0 5 rfl rfl)
abbrev cX5_spreads : ByteArray := prog_5_method_7_code
def yX5_spreads : MethodName := ⟨RX5, "spreads", "()Z"⟩
theorem dX5_spreads_0 : decode cX5_spreads 0 = .ok (.iconst 0, 1) := by decide +kernel
theorem dX5_spreads_1 : decode cX5_spreads 1 = .ok (.ireturn, 1) := by decide +kernel
theorem q72 : (Jvm.Cond.initialized "BurntLetters$Paper") ∈ lw_all := lw_g (lw_at lw_m1 12 rfl) rfl
theorem q373 : (Jvm.Cond.instanceMethod ({ cls := "BurntLetters$Paper", name := "<init>", desc := "()V" } : Jvm.MethodName)) ∈ lw_all := lw_g (lw_at lw_m2 73 rfl) rfl
theorem q374 : (Jvm.Cond.code ({ cls := "BurntLetters$Paper", name := "<init>", desc := "()V" } : Jvm.MethodName) prog_5_method_1_code (1 : Nat) (Option.none : Option Jvm.ClassFile.FieldType)) ∈ lw_all := lw_g (lw_at lw_m2 74 rfl) rfl
theorem q375 : (Jvm.Cond.methodLink "BurntLetters$Paper" (1 : Nat) ({ cls := "java/lang/Object", name := "<init>", desc := "()V" } : Jvm.MethodName)) ∈ lw_all := lw_g (lw_at lw_m2 75 rfl) rfl
theorem q399 : (Jvm.Cond.instantiable "BurntLetters$Paper" (0 : Nat)) ∈ lw_all := lw_g (lw_at lw_m2 99 rfl) rfl
theorem q401 : (Jvm.Cond.superclass "BurntLetters$Paper" "java/lang/Object") ∈ lw_all := lw_g (lw_at lw_m2 101 rfl) rfl
theorem q438 : (Jvm.Cond.selects "BurntLetters$Paper" ({ cls := "java/lang/Object", name := "getClass", desc := "()Ljava/lang/Class;" } : Jvm.MethodName) ({ cls := "java/lang/Object", name := "getClass", desc := "()Ljava/lang/Class;" } : Jvm.MethodName)) ∈ lw_all := lw_g (lw_at lw_m2 138 rfl) rfl
theorem q485 : (Jvm.Cond.instanceMethod ({ cls := "BurntLetters$Paper", name := "kind", desc := "()I" } : Jvm.MethodName)) ∈ lw_all := lw_g (lw_at lw_m2 185 rfl) rfl
theorem q486 : (Jvm.Cond.selects "BurntLetters$Paper" ({ cls := "BurntLetters$Paper", name := "kind", desc := "()I" } : Jvm.MethodName) ({ cls := "BurntLetters$Paper", name := "kind", desc := "()I" } : Jvm.MethodName)) ∈ lw_all := lw_g (lw_at lw_m2 186 rfl) rfl
theorem q487 : (Jvm.Cond.sameMethod "BurntLetters$Paper" "BurntLetters$Paper" "kind" "()I") ∈ lw_all := lw_g (lw_at lw_m2 187 rfl) rfl
theorem q500 : (Jvm.Cond.code ({ cls := "BurntLetters$Paper", name := "kind", desc := "()I" } : Jvm.MethodName) prog_5_method_2_code (1 : Nat) (Option.some Jvm.ClassFile.FieldType.int)) ∈ lw_all := lw_g (lw_at lw_m2 200 rfl) rfl
theorem q506 : (Jvm.Cond.instanceMethod ({ cls := "BurntLetters$Paper", name := "names", desc := "()I" } : Jvm.MethodName)) ∈ lw_all := lw_g (lw_at lw_m2 206 rfl) rfl
theorem q507 : (Jvm.Cond.selects "BurntLetters$Paper" ({ cls := "BurntLetters$Paper", name := "names", desc := "()I" } : Jvm.MethodName) ({ cls := "BurntLetters$Paper", name := "names", desc := "()I" } : Jvm.MethodName)) ∈ lw_all := lw_g (lw_at lw_m2 207 rfl) rfl
theorem q508 : (Jvm.Cond.sameMethod "BurntLetters$Paper" "BurntLetters$Paper" "names" "()I") ∈ lw_all := lw_g (lw_at lw_m2 208 rfl) rfl
theorem q518 : (Jvm.Cond.code ({ cls := "BurntLetters$Paper", name := "names", desc := "()I" } : Jvm.MethodName) prog_5_method_4_code (1 : Nat) (Option.some Jvm.ClassFile.FieldType.int)) ∈ lw_all := lw_g (lw_at lw_m2 218 rfl) rfl
theorem q524 : (Jvm.Cond.instanceMethod ({ cls := "BurntLetters$Paper", name := "isOf", desc := "(I)Z" } : Jvm.MethodName)) ∈ lw_all := lw_g (lw_at lw_m2 224 rfl) rfl
theorem q525 : (Jvm.Cond.selects "BurntLetters$Paper" ({ cls := "BurntLetters$Paper", name := "isOf", desc := "(I)Z" } : Jvm.MethodName) ({ cls := "BurntLetters$Paper", name := "isOf", desc := "(I)Z" } : Jvm.MethodName)) ∈ lw_all := lw_g (lw_at lw_m2 225 rfl) rfl
theorem q526 : (Jvm.Cond.sameMethod "BurntLetters$Paper" "BurntLetters$Paper" "isOf" "(I)Z") ∈ lw_all := lw_g (lw_at lw_m2 226 rfl) rfl
theorem q537 : (Jvm.Cond.code ({ cls := "BurntLetters$Paper", name := "isOf", desc := "(I)Z" } : Jvm.MethodName) prog_5_method_3_code (2 : Nat) (Option.some Jvm.ClassFile.FieldType.boolean)) ∈ lw_all := lw_g (lw_at lw_m2 237 rfl) rfl
theorem q538 : (Jvm.Cond.methodLink "BurntLetters$Paper" (7 : Nat) ({ cls := "BurntLetters$Paper", name := "kind", desc := "()I" } : Jvm.MethodName)) ∈ lw_all := lw_g (lw_at lw_m2 238 rfl) rfl
theorem q599 : (Jvm.Cond.instanceMethod ({ cls := "BurntLetters$Paper", name := "keeps", desc := "()I" } : Jvm.MethodName)) ∈ lw_all := lw_g (lw_at lw_m3 59 rfl) rfl
theorem q600 : (Jvm.Cond.selects "BurntLetters$Paper" ({ cls := "BurntLetters$Paper", name := "keeps", desc := "()I" } : Jvm.MethodName) ({ cls := "BurntLetters$Paper", name := "keeps", desc := "()I" } : Jvm.MethodName)) ∈ lw_all := lw_g (lw_at lw_m3 60 rfl) rfl
theorem q601 : (Jvm.Cond.sameMethod "BurntLetters$Paper" "BurntLetters$Paper" "keeps" "()I") ∈ lw_all := lw_g (lw_at lw_m3 61 rfl) rfl
theorem q609 : (Jvm.Cond.code ({ cls := "BurntLetters$Paper", name := "keeps", desc := "()I" } : Jvm.MethodName) prog_5_method_5_code (1 : Nat) (Option.some Jvm.ClassFile.FieldType.int)) ∈ lw_all := lw_g (lw_at lw_m3 69 rfl) rfl
theorem q611 : (Jvm.Cond.instanceMethod ({ cls := "BurntLetters$Paper", name := "burntBy", desc := "(II)I" } : Jvm.MethodName)) ∈ lw_all := lw_g (lw_at lw_m3 71 rfl) rfl
theorem q612 : (Jvm.Cond.selects "BurntLetters$Paper" ({ cls := "BurntLetters$Paper", name := "burntBy", desc := "(II)I" } : Jvm.MethodName) ({ cls := "BurntLetters$Paper", name := "burntBy", desc := "(II)I" } : Jvm.MethodName)) ∈ lw_all := lw_g (lw_at lw_m3 72 rfl) rfl
theorem q613 : (Jvm.Cond.sameMethod "BurntLetters$Paper" "BurntLetters$Paper" "burntBy" "(II)I") ∈ lw_all := lw_g (lw_at lw_m3 73 rfl) rfl
theorem q620 : (Jvm.Cond.declares ({ cls := "BurntLetters$Paper", name := "burntBy", desc := "(II)I" } : Jvm.MethodName)) ∈ lw_tbl := lw_at lw_m3 80 rfl
theorem q623 : (Jvm.Cond.code ({ cls := "BurntLetters$Paper", name := "burntBy", desc := "(II)I" } : Jvm.MethodName) prog_5_method_6_code (3 : Nat) (Option.some Jvm.ClassFile.FieldType.int)) ∈ lw_all := lw_g (lw_at lw_m3 83 rfl) rfl
theorem q625 : (Jvm.Cond.instanceMethod ({ cls := "BurntLetters$Paper", name := "spreads", desc := "()Z" } : Jvm.MethodName)) ∈ lw_all := lw_g (lw_at lw_m3 85 rfl) rfl
theorem q626 : (Jvm.Cond.selects "BurntLetters$Paper" ({ cls := "BurntLetters$Paper", name := "spreads", desc := "()Z" } : Jvm.MethodName) ({ cls := "BurntLetters$Paper", name := "spreads", desc := "()Z" } : Jvm.MethodName)) ∈ lw_all := lw_g (lw_at lw_m3 86 rfl) rfl
theorem q627 : (Jvm.Cond.sameMethod "BurntLetters$Paper" "BurntLetters$Paper" "spreads" "()Z") ∈ lw_all := lw_g (lw_at lw_m3 87 rfl) rfl
theorem q635 : (Jvm.Cond.code ({ cls := "BurntLetters$Paper", name := "spreads", desc := "()Z" } : Jvm.MethodName) prog_5_method_7_code (1 : Nat) (Option.some Jvm.ClassFile.FieldType.boolean)) ∈ lw_all := lw_g (lw_at lw_m3 95 rfl) rfl
theorem q1169 : (Jvm.Cond.castable "BurntLetters$Paper" "java/lang/Object") ∈ lw_tbl := lw_at lw_m5 149 rfl
/-! BurntLetters$Rumour -/
set_option maxRecDepth 100000
def RX6 : String := "BurntLetters$Rumour"
abbrev cX6_init : ByteArray := prog_8_method_1_code
def yX6_init : MethodName := ⟨RX6, "<init>", "()V"⟩
theorem dX6_init_0 : decode cX6_init 0 = .ok (.aload_n 0, 1) := by decide +kernel
theorem dX6_init_1 : decode cX6_init 1 = .ok (.invokespecial 3, 3) := by decide +kernel
theorem dX6_init_4 : decode cX6_init 4 = .ok (.return_, 1) := by decide +kernel
abbrev cX6_kind : ByteArray := prog_8_method_2_code
def yX6_kind : MethodName := ⟨RX6, "kind", "()I"⟩
theorem dX6_kind_0 : decode cX6_kind 0 = .ok (.iconst 1, 1) := by decide +kernel
theorem dX6_kind_1 : decode cX6_kind 1 = .ok (.ireturn, 1) := by decide +kernel
abbrev cX6_names : ByteArray := prog_8_method_3_code
def yX6_names : MethodName := ⟨RX6, "names", "()I"⟩
theorem dX6_names_0 : decode cX6_names 0 = .ok (.bipush 6, 2) := by decide +kernel
theorem dX6_names_2 : decode cX6_names 2 = .ok (.ireturn, 1) := by decide +kernel
abbrev cX6_spreads : ByteArray := prog_8_method_4_code
def yX6_spreads : MethodName := ⟨RX6, "spreads", "()Z"⟩
def dkwX6_spreads_0 : List UInt8 := [42, 183, 0, 9, 154, 0, 7, 4, 167, 0, 4, 3, 172]
abbrev dktX6_spreads_0 : List UInt8 := dkwX6_spreads_0 ++ []
theorem dksX6_spreads_0 : cX6_spreads.data.toList.drop 0 = dktX6_spreads_0 := by decide +kernel
theorem dX6_spreads_0 : decode cX6_spreads 0 = .ok (.aload_n 0, 1) := dk_42 (dk_at dksX6_spreads_0 0 rfl rfl)
theorem dX6_spreads_1 : decode cX6_spreads 1 = .ok (.invokespecial 9, 3) := dk_183 0 9 (dk_at dksX6_spreads_0 1 rfl rfl)
theorem dX6_spreads_4 : decode cX6_spreads 4 = .ok (.ifCond .ne 7, 3) := dk_154 0 7 (dk_at dksX6_spreads_0 4 rfl rfl)
theorem dX6_spreads_7 : decode cX6_spreads 7 = .ok (.iconst 1, 1) := dk_4 (dk_at dksX6_spreads_0 7 rfl rfl)
theorem dX6_spreads_8 : decode cX6_spreads 8 = .ok (.goto 4, 3) := dk_167 0 4 (dk_at dksX6_spreads_0 8 rfl rfl)
theorem dX6_spreads_11 : decode cX6_spreads 11 = .ok (.iconst 0, 1) := dk_3 (dk_at dksX6_spreads_0 11 rfl rfl)
theorem dX6_spreads_12 : decode cX6_spreads 12 = .ok (.ireturn, 1) := dk_172 (dk_at dksX6_spreads_0 12 rfl rfl)
theorem q73 : (Jvm.Cond.initialized "BurntLetters$Rumour") ∈ lw_all := lw_g (lw_at lw_m1 13 rfl) rfl
theorem q368 : (Jvm.Cond.instantiable "BurntLetters$Rumour" (0 : Nat)) ∈ lw_all := lw_g (lw_at lw_m2 68 rfl) rfl
theorem q370 : (Jvm.Cond.instanceMethod ({ cls := "BurntLetters$Rumour", name := "<init>", desc := "()V" } : Jvm.MethodName)) ∈ lw_all := lw_g (lw_at lw_m2 70 rfl) rfl
theorem q371 : (Jvm.Cond.code ({ cls := "BurntLetters$Rumour", name := "<init>", desc := "()V" } : Jvm.MethodName) prog_8_method_1_code (1 : Nat) (Option.none : Option Jvm.ClassFile.FieldType)) ∈ lw_all := lw_g (lw_at lw_m2 71 rfl) rfl
theorem q372 : (Jvm.Cond.methodLinkNest "BurntLetters$Rumour" (3 : Nat) ({ cls := "BurntLetters$Paper", name := "<init>", desc := "()V" } : Jvm.MethodName) "BurntLetters") ∈ lw_tbl := lw_at lw_m2 72 rfl
theorem q376 : (Jvm.Cond.superclass "BurntLetters$Rumour" "BurntLetters$Paper") ∈ lw_all := lw_g (lw_at lw_m2 76 rfl) rfl
theorem q441 : (Jvm.Cond.selects "BurntLetters$Rumour" ({ cls := "java/lang/Object", name := "getClass", desc := "()Ljava/lang/Class;" } : Jvm.MethodName) ({ cls := "java/lang/Object", name := "getClass", desc := "()Ljava/lang/Class;" } : Jvm.MethodName)) ∈ lw_all := lw_g (lw_at lw_m2 141 rfl) rfl
theorem q497 : (Jvm.Cond.selects "BurntLetters$Rumour" ({ cls := "BurntLetters$Paper", name := "kind", desc := "()I" } : Jvm.MethodName) ({ cls := "BurntLetters$Rumour", name := "kind", desc := "()I" } : Jvm.MethodName)) ∈ lw_all := lw_g (lw_at lw_m2 197 rfl) rfl
theorem q498 : (Jvm.Cond.instanceMethod ({ cls := "BurntLetters$Rumour", name := "kind", desc := "()I" } : Jvm.MethodName)) ∈ lw_all := lw_g (lw_at lw_m2 198 rfl) rfl
theorem q499 : (Jvm.Cond.code ({ cls := "BurntLetters$Rumour", name := "kind", desc := "()I" } : Jvm.MethodName) prog_8_method_2_code (1 : Nat) (Option.some Jvm.ClassFile.FieldType.int)) ∈ lw_all := lw_g (lw_at lw_m2 199 rfl) rfl
theorem q515 : (Jvm.Cond.selects "BurntLetters$Rumour" ({ cls := "BurntLetters$Paper", name := "names", desc := "()I" } : Jvm.MethodName) ({ cls := "BurntLetters$Rumour", name := "names", desc := "()I" } : Jvm.MethodName)) ∈ lw_all := lw_g (lw_at lw_m2 215 rfl) rfl
theorem q516 : (Jvm.Cond.instanceMethod ({ cls := "BurntLetters$Rumour", name := "names", desc := "()I" } : Jvm.MethodName)) ∈ lw_all := lw_g (lw_at lw_m2 216 rfl) rfl
theorem q517 : (Jvm.Cond.code ({ cls := "BurntLetters$Rumour", name := "names", desc := "()I" } : Jvm.MethodName) prog_8_method_3_code (1 : Nat) (Option.some Jvm.ClassFile.FieldType.int)) ∈ lw_all := lw_g (lw_at lw_m2 217 rfl) rfl
theorem q536 : (Jvm.Cond.selects "BurntLetters$Rumour" ({ cls := "BurntLetters$Paper", name := "isOf", desc := "(I)Z" } : Jvm.MethodName) ({ cls := "BurntLetters$Paper", name := "isOf", desc := "(I)Z" } : Jvm.MethodName)) ∈ lw_all := lw_g (lw_at lw_m2 236 rfl) rfl
theorem q608 : (Jvm.Cond.selects "BurntLetters$Rumour" ({ cls := "BurntLetters$Paper", name := "keeps", desc := "()I" } : Jvm.MethodName) ({ cls := "BurntLetters$Paper", name := "keeps", desc := "()I" } : Jvm.MethodName)) ∈ lw_all := lw_g (lw_at lw_m3 68 rfl) rfl
theorem q622 : (Jvm.Cond.selects "BurntLetters$Rumour" ({ cls := "BurntLetters$Paper", name := "burntBy", desc := "(II)I" } : Jvm.MethodName) ({ cls := "BurntLetters$Paper", name := "burntBy", desc := "(II)I" } : Jvm.MethodName)) ∈ lw_all := lw_g (lw_at lw_m3 82 rfl) rfl
theorem q631 : (Jvm.Cond.selects "BurntLetters$Rumour" ({ cls := "BurntLetters$Paper", name := "spreads", desc := "()Z" } : Jvm.MethodName) ({ cls := "BurntLetters$Rumour", name := "spreads", desc := "()Z" } : Jvm.MethodName)) ∈ lw_all := lw_g (lw_at lw_m3 91 rfl) rfl
theorem q632 : (Jvm.Cond.instanceMethod ({ cls := "BurntLetters$Rumour", name := "spreads", desc := "()Z" } : Jvm.MethodName)) ∈ lw_all := lw_g (lw_at lw_m3 92 rfl) rfl
theorem q633 : (Jvm.Cond.code ({ cls := "BurntLetters$Rumour", name := "spreads", desc := "()Z" } : Jvm.MethodName) prog_8_method_4_code (1 : Nat) (Option.some Jvm.ClassFile.FieldType.boolean)) ∈ lw_all := lw_g (lw_at lw_m3 93 rfl) rfl
theorem q634 : (Jvm.Cond.methodLink "BurntLetters$Rumour" (9 : Nat) ({ cls := "BurntLetters$Paper", name := "spreads", desc := "()Z" } : Jvm.MethodName)) ∈ lw_all := lw_g (lw_at lw_m3 94 rfl) rfl
theorem q1158 : (Jvm.Cond.castable "BurntLetters$Rumour" "BurntLetters$Paper") ∈ lw_tbl := lw_at lw_m5 138 rfl
theorem q1165 : (Jvm.Cond.castable "BurntLetters$Rumour" "java/lang/Object") ∈ lw_tbl := lw_at lw_m5 145 rfl
/-! BurntLetters$Deed -/
set_option maxRecDepth 100000
def RX7 : String := "BurntLetters$Deed"
abbrev cX7_init : ByteArray := prog_3_method_1_code
def yX7_init : MethodName := ⟨RX7, "<init>", "()V"⟩
theorem dX7_init_0 : decode cX7_init 0 = .ok (.aload_n 0, 1) := by decide +kernel
theorem dX7_init_1 : decode cX7_init 1 = .ok (.invokespecial 1, 3) := by decide +kernel
theorem dX7_init_4 : decode cX7_init 4 = .ok (.return_, 1) := by decide +kernel
abbrev cX7_kind : ByteArray := prog_3_method_2_code
def yX7_kind : MethodName := ⟨RX7, "kind", "()I"⟩
theorem dX7_kind_0 : decode cX7_kind 0 = .ok (.iconst 2, 1) := by decide +kernel
theorem dX7_kind_1 : decode cX7_kind 1 = .ok (.ireturn, 1) := by decide +kernel
abbrev cX7_keeps : ByteArray := prog_3_method_3_code
def yX7_keeps : MethodName := ⟨RX7, "keeps", "()I"⟩
def dkwX7_keeps_0 : List UInt8 := [42, 183, 0, 7, 4, 96, 172]
abbrev dktX7_keeps_0 : List UInt8 := dkwX7_keeps_0 ++ []
theorem dksX7_keeps_0 : cX7_keeps.data.toList.drop 0 = dktX7_keeps_0 := by decide +kernel
theorem dX7_keeps_0 : decode cX7_keeps 0 = .ok (.aload_n 0, 1) := dk_42 (dk_at dksX7_keeps_0 0 rfl rfl)
theorem dX7_keeps_1 : decode cX7_keeps 1 = .ok (.invokespecial 7, 3) := dk_183 0 7 (dk_at dksX7_keeps_0 1 rfl rfl)
theorem dX7_keeps_4 : decode cX7_keeps 4 = .ok (.iconst 1, 1) := dk_4 (dk_at dksX7_keeps_0 4 rfl rfl)
theorem dX7_keeps_5 : decode cX7_keeps 5 = .ok (.iadd, 1) := dk_96 (dk_at dksX7_keeps_0 5 rfl rfl)
theorem dX7_keeps_6 : decode cX7_keeps 6 = .ok (.ireturn, 1) := dk_172 (dk_at dksX7_keeps_0 6 rfl rfl)
theorem q74 : (Jvm.Cond.initialized "BurntLetters$Deed") ∈ lw_all := lw_g (lw_at lw_m1 14 rfl) rfl
theorem q378 : (Jvm.Cond.instantiable "BurntLetters$Deed" (0 : Nat)) ∈ lw_all := lw_g (lw_at lw_m2 78 rfl) rfl
theorem q380 : (Jvm.Cond.instanceMethod ({ cls := "BurntLetters$Deed", name := "<init>", desc := "()V" } : Jvm.MethodName)) ∈ lw_all := lw_g (lw_at lw_m2 80 rfl) rfl
theorem q381 : (Jvm.Cond.code ({ cls := "BurntLetters$Deed", name := "<init>", desc := "()V" } : Jvm.MethodName) prog_3_method_1_code (1 : Nat) (Option.none : Option Jvm.ClassFile.FieldType)) ∈ lw_all := lw_g (lw_at lw_m2 81 rfl) rfl
theorem q382 : (Jvm.Cond.methodLinkNest "BurntLetters$Deed" (1 : Nat) ({ cls := "BurntLetters$Paper", name := "<init>", desc := "()V" } : Jvm.MethodName) "BurntLetters") ∈ lw_tbl := lw_at lw_m2 82 rfl
theorem q383 : (Jvm.Cond.superclass "BurntLetters$Deed" "BurntLetters$Paper") ∈ lw_all := lw_g (lw_at lw_m2 83 rfl) rfl
theorem q436 : (Jvm.Cond.selects "BurntLetters$Deed" ({ cls := "java/lang/Object", name := "getClass", desc := "()Ljava/lang/Class;" } : Jvm.MethodName) ({ cls := "java/lang/Object", name := "getClass", desc := "()Ljava/lang/Class;" } : Jvm.MethodName)) ∈ lw_all := lw_g (lw_at lw_m2 136 rfl) rfl
theorem q488 : (Jvm.Cond.selects "BurntLetters$Deed" ({ cls := "BurntLetters$Paper", name := "kind", desc := "()I" } : Jvm.MethodName) ({ cls := "BurntLetters$Deed", name := "kind", desc := "()I" } : Jvm.MethodName)) ∈ lw_all := lw_g (lw_at lw_m2 188 rfl) rfl
theorem q489 : (Jvm.Cond.instanceMethod ({ cls := "BurntLetters$Deed", name := "kind", desc := "()I" } : Jvm.MethodName)) ∈ lw_all := lw_g (lw_at lw_m2 189 rfl) rfl
theorem q490 : (Jvm.Cond.code ({ cls := "BurntLetters$Deed", name := "kind", desc := "()I" } : Jvm.MethodName) prog_3_method_2_code (1 : Nat) (Option.some Jvm.ClassFile.FieldType.int)) ∈ lw_all := lw_g (lw_at lw_m2 190 rfl) rfl
theorem q509 : (Jvm.Cond.selects "BurntLetters$Deed" ({ cls := "BurntLetters$Paper", name := "names", desc := "()I" } : Jvm.MethodName) ({ cls := "BurntLetters$Paper", name := "names", desc := "()I" } : Jvm.MethodName)) ∈ lw_all := lw_g (lw_at lw_m2 209 rfl) rfl
theorem q527 : (Jvm.Cond.selects "BurntLetters$Deed" ({ cls := "BurntLetters$Paper", name := "isOf", desc := "(I)Z" } : Jvm.MethodName) ({ cls := "BurntLetters$Paper", name := "isOf", desc := "(I)Z" } : Jvm.MethodName)) ∈ lw_all := lw_g (lw_at lw_m2 227 rfl) rfl
theorem q602 : (Jvm.Cond.selects "BurntLetters$Deed" ({ cls := "BurntLetters$Paper", name := "keeps", desc := "()I" } : Jvm.MethodName) ({ cls := "BurntLetters$Deed", name := "keeps", desc := "()I" } : Jvm.MethodName)) ∈ lw_all := lw_g (lw_at lw_m3 62 rfl) rfl
theorem q603 : (Jvm.Cond.instanceMethod ({ cls := "BurntLetters$Deed", name := "keeps", desc := "()I" } : Jvm.MethodName)) ∈ lw_all := lw_g (lw_at lw_m3 63 rfl) rfl
theorem q604 : (Jvm.Cond.code ({ cls := "BurntLetters$Deed", name := "keeps", desc := "()I" } : Jvm.MethodName) prog_3_method_3_code (1 : Nat) (Option.some Jvm.ClassFile.FieldType.int)) ∈ lw_all := lw_g (lw_at lw_m3 64 rfl) rfl
theorem q605 : (Jvm.Cond.methodLink "BurntLetters$Deed" (7 : Nat) ({ cls := "BurntLetters$Paper", name := "keeps", desc := "()I" } : Jvm.MethodName)) ∈ lw_all := lw_g (lw_at lw_m3 65 rfl) rfl
theorem q614 : (Jvm.Cond.selects "BurntLetters$Deed" ({ cls := "BurntLetters$Paper", name := "burntBy", desc := "(II)I" } : Jvm.MethodName) ({ cls := "BurntLetters$Paper", name := "burntBy", desc := "(II)I" } : Jvm.MethodName)) ∈ lw_all := lw_g (lw_at lw_m3 74 rfl) rfl
theorem q628 : (Jvm.Cond.selects "BurntLetters$Deed" ({ cls := "BurntLetters$Paper", name := "spreads", desc := "()Z" } : Jvm.MethodName) ({ cls := "BurntLetters$Paper", name := "spreads", desc := "()Z" } : Jvm.MethodName)) ∈ lw_all := lw_g (lw_at lw_m3 88 rfl) rfl
theorem q1155 : (Jvm.Cond.castable "BurntLetters$Deed" "BurntLetters$Paper") ∈ lw_tbl := lw_at lw_m5 135 rfl
theorem q1166 : (Jvm.Cond.castable "BurntLetters$Deed" "java/lang/Object") ∈ lw_tbl := lw_at lw_m5 146 rfl
/-! BurntLetters$River -/
set_option maxRecDepth 100000
def RX8 : String := "BurntLetters$River"
abbrev cX8_init : ByteArray := prog_7_method_1_code
def yX8_init : MethodName := ⟨RX8, "<init>", "()V"⟩
theorem dX8_init_0 : decode cX8_init 0 = .ok (.aload_n 0, 1) := by decide +kernel
theorem dX8_init_1 : decode cX8_init 1 = .ok (.invokespecial 1, 3) := by decide +kernel
theorem dX8_init_4 : decode cX8_init 4 = .ok (.return_, 1) := by decide +kernel
abbrev cX8_kind : ByteArray := prog_7_method_2_code
def yX8_kind : MethodName := ⟨RX8, "kind", "()I"⟩
theorem dX8_kind_0 : decode cX8_kind 0 = .ok (.iconst 3, 1) := by decide +kernel
theorem dX8_kind_1 : decode cX8_kind 1 = .ok (.ireturn, 1) := by decide +kernel
abbrev cX8_names : ByteArray := prog_7_method_4_code
def yX8_names : MethodName := ⟨RX8, "names", "()I"⟩
def dkwX8_names_0 : List UInt8 := [42, 183, 0, 11, 4, 96, 172]
abbrev dktX8_names_0 : List UInt8 := dkwX8_names_0 ++ []
theorem dksX8_names_0 : cX8_names.data.toList.drop 0 = dktX8_names_0 := by decide +kernel
theorem dX8_names_0 : decode cX8_names 0 = .ok (.aload_n 0, 1) := dk_42 (dk_at dksX8_names_0 0 rfl rfl)
theorem dX8_names_1 : decode cX8_names 1 = .ok (.invokespecial 11, 3) := dk_183 0 11 (dk_at dksX8_names_0 1 rfl rfl)
theorem dX8_names_4 : decode cX8_names 4 = .ok (.iconst 1, 1) := dk_4 (dk_at dksX8_names_0 4 rfl rfl)
theorem dX8_names_5 : decode cX8_names 5 = .ok (.iadd, 1) := dk_96 (dk_at dksX8_names_0 5 rfl rfl)
theorem dX8_names_6 : decode cX8_names 6 = .ok (.ireturn, 1) := dk_172 (dk_at dksX8_names_0 6 rfl rfl)
abbrev cX8_isOf : ByteArray := prog_7_method_3_code
def yX8_isOf : MethodName := ⟨RX8, "isOf", "(I)Z"⟩
def dkwX8_isOf_0 : List UInt8 := [27, 6, 159, 0, 11, 42, 27, 183, 0, 7, 153, 0, 7, 4, 167, 0, 4, 3, 172]
abbrev dktX8_isOf_0 : List UInt8 := dkwX8_isOf_0 ++ []
theorem dksX8_isOf_0 : cX8_isOf.data.toList.drop 0 = dktX8_isOf_0 := by decide +kernel
theorem dX8_isOf_0 : decode cX8_isOf 0 = .ok (.iload_n 1, 1) := dk_27 (dk_at dksX8_isOf_0 0 rfl rfl)
theorem dX8_isOf_1 : decode cX8_isOf 1 = .ok (.iconst 3, 1) := dk_6 (dk_at dksX8_isOf_0 1 rfl rfl)
theorem dX8_isOf_2 : decode cX8_isOf 2 = .ok (.if_icmp .eq 11, 3) := dk_159 0 11 (dk_at dksX8_isOf_0 2 rfl rfl)
theorem dX8_isOf_5 : decode cX8_isOf 5 = .ok (.aload_n 0, 1) := dk_42 (dk_at dksX8_isOf_0 5 rfl rfl)
theorem dX8_isOf_6 : decode cX8_isOf 6 = .ok (.iload_n 1, 1) := dk_27 (dk_at dksX8_isOf_0 6 rfl rfl)
theorem dX8_isOf_7 : decode cX8_isOf 7 = .ok (.invokespecial 7, 3) := dk_183 0 7 (dk_at dksX8_isOf_0 7 rfl rfl)
theorem dX8_isOf_10 : decode cX8_isOf 10 = .ok (.ifCond .eq 7, 3) := dk_153 0 7 (dk_at dksX8_isOf_0 10 rfl rfl)
theorem dX8_isOf_13 : decode cX8_isOf 13 = .ok (.iconst 1, 1) := dk_4 (dk_at dksX8_isOf_0 13 rfl rfl)
theorem dX8_isOf_14 : decode cX8_isOf 14 = .ok (.goto 4, 3) := dk_167 0 4 (dk_at dksX8_isOf_0 14 rfl rfl)
theorem dX8_isOf_17 : decode cX8_isOf 17 = .ok (.iconst 0, 1) := dk_3 (dk_at dksX8_isOf_0 17 rfl rfl)
theorem dX8_isOf_18 : decode cX8_isOf 18 = .ok (.ireturn, 1) := dk_172 (dk_at dksX8_isOf_0 18 rfl rfl)
theorem q75 : (Jvm.Cond.initialized "BurntLetters$River") ∈ lw_all := lw_g (lw_at lw_m1 15 rfl) rfl
theorem q385 : (Jvm.Cond.instantiable "BurntLetters$River" (0 : Nat)) ∈ lw_all := lw_g (lw_at lw_m2 85 rfl) rfl
theorem q387 : (Jvm.Cond.instanceMethod ({ cls := "BurntLetters$River", name := "<init>", desc := "()V" } : Jvm.MethodName)) ∈ lw_all := lw_g (lw_at lw_m2 87 rfl) rfl
theorem q388 : (Jvm.Cond.code ({ cls := "BurntLetters$River", name := "<init>", desc := "()V" } : Jvm.MethodName) prog_7_method_1_code (1 : Nat) (Option.none : Option Jvm.ClassFile.FieldType)) ∈ lw_all := lw_g (lw_at lw_m2 88 rfl) rfl
theorem q389 : (Jvm.Cond.methodLinkNest "BurntLetters$River" (1 : Nat) ({ cls := "BurntLetters$Paper", name := "<init>", desc := "()V" } : Jvm.MethodName) "BurntLetters") ∈ lw_tbl := lw_at lw_m2 89 rfl
theorem q390 : (Jvm.Cond.superclass "BurntLetters$River" "BurntLetters$Paper") ∈ lw_all := lw_g (lw_at lw_m2 90 rfl) rfl
theorem q440 : (Jvm.Cond.selects "BurntLetters$River" ({ cls := "java/lang/Object", name := "getClass", desc := "()Ljava/lang/Class;" } : Jvm.MethodName) ({ cls := "java/lang/Object", name := "getClass", desc := "()Ljava/lang/Class;" } : Jvm.MethodName)) ∈ lw_all := lw_g (lw_at lw_m2 140 rfl) rfl
theorem q494 : (Jvm.Cond.selects "BurntLetters$River" ({ cls := "BurntLetters$Paper", name := "kind", desc := "()I" } : Jvm.MethodName) ({ cls := "BurntLetters$River", name := "kind", desc := "()I" } : Jvm.MethodName)) ∈ lw_all := lw_g (lw_at lw_m2 194 rfl) rfl
theorem q495 : (Jvm.Cond.instanceMethod ({ cls := "BurntLetters$River", name := "kind", desc := "()I" } : Jvm.MethodName)) ∈ lw_all := lw_g (lw_at lw_m2 195 rfl) rfl
theorem q496 : (Jvm.Cond.code ({ cls := "BurntLetters$River", name := "kind", desc := "()I" } : Jvm.MethodName) prog_7_method_2_code (1 : Nat) (Option.some Jvm.ClassFile.FieldType.int)) ∈ lw_all := lw_g (lw_at lw_m2 196 rfl) rfl
theorem q511 : (Jvm.Cond.instanceMethod ({ cls := "BurntLetters$River", name := "names", desc := "()I" } : Jvm.MethodName)) ∈ lw_all := lw_g (lw_at lw_m2 211 rfl) rfl
theorem q512 : (Jvm.Cond.code ({ cls := "BurntLetters$River", name := "names", desc := "()I" } : Jvm.MethodName) prog_7_method_4_code (1 : Nat) (Option.some Jvm.ClassFile.FieldType.int)) ∈ lw_all := lw_g (lw_at lw_m2 212 rfl) rfl
theorem q513 : (Jvm.Cond.methodLink "BurntLetters$River" (11 : Nat) ({ cls := "BurntLetters$Paper", name := "names", desc := "()I" } : Jvm.MethodName)) ∈ lw_all := lw_g (lw_at lw_m2 213 rfl) rfl
theorem q514 : (Jvm.Cond.selects "BurntLetters$River" ({ cls := "BurntLetters$Paper", name := "names", desc := "()I" } : Jvm.MethodName) ({ cls := "BurntLetters$River", name := "names", desc := "()I" } : Jvm.MethodName)) ∈ lw_all := lw_g (lw_at lw_m2 214 rfl) rfl
theorem q532 : (Jvm.Cond.instanceMethod ({ cls := "BurntLetters$River", name := "isOf", desc := "(I)Z" } : Jvm.MethodName)) ∈ lw_all := lw_g (lw_at lw_m2 232 rfl) rfl
theorem q533 : (Jvm.Cond.code ({ cls := "BurntLetters$River", name := "isOf", desc := "(I)Z" } : Jvm.MethodName) prog_7_method_3_code (2 : Nat) (Option.some Jvm.ClassFile.FieldType.boolean)) ∈ lw_all := lw_g (lw_at lw_m2 233 rfl) rfl
theorem q534 : (Jvm.Cond.methodLink "BurntLetters$River" (7 : Nat) ({ cls := "BurntLetters$Paper", name := "isOf", desc := "(I)Z" } : Jvm.MethodName)) ∈ lw_all := lw_g (lw_at lw_m2 234 rfl) rfl
theorem q535 : (Jvm.Cond.selects "BurntLetters$River" ({ cls := "BurntLetters$Paper", name := "isOf", desc := "(I)Z" } : Jvm.MethodName) ({ cls := "BurntLetters$River", name := "isOf", desc := "(I)Z" } : Jvm.MethodName)) ∈ lw_all := lw_g (lw_at lw_m2 235 rfl) rfl
theorem q607 : (Jvm.Cond.selects "BurntLetters$River" ({ cls := "BurntLetters$Paper", name := "keeps", desc := "()I" } : Jvm.MethodName) ({ cls := "BurntLetters$Paper", name := "keeps", desc := "()I" } : Jvm.MethodName)) ∈ lw_all := lw_g (lw_at lw_m3 67 rfl) rfl
theorem q619 : (Jvm.Cond.sameMethod "BurntLetters$River" "BurntLetters$Paper" "burntBy" "(II)I") ∈ lw_all := lw_g (lw_at lw_m3 79 rfl) rfl
theorem q621 : (Jvm.Cond.selects "BurntLetters$River" ({ cls := "BurntLetters$Paper", name := "burntBy", desc := "(II)I" } : Jvm.MethodName) ({ cls := "BurntLetters$Paper", name := "burntBy", desc := "(II)I" } : Jvm.MethodName)) ∈ lw_all := lw_g (lw_at lw_m3 81 rfl) rfl
theorem q630 : (Jvm.Cond.selects "BurntLetters$River" ({ cls := "BurntLetters$Paper", name := "spreads", desc := "()Z" } : Jvm.MethodName) ({ cls := "BurntLetters$Paper", name := "spreads", desc := "()Z" } : Jvm.MethodName)) ∈ lw_all := lw_g (lw_at lw_m3 90 rfl) rfl
theorem q1154 : (Jvm.Cond.sameMethod "BurntLetters$River" "BurntLetters$River" "isOf" "(I)Z") ∈ lw_all := lw_g (lw_at lw_m5 134 rfl) rfl
theorem q1157 : (Jvm.Cond.castable "BurntLetters$River" "BurntLetters$Paper") ∈ lw_tbl := lw_at lw_m5 137 rfl
theorem q1167 : (Jvm.Cond.castable "BurntLetters$River" "java/lang/Object") ∈ lw_tbl := lw_at lw_m5 147 rfl
/-! BurntLetters$Flood -/
set_option maxRecDepth 100000
def RX9 : String := "BurntLetters$Flood"
abbrev cX9_init : ByteArray := prog_4_method_1_code
def yX9_init : MethodName := ⟨RX9, "<init>", "()V"⟩
theorem dX9_init_0 : decode cX9_init 0 = .ok (.aload_n 0, 1) := by decide +kernel
theorem dX9_init_1 : decode cX9_init 1 = .ok (.invokespecial 3, 3) := by decide +kernel
theorem dX9_init_4 : decode cX9_init 4 = .ok (.return_, 1) := by decide +kernel
abbrev cX9_kind : ByteArray := prog_4_method_2_code
def yX9_kind : MethodName := ⟨RX9, "kind", "()I"⟩
theorem dX9_kind_0 : decode cX9_kind 0 = .ok (.iconst 4, 1) := by decide +kernel
theorem dX9_kind_1 : decode cX9_kind 1 = .ok (.ireturn, 1) := by decide +kernel
abbrev cX9_isOf : ByteArray := prog_4_method_3_code
def yX9_isOf : MethodName := ⟨RX9, "isOf", "(I)Z"⟩
def dkwX9_isOf_0 : List UInt8 := [27, 7, 159, 0, 11, 42, 27, 183, 0, 9, 153, 0, 7, 4, 167, 0, 4, 3, 172]
abbrev dktX9_isOf_0 : List UInt8 := dkwX9_isOf_0 ++ []
theorem dksX9_isOf_0 : cX9_isOf.data.toList.drop 0 = dktX9_isOf_0 := by decide +kernel
theorem dX9_isOf_0 : decode cX9_isOf 0 = .ok (.iload_n 1, 1) := dk_27 (dk_at dksX9_isOf_0 0 rfl rfl)
theorem dX9_isOf_1 : decode cX9_isOf 1 = .ok (.iconst 4, 1) := dk_7 (dk_at dksX9_isOf_0 1 rfl rfl)
theorem dX9_isOf_2 : decode cX9_isOf 2 = .ok (.if_icmp .eq 11, 3) := dk_159 0 11 (dk_at dksX9_isOf_0 2 rfl rfl)
theorem dX9_isOf_5 : decode cX9_isOf 5 = .ok (.aload_n 0, 1) := dk_42 (dk_at dksX9_isOf_0 5 rfl rfl)
theorem dX9_isOf_6 : decode cX9_isOf 6 = .ok (.iload_n 1, 1) := dk_27 (dk_at dksX9_isOf_0 6 rfl rfl)
theorem dX9_isOf_7 : decode cX9_isOf 7 = .ok (.invokespecial 9, 3) := dk_183 0 9 (dk_at dksX9_isOf_0 7 rfl rfl)
theorem dX9_isOf_10 : decode cX9_isOf 10 = .ok (.ifCond .eq 7, 3) := dk_153 0 7 (dk_at dksX9_isOf_0 10 rfl rfl)
theorem dX9_isOf_13 : decode cX9_isOf 13 = .ok (.iconst 1, 1) := dk_4 (dk_at dksX9_isOf_0 13 rfl rfl)
theorem dX9_isOf_14 : decode cX9_isOf 14 = .ok (.goto 4, 3) := dk_167 0 4 (dk_at dksX9_isOf_0 14 rfl rfl)
theorem dX9_isOf_17 : decode cX9_isOf 17 = .ok (.iconst 0, 1) := dk_3 (dk_at dksX9_isOf_0 17 rfl rfl)
theorem dX9_isOf_18 : decode cX9_isOf 18 = .ok (.ireturn, 1) := dk_172 (dk_at dksX9_isOf_0 18 rfl rfl)
abbrev cX9_burntBy : ByteArray := prog_4_method_4_code
def yX9_burntBy : MethodName := ⟨RX9, "burntBy", "(II)I"⟩
def dkwX9_burntBy_1 : List UInt8 := [183, 0, 13, 128, 172]
abbrev dktX9_burntBy_1 : List UInt8 := dkwX9_burntBy_1 ++ []
def dkwX9_burntBy_0 : List UInt8 := [42, 27, 28, 183, 0, 13, 62, 29, 154, 0, 7, 3, 167, 0, 16, 29, 42, 27, 28, 4, 96, 16, 6, 112]
abbrev dktX9_burntBy_0 : List UInt8 := dkwX9_burntBy_0 ++ dktX9_burntBy_1
theorem dksX9_burntBy_0 : cX9_burntBy.data.toList.drop 0 = dktX9_burntBy_0 := by decide +kernel
theorem dksX9_burntBy_1 : cX9_burntBy.data.toList.drop 24 = dktX9_burntBy_1 := dk_seg dksX9_burntBy_0 24 rfl rfl
theorem dX9_burntBy_0 : decode cX9_burntBy 0 = .ok (.aload_n 0, 1) := dk_42 (dk_at dksX9_burntBy_0 0 rfl rfl)
theorem dX9_burntBy_1 : decode cX9_burntBy 1 = .ok (.iload_n 1, 1) := dk_27 (dk_at dksX9_burntBy_0 1 rfl rfl)
theorem dX9_burntBy_2 : decode cX9_burntBy 2 = .ok (.iload_n 2, 1) := dk_28 (dk_at dksX9_burntBy_0 2 rfl rfl)
theorem dX9_burntBy_3 : decode cX9_burntBy 3 = .ok (.invokespecial 13, 3) := dk_183 0 13 (dk_at dksX9_burntBy_0 3 rfl rfl)
theorem dX9_burntBy_6 : decode cX9_burntBy 6 = .ok (.istore_n 3, 1) := dk_62 (dk_at dksX9_burntBy_0 6 rfl rfl)
theorem dX9_burntBy_7 : decode cX9_burntBy 7 = .ok (.iload_n 3, 1) := dk_29 (dk_at dksX9_burntBy_0 7 rfl rfl)
theorem dX9_burntBy_8 : decode cX9_burntBy 8 = .ok (.ifCond .ne 7, 3) := dk_154 0 7 (dk_at dksX9_burntBy_0 8 rfl rfl)
theorem dX9_burntBy_11 : decode cX9_burntBy 11 = .ok (.iconst 0, 1) := dk_3 (dk_at dksX9_burntBy_0 11 rfl rfl)
theorem dX9_burntBy_12 : decode cX9_burntBy 12 = .ok (.goto 16, 3) := dk_167 0 16 (dk_at dksX9_burntBy_0 12 rfl rfl)
theorem dX9_burntBy_15 : decode cX9_burntBy 15 = .ok (.iload_n 3, 1) := dk_29 (dk_at dksX9_burntBy_0 15 rfl rfl)
theorem dX9_burntBy_16 : decode cX9_burntBy 16 = .ok (.aload_n 0, 1) := dk_42 (dk_at dksX9_burntBy_0 16 rfl rfl)
theorem dX9_burntBy_17 : decode cX9_burntBy 17 = .ok (.iload_n 1, 1) := dk_27 (dk_at dksX9_burntBy_0 17 rfl rfl)
theorem dX9_burntBy_18 : decode cX9_burntBy 18 = .ok (.iload_n 2, 1) := dk_28 (dk_at dksX9_burntBy_0 18 rfl rfl)
theorem dX9_burntBy_19 : decode cX9_burntBy 19 = .ok (.iconst 1, 1) := dk_4 (dk_at dksX9_burntBy_0 19 rfl rfl)
theorem dX9_burntBy_20 : decode cX9_burntBy 20 = .ok (.iadd, 1) := dk_96 (dk_at dksX9_burntBy_0 20 rfl rfl)
theorem dX9_burntBy_21 : decode cX9_burntBy 21 = .ok (.bipush 6, 2) := dk_16 6 (dk_at dksX9_burntBy_0 21 rfl rfl)
theorem dX9_burntBy_23 : decode cX9_burntBy 23 = .ok (.irem, 1) := dk_112 (dk_at dksX9_burntBy_0 23 rfl rfl)
theorem dX9_burntBy_24 : decode cX9_burntBy 24 = .ok (.invokespecial 13, 3) := dk_183 0 13 (dk_at dksX9_burntBy_1 0 rfl rfl)
theorem dX9_burntBy_27 : decode cX9_burntBy 27 = .ok (.ior, 1) := dk_128 (dk_at dksX9_burntBy_1 3 rfl rfl)
theorem dX9_burntBy_28 : decode cX9_burntBy 28 = .ok (.ireturn, 1) := dk_172 (dk_at dksX9_burntBy_1 4 rfl rfl)
theorem q76 : (Jvm.Cond.initialized "BurntLetters$Flood") ∈ lw_all := lw_g (lw_at lw_m1 16 rfl) rfl
theorem q392 : (Jvm.Cond.instantiable "BurntLetters$Flood" (0 : Nat)) ∈ lw_all := lw_g (lw_at lw_m2 92 rfl) rfl
theorem q394 : (Jvm.Cond.instanceMethod ({ cls := "BurntLetters$Flood", name := "<init>", desc := "()V" } : Jvm.MethodName)) ∈ lw_all := lw_g (lw_at lw_m2 94 rfl) rfl
theorem q395 : (Jvm.Cond.code ({ cls := "BurntLetters$Flood", name := "<init>", desc := "()V" } : Jvm.MethodName) prog_4_method_1_code (1 : Nat) (Option.none : Option Jvm.ClassFile.FieldType)) ∈ lw_all := lw_g (lw_at lw_m2 95 rfl) rfl
theorem q396 : (Jvm.Cond.methodLinkNest "BurntLetters$Flood" (3 : Nat) ({ cls := "BurntLetters$River", name := "<init>", desc := "()V" } : Jvm.MethodName) "BurntLetters") ∈ lw_tbl := lw_at lw_m2 96 rfl
theorem q397 : (Jvm.Cond.superclass "BurntLetters$Flood" "BurntLetters$River") ∈ lw_all := lw_g (lw_at lw_m2 97 rfl) rfl
theorem q437 : (Jvm.Cond.selects "BurntLetters$Flood" ({ cls := "java/lang/Object", name := "getClass", desc := "()Ljava/lang/Class;" } : Jvm.MethodName) ({ cls := "java/lang/Object", name := "getClass", desc := "()Ljava/lang/Class;" } : Jvm.MethodName)) ∈ lw_all := lw_g (lw_at lw_m2 137 rfl) rfl
theorem q491 : (Jvm.Cond.selects "BurntLetters$Flood" ({ cls := "BurntLetters$Paper", name := "kind", desc := "()I" } : Jvm.MethodName) ({ cls := "BurntLetters$Flood", name := "kind", desc := "()I" } : Jvm.MethodName)) ∈ lw_all := lw_g (lw_at lw_m2 191 rfl) rfl
theorem q492 : (Jvm.Cond.instanceMethod ({ cls := "BurntLetters$Flood", name := "kind", desc := "()I" } : Jvm.MethodName)) ∈ lw_all := lw_g (lw_at lw_m2 192 rfl) rfl
theorem q493 : (Jvm.Cond.code ({ cls := "BurntLetters$Flood", name := "kind", desc := "()I" } : Jvm.MethodName) prog_4_method_2_code (1 : Nat) (Option.some Jvm.ClassFile.FieldType.int)) ∈ lw_all := lw_g (lw_at lw_m2 193 rfl) rfl
theorem q510 : (Jvm.Cond.selects "BurntLetters$Flood" ({ cls := "BurntLetters$Paper", name := "names", desc := "()I" } : Jvm.MethodName) ({ cls := "BurntLetters$River", name := "names", desc := "()I" } : Jvm.MethodName)) ∈ lw_all := lw_g (lw_at lw_m2 210 rfl) rfl
theorem q528 : (Jvm.Cond.selects "BurntLetters$Flood" ({ cls := "BurntLetters$Paper", name := "isOf", desc := "(I)Z" } : Jvm.MethodName) ({ cls := "BurntLetters$Flood", name := "isOf", desc := "(I)Z" } : Jvm.MethodName)) ∈ lw_all := lw_g (lw_at lw_m2 228 rfl) rfl
theorem q529 : (Jvm.Cond.instanceMethod ({ cls := "BurntLetters$Flood", name := "isOf", desc := "(I)Z" } : Jvm.MethodName)) ∈ lw_all := lw_g (lw_at lw_m2 229 rfl) rfl
theorem q530 : (Jvm.Cond.code ({ cls := "BurntLetters$Flood", name := "isOf", desc := "(I)Z" } : Jvm.MethodName) prog_4_method_3_code (2 : Nat) (Option.some Jvm.ClassFile.FieldType.boolean)) ∈ lw_all := lw_g (lw_at lw_m2 230 rfl) rfl
theorem q531 : (Jvm.Cond.methodLink "BurntLetters$Flood" (9 : Nat) ({ cls := "BurntLetters$River", name := "isOf", desc := "(I)Z" } : Jvm.MethodName)) ∈ lw_all := lw_g (lw_at lw_m2 231 rfl) rfl
theorem q606 : (Jvm.Cond.selects "BurntLetters$Flood" ({ cls := "BurntLetters$Paper", name := "keeps", desc := "()I" } : Jvm.MethodName) ({ cls := "BurntLetters$Paper", name := "keeps", desc := "()I" } : Jvm.MethodName)) ∈ lw_all := lw_g (lw_at lw_m3 66 rfl) rfl
theorem q615 : (Jvm.Cond.selects "BurntLetters$Flood" ({ cls := "BurntLetters$Paper", name := "burntBy", desc := "(II)I" } : Jvm.MethodName) ({ cls := "BurntLetters$Flood", name := "burntBy", desc := "(II)I" } : Jvm.MethodName)) ∈ lw_all := lw_g (lw_at lw_m3 75 rfl) rfl
theorem q616 : (Jvm.Cond.instanceMethod ({ cls := "BurntLetters$Flood", name := "burntBy", desc := "(II)I" } : Jvm.MethodName)) ∈ lw_all := lw_g (lw_at lw_m3 76 rfl) rfl
theorem q617 : (Jvm.Cond.code ({ cls := "BurntLetters$Flood", name := "burntBy", desc := "(II)I" } : Jvm.MethodName) prog_4_method_4_code (4 : Nat) (Option.some Jvm.ClassFile.FieldType.int)) ∈ lw_all := lw_g (lw_at lw_m3 77 rfl) rfl
theorem q618 : (Jvm.Cond.methodLink "BurntLetters$Flood" (13 : Nat) ({ cls := "BurntLetters$River", name := "burntBy", desc := "(II)I" } : Jvm.MethodName)) ∈ lw_all := lw_g (lw_at lw_m3 78 rfl) rfl
theorem q629 : (Jvm.Cond.selects "BurntLetters$Flood" ({ cls := "BurntLetters$Paper", name := "spreads", desc := "()Z" } : Jvm.MethodName) ({ cls := "BurntLetters$Paper", name := "spreads", desc := "()Z" } : Jvm.MethodName)) ∈ lw_all := lw_g (lw_at lw_m3 89 rfl) rfl
theorem q1156 : (Jvm.Cond.castable "BurntLetters$Flood" "BurntLetters$Paper") ∈ lw_tbl := lw_at lw_m5 136 rfl
theorem q1168 : (Jvm.Cond.castable "BurntLetters$Flood" "java/lang/Object") ∈ lw_tbl := lw_at lw_m5 148 rfl
