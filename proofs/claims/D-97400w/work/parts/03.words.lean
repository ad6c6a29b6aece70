theorem q139 : (Jvm.Cond.arrayClass Jvm.ClassFile.FieldType.int) ∈ lw_all := lw_g (lw_at lw_m1 79 rfl) rfl
set_option maxRecDepth 100000
theorem q211 : (Jvm.Cond.arrayClass Jvm.ClassFile.FieldType.byte) ∈ lw_all := lw_g (lw_at lw_m1 151 rfl) rfl
theorem q450 : (Jvm.Cond.arrayOver (Jvm.ClassFile.FieldType.object "java/lang/Object")) ∈ lw_tbl := lw_at lw_m2 150 rfl
theorem q60 : (Jvm.Cond.initialized "BurntLettersLaw") ∈ lw_all := lw_g (lw_at lw_m1 0 rfl) rfl
set_option maxRecDepth 100000
theorem q83 : (Jvm.Cond.classLink "BurntLettersLaw" (7 : Nat) "BurntLetters") ∈ lw_all := lw_g (lw_at lw_m1 23 rfl) rfl
theorem q85 : (Jvm.Cond.methodLink "BurntLettersLaw" (9 : Nat) ({ cls := "BurntLetters", name := "<init>", desc := "()V" } : Jvm.MethodName)) ∈ lw_all := lw_g (lw_at lw_m1 25 rfl) rfl
theorem q212 : (Jvm.Cond.methodLink "BurntLettersLaw" (13 : Nat) ({ cls := "BurntLetters", name := "letter", desc := "(I)I" } : Jvm.MethodName)) ∈ lw_all := lw_g (lw_at lw_m1 152 rfl) rfl
theorem q219 : (Jvm.Cond.methodLink "BurntLettersLaw" (18 : Nat) ({ cls := "BurntLetters", name := "blank", desc := "()I" } : Jvm.MethodName)) ∈ lw_all := lw_g (lw_at lw_m1 159 rfl) rfl
theorem q223 : (Jvm.Cond.methodLink "BurntLettersLaw" (23 : Nat) ({ cls := "BurntLetters", name := "fault", desc := "()I" } : Jvm.MethodName)) ∈ lw_all := lw_g (lw_at lw_m1 163 rfl) rfl
theorem q336 : (Jvm.Cond.methodLink "BurntLettersLaw" (27 : Nat) ({ cls := "BurntLetters", name := "law", desc := "()I" } : Jvm.MethodName)) ∈ lw_all := lw_g (lw_at lw_m2 36 rfl) rfl
theorem q344 : (Jvm.Cond.methodLink "BurntLettersLaw" (31 : Nat) ({ cls := "BurntLetters", name := "under", desc := "(II)I" } : Jvm.MethodName)) ∈ lw_all := lw_g (lw_at lw_m2 44 rfl) rfl
theorem q359 : (Jvm.Cond.methodLink "BurntLettersLaw" (36 : Nat) ({ cls := "BurntLetters", name := "file", desc := "(II)I" } : Jvm.MethodName)) ∈ lw_all := lw_g (lw_at lw_m2 59 rfl) rfl
theorem q458 : (Jvm.Cond.methodLink "BurntLettersLaw" (40 : Nat) ({ cls := "BurntLetters", name := "about", desc := "(II)I" } : Jvm.MethodName)) ∈ lw_all := lw_g (lw_at lw_m2 158 rfl) rfl
theorem q519 : (Jvm.Cond.methodLink "BurntLettersLaw" (44 : Nat) ({ cls := "BurntLetters", name := "as", desc := "(II)I" } : Jvm.MethodName)) ∈ lw_all := lw_g (lw_at lw_m2 219 rfl) rfl
theorem q539 : (Jvm.Cond.methodLink "BurntLettersLaw" (48 : Nat) ({ cls := "BurntLetters", name := "copy", desc := "(II)I" } : Jvm.MethodName)) ∈ lw_all := lw_g (lw_at lw_m2 239 rfl) rfl
theorem q562 : (Jvm.Cond.methodLink "BurntLettersLaw" (52 : Nat) ({ cls := "BurntLetters", name := "rename", desc := "(III)I" } : Jvm.MethodName)) ∈ lw_all := lw_g (lw_at lw_m3 22 rfl) rfl
theorem q574 : (Jvm.Cond.methodLink "BurntLettersLaw" (57 : Nat) ({ cls := "BurntLetters", name := "point", desc := "(II)I" } : Jvm.MethodName)) ∈ lw_all := lw_g (lw_at lw_m3 34 rfl) rfl
theorem q578 : (Jvm.Cond.methodLink "BurntLettersLaw" (61 : Nat) ({ cls := "BurntLetters", name := "burn", desc := "(I)I" } : Jvm.MethodName)) ∈ lw_all := lw_g (lw_at lw_m3 38 rfl) rfl
theorem q641 : (Jvm.Cond.methodLink "BurntLettersLaw" (65 : Nat) ({ cls := "BurntLetters", name := "odds", desc := "(III)I" } : Jvm.MethodName)) ∈ lw_all := lw_g (lw_at lw_m3 101 rfl) rfl
theorem q663 : (Jvm.Cond.methodLink "BurntLettersLaw" (69 : Nat) ({ cls := "BurntLetters", name := "where", desc := "(II)I" } : Jvm.MethodName)) ∈ lw_all := lw_g (lw_at lw_m3 123 rfl) rfl
theorem q672 : (Jvm.Cond.methodLink "BurntLettersLaw" (73 : Nat) ({ cls := "BurntLetters", name := "sure", desc := "(III)I" } : Jvm.MethodName)) ∈ lw_all := lw_g (lw_at lw_m3 132 rfl) rfl
theorem q685 : (Jvm.Cond.methodLink "BurntLettersLaw" (77 : Nat) ({ cls := "BurntLetters", name := "nowhere", desc := "()I" } : Jvm.MethodName)) ∈ lw_all := lw_g (lw_at lw_m3 145 rfl) rfl
theorem q693 : (Jvm.Cond.methodLink "BurntLettersLaw" (81 : Nat) ({ cls := "BurntLetters", name := "moving", desc := "(I)I" } : Jvm.MethodName)) ∈ lw_all := lw_g (lw_at lw_m3 153 rfl) rfl
theorem q710 : (Jvm.Cond.methodLink "BurntLettersLaw" (85 : Nat) ({ cls := "BurntLetters", name := "ashes", desc := "(I)I" } : Jvm.MethodName)) ∈ lw_all := lw_g (lw_at lw_m3 170 rfl) rfl
theorem q714 : (Jvm.Cond.methodLink "BurntLettersLaw" (89 : Nat) ({ cls := "BurntLetters", name := "forget", desc := "()I" } : Jvm.MethodName)) ∈ lw_all := lw_g (lw_at lw_m3 174 rfl) rfl
theorem q718 : (Jvm.Cond.methodLink "BurntLettersLaw" (93 : Nat) ({ cls := "BurntLetters", name := "fits", desc := "()I" } : Jvm.MethodName)) ∈ lw_all := lw_g (lw_at lw_m3 178 rfl) rfl
theorem q731 : (Jvm.Cond.methodLink "BurntLettersLaw" (97 : Nat) ({ cls := "BurntLetters", name := "burnt", desc := "(I)I" } : Jvm.MethodName)) ∈ lw_all := lw_g (lw_at lw_m3 191 rfl) rfl
theorem q743 : (Jvm.Cond.methodLink "BurntLettersLaw" (101 : Nat) ({ cls := "BurntLetters", name := "years", desc := "(III)I" } : Jvm.MethodName)) ∈ lw_all := lw_g (lw_at lw_m3 203 rfl) rfl
theorem q763 : (Jvm.Cond.methodLink "BurntLettersLaw" (105 : Nat) ({ cls := "BurntLetters", name := "image", desc := "()I" } : Jvm.MethodName)) ∈ lw_all := lw_g (lw_at lw_m3 223 rfl) rfl
theorem q767 : (Jvm.Cond.methodLink "BurntLettersLaw" (109 : Nat) ({ cls := "BurntLetters", name := "restore", desc := "()I" } : Jvm.MethodName)) ∈ lw_all := lw_g (lw_at lw_m3 227 rfl) rfl
theorem q780 : (Jvm.Cond.methodLink "BurntLettersLaw" (113 : Nat) ({ cls := "BurntLetters", name := "count", desc := "(I)I" } : Jvm.MethodName)) ∈ lw_all := lw_g (lw_at lw_m4 0 rfl) rfl
theorem q788 : (Jvm.Cond.methodLink "BurntLettersLaw" (117 : Nat) ({ cls := "BurntLetters", name := "digest", desc := "()J" } : Jvm.MethodName)) ∈ lw_all := lw_g (lw_at lw_m4 8 rfl) rfl
theorem q801 : (Jvm.Cond.classLink "BurntLettersLaw" (10 : Nat) "BurntLettersModel") ∈ lw_all := lw_g (lw_at lw_m4 21 rfl) rfl
theorem q803 : (Jvm.Cond.methodLink "BurntLettersLaw" (12 : Nat) ({ cls := "BurntLettersModel", name := "<init>", desc := "()V" } : Jvm.MethodName)) ∈ lw_all := lw_g (lw_at lw_m4 23 rfl) rfl
theorem q895 : (Jvm.Cond.methodLink "BurntLettersLaw" (17 : Nat) ({ cls := "BurntLettersModel", name := "letter", desc := "(I)I" } : Jvm.MethodName)) ∈ lw_all := lw_g (lw_at lw_m4 115 rfl) rfl
theorem q903 : (Jvm.Cond.methodLink "BurntLettersLaw" (22 : Nat) ({ cls := "BurntLettersModel", name := "blank", desc := "()I" } : Jvm.MethodName)) ∈ lw_all := lw_g (lw_at lw_m4 123 rfl) rfl
theorem q907 : (Jvm.Cond.methodLink "BurntLettersLaw" (26 : Nat) ({ cls := "BurntLettersModel", name := "fault", desc := "()I" } : Jvm.MethodName)) ∈ lw_all := lw_g (lw_at lw_m4 127 rfl) rfl
theorem q919 : (Jvm.Cond.methodLink "BurntLettersLaw" (30 : Nat) ({ cls := "BurntLettersModel", name := "law", desc := "()I" } : Jvm.MethodName)) ∈ lw_all := lw_g (lw_at lw_m4 139 rfl) rfl
theorem q923 : (Jvm.Cond.methodLink "BurntLettersLaw" (35 : Nat) ({ cls := "BurntLettersModel", name := "under", desc := "(II)I" } : Jvm.MethodName)) ∈ lw_all := lw_g (lw_at lw_m4 143 rfl) rfl
theorem q939 : (Jvm.Cond.methodLink "BurntLettersLaw" (39 : Nat) ({ cls := "BurntLettersModel", name := "file", desc := "(II)I" } : Jvm.MethodName)) ∈ lw_all := lw_g (lw_at lw_m4 159 rfl) rfl
theorem q948 : (Jvm.Cond.methodLink "BurntLettersLaw" (43 : Nat) ({ cls := "BurntLettersModel", name := "about", desc := "(II)I" } : Jvm.MethodName)) ∈ lw_all := lw_g (lw_at lw_m4 168 rfl) rfl
theorem q964 : (Jvm.Cond.methodLink "BurntLettersLaw" (47 : Nat) ({ cls := "BurntLettersModel", name := "as", desc := "(II)I" } : Jvm.MethodName)) ∈ lw_all := lw_g (lw_at lw_m4 184 rfl) rfl
theorem q968 : (Jvm.Cond.methodLink "BurntLettersLaw" (51 : Nat) ({ cls := "BurntLettersModel", name := "copy", desc := "(II)I" } : Jvm.MethodName)) ∈ lw_all := lw_g (lw_at lw_m4 188 rfl) rfl
theorem q979 : (Jvm.Cond.methodLink "BurntLettersLaw" (56 : Nat) ({ cls := "BurntLettersModel", name := "rename", desc := "(III)I" } : Jvm.MethodName)) ∈ lw_all := lw_g (lw_at lw_m4 199 rfl) rfl
theorem q987 : (Jvm.Cond.methodLink "BurntLettersLaw" (60 : Nat) ({ cls := "BurntLettersModel", name := "point", desc := "(II)I" } : Jvm.MethodName)) ∈ lw_all := lw_g (lw_at lw_m4 207 rfl) rfl
theorem q991 : (Jvm.Cond.methodLink "BurntLettersLaw" (64 : Nat) ({ cls := "BurntLettersModel", name := "burn", desc := "(I)I" } : Jvm.MethodName)) ∈ lw_all := lw_g (lw_at lw_m4 211 rfl) rfl
theorem q1015 : (Jvm.Cond.methodLink "BurntLettersLaw" (68 : Nat) ({ cls := "BurntLettersModel", name := "odds", desc := "(III)I" } : Jvm.MethodName)) ∈ lw_all := lw_g (lw_at lw_m4 235 rfl) rfl
theorem q1033 : (Jvm.Cond.methodLink "BurntLettersLaw" (72 : Nat) ({ cls := "BurntLettersModel", name := "where", desc := "(II)I" } : Jvm.MethodName)) ∈ lw_all := lw_g (lw_at lw_m5 13 rfl) rfl
theorem q1041 : (Jvm.Cond.methodLink "BurntLettersLaw" (76 : Nat) ({ cls := "BurntLettersModel", name := "sure", desc := "(III)I" } : Jvm.MethodName)) ∈ lw_all := lw_g (lw_at lw_m5 21 rfl) rfl
theorem q1049 : (Jvm.Cond.methodLink "BurntLettersLaw" (80 : Nat) ({ cls := "BurntLettersModel", name := "nowhere", desc := "()I" } : Jvm.MethodName)) ∈ lw_all := lw_g (lw_at lw_m5 29 rfl) rfl
theorem q1057 : (Jvm.Cond.methodLink "BurntLettersLaw" (84 : Nat) ({ cls := "BurntLettersModel", name := "moving", desc := "(I)I" } : Jvm.MethodName)) ∈ lw_all := lw_g (lw_at lw_m5 37 rfl) rfl
theorem q1073 : (Jvm.Cond.methodLink "BurntLettersLaw" (88 : Nat) ({ cls := "BurntLettersModel", name := "ashes", desc := "(I)I" } : Jvm.MethodName)) ∈ lw_all := lw_g (lw_at lw_m5 53 rfl) rfl
theorem q1078 : (Jvm.Cond.methodLink "BurntLettersLaw" (92 : Nat) ({ cls := "BurntLettersModel", name := "forget", desc := "()I" } : Jvm.MethodName)) ∈ lw_all := lw_g (lw_at lw_m5 58 rfl) rfl
theorem q1082 : (Jvm.Cond.methodLink "BurntLettersLaw" (96 : Nat) ({ cls := "BurntLettersModel", name := "fits", desc := "()I" } : Jvm.MethodName)) ∈ lw_all := lw_g (lw_at lw_m5 62 rfl) rfl
theorem q1098 : (Jvm.Cond.methodLink "BurntLettersLaw" (100 : Nat) ({ cls := "BurntLettersModel", name := "burnt", desc := "(I)I" } : Jvm.MethodName)) ∈ lw_all := lw_g (lw_at lw_m5 78 rfl) rfl
theorem q1102 : (Jvm.Cond.methodLink "BurntLettersLaw" (104 : Nat) ({ cls := "BurntLettersModel", name := "years", desc := "(III)I" } : Jvm.MethodName)) ∈ lw_all := lw_g (lw_at lw_m5 82 rfl) rfl
theorem q1120 : (Jvm.Cond.methodLink "BurntLettersLaw" (108 : Nat) ({ cls := "BurntLettersModel", name := "image", desc := "()I" } : Jvm.MethodName)) ∈ lw_all := lw_g (lw_at lw_m5 100 rfl) rfl
theorem q1127 : (Jvm.Cond.methodLink "BurntLettersLaw" (112 : Nat) ({ cls := "BurntLettersModel", name := "restore", desc := "()I" } : Jvm.MethodName)) ∈ lw_all := lw_g (lw_at lw_m5 107 rfl) rfl
theorem q1131 : (Jvm.Cond.methodLink "BurntLettersLaw" (116 : Nat) ({ cls := "BurntLettersModel", name := "count", desc := "(I)I" } : Jvm.MethodName)) ∈ lw_all := lw_g (lw_at lw_m5 111 rfl) rfl
theorem q1139 : (Jvm.Cond.methodLink "BurntLettersLaw" (121 : Nat) ({ cls := "BurntLettersModel", name := "digest", desc := "()J" } : Jvm.MethodName)) ∈ lw_all := lw_g (lw_at lw_m5 119 rfl) rfl
theorem q79 : (Jvm.Cond.initialized "java/lang/System") ∈ lw_all := lw_g (lw_at lw_m1 19 rfl) rfl
set_option maxRecDepth 100000
theorem q454 : (Jvm.Cond.static ({ cls := "java/lang/System", name := "arraycopy", desc := "(Ljava/lang/Object;ILjava/lang/Object;II)V" } : Jvm.MethodName)) ∈ lw_all := lw_g (lw_at lw_m2 154 rfl) rfl
theorem q455 : (Jvm.Cond.native ({ cls := "java/lang/System", name := "arraycopy", desc := "(Ljava/lang/Object;ILjava/lang/Object;II)V" } : Jvm.MethodName)) ∈ lw_all := lw_g (lw_at lw_m2 155 rfl) rfl
theorem q1171 : (Jvm.Cond.sameMethod "[Ljava/lang/Object;" "java/lang/Object" "getClass" "()Ljava/lang/Class;") ∈ lw_all := lw_g (lw_at lw_m5 151 rfl) rfl
set_option maxRecDepth 100000
theorem q1172 : (Jvm.Cond.selects "[Ljava/lang/Object;" ({ cls := "java/lang/Object", name := "getClass", desc := "()Ljava/lang/Class;" } : Jvm.MethodName) ({ cls := "java/lang/Object", name := "getClass", desc := "()Ljava/lang/Class;" } : Jvm.MethodName)) ∈ lw_all := lw_g (lw_at lw_m5 152 rfl) rfl
theorem q1176 : (Jvm.Cond.castable "[Ljava/lang/Object;" "java/lang/Object") ∈ lw_tbl := lw_at lw_m5 156 rfl
theorem q1174 : (Jvm.Cond.castable "[I" "java/lang/Object") ∈ lw_tbl := lw_at lw_m5 154 rfl
set_option maxRecDepth 100000
theorem q1175 : (Jvm.Cond.castable "[B" "java/lang/Object") ∈ lw_tbl := lw_at lw_m5 155 rfl
set_option maxRecDepth 100000
