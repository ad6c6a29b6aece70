/-! THE COMPONENT, 1 (by program: gen/comp1.py) -/
set_option maxHeartbeats 400000 in
set_option maxRecDepth 100000 in
theorem K_X0_isFile (l : Launch) (g : Gx) (h : Nat) (R : Nat → Nat) (V : Nat → Nat) (I : Nat → Int32) (dr : Int64) (md : Int32) (ed : Nat) (n : Nat) (F : Nat → Nat → Int32) (x : Int32) : PM l g yX0_isFile cX0_isFile 2 (some .boolean) 1 [.ref h, .int x] roT (wC g h R V I dr md ed n F) (some (.int (b01 (isFileP n x)))) := by
  refine PM.of (own := "BurntLetters") (by decide) rfl (Nat.le_of_ble_eq_true rfl) ?_
  intro p e s m below meth c hX hr hlk hP hro ls hl
  have hx := hX.1.1
  have hb := hX.1.2.1
  have hl : lv_has ls 2 [(0, .ref h), (1, .int x)] := hl
  refine lv_iload_n hx hb dX0_isFile_0 rfl (lv_at hl 1 rfl) ?_
  refine lv_iconst (v := 0) hx hb dX0_isFile_1 (by decide) ?_
  refine lv_aload_n hx hb dX0_isFile_2 rfl (lv_at hl 0 rfl) ?_
  refine gf_q141 (v := .ref (R 0)) hX hP 0 rfl rfl dX0_isFile_3 ?_
  refine PM.ci (PM.runV (As := []) (rest := [.int 0, .int x]) hX (K_J2_size l g (R 0) md ed n) (cv_q363 hX ⟨Nat.le_of_ble_eq_true rfl, Nat.le_of_ble_eq_true rfl⟩) (hP.sub (ws' := (wL g (R 0) md ed n)) [1] rfl) trivial (r_recv hX hP 1 rfl rfl) rfl hl.1 rfl (Nat.le_of_ble_eq_true rfl) dX0_isFile_6 ⟨Nat.zero_le _, Nat.zero_le _⟩) ?_
  refine lv_iconst (v := 1) hx hb dX0_isFile_9 (by decide) ?_
  refine lv_isub hx hb dX0_isFile_10 ?_
  refine PM.ci (PM.runS (As := [.int x, .int 0, .int ((nI n) - 1)]) (rest := []) hX (K_X0_in l g x 0 ((nI n) - 1)) (cs_q216 hX ⟨Nat.le_of_ble_eq_true rfl, Nat.le_of_ble_eq_true rfl⟩) va_P_nil trivial rfl hl.1 rfl (Nat.le_of_ble_eq_true rfl) dX0_isFile_11 ⟨Nat.zero_le _, Nat.zero_le _⟩) ?_
  exact PM.zret hX hr hlk (rfl) (b01_or _) dX0_isFile_14

set_option maxHeartbeats 400000 in
set_option maxRecDepth 100000 in
theorem K_X0_told (l : Launch) (g : Gx) (h : Nat) (R : Nat → Nat) (V : Nat → Nat) (I : Nat → Int32) (dr : Int64) (md : Int32) (ed : Nat) (n : Nat) (F : Nat → Nat → Int32) (f : Nat) (w : Int32) (kd : Nat → Nat) (hn : n ≤ 5) (hf : f < n) : PM l g yX0_told cX0_told 3 (some .int) 3 [.ref h, .int (nI f), .int w] (roP g ed n kd) (wC g h R V I dr md ed n F) (some (.int (toldF kd F f w))) := by
  refine PM.of (own := "BurntLetters") (by decide) rfl (Nat.le_of_ble_eq_true rfl) ?_
  intro p e s m below meth c hX hr hlk hP hro ls hl
  have hx := hX.1.1
  have hb := hX.1.2.1
  have hl : lv_has ls 3 [(0, .ref h), (1, .int (nI f)), (2, .int w)] := hl
  refine lv_iload_n hx hb dX0_told_0 rfl (lv_at hl 2 rfl) ?_
  by_cases c_1 : w = 0
  · have c_1i : w.toInt = 0 := by rw [c_1]; rfl
    refine lv_tableIn (off := 35) (tgt := 36) hx hb dX0_told_1 (by rw [c_1i]; decide) (by rw [c_1i]; decide) (by rw [c_1i]; rfl) (by decide) ?_
    refine lv_aload_n hx hb dX0_told_36 rfl (lv_at hl 0 rfl) ?_
    refine gf_q141 (v := .ref (R 0)) hX hP 0 rfl rfl dX0_told_37 ?_
    refine lv_iload_n hx hb dX0_told_40 rfl (lv_at hl 1 rfl) ?_
    obtain ⟨ea_2, pa_3, he_4, hk_5, hq_6⟩ := hro f (by omega)
    refine PM.cr (PM.runV (As := [.int (nI f)]) (rest := []) hX (K_J2_get l g (R 0) md ed n ea_2 f pa_3 (by omega) (by omega) he_4) (cv_q470 hX ⟨Nat.le_of_ble_eq_true rfl, Nat.le_of_ble_eq_true rfl⟩) ((hP.sub (ws' := (wL g (R 0) md ed n)) [1] rfl).app (hq_6.sub (ws' := [(ed, aR g 10 ea_2)]) [0] rfl)) trivial (r_recv hX hP 1 rfl rfl) rfl hl.1 rfl (Nat.le_of_ble_eq_true rfl) dX0_told_41 ⟨Nat.zero_le _, Nat.zero_le _⟩) ?_
    have hk_5p : kd f < 5 ∧ va_P g.1 vwCl [(pa_3, .inr (6 + kd f, []))] s.heap := ⟨hk_5, hq_6.sub [1] rfl⟩
    refine r_castP hX q398 hk_5p.1 hk_5p.2 dX0_told_44 ?_
    refine rv_q484 (rest := []) hX hk_5p.1 hk_5p.2 hl.1 (Nat.le_of_ble_eq_true rfl) (Nat.le_of_ble_eq_true rfl) (Nat.le_of_ble_eq_true rfl) ⟨Nat.zero_le _, Nat.zero_le _⟩ dX0_told_47 ?_
    exact PM.iret hX hr hlk (by simp only [toldF, if_pos c_1]) dX0_told_50
  by_cases c_7 : w = 1
  · have c_7i : w.toInt = 1 := by rw [c_7]; rfl
    refine lv_tableIn (off := 50) (tgt := 51) hx hb dX0_told_1 (by rw [c_7i]; decide) (by rw [c_7i]; decide) (by rw [c_7i]; rfl) (by decide) ?_
    refine lv_aload_n hx hb dX0_told_51 rfl (lv_at hl 0 rfl) ?_
    refine gf_q148 (v := .ref (R 6)) hX hP 0 rfl rfl dX0_told_52 ?_
    refine gf_q124 (v := .ref (V 0)) hX hP 3 rfl rfl dX0_told_55 ?_
    refine lv_iload_n hx hb dX0_told_58 rfl (lv_at hl 1 rfl) ?_
    refine r_iald (f := (F 1)) hX hP 4 rfl f (by omega) (by omega) dX0_told_59 ?_
    exact PM.iret hX hr hlk (by simp only [toldF, if_neg c_1, if_pos c_7]) dX0_told_60
  by_cases c_8 : w = 2
  · have c_8i : w.toInt = 2 := by rw [c_8]; rfl
    refine lv_tableIn (off := 60) (tgt := 61) hx hb dX0_told_1 (by rw [c_8i]; decide) (by rw [c_8i]; decide) (by rw [c_8i]; rfl) (by decide) ?_
    refine lv_aload_n hx hb dX0_told_61 rfl (lv_at hl 0 rfl) ?_
    refine gf_q148 (v := .ref (R 6)) hX hP 0 rfl rfl dX0_told_62 ?_
    refine gf_q126 (v := .ref (V 1)) hX hP 3 rfl rfl dX0_told_65 ?_
    refine lv_iload_n hx hb dX0_told_68 rfl (lv_at hl 1 rfl) ?_
    refine r_iald (f := (F 2)) hX hP 5 rfl f (by omega) (by omega) dX0_told_69 ?_
    exact PM.iret hX hr hlk (by simp only [toldF, if_neg c_1, if_neg c_7, if_pos c_8]) dX0_told_70
  by_cases c_9 : w = 3
  · have c_9i : w.toInt = 3 := by rw [c_9]; rfl
    refine lv_tableIn (off := 70) (tgt := 71) hx hb dX0_told_1 (by rw [c_9i]; decide) (by rw [c_9i]; decide) (by rw [c_9i]; rfl) (by decide) ?_
    refine lv_aload_n hx hb dX0_told_71 rfl (lv_at hl 0 rfl) ?_
    refine gf_q148 (v := .ref (R 6)) hX hP 0 rfl rfl dX0_told_72 ?_
    refine gf_q128 (v := .ref (V 2)) hX hP 3 rfl rfl dX0_told_75 ?_
    refine lv_iload_n hx hb dX0_told_78 rfl (lv_at hl 1 rfl) ?_
    refine r_iald (f := (F 3)) hX hP 6 rfl f (by omega) (by omega) dX0_told_79 ?_
    exact PM.iret hX hr hlk (by simp only [toldF, if_neg c_1, if_neg c_7, if_neg c_8, if_pos c_9]) dX0_told_80
  by_cases c_10 : w = 4
  · have c_10i : w.toInt = 4 := by rw [c_10]; rfl
    refine lv_tableIn (off := 80) (tgt := 81) hx hb dX0_told_1 (by rw [c_10i]; decide) (by rw [c_10i]; decide) (by rw [c_10i]; rfl) (by decide) ?_
    refine lv_aload_n hx hb dX0_told_81 rfl (lv_at hl 0 rfl) ?_
    refine gf_q148 (v := .ref (R 6)) hX hP 0 rfl rfl dX0_told_82 ?_
    refine lv_iload_n hx hb dX0_told_85 rfl (lv_at hl 1 rfl) ?_
    refine PM.ci (PM.runV (As := [.int (nI f)]) (rest := []) hX (K_X1_lives l g h R I dr md ed n (R 6) (V 0) (V 1) (V 2) (F 1) (F 2) (F 3) f (by omega)) (cv_q501 hX ⟨Nat.le_of_ble_eq_true rfl, Nat.le_of_ble_eq_true rfl⟩) (hP.sub (ws' := (wA g h R I dr md ed n (R 6) (V 0) (V 1) (V 2) (F 1) (F 2) (F 3))) [0, 1, 3, 4, 5, 6] rfl) trivial (r_recv hX hP 3 rfl rfl) rfl hl.1 rfl (Nat.le_of_ble_eq_true rfl) dX0_told_86 ⟨Nat.zero_le _, Nat.zero_le _⟩) ?_
    refine lv_bif_eq (tgt := 96) hx hb dX0_told_89 (by decide) (fun c_11 => ?_) (fun c_11 => ?_)
    · have c_11 := Decidable.of_not_not c_11
      refine lv_iconst (v := 0) hx hb dX0_told_96 (by decide) ?_
      exact PM.iret hX hr hlk (by simp only [toldF, if_neg c_1, if_neg c_7, if_neg c_8, if_neg c_9, if_pos c_10, if_pos c_11]) dX0_told_97
    refine lv_iconst (v := 1) hx hb dX0_told_92 (by decide) ?_
    refine lv_goto (tgt := 97) hx hb dX0_told_93 (by decide) ?_
    exact PM.iret hX hr hlk (by simp only [toldF, if_neg c_1, if_neg c_7, if_neg c_8, if_neg c_9, if_pos c_10, if_neg c_11]) dX0_told_97
  have o_12 : w.toInt < 0 ∨ 4 < w.toInt := by
    have c_1n : w.toInt ≠ 0 := fun z => c_1 (Int32.toInt_inj.mp z)
    have c_7n : w.toInt ≠ 1 := fun z => c_7 (Int32.toInt_inj.mp z)
    have c_8n : w.toInt ≠ 2 := fun z => c_8 (Int32.toInt_inj.mp z)
    have c_9n : w.toInt ≠ 3 := fun z => c_9 (Int32.toInt_inj.mp z)
    have c_10n : w.toInt ≠ 4 := fun z => c_10 (Int32.toInt_inj.mp z)
    omega
  refine lv_tableOut (tgt := 98) hx hb dX0_told_1 o_12 (by decide) ?_
  refine lv_aload_n hx hb dX0_told_98 rfl (lv_at hl 0 rfl) ?_
  refine gf_q141 (v := .ref (R 0)) hX hP 0 rfl rfl dX0_told_99 ?_
  refine lv_iload_n hx hb dX0_told_102 rfl (lv_at hl 1 rfl) ?_
  obtain ⟨ea_13, pa_14, he_15, hk_16, hq_17⟩ := hro f (by omega)
  refine PM.cr (PM.runV (As := [.int (nI f)]) (rest := []) hX (K_J2_get l g (R 0) md ed n ea_13 f pa_14 (by omega) (by omega) he_15) (cv_q470 hX ⟨Nat.le_of_ble_eq_true rfl, Nat.le_of_ble_eq_true rfl⟩) ((hP.sub (ws' := (wL g (R 0) md ed n)) [1] rfl).app (hq_17.sub (ws' := [(ed, aR g 10 ea_13)]) [0] rfl)) trivial (r_recv hX hP 1 rfl rfl) rfl hl.1 rfl (Nat.le_of_ble_eq_true rfl) dX0_told_103 ⟨Nat.zero_le _, Nat.zero_le _⟩) ?_
  have hk_16p : kd f < 5 ∧ va_P g.1 vwCl [(pa_14, .inr (6 + kd f, []))] s.heap := ⟨hk_16, hq_17.sub [1] rfl⟩
  refine r_castP hX q398 hk_16p.1 hk_16p.2 dX0_told_106 ?_
  refine rv_q505 (rest := []) hX hk_16p.1 hk_16p.2 hl.1 (Nat.le_of_ble_eq_true rfl) (Nat.le_of_ble_eq_true rfl) (Nat.le_of_ble_eq_true rfl) ⟨Nat.zero_le _, Nat.zero_le _⟩ dX0_told_109 ?_
  exact PM.iret hX hr hlk (by simp only [toldF, if_neg c_1, if_neg c_7, if_neg c_8, if_neg c_9, if_neg c_10]) dX0_told_112

set_option maxHeartbeats 400000 in
set_option maxRecDepth 100000 in
theorem K_X0_about (l : Launch) (g : Gx) (h : Nat) (R : Nat → Nat) (V : Nat → Nat) (I : Nat → Int32) (dr : Int64) (md : Int32) (ed : Nat) (n : Nat) (F : Nat → Nat → Int32) (x : Int32) (w : Int32) (kd : Nat → Nat) (hn : n ≤ 5) : PM l g yX0_about cX0_about 3 (some .int) 4 [.ref h, .int x, .int w] (roP g ed n kd) (wC g h R V I dr md ed n F) (some (.int (aboutF kd F n x w))) := by
  refine PM.of (own := "BurntLetters") (by decide) rfl (Nat.le_of_ble_eq_true rfl) ?_
  intro p e s m below meth c hX hr hlk hP hro ls hl
  have hx := hX.1.1
  have hb := hX.1.2.1
  have hl : lv_has ls 3 [(0, .ref h), (1, .int x), (2, .int w)] := hl
  refine lv_aload_n hx hb dX0_about_0 rfl (lv_at hl 0 rfl) ?_
  refine lv_iload_n hx hb dX0_about_1 rfl (lv_at hl 1 rfl) ?_
  refine PM.ci (PM.runV (As := [.int x]) (rest := []) hX (K_X0_isFile l g h R V I dr md ed n F x) (cv_q462 hX ⟨Nat.le_of_ble_eq_true rfl, Nat.le_of_ble_eq_true rfl⟩) hP trivial (r_recv hX hP 0 rfl rfl) rfl hl.1 rfl (Nat.le_of_ble_eq_true rfl) dX0_about_2 ⟨Nat.zero_le _, Nat.zero_le _⟩) ?_
  refine lv_bif_ne (tgt := 13) hx hb dX0_about_5 (by decide) (fun c_1 => ?_) (fun c_1 => ?_)
  · obtain ⟨f, hf, rfl⟩ := file_nat hn c_1
    refine lv_iload_n hx hb dX0_about_13 rfl (lv_at hl 2 rfl) ?_
    refine lv_iconst (v := 0) hx hb dX0_about_14 (by decide) ?_
    refine lv_iconst (v := 5) hx hb dX0_about_15 (by decide) ?_
    refine PM.ci (PM.runS (As := [.int w, .int 0, .int 5]) (rest := []) hX (K_X0_in l g w 0 5) (cs_q216 hX ⟨Nat.le_of_ble_eq_true rfl, Nat.le_of_ble_eq_true rfl⟩) va_P_nil trivial rfl hl.1 rfl (Nat.le_of_ble_eq_true rfl) dX0_about_16 ⟨Nat.zero_le _, Nat.zero_le _⟩) ?_
    refine lv_bif_eq (tgt := 31) hx hb dX0_about_19 (by decide) (fun c_2 => ?_) (fun c_2 => ?_)
    · refine lv_bipush (v := (-102)) hx hb dX0_about_31 (by decide) ?_
      exact PM.iret hX hr hlk (by first | (simp only [aboutF, if_pos c_1, if_neg c_2]; done) | (simp only [aboutF, if_pos c_1, if_neg c_2, ix_nI (show f < 2 ^ 31 by omega)]; done)) dX0_about_33
    refine lv_aload_n hx hb dX0_about_22 rfl (lv_at hl 0 rfl) ?_
    refine lv_iload_n hx hb dX0_about_23 rfl (lv_at hl 1 rfl) ?_
    refine lv_iload_n hx hb dX0_about_24 rfl (lv_at hl 2 rfl) ?_
    refine PM.ci (PM.runV (As := [.int (nI f), .int w]) (rest := []) hX (K_X0_told l g h R V I dr md ed n F f w kd (by omega) (by omega)) (cv_q466 hX ⟨Nat.le_of_ble_eq_true rfl, Nat.le_of_ble_eq_true rfl⟩) hP hro (r_recv hX hP 0 rfl rfl) rfl hl.1 rfl (Nat.le_of_ble_eq_true rfl) dX0_about_25 ⟨Nat.zero_le _, Nat.zero_le _⟩) ?_
    refine lv_goto (tgt := 33) hx hb dX0_about_28 (by decide) ?_
    exact PM.iret hX hr hlk (by first | (simp only [aboutF, if_pos c_1, if_pos c_2]; done) | (simp only [aboutF, if_pos c_1, if_pos c_2, ix_nI (show f < 2 ^ 31 by omega)]; done)) dX0_about_33
  refine lv_bipush (v := (-101)) hx hb dX0_about_8 (by decide) ?_
  refine lv_goto (tgt := 33) hx hb dX0_about_10 (by decide) ?_
  exact PM.iret hX hr hlk (by first | (simp only [aboutF, if_neg c_1]; done) | (simp only [aboutF, if_neg c_1, ix_nI (show f < 2 ^ 31 by omega)]; done)) dX0_about_33

set_option maxHeartbeats 400000 in
set_option maxRecDepth 100000 in
theorem K_X0_as (l : Launch) (g : Gx) (h : Nat) (R : Nat → Nat) (V : Nat → Nat) (I : Nat → Int32) (dr : Int64) (md : Int32) (ed : Nat) (n : Nat) (F : Nat → Nat → Int32) (x : Int32) (k : Int32) (kd : Nat → Nat) (hn : n ≤ 5) : PM l g yX0_as cX0_as 3 (some .int) 4 [.ref h, .int x, .int k] (roP g ed n kd) (wC g h R V I dr md ed n F) (some (.int (asF kd n x k))) := by
  refine PM.of (own := "BurntLetters") (by decide) rfl (Nat.le_of_ble_eq_true rfl) ?_
  intro p e s m below meth c hX hr hlk hP hro ls hl
  have hx := hX.1.1
  have hb := hX.1.2.1
  have hl : lv_has ls 3 [(0, .ref h), (1, .int x), (2, .int k)] := hl
  refine lv_aload_n hx hb dX0_as_0 rfl (lv_at hl 0 rfl) ?_
  refine lv_iload_n hx hb dX0_as_1 rfl (lv_at hl 1 rfl) ?_
  refine PM.ci (PM.runV (As := [.int x]) (rest := []) hX (K_X0_isFile l g h R V I dr md ed n F x) (cv_q462 hX ⟨Nat.le_of_ble_eq_true rfl, Nat.le_of_ble_eq_true rfl⟩) hP trivial (r_recv hX hP 0 rfl rfl) rfl hl.1 rfl (Nat.le_of_ble_eq_true rfl) dX0_as_2 ⟨Nat.zero_le _, Nat.zero_le _⟩) ?_
  refine lv_bif_ne (tgt := 11) hx hb dX0_as_5 (by decide) (fun c_1 => ?_) (fun c_1 => ?_)
  · obtain ⟨f, hf, rfl⟩ := file_nat hn c_1
    refine lv_iload_n hx hb dX0_as_11 rfl (lv_at hl 2 rfl) ?_
    refine lv_iconst (v := 0) hx hb dX0_as_12 (by decide) ?_
    refine lv_iconst (v := 4) hx hb dX0_as_13 (by decide) ?_
    refine PM.ci (PM.runS (As := [.int k, .int 0, .int 4]) (rest := []) hX (K_X0_in l g k 0 4) (cs_q216 hX ⟨Nat.le_of_ble_eq_true rfl, Nat.le_of_ble_eq_true rfl⟩) va_P_nil trivial rfl hl.1 rfl (Nat.le_of_ble_eq_true rfl) dX0_as_14 ⟨Nat.zero_le _, Nat.zero_le _⟩) ?_
    refine lv_bif_ne (tgt := 25) hx hb dX0_as_17 (by decide) (fun c_2 => ?_) (fun c_2 => ?_)
    · refine lv_aload_n hx hb dX0_as_25 rfl (lv_at hl 0 rfl) ?_
      refine gf_q141 (v := .ref (R 0)) hX hP 0 rfl rfl dX0_as_26 ?_
      refine lv_iload_n hx hb dX0_as_29 rfl (lv_at hl 1 rfl) ?_
      obtain ⟨ea_3, pa_4, he_5, hk_6, hq_7⟩ := hro f (by omega)
      refine PM.cr (PM.runV (As := [.int (nI f)]) (rest := []) hX (K_J2_get l g (R 0) md ed n ea_3 f pa_4 (by omega) (by omega) he_5) (cv_q470 hX ⟨Nat.le_of_ble_eq_true rfl, Nat.le_of_ble_eq_true rfl⟩) ((hP.sub (ws' := (wL g (R 0) md ed n)) [1] rfl).app (hq_7.sub (ws' := [(ed, aR g 10 ea_3)]) [0] rfl)) trivial (r_recv hX hP 1 rfl rfl) rfl hl.1 rfl (Nat.le_of_ble_eq_true rfl) dX0_as_30 ⟨Nat.zero_le _, Nat.zero_le _⟩) ?_
      have hk_6p : kd f < 5 ∧ va_P g.1 vwCl [(pa_4, .inr (6 + kd f, []))] s.heap := ⟨hk_6, hq_7.sub [1] rfl⟩
      refine r_castP hX q398 hk_6p.1 hk_6p.2 dX0_as_33 ?_
      refine lv_iload_n hx hb dX0_as_36 rfl (lv_at hl 2 rfl) ?_
      refine rv_q523 (rest := []) hX hk_6p.1 hk_6p.2 hl.1 (Nat.le_of_ble_eq_true rfl) (Nat.le_of_ble_eq_true rfl) (Nat.le_of_ble_eq_true rfl) ⟨Nat.zero_le _, Nat.zero_le _⟩ dX0_as_37 ?_
      refine lv_bif_eq (tgt := 47) hx hb dX0_as_40 (by decide) (fun c_8 => ?_) (fun c_8 => ?_)
      · refine lv_iconst (v := (-1)) hx hb dX0_as_47 (by decide) ?_
        exact PM.iret hX hr hlk (by first | (simp only [asF, if_pos c_1, if_pos c_2, if_neg c_8]; done) | (rw [asF, if_pos c_1, if_pos c_2, ix_nI (show f < 2 ^ 31 by omega), if_neg c_8])) dX0_as_48
      refine lv_iload_n hx hb dX0_as_43 rfl (lv_at hl 1 rfl) ?_
      refine lv_goto (tgt := 48) hx hb dX0_as_44 (by decide) ?_
      exact PM.iret hX hr hlk (by first | (simp only [asF, if_pos c_1, if_pos c_2, if_pos c_8]; done) | (rw [asF, if_pos c_1, if_pos c_2, ix_nI (show f < 2 ^ 31 by omega), if_pos c_8])) dX0_as_48
    refine lv_bipush (v := (-102)) hx hb dX0_as_20 (by decide) ?_
    refine lv_goto (tgt := 48) hx hb dX0_as_22 (by decide) ?_
    exact PM.iret hX hr hlk (by first | (simp only [asF, if_pos c_1, if_neg c_2]; done) | (rw [asF, if_pos c_1, if_pos c_2, ix_nI (show f < 2 ^ 31 by omega), if_neg c_2])) dX0_as_48
  refine lv_bipush (v := (-101)) hx hb dX0_as_8 (by decide) ?_
  exact PM.iret hX hr hlk (by first | (simp only [asF, if_neg c_1]; done) | (rw [asF, if_pos c_1, if_pos c_2, ix_nI (show f < 2 ^ 31 by omega), if_neg c_1])) dX0_as_10

set_option maxHeartbeats 400000 in
set_option maxRecDepth 100000 in
theorem K_X0_under (l : Launch) (g : Gx) (h : Nat) (R : Nat → Nat) (V : Nat → Nat) (I : Nat → Int32) (dr : Int64) (md : Int32) (ed : Nat) (n : Nat) (F : Nat → Nat → Int32) (x : Int32) (w : Int32) (hn : n ≤ 5) : PM l g yX0_under cX0_under 3 (some .int) 2 [.ref h, .int x, .int w] roT (wC g h R V I dr md ed n F) (some (.int (underF F n x w))) := by
  refine PM.of (own := "BurntLetters") (by decide) rfl (Nat.le_of_ble_eq_true rfl) ?_
  intro p e s m below meth c hX hr hlk hP hro ls hl
  have hx := hX.1.1
  have hb := hX.1.2.1
  have hl : lv_has ls 3 [(0, .ref h), (1, .int x), (2, .int w)] := hl
  refine lv_iload_n hx hb dX0_under_0 rfl (lv_at hl 1 rfl) ?_
  refine PM.ci (PM.runS (As := [.int x]) (rest := []) hX (K_X0_isLetter l g x) (cs_q348 hX ⟨Nat.le_of_ble_eq_true rfl, Nat.le_of_ble_eq_true rfl⟩) va_P_nil trivial rfl hl.1 rfl (Nat.le_of_ble_eq_true rfl) dX0_under_1 ⟨Nat.zero_le _, Nat.zero_le _⟩) ?_
  refine lv_bif_ne (tgt := 10) hx hb dX0_under_4 (by decide) (fun c_1 => ?_) (fun c_1 => ?_)
  · obtain ⟨f, hf, rfl⟩ := inP_nat (b := 5) (by omega) c_1
    refine lv_iload_n hx hb dX0_under_10 rfl (lv_at hl 2 rfl) ?_
    refine lv_iconst (v := 0) hx hb dX0_under_11 (by decide) ?_
    refine lv_iconst (v := 1) hx hb dX0_under_12 (by decide) ?_
    refine PM.ci (PM.runS (As := [.int w, .int 0, .int 1]) (rest := []) hX (K_X0_in l g w 0 1) (cs_q216 hX ⟨Nat.le_of_ble_eq_true rfl, Nat.le_of_ble_eq_true rfl⟩) va_P_nil trivial rfl hl.1 rfl (Nat.le_of_ble_eq_true rfl) dX0_under_13 ⟨Nat.zero_le _, Nat.zero_le _⟩) ?_
    refine lv_bif_ne (tgt := 24) hx hb dX0_under_16 (by decide) (fun c_2 => ?_) (fun c_2 => ?_)
    · refine lv_iload_n hx hb dX0_under_24 rfl (lv_at hl 2 rfl) ?_
      refine lv_if_ne (tgt := 37) hx hb dX0_under_25 (by decide) (fun c_3 => ?_) (fun c_3 => ?_)
      · refine lv_aload_n hx hb dX0_under_37 rfl (lv_at hl 0 rfl) ?_
        refine gf_q148 (v := .ref (R 6)) hX hP 0 rfl rfl dX0_under_38 ?_
        refine lv_iload_n hx hb dX0_under_41 rfl (lv_at hl 1 rfl) ?_
        refine PM.ci (PM.runV (As := [.int (nI f)]) (rest := []) hX (K_X1_under l g h R I dr md ed n (R 6) (V 0) (V 1) (V 2) (F 1) (F 2) (F 3) (nI f) (by omega)) (cv_q351 hX ⟨Nat.le_of_ble_eq_true rfl, Nat.le_of_ble_eq_true rfl⟩) (hP.sub (ws' := (wA g h R I dr md ed n (R 6) (V 0) (V 1) (V 2) (F 1) (F 2) (F 3))) [0, 1, 3, 4, 5, 6] rfl) trivial (r_recv hX hP 3 rfl rfl) rfl hl.1 rfl (Nat.le_of_ble_eq_true rfl) dX0_under_42 ⟨Nat.zero_le _, Nat.zero_le _⟩) ?_
        exact PM.iret hX hr hlk (by first | (simp only [underF, if_pos c_1, if_pos c_2, if_neg c_3]; done) | (simp only [underF, if_pos c_1, if_pos c_2, if_neg c_3, ix_nI (show f < 2 ^ 31 by omega)])) dX0_under_45
      refine lv_aload_n hx hb dX0_under_28 rfl (lv_at hl 0 rfl) ?_
      refine gf_q146 (v := .ref (R 4)) hX hP 0 rfl rfl dX0_under_29 ?_
      refine lv_iload_n hx hb dX0_under_32 rfl (lv_at hl 1 rfl) ?_
      refine r_iald (f := (F 0)) hX hP 2 rfl f (by omega) (by omega) dX0_under_33 ?_
      refine lv_goto (tgt := 45) hx hb dX0_under_34 (by decide) ?_
      exact PM.iret hX hr hlk (by first | (simp only [underF, if_pos c_1, if_pos c_2, if_pos c_3]; done) | (simp only [underF, if_pos c_1, if_pos c_2, if_pos c_3, ix_nI (show f < 2 ^ 31 by omega)])) dX0_under_45
    refine lv_bipush (v := (-102)) hx hb dX0_under_19 (by decide) ?_
    refine lv_goto (tgt := 45) hx hb dX0_under_21 (by decide) ?_
    exact PM.iret hX hr hlk (by first | (simp only [underF, if_pos c_1, if_neg c_2]; done) | (simp only [underF, if_pos c_1, if_neg c_2, ix_nI (show f < 2 ^ 31 by omega)])) dX0_under_45
  refine lv_bipush (v := (-101)) hx hb dX0_under_7 (by decide) ?_
  exact PM.iret hX hr hlk (by first | (simp only [underF, if_neg c_1]; done) | (simp only [underF, if_neg c_1, ix_nI (show f < 2 ^ 31 by omega)])) dX0_under_9

set_option maxHeartbeats 400000 in
set_option maxRecDepth 100000 in
theorem K_X0_nowhereNow (l : Launch) (g : Gx) (h : Nat) (R : Nat → Nat) (V : Nat → Nat) (I : Nat → Int32) (dr : Int64) (md : Int32) (ed : Nat) (n : Nat) (F : Nat → Nat → Int32) (hn : n ≤ 5) (hpt : ∀ k, k < n → F 2 k = -1 ∨ ∃ j, j < 5 ∧ F 2 k = nI j) : PM l g yX0_nowhereNow cX0_nowhereNow 4 (some .int) 2 [.ref h] roT (wC g h R V I dr md ed n F) (some (.int (nowF F n))) := by
  refine PM.of (own := "BurntLetters") (by decide) rfl (Nat.le_of_ble_eq_true rfl) ?_
  intro p e s m below meth c hX hr hlk hP hro ls hl
  have hx := hX.1.1
  have hb := hX.1.2.1
  have hl : lv_has ls 4 [(0, .ref h)] := hl
  refine lv_iconst (v := 0) hx hb dX0_nowhereNow_0 (by decide) ?_
  refine lv_istore_n (lv' := [(1, .int 0), (0, .ref h)]) hx hb dX0_nowhereNow_1 rfl hl (by decide) rfl (fun ls hl => ?_)
  refine lv_iconst (v := 0) hx hb dX0_nowhereNow_2 (by decide) ?_
  refine lv_istore_n (lv' := [(2, .int 0), (1, .int 0), (0, .ref h)]) hx hb dX0_nowhereNow_3 rfl hl (by decide) rfl (fun ls hl => ?_)
  refine W_loopP (α := Nat) (P := fun (i : Nat) (ls : Array Slot) => i ≤ n ∧ lv_has ls 4 [(0, .ref h), (1, .int (nowF F i)), (2, .int (nI i))]) (fun i => n - i) 0 ⟨Nat.zero_le _, lv_cast (lv_sub (l' := [(0, .ref h), (1, .int 0), (2, .int 0)]) hl [2, 1, 0] rfl) (rfl)⟩ ?_
  rintro i ls ⟨hi, hl⟩ ihi
  refine lv_iload_n hx hb dX0_nowhereNow_4 rfl (lv_at hl 2 rfl) ?_
  refine lv_aload_n hx hb dX0_nowhereNow_5 rfl (lv_at hl 0 rfl) ?_
  refine gf_q141 (v := .ref (R 0)) hX hP 0 rfl rfl dX0_nowhereNow_6 ?_
  refine PM.ci (PM.runV (As := []) (rest := [.int (nI i)]) hX (K_J2_size l g (R 0) md ed n) (cv_q363 hX ⟨Nat.le_of_ble_eq_true rfl, Nat.le_of_ble_eq_true rfl⟩) (hP.sub (ws' := (wL g (R 0) md ed n)) [1] rfl) trivial (r_recv hX hP 1 rfl rfl) rfl hl.1 rfl (Nat.le_of_ble_eq_true rfl) dX0_nowhereNow_9 ⟨Nat.zero_le _, Nat.zero_le _⟩) ?_
  refine lv_icmp_ge (tgt := 68) hx hb dX0_nowhereNow_12 (by decide) (fun c_1 => ?_) (fun c_1 => ?_)
  · have c_1n : n ≤ i := (nI_leI (a := n) (b := i) (by omega) (by omega)).mp c_1
    have ei : n = i := by omega
    subst ei
    refine lv_iload_n hx hb dX0_nowhereNow_68 rfl (lv_at hl 1 rfl) ?_
    exact PM.iret hX hr hlk (rfl) dX0_nowhereNow_69
  have c_1n : ¬ n ≤ i := fun zz_ => c_1 ((nI_leI (a := n) (b := i) (by omega) (by omega)).mpr zz_)
  refine lv_aload_n hx hb dX0_nowhereNow_15 rfl (lv_at hl 0 rfl) ?_
  refine gf_q148 (v := .ref (R 6)) hX hP 0 rfl rfl dX0_nowhereNow_16 ?_
  refine gf_q126 (v := .ref (V 1)) hX hP 3 rfl rfl dX0_nowhereNow_19 ?_
  refine lv_iload_n hx hb dX0_nowhereNow_22 rfl (lv_at hl 2 rfl) ?_
  refine r_iald (f := (F 2)) hX hP 5 rfl i (by omega) (by omega) dX0_nowhereNow_23 ?_
  refine lv_istore_n (lv' := [(3, .int ((F 2) i)), (0, .ref h), (1, .int (nowF F i)), (2, .int (nI i))]) hx hb dX0_nowhereNow_24 rfl hl (by decide) rfl (fun ls hl => ?_)
  refine lv_iload_n hx hb dX0_nowhereNow_25 rfl (lv_at hl 2 rfl) ?_
  refine lv_aload_n hx hb dX0_nowhereNow_26 rfl (lv_at hl 1 rfl) ?_
  refine gf_q148 (v := .ref (R 6)) hX hP 0 rfl rfl dX0_nowhereNow_27 ?_
  refine lv_iload_n hx hb dX0_nowhereNow_30 rfl (lv_at hl 3 rfl) ?_
  refine PM.ci (PM.runV (As := [.int (nI i)]) (rest := [.int (nowF F i)]) hX (K_X1_lives l g h R I dr md ed n (R 6) (V 0) (V 1) (V 2) (F 1) (F 2) (F 3) i (by omega)) (cv_q501 hX ⟨Nat.le_of_ble_eq_true rfl, Nat.le_of_ble_eq_true rfl⟩) (hP.sub (ws' := (wA g h R I dr md ed n (R 6) (V 0) (V 1) (V 2) (F 1) (F 2) (F 3))) [0, 1, 3, 4, 5, 6] rfl) trivial (r_recv hX hP 3 rfl rfl) rfl hl.1 rfl (Nat.le_of_ble_eq_true rfl) dX0_nowhereNow_31 ⟨Nat.zero_le _, Nat.zero_le _⟩) ?_
  refine lv_bif_eq (tgt := 59) hx hb dX0_nowhereNow_34 (by decide) (fun c_2 => ?_) (fun c_2 => ?_)
  · have c_2 := Decidable.of_not_not c_2
    refine lv_iconst (v := 0) hx hb dX0_nowhereNow_59 (by decide) ?_
    refine lv_ior hx hb dX0_nowhereNow_60 ?_
    refine lv_istore_n (lv' := [(1, .int ((nowF F i) ||| 0)), (3, .int ((F 2) i)), (0, .ref h), (2, .int (nI i))]) hx hb dX0_nowhereNow_61 rfl hl (by decide) rfl (fun ls hl => ?_)
    refine lv_iinc (v := (nI (i + 1))) (lv' := [(2, .int (nI (i + 1))), (1, .int ((nowF F i) ||| 0)), (3, .int ((F 2) i)), (0, .ref h)]) hx hb dX0_nowhereNow_62 hl (k := 3) rfl (nI_1 _) (by decide) rfl (fun ls hl => ?_)
    refine lv_goto (tgt := 4) hx hb dX0_nowhereNow_65 (by decide) ?_
    exact ihi (i + 1) _ ⟨by omega, lv_cast (lv_sub (l' := [(0, .ref h), (1, .int ((nowF F i) ||| 0)), (2, .int (nI (i + 1)))]) hl [3, 1, 0] rfl) (by first | (simp only [nowF, if_neg c_1, if_pos c_2]; done) | (simp only [nowF, if_neg c_2, if_neg c_3, hix, if_pos c_2]))⟩ (by omega)
  refine lv_iload_n hx hb dX0_nowhereNow_37 rfl (lv_at hl 0 rfl) ?_
  refine lv_iconst (v := (-1)) hx hb dX0_nowhereNow_38 (by decide) ?_
  refine lv_icmp_eq (tgt := 59) hx hb dX0_nowhereNow_39 (by decide) (fun c_3 => ?_) (fun c_3 => ?_)
  · refine lv_iconst (v := 0) hx hb dX0_nowhereNow_59 (by decide) ?_
    refine lv_ior hx hb dX0_nowhereNow_60 ?_
    refine lv_istore_n (lv' := [(1, .int ((nowF F i) ||| 0)), (3, .int ((F 2) i)), (0, .ref h), (2, .int (nI i))]) hx hb dX0_nowhereNow_61 rfl hl (by decide) rfl (fun ls hl => ?_)
    refine lv_iinc (v := (nI (i + 1))) (lv' := [(2, .int (nI (i + 1))), (1, .int ((nowF F i) ||| 0)), (3, .int ((F 2) i)), (0, .ref h)]) hx hb dX0_nowhereNow_62 hl (k := 3) rfl (nI_1 _) (by decide) rfl (fun ls hl => ?_)
    refine lv_goto (tgt := 4) hx hb dX0_nowhereNow_65 (by decide) ?_
    exact ihi (i + 1) _ ⟨by omega, lv_cast (lv_sub (l' := [(0, .ref h), (1, .int ((nowF F i) ||| 0)), (2, .int (nI (i + 1)))]) hl [3, 1, 0] rfl) (by first | (simp only [nowF, if_neg c_1, if_neg c_2, if_pos c_3]; done) | (simp only [nowF, if_neg c_2, if_neg c_3, hix, if_pos c_3]))⟩ (by omega)
  obtain ⟨j, hj, hj2⟩ := (hpt i (by omega)).resolve_left c_3
  have hix : ix (F 2 i) = j := by rw [hj2]; exact ix_nI (by omega)
  refine lv_aload_n hx hb dX0_nowhereNow_42 rfl (lv_at hl 1 rfl) ?_
  refine gf_q148 (v := .ref (R 6)) hX hP 0 rfl rfl dX0_nowhereNow_43 ?_
  refine lv_iload_n hx hb dX0_nowhereNow_46 rfl (lv_at hl 0 rfl) ?_
  refine lv_seti (v := (nI j)) (hj2) ?_
  refine PM.ci (PM.runV (As := [.int (nI j)]) (rest := [.int (nowF F i)]) hX (K_X1_lives l g h R I dr md ed n (R 6) (V 0) (V 1) (V 2) (F 1) (F 2) (F 3) j (by omega)) (cv_q501 hX ⟨Nat.le_of_ble_eq_true rfl, Nat.le_of_ble_eq_true rfl⟩) (hP.sub (ws' := (wA g h R I dr md ed n (R 6) (V 0) (V 1) (V 2) (F 1) (F 2) (F 3))) [0, 1, 3, 4, 5, 6] rfl) trivial (r_recv hX hP 3 rfl rfl) rfl hl.1 rfl (Nat.le_of_ble_eq_true rfl) dX0_nowhereNow_47 ⟨Nat.zero_le _, Nat.zero_le _⟩) ?_
  refine lv_bif_ne (tgt := 59) hx hb dX0_nowhereNow_50 (by decide) (fun c_4 => ?_) (fun c_4 => ?_)
  · refine lv_iconst (v := 0) hx hb dX0_nowhereNow_59 (by decide) ?_
    refine lv_ior hx hb dX0_nowhereNow_60 ?_
    refine lv_istore_n (lv' := [(1, .int ((nowF F i) ||| 0)), (3, .int ((F 2) i)), (0, .ref h), (2, .int (nI i))]) hx hb dX0_nowhereNow_61 rfl hl (by decide) rfl (fun ls hl => ?_)
    refine lv_iinc (v := (nI (i + 1))) (lv' := [(2, .int (nI (i + 1))), (1, .int ((nowF F i) ||| 0)), (3, .int ((F 2) i)), (0, .ref h)]) hx hb dX0_nowhereNow_62 hl (k := 3) rfl (nI_1 _) (by decide) rfl (fun ls hl => ?_)
    refine lv_goto (tgt := 4) hx hb dX0_nowhereNow_65 (by decide) ?_
    exact ihi (i + 1) _ ⟨by omega, lv_cast (lv_sub (l' := [(0, .ref h), (1, .int ((nowF F i) ||| 0)), (2, .int (nI (i + 1)))]) hl [3, 1, 0] rfl) (by first | (simp only [nowF, if_neg c_1, if_neg c_2, if_neg c_3, if_neg c_4]; done) | (simp only [nowF, if_neg c_2, if_neg c_3, hix, if_neg c_4]))⟩ (by omega)
  have c_4 := Decidable.of_not_not c_4
  refine lv_iconst (v := 1) hx hb dX0_nowhereNow_53 (by decide) ?_
  refine lv_iload_n hx hb dX0_nowhereNow_54 rfl (lv_at hl 3 rfl) ?_
  refine lv_ishl hx hb dX0_nowhereNow_55 ?_
  refine lv_goto (tgt := 60) hx hb dX0_nowhereNow_56 (by decide) ?_
  refine lv_ior hx hb dX0_nowhereNow_60 ?_
  refine lv_istore_n (lv' := [(1, .int ((nowF F i) ||| ((1 : Int32) <<< ((nI i) &&& 31)))), (3, .int ((F 2) i)), (0, .ref h), (2, .int (nI i))]) hx hb dX0_nowhereNow_61 rfl hl (by decide) rfl (fun ls hl => ?_)
  refine lv_iinc (v := (nI (i + 1))) (lv' := [(2, .int (nI (i + 1))), (1, .int ((nowF F i) ||| ((1 : Int32) <<< ((nI i) &&& 31)))), (3, .int ((F 2) i)), (0, .ref h)]) hx hb dX0_nowhereNow_62 hl (k := 3) rfl (nI_1 _) (by decide) rfl (fun ls hl => ?_)
  refine lv_goto (tgt := 4) hx hb dX0_nowhereNow_65 (by decide) ?_
  exact ihi (i + 1) _ ⟨by omega, lv_cast (lv_sub (l' := [(0, .ref h), (1, .int ((nowF F i) ||| ((1 : Int32) <<< ((nI i) &&& 31)))), (2, .int (nI (i + 1)))]) hl [3, 1, 0] rfl) (by first | (simp only [nowF, if_neg c_1, if_neg c_2, if_neg c_3, if_pos c_4]; done) | (simp only [nowF, if_neg c_2, if_neg c_3, hix, if_pos c_4]))⟩ (by omega)

set_option maxHeartbeats 400000 in
set_option maxRecDepth 100000 in
theorem K_X0_nowhere (l : Launch) (g : Gx) (h : Nat) (R : Nat → Nat) (V : Nat → Nat) (I : Nat → Int32) (dr : Int64) (md : Int32) (ed : Nat) (n : Nat) (F : Nat → Nat → Int32) (hn : n ≤ 5) (hpt : ∀ k, k < n → F 2 k = -1 ∨ ∃ j, j < 5 ∧ F 2 k = nI j) : PM l g yX0_nowhere cX0_nowhere 1 (some .int) 3 [.ref h] roT (wC g h R V I dr md ed n F) (some (.int (nowF F n))) := by
  refine PM.of (own := "BurntLetters") (by decide) rfl (Nat.le_of_ble_eq_true rfl) ?_
  intro p e s m below meth c hX hr hlk hP hro ls hl
  have hx := hX.1.1
  have hb := hX.1.2.1
  have hl : lv_has ls 1 [(0, .ref h)] := hl
  refine lv_aload_n hx hb dX0_nowhere_0 rfl (lv_at hl 0 rfl) ?_
  refine PM.ci (PM.runV (As := []) (rest := []) hX (K_X0_nowhereNow l g h R V I dr md ed n F (by omega) (hpt)) (cv_q689 hX ⟨Nat.le_of_ble_eq_true rfl, Nat.le_of_ble_eq_true rfl⟩) hP trivial (r_recv hX hP 0 rfl rfl) rfl hl.1 rfl (Nat.le_of_ble_eq_true rfl) dX0_nowhere_1 ⟨Nat.zero_le _, Nat.zero_le _⟩) ?_
  exact PM.iret hX hr hlk (rfl) dX0_nowhere_4

set_option maxHeartbeats 400000 in
set_option maxRecDepth 100000 in
theorem K_X0_countOf (l : Launch) (g : Gx) (h : Nat) (R : Nat → Nat) (V : Nat → Nat) (I : Nat → Int32) (dr : Int64) (md : Int32) (ed : Nat) (n : Nat) (F : Nat → Nat → Int32) (w : Int32) (hn : n ≤ 5) : PM l g yX0_countOf cX0_countOf 2 (some .int) 2 [.ref h, .int w] roT (wC g h R V I dr md ed n F) (some (.int (countF I F n w))) := by
  refine PM.of (own := "BurntLetters") (by decide) rfl (Nat.le_of_ble_eq_true rfl) ?_
  intro p e s m below meth c hX hr hlk hP hro ls hl
  have hx := hX.1.1
  have hb := hX.1.2.1
  have hl : lv_has ls 2 [(0, .ref h), (1, .int w)] := hl
  refine lv_iload_n hx hb dX0_countOf_0 rfl (lv_at hl 1 rfl) ?_
  by_cases c_1 : w = 0
  · have c_1i : w.toInt = 0 := by rw [c_1]; rfl
    refine lv_tableIn (off := 55) (tgt := 56) hx hb dX0_countOf_1 (by rw [c_1i]; decide) (by rw [c_1i]; decide) (by rw [c_1i]; rfl) (by decide) ?_
    refine lv_aload_n hx hb dX0_countOf_56 rfl (lv_at hl 0 rfl) ?_
    refine gf_q145 (v := .int (I 3)) hX hP 0 rfl rfl dX0_countOf_57 ?_
    exact PM.iret hX hr hlk (by simp only [countF, if_pos c_1]) dX0_countOf_60
  by_cases c_2 : w = 1
  · have c_2i : w.toInt = 1 := by rw [c_2]; rfl
    refine lv_tableIn (off := 60) (tgt := 61) hx hb dX0_countOf_1 (by rw [c_2i]; decide) (by rw [c_2i]; decide) (by rw [c_2i]; rfl) (by decide) ?_
    refine lv_aload_n hx hb dX0_countOf_61 rfl (lv_at hl 0 rfl) ?_
    refine gf_q141 (v := .ref (R 0)) hX hP 0 rfl rfl dX0_countOf_62 ?_
    refine PM.ci (PM.runV (As := []) (rest := []) hX (K_J2_size l g (R 0) md ed n) (cv_q363 hX ⟨Nat.le_of_ble_eq_true rfl, Nat.le_of_ble_eq_true rfl⟩) (hP.sub (ws' := (wL g (R 0) md ed n)) [1] rfl) trivial (r_recv hX hP 1 rfl rfl) rfl hl.1 rfl (Nat.le_of_ble_eq_true rfl) dX0_countOf_65 ⟨Nat.zero_le _, Nat.zero_le _⟩) ?_
    exact PM.iret hX hr hlk (by simp only [countF, if_neg c_1, if_pos c_2]) dX0_countOf_68
  by_cases c_3 : w = 2
  · have c_3i : w.toInt = 2 := by rw [c_3]; rfl
    refine lv_tableIn (off := 68) (tgt := 69) hx hb dX0_countOf_1 (by rw [c_3i]; decide) (by rw [c_3i]; decide) (by rw [c_3i]; rfl) (by decide) ?_
    refine lv_aload_n hx hb dX0_countOf_69 rfl (lv_at hl 0 rfl) ?_
    refine gf_q148 (v := .ref (R 6)) hX hP 0 rfl rfl dX0_countOf_70 ?_
    refine PM.ci (PM.runV (As := []) (rest := []) hX (K_X1_living l g h R I dr md ed n (R 6) (V 0) (V 1) (V 2) (F 1) (F 2) (F 3) (by omega)) (cv_q730 hX ⟨Nat.le_of_ble_eq_true rfl, Nat.le_of_ble_eq_true rfl⟩) (hP.sub (ws' := (wA g h R I dr md ed n (R 6) (V 0) (V 1) (V 2) (F 1) (F 2) (F 3))) [0, 1, 3, 4, 5, 6] rfl) trivial (r_recv hX hP 3 rfl rfl) rfl hl.1 rfl (Nat.le_of_ble_eq_true rfl) dX0_countOf_73 ⟨Nat.zero_le _, Nat.zero_le _⟩) ?_
    refine PM.ci (PM.runS (As := [.int (livF (F 1) n)]) (rest := []) hX (K_J10_bitCount l g (livF (F 1) n)) (cs_q561 hX ⟨Nat.le_of_ble_eq_true rfl, Nat.le_of_ble_eq_true rfl⟩) va_P_nil trivial rfl hl.1 rfl (Nat.le_of_ble_eq_true rfl) dX0_countOf_76 ⟨Nat.zero_le _, Nat.zero_le _⟩) ?_
    exact PM.iret hX hr hlk (by simp only [countF, if_neg c_1, if_neg c_2, if_pos c_3]) dX0_countOf_79
  by_cases c_4 : w = 3
  · have c_4i : w.toInt = 3 := by rw [c_4]; rfl
    refine lv_tableIn (off := 79) (tgt := 80) hx hb dX0_countOf_1 (by rw [c_4i]; decide) (by rw [c_4i]; decide) (by rw [c_4i]; rfl) (by decide) ?_
    refine lv_aload_n hx hb dX0_countOf_80 rfl (lv_at hl 0 rfl) ?_
    refine gf_q148 (v := .ref (R 6)) hX hP 0 rfl rfl dX0_countOf_81 ?_
    refine PM.ci (PM.runV (As := []) (rest := []) hX (K_X1_leavesAll l g h R I dr md ed n (R 6) (V 0) (V 1) (V 2) (F 1) (F 2) (F 3) (by omega)) (cv_q701 hX ⟨Nat.le_of_ble_eq_true rfl, Nat.le_of_ble_eq_true rfl⟩) (hP.sub (ws' := (wA g h R I dr md ed n (R 6) (V 0) (V 1) (V 2) (F 1) (F 2) (F 3))) [0, 1, 3, 4, 5, 6] rfl) trivial (r_recv hX hP 3 rfl rfl) rfl hl.1 rfl (Nat.le_of_ble_eq_true rfl) dX0_countOf_84 ⟨Nat.zero_le _, Nat.zero_le _⟩) ?_
    exact PM.iret hX hr hlk (by simp only [countF, if_neg c_1, if_neg c_2, if_neg c_3, if_pos c_4]) dX0_countOf_87
  by_cases c_5 : w = 4
  · have c_5i : w.toInt = 4 := by rw [c_5]; rfl
    refine lv_tableIn (off := 87) (tgt := 88) hx hb dX0_countOf_1 (by rw [c_5i]; decide) (by rw [c_5i]; decide) (by rw [c_5i]; rfl) (by decide) ?_
    refine lv_aload_n hx hb dX0_countOf_88 rfl (lv_at hl 0 rfl) ?_
    refine gf_q147 (v := .int (I 5)) hX hP 0 rfl rfl dX0_countOf_89 ?_
    exact PM.iret hX hr hlk (by simp only [countF, if_neg c_1, if_neg c_2, if_neg c_3, if_neg c_4, if_pos c_5]) dX0_countOf_92
  by_cases c_6 : w = 5
  · have c_6i : w.toInt = 5 := by rw [c_6]; rfl
    refine lv_tableIn (off := 92) (tgt := 93) hx hb dX0_countOf_1 (by rw [c_6i]; decide) (by rw [c_6i]; decide) (by rw [c_6i]; rfl) (by decide) ?_
    refine lv_aload_n hx hb dX0_countOf_93 rfl (lv_at hl 0 rfl) ?_
    refine gf_q157 (v := .int (I 13)) hX hP 0 rfl rfl dX0_countOf_94 ?_
    exact PM.iret hX hr hlk (by simp only [countF, if_neg c_1, if_neg c_2, if_neg c_3, if_neg c_4, if_neg c_5, if_pos c_6]) dX0_countOf_97
  by_cases c_7 : w = 6
  · have c_7i : w.toInt = 6 := by rw [c_7]; rfl
    refine lv_tableIn (off := 97) (tgt := 98) hx hb dX0_countOf_1 (by rw [c_7i]; decide) (by rw [c_7i]; decide) (by rw [c_7i]; rfl) (by decide) ?_
    refine lv_aload_n hx hb dX0_countOf_98 rfl (lv_at hl 0 rfl) ?_
    refine gf_q154 (v := .int (I 10)) hX hP 0 rfl rfl dX0_countOf_99 ?_
    exact PM.iret hX hr hlk (by simp only [countF, if_neg c_1, if_neg c_2, if_neg c_3, if_neg c_4, if_neg c_5, if_neg c_6, if_pos c_7]) dX0_countOf_102
  by_cases c_8 : w = 7
  · have c_8i : w.toInt = 7 := by rw [c_8]; rfl
    refine lv_tableIn (off := 102) (tgt := 103) hx hb dX0_countOf_1 (by rw [c_8i]; decide) (by rw [c_8i]; decide) (by rw [c_8i]; rfl) (by decide) ?_
    refine lv_aload_n hx hb dX0_countOf_103 rfl (lv_at hl 0 rfl) ?_
    refine gf_q143 (v := .int (I 2)) hX hP 0 rfl rfl dX0_countOf_104 ?_
    exact PM.iret hX hr hlk (by simp only [countF, if_neg c_1, if_neg c_2, if_neg c_3, if_neg c_4, if_neg c_5, if_neg c_6, if_neg c_7, if_pos c_8]) dX0_countOf_107
  by_cases c_9 : w = 8
  · have c_9i : w.toInt = 8 := by rw [c_9]; rfl
    refine lv_tableIn (off := 107) (tgt := 108) hx hb dX0_countOf_1 (by rw [c_9i]; decide) (by rw [c_9i]; decide) (by rw [c_9i]; rfl) (by decide) ?_
    refine lv_aload_n hx hb dX0_countOf_108 rfl (lv_at hl 0 rfl) ?_
    refine gf_q155 (v := .int (I 11)) hX hP 0 rfl rfl dX0_countOf_109 ?_
    exact PM.iret hX hr hlk (by simp only [countF, if_neg c_1, if_neg c_2, if_neg c_3, if_neg c_4, if_neg c_5, if_neg c_6, if_neg c_7, if_neg c_8, if_pos c_9]) dX0_countOf_112
  by_cases c_10 : w = 9
  · have c_10i : w.toInt = 9 := by rw [c_10]; rfl
    refine lv_tableIn (off := 112) (tgt := 113) hx hb dX0_countOf_1 (by rw [c_10i]; decide) (by rw [c_10i]; decide) (by rw [c_10i]; rfl) (by decide) ?_
    refine lv_aload_n hx hb dX0_countOf_113 rfl (lv_at hl 0 rfl) ?_
    refine gf_q156 (v := .int (I 12)) hX hP 0 rfl rfl dX0_countOf_114 ?_
    exact PM.iret hX hr hlk (by simp only [countF, if_neg c_1, if_neg c_2, if_neg c_3, if_neg c_4, if_neg c_5, if_neg c_6, if_neg c_7, if_neg c_8, if_neg c_9, if_pos c_10]) dX0_countOf_117
  have o_11 : w.toInt < 0 ∨ 9 < w.toInt := by
    have c_1n : w.toInt ≠ 0 := fun z => c_1 (Int32.toInt_inj.mp z)
    have c_2n : w.toInt ≠ 1 := fun z => c_2 (Int32.toInt_inj.mp z)
    have c_3n : w.toInt ≠ 2 := fun z => c_3 (Int32.toInt_inj.mp z)
    have c_4n : w.toInt ≠ 3 := fun z => c_4 (Int32.toInt_inj.mp z)
    have c_5n : w.toInt ≠ 4 := fun z => c_5 (Int32.toInt_inj.mp z)
    have c_6n : w.toInt ≠ 5 := fun z => c_6 (Int32.toInt_inj.mp z)
    have c_7n : w.toInt ≠ 6 := fun z => c_7 (Int32.toInt_inj.mp z)
    have c_8n : w.toInt ≠ 7 := fun z => c_8 (Int32.toInt_inj.mp z)
    have c_9n : w.toInt ≠ 8 := fun z => c_9 (Int32.toInt_inj.mp z)
    have c_10n : w.toInt ≠ 9 := fun z => c_10 (Int32.toInt_inj.mp z)
    omega
  refine lv_tableOut (tgt := 118) hx hb dX0_countOf_1 o_11 (by decide) ?_
  refine lv_bipush (v := (-102)) hx hb dX0_countOf_118 (by decide) ?_
  exact PM.iret hX hr hlk (by simp only [countF, if_neg c_1, if_neg c_2, if_neg c_3, if_neg c_4, if_neg c_5, if_neg c_6, if_neg c_7, if_neg c_8, if_neg c_9, if_neg c_10]) dX0_countOf_120

set_option maxHeartbeats 400000 in
set_option maxRecDepth 100000 in
theorem K_X0_count (l : Launch) (g : Gx) (h : Nat) (R : Nat → Nat) (V : Nat → Nat) (I : Nat → Int32) (dr : Int64) (md : Int32) (ed : Nat) (n : Nat) (F : Nat → Nat → Int32) (w : Int32) (hn : n ≤ 5) : PM l g yX0_count cX0_count 2 (some .int) 3 [.ref h, .int w] roT (wC g h R V I dr md ed n F) (some (.int (countF I F n w))) := by
  refine PM.of (own := "BurntLetters") (by decide) rfl (Nat.le_of_ble_eq_true rfl) ?_
  intro p e s m below meth c hX hr hlk hP hro ls hl
  have hx := hX.1.1
  have hb := hX.1.2.1
  have hl : lv_has ls 2 [(0, .ref h), (1, .int w)] := hl
  refine lv_aload_n hx hb dX0_count_0 rfl (lv_at hl 0 rfl) ?_
  refine lv_iload_n hx hb dX0_count_1 rfl (lv_at hl 1 rfl) ?_
  refine PM.ci (PM.runV (As := [.int w]) (rest := []) hX (K_X0_countOf l g h R V I dr md ed n F w (by omega)) (cv_q784 hX ⟨Nat.le_of_ble_eq_true rfl, Nat.le_of_ble_eq_true rfl⟩) hP trivial (r_recv hX hP 0 rfl rfl) rfl hl.1 rfl (Nat.le_of_ble_eq_true rfl) dX0_count_2 ⟨Nat.zero_le _, Nat.zero_le _⟩) ?_
  exact PM.iret hX hr hlk (rfl) dX0_count_5

set_option maxHeartbeats 400000 in
set_option maxRecDepth 100000 in
theorem K_X0_letter (l : Launch) (g : Gx) (h : Nat) (R : Nat → Nat) (V : Nat → Nat) (I : Nat → Int32) (dr : Int64) (md : Int32) (ed : Nat) (n : Nat) (F : Nat → Nat → Int32) (x : Int32) (pl : Nat) (hpl : I 10 = nI pl) (hpl2 : pl ≤ 10) (hrk : RoK roT (wC g h R V I dr md ed n F)) : MM l g yX0_letter cX0_letter 2 (some .int) 1 [.ref h, .int x] roT (wC g h R V I dr md ed n F) (wC g h R V (ltrI I x) dr md ed n (ltrF I F x)) (some (.int (ltrR I x))) := by
  refine MM.of (own := "BurntLetters") (by decide) rfl (Nat.le_of_ble_eq_true rfl) hrk ?_
  intro p e s m below meth c A hX hr hlk hZ ls hl
  have hx := hX.1.1
  have hb := hX.1.2.1
  have hl : lv_has ls 2 [(0, .ref h), (1, .int x)] := hl
  refine lv_iload_n hx hb dX0_letter_0 rfl (lv_at hl 1 rfl) ?_
  refine lv_iconst (v := 1) hx hb dX0_letter_1 (by decide) ?_
  refine lv_bipush (v := 126) hx hb dX0_letter_2 (by decide) ?_
  refine PM.ci (PM.runS (As := [.int x, .int 1, .int 126]) (rest := []) hX (K_X0_in l g x 1 126) (cs_q216 hX ⟨Nat.le_of_ble_eq_true rfl, Nat.le_of_ble_eq_true rfl⟩) va_P_nil trivial rfl hl.1 rfl (Nat.le_of_ble_eq_true rfl) dX0_letter_4 ⟨Nat.zero_le _, Nat.zero_le _⟩) ?_
  refine lv_bif_ne (tgt := 13) hx hb dX0_letter_7 (by decide) (fun c_1 => ?_) (fun c_1 => ?_)
  · refine lv_aload_n hx hb dX0_letter_13 rfl (lv_at hl 0 rfl) ?_
    refine gf_q154 (v := .int (I 10)) hX hZ.1 0 rfl rfl dX0_letter_14 ?_
    refine lv_seti (v := (nI pl)) (hpl) ?_
    refine lv_bipush (v := 10) hx hb dX0_letter_17 (by decide) ?_
    refine lv_icmp_ne (tgt := 25) hx hb dX0_letter_19 (by decide) (fun c_2 => ?_) (fun c_2 => ?_)
    · have c_2n : ¬ pl = 10 := fun zz_ => c_2 ((nI_eq (a := pl) (b := 10) (by omega) (by omega)).mpr zz_)
      refine lv_aload_n hx hb dX0_letter_25 rfl (lv_at hl 0 rfl) ?_
      refine gf_q152 (v := .ref (R 9)) hX hZ.1 0 rfl rfl dX0_letter_26 ?_
      refine lv_aload_n hx hb dX0_letter_29 rfl (lv_at hl 0 rfl) ?_
      refine gf_q154 (v := .int (I 10)) hX hZ.1 0 rfl rfl dX0_letter_30 ?_
      refine lv_seti (v := (nI pl)) (hpl) ?_
      refine lv_iload_n hx hb dX0_letter_33 rfl (lv_at hl 1 rfl) ?_
      refine lv_i2b (v := x.toInt8.toInt32) hx hb dX0_letter_34 rfl ?_
      refine r_bast (f := (F 10)) (x := x.toInt8.toInt32) (ws1 := (wC g h R V I dr md ed n (va_up F 10 (upd (F 10) pl (vp_nar .byte x.toInt8.toInt32))))) hX hZ 15 rfl pl (by omega) (by omega) dX0_letter_35 rfl (fun H locs hZ => ?_)
      refine lv_aload_n hx hb dX0_letter_36 rfl (lv_at hl 0 rfl) ?_
      refine lv_dup hx hb dX0_letter_37 rfl ?_
      refine gf_q154 (v := .int (I 10)) hX hZ.1 0 rfl rfl dX0_letter_38 ?_
      refine lv_seti (v := (nI pl)) (hpl) ?_
      refine lv_iconst (v := 1) hx hb dX0_letter_41 (by decide) ?_
      refine lv_iadd hx hb dX0_letter_42 ?_
      refine lv_seti (v := (nI (pl + 1))) (nI_add _ _) ?_
      refine pf_q154 (ws1 := (wC g h R V (upd I 10 (nI (pl + 1))) dr md ed n (va_up F 10 (upd (F 10) pl (vp_nar .byte x.toInt8.toInt32))))) hX hZ 0 rfl (Nat.le_of_ble_eq_true rfl) rfl dX0_letter_43 (fun H locs hZ => ?_)
      refine lv_aload_n hx hb dX0_letter_46 rfl (lv_at hl 0 rfl) ?_
      refine gf_q154 (v := .int (nI (pl + 1))) hX hZ.1 0 rfl rfl dX0_letter_47 ?_
      exact MM.iret hX hr hlk hZ (by simp only [ltrI, ltrF, if_pos c_1, if_neg c_2, hpl, nI_1, ix_nI (show pl < 2 ^ 31 by omega)]) (by simp only [ltrR, if_pos c_1, if_neg c_2, hpl, nI_1]) dX0_letter_50
    have c_2n : pl = 10 := (nI_eq (a := pl) (b := 10) (by omega) (by omega)).mp c_2
    refine lv_bipush (v := (-104)) hx hb dX0_letter_22 (by decide) ?_
    exact MM.iret hX hr hlk hZ (by simp only [ltrI, ltrF, if_pos c_1, if_pos c_2, hpl, nI_1, ix_nI (show pl < 2 ^ 31 by omega)]) (by simp only [ltrR, if_pos c_1, if_pos c_2, hpl, nI_1]) dX0_letter_24
  refine lv_bipush (v := (-102)) hx hb dX0_letter_10 (by decide) ?_
  exact MM.iret hX hr hlk hZ (by simp only [ltrI, ltrF, if_neg c_1, hpl, nI_1, ix_nI (show pl < 2 ^ 31 by omega)]) (by simp only [ltrR, if_neg c_1, hpl, nI_1]) dX0_letter_12

set_option maxHeartbeats 400000 in
set_option maxRecDepth 100000 in
theorem K_X0_blank (l : Launch) (g : Gx) (h : Nat) (R : Nat → Nat) (V : Nat → Nat) (I : Nat → Int32) (dr : Int64) (md : Int32) (ed : Nat) (n : Nat) (F : Nat → Nat → Int32) (hrk : RoK roT (wC g h R V I dr md ed n F)) : MM l g yX0_blank cX0_blank 2 (some .int) 0 [.ref h] roT (wC g h R V I dr md ed n F) (wC g h R V (upd I 10 0) dr md ed n F) (some (.int (I 10))) := by
  refine MM.of (own := "BurntLetters") (by decide) rfl (Nat.le_of_ble_eq_true rfl) hrk ?_
  intro p e s m below meth c A hX hr hlk hZ ls hl
  have hx := hX.1.1
  have hb := hX.1.2.1
  have hl : lv_has ls 2 [(0, .ref h)] := hl
  refine lv_aload_n hx hb dX0_blank_0 rfl (lv_at hl 0 rfl) ?_
  refine gf_q154 (v := .int (I 10)) hX hZ.1 0 rfl rfl dX0_blank_1 ?_
  refine lv_istore_n (lv' := [(1, .int (I 10)), (0, .ref h)]) hx hb dX0_blank_4 rfl hl (by decide) rfl (fun ls hl => ?_)
  refine lv_aload_n hx hb dX0_blank_5 rfl (lv_at hl 1 rfl) ?_
  refine lv_iconst (v := 0) hx hb dX0_blank_6 (by decide) ?_
  refine pf_q154 (ws1 := (wC g h R V (upd I 10 0) dr md ed n F)) hX hZ 0 rfl (Nat.le_of_ble_eq_true rfl) rfl dX0_blank_7 (fun H locs hZ => ?_)
  refine lv_iload_n hx hb dX0_blank_10 rfl (lv_at hl 0 rfl) ?_
  exact MM.iret hX hr hlk hZ (rfl) (rfl) dX0_blank_11

set_option maxHeartbeats 400000 in
set_option maxRecDepth 100000 in
theorem K_X0_forget (l : Launch) (g : Gx) (h : Nat) (R : Nat → Nat) (V : Nat → Nat) (I : Nat → Int32) (dr : Int64) (md : Int32) (ed : Nat) (n : Nat) (F : Nat → Nat → Int32) (hrk : RoK roT (wC g h R V I dr md ed n F)) : MM l g yX0_forget cX0_forget 2 (some .int) 0 [.ref h] roT (wC g h R V I dr md ed n F) (wC g h R V (upd I 13 0) dr md ed n F) (some (.int (I 13))) := by
  refine MM.of (own := "BurntLetters") (by decide) rfl (Nat.le_of_ble_eq_true rfl) hrk ?_
  intro p e s m below meth c A hX hr hlk hZ ls hl
  have hx := hX.1.1
  have hb := hX.1.2.1
  have hl : lv_has ls 2 [(0, .ref h)] := hl
  refine lv_aload_n hx hb dX0_forget_0 rfl (lv_at hl 0 rfl) ?_
  refine gf_q157 (v := .int (I 13)) hX hZ.1 0 rfl rfl dX0_forget_1 ?_
  refine lv_istore_n (lv' := [(1, .int (I 13)), (0, .ref h)]) hx hb dX0_forget_4 rfl hl (by decide) rfl (fun ls hl => ?_)
  refine lv_aload_n hx hb dX0_forget_5 rfl (lv_at hl 1 rfl) ?_
  refine lv_iconst (v := 0) hx hb dX0_forget_6 (by decide) ?_
  refine pf_q157 (ws1 := (wC g h R V (upd I 13 0) dr md ed n F)) hX hZ 0 rfl (Nat.le_of_ble_eq_true rfl) rfl dX0_forget_7 (fun H locs hZ => ?_)
  refine lv_iload_n hx hb dX0_forget_10 rfl (lv_at hl 0 rfl) ?_
  exact MM.iret hX hr hlk hZ (rfl) (rfl) dX0_forget_11

set_option maxHeartbeats 400000 in
set_option maxRecDepth 100000 in
theorem K_X0_copy (l : Launch) (g : Gx) (h : Nat) (R : Nat → Nat) (V : Nat → Nat) (I : Nat → Int32) (dr : Int64) (md : Int32) (ed : Nat) (n : Nat) (F : Nat → Nat → Int32) (x : Int32) (t : Int32) (kd : Nat → Nat) (hn : n ≤ 5) (hrk : RoK (roP g ed n kd) (wC g h R V I dr md ed n F)) : MM l g yX0_copy cX0_copy 3 (some .int) 4 [.ref h, .int x, .int t] (roP g ed n kd) (wC g h R V I dr md ed n F) (wC g h R V I dr md ed n (cpyF kd I F n x t)) (some (.int (cpyR kd I F n x t))) := by
  refine MM.of (own := "BurntLetters") (by decide) rfl (Nat.le_of_ble_eq_true rfl) hrk ?_
  intro p e s m below meth c A hX hr hlk hZ ls hl
  have hx := hX.1.1
  have hb := hX.1.2.1
  have hl : lv_has ls 3 [(0, .ref h), (1, .int x), (2, .int t)] := hl
  refine lv_aload_n hx hb dX0_copy_0 rfl (lv_at hl 0 rfl) ?_
  refine lv_iload_n hx hb dX0_copy_1 rfl (lv_at hl 1 rfl) ?_
  refine PM.ci (PM.runV (As := [.int x]) (rest := []) hX (K_X0_isFile l g h R V I dr md ed n F x) (cv_q462 hX ⟨Nat.le_of_ble_eq_true rfl, Nat.le_of_ble_eq_true rfl⟩) hZ.1 trivial (r_recv hX hZ.1 0 rfl rfl) rfl hl.1 rfl (Nat.le_of_ble_eq_true rfl) dX0_copy_2 ⟨Nat.zero_le _, Nat.zero_le _⟩) ?_
  refine lv_bif_eq (tgt := 15) hx hb dX0_copy_5 (by decide) (fun c_1 => ?_) (fun c_1 => ?_)
  · refine lv_bipush (v := (-101)) hx hb dX0_copy_15 (by decide) ?_
    exact MM.iret hX hr hlk hZ (by first | (simp only [cpyF, if_neg c_1]; done) | (simp only [cpyF, ix_nI (show f < 2 ^ 31 by omega), if_neg c_1])) (by first | (simp only [cpyR, if_neg c_1]; done) | (simp only [cpyR, ix_nI (show f < 2 ^ 31 by omega), if_neg c_1, pk_us]; done)) dX0_copy_17
  obtain ⟨f, hf, rfl⟩ := file_nat hn c_1
  refine lv_iload_n hx hb dX0_copy_8 rfl (lv_at hl 2 rfl) ?_
  refine PM.ci (PM.runS (As := [.int t]) (rest := []) hX (K_X0_isLetter l g t) (cs_q348 hX ⟨Nat.le_of_ble_eq_true rfl, Nat.le_of_ble_eq_true rfl⟩) va_P_nil trivial rfl hl.1 rfl (Nat.le_of_ble_eq_true rfl) dX0_copy_9 ⟨Nat.zero_le _, Nat.zero_le _⟩) ?_
  refine lv_bif_ne (tgt := 18) hx hb dX0_copy_12 (by decide) (fun c_2 => ?_) (fun c_2 => ?_)
  · refine lv_aload_n hx hb dX0_copy_18 rfl (lv_at hl 0 rfl) ?_
    refine gf_q148 (v := .ref (R 6)) hX hZ.1 0 rfl rfl dX0_copy_19 ?_
    refine lv_iload_n hx hb dX0_copy_22 rfl (lv_at hl 1 rfl) ?_
    refine lv_iload_n hx hb dX0_copy_23 rfl (lv_at hl 2 rfl) ?_
    refine PM.ci (PM.runV (As := [.int (nI f), .int t]) (rest := []) hX (K_X1_mayCopy l g h R I dr md ed n (R 6) (V 0) (V 1) (V 2) (F 1) (F 2) (F 3) f t kd (by omega) (by omega)) (cv_q543 hX ⟨Nat.le_of_ble_eq_true rfl, Nat.le_of_ble_eq_true rfl⟩) (hZ.1.sub (ws' := (wA g h R I dr md ed n (R 6) (V 0) (V 1) (V 2) (F 1) (F 2) (F 3))) [0, 1, 3, 4, 5, 6] rfl) hZ.ro (r_recv hX hZ.1 3 rfl rfl) rfl hl.1 rfl (Nat.le_of_ble_eq_true rfl) dX0_copy_24 ⟨Nat.zero_le _, Nat.zero_le _⟩) ?_
    refine lv_bif_ne (tgt := 33) hx hb dX0_copy_27 (by decide) (fun c_3 => ?_) (fun c_3 => ?_)
    · refine lv_aload_n hx hb dX0_copy_33 rfl (lv_at hl 0 rfl) ?_
      refine gf_q148 (v := .ref (R 6)) hX hZ.1 0 rfl rfl dX0_copy_34 ?_
      refine gf_q124 (v := .ref (V 0)) hX hZ.1 3 rfl rfl dX0_copy_37 ?_
      refine lv_iload_n hx hb dX0_copy_40 rfl (lv_at hl 1 rfl) ?_
      refine lv_dup2_11 hx hb dX0_copy_41 rfl rfl ?_
      refine r_iald (f := (F 1)) hX hZ.1 4 rfl f (by omega) (by omega) dX0_copy_42 ?_
      refine lv_iconst (v := 1) hx hb dX0_copy_43 (by decide) ?_
      refine lv_iload_n hx hb dX0_copy_44 rfl (lv_at hl 2 rfl) ?_
      refine lv_ishl hx hb dX0_copy_45 ?_
      refine lv_ior hx hb dX0_copy_46 ?_
      refine r_iast (f := (F 1)) (x := (((F 1) f) ||| ((1 : Int32) <<< (t &&& 31)))) (ws1 := (wC g h R V I dr md ed n (va_up F 1 (upd (F 1) f (((F 1) f) ||| ((1 : Int32) <<< (t &&& 31))))))) hX hZ 4 rfl f (by omega) (by omega) dX0_copy_47 rfl (fun H locs hZ => ?_)
      refine lv_aload_n hx hb dX0_copy_48 rfl (lv_at hl 0 rfl) ?_
      refine gf_q148 (v := .ref (R 6)) hX hZ.1 0 rfl rfl dX0_copy_49 ?_
      refine gf_q124 (v := .ref (V 0)) hX hZ.1 3 rfl rfl dX0_copy_52 ?_
      refine lv_iload_n hx hb dX0_copy_55 rfl (lv_at hl 1 rfl) ?_
      refine r_iald (f := (upd (F 1) f (((F 1) f) ||| ((1 : Int32) <<< (t &&& 31))))) hX hZ.1 4 rfl f (by omega) (by omega) dX0_copy_56 ?_
      refine PM.ci (PM.runS (As := [.int ((upd (F 1) f (((F 1) f) ||| ((1 : Int32) <<< (t &&& 31)))) f)]) (rest := []) hX (K_J10_bitCount l g ((upd (F 1) f (((F 1) f) ||| ((1 : Int32) <<< (t &&& 31)))) f)) (cs_q561 hX ⟨Nat.le_of_ble_eq_true rfl, Nat.le_of_ble_eq_true rfl⟩) va_P_nil trivial rfl hl.1 rfl (Nat.le_of_ble_eq_true rfl) dX0_copy_57 ⟨Nat.zero_le _, Nat.zero_le _⟩) ?_
      exact MM.iret hX hr hlk hZ (by first | (simp only [cpyF, if_pos c_1, if_pos c_2, if_pos c_3]; done) | (simp only [cpyF, ix_nI (show f < 2 ^ 31 by omega), if_pos c_1, if_pos c_2, if_pos c_3])) (by first | (simp only [cpyR, if_pos c_1, if_pos c_2, if_pos c_3]; done) | (simp only [cpyR, ix_nI (show f < 2 ^ 31 by omega), if_pos c_1, if_pos c_2, if_pos c_3, pk_us]; done)) dX0_copy_60
    refine lv_bipush (v := (-103)) hx hb dX0_copy_30 (by decide) ?_
    exact MM.iret hX hr hlk hZ (by first | (simp only [cpyF, if_pos c_1, if_pos c_2, if_neg c_3]; done) | (simp only [cpyF, ix_nI (show f < 2 ^ 31 by omega), if_pos c_1, if_pos c_2, if_neg c_3])) (by first | (simp only [cpyR, if_pos c_1, if_pos c_2, if_neg c_3]; done) | (simp only [cpyR, ix_nI (show f < 2 ^ 31 by omega), if_pos c_1, if_pos c_2, if_neg c_3, pk_us]; done)) dX0_copy_32
  refine lv_bipush (v := (-101)) hx hb dX0_copy_15 (by decide) ?_
  exact MM.iret hX hr hlk hZ (by first | (simp only [cpyF, if_pos c_1, if_neg c_2]; done) | (simp only [cpyF, ix_nI (show f < 2 ^ 31 by omega), if_pos c_1, if_neg c_2])) (by first | (simp only [cpyR, if_pos c_1, if_neg c_2]; done) | (simp only [cpyR, ix_nI (show f < 2 ^ 31 by omega), if_pos c_1, if_neg c_2, pk_us]; done)) dX0_copy_17

set_option maxHeartbeats 400000 in
set_option maxRecDepth 100000 in
theorem K_X0_rename (l : Launch) (g : Gx) (h : Nat) (R : Nat → Nat) (V : Nat → Nat) (I : Nat → Int32) (dr : Int64) (md : Int32) (ed : Nat) (n : Nat) (F : Nat → Nat → Int32) (x : Int32) (a : Int32) (b : Int32) (hn : n ≤ 5) (hrk : RoK roT (wC g h R V I dr md ed n F)) : MM l g yX0_rename cX0_rename 4 (some .int) 3 [.ref h, .int x, .int a, .int b] roT (wC g h R V I dr md ed n F) (wC g h R V I dr md ed n (renF I F n x a b)) (some (.int (renR I F n x a b))) := by
  refine MM.of (own := "BurntLetters") (by decide) rfl (Nat.le_of_ble_eq_true rfl) hrk ?_
  intro p e s m below meth c A hX hr hlk hZ ls hl
  have hx := hX.1.1
  have hb := hX.1.2.1
  have hl : lv_has ls 4 [(0, .ref h), (1, .int x), (2, .int a), (3, .int b)] := hl
  refine lv_aload_n hx hb dX0_rename_0 rfl (lv_at hl 0 rfl) ?_
  refine lv_iload_n hx hb dX0_rename_1 rfl (lv_at hl 1 rfl) ?_
  refine PM.ci (PM.runV (As := [.int x]) (rest := []) hX (K_X0_isFile l g h R V I dr md ed n F x) (cv_q462 hX ⟨Nat.le_of_ble_eq_true rfl, Nat.le_of_ble_eq_true rfl⟩) hZ.1 trivial (r_recv hX hZ.1 0 rfl rfl) rfl hl.1 rfl (Nat.le_of_ble_eq_true rfl) dX0_rename_2 ⟨Nat.zero_le _, Nat.zero_le _⟩) ?_
  refine lv_bif_eq (tgt := 27) hx hb dX0_rename_5 (by decide) (fun c_1 => ?_) (fun c_1 => ?_)
  · refine lv_bipush (v := (-101)) hx hb dX0_rename_27 (by decide) ?_
    exact MM.iret hX hr hlk hZ (by first | (simp only [renF, if_neg c_1]; done) | (simp only [renF, ix_nI (show f < 2 ^ 31 by omega), if_neg c_1])) (by first | (simp only [renR, if_neg c_1]; done) | (simp only [renR, ix_nI (show f < 2 ^ 31 by omega), if_neg c_1]; done)) dX0_rename_29
  obtain ⟨f, hf, rfl⟩ := file_nat hn c_1
  refine lv_iload_n hx hb dX0_rename_8 rfl (lv_at hl 2 rfl) ?_
  refine PM.ci (PM.runS (As := [.int a]) (rest := []) hX (K_X0_isLetter l g a) (cs_q348 hX ⟨Nat.le_of_ble_eq_true rfl, Nat.le_of_ble_eq_true rfl⟩) va_P_nil trivial rfl hl.1 rfl (Nat.le_of_ble_eq_true rfl) dX0_rename_9 ⟨Nat.zero_le _, Nat.zero_le _⟩) ?_
  refine lv_bif_eq (tgt := 27) hx hb dX0_rename_12 (by decide) (fun c_2 => ?_) (fun c_2 => ?_)
  · refine lv_bipush (v := (-101)) hx hb dX0_rename_27 (by decide) ?_
    exact MM.iret hX hr hlk hZ (by first | (simp only [renF, if_pos c_1, if_neg c_2]; done) | (simp only [renF, ix_nI (show f < 2 ^ 31 by omega), if_pos c_1, if_neg c_2])) (by first | (simp only [renR, if_pos c_1, if_neg c_2]; done) | (simp only [renR, ix_nI (show f < 2 ^ 31 by omega), if_pos c_1, if_neg c_2]; done)) dX0_rename_29
  refine lv_iload_n hx hb dX0_rename_15 rfl (lv_at hl 3 rfl) ?_
  refine PM.ci (PM.runS (As := [.int b]) (rest := []) hX (K_X0_isLetter l g b) (cs_q348 hX ⟨Nat.le_of_ble_eq_true rfl, Nat.le_of_ble_eq_true rfl⟩) va_P_nil trivial rfl hl.1 rfl (Nat.le_of_ble_eq_true rfl) dX0_rename_16 ⟨Nat.zero_le _, Nat.zero_le _⟩) ?_
  refine lv_bif_eq (tgt := 27) hx hb dX0_rename_19 (by decide) (fun c_3 => ?_) (fun c_3 => ?_)
  · refine lv_bipush (v := (-101)) hx hb dX0_rename_27 (by decide) ?_
    exact MM.iret hX hr hlk hZ (by first | (simp only [renF, if_pos c_1, if_pos c_2, if_neg c_3]; done) | (simp only [renF, ix_nI (show f < 2 ^ 31 by omega), if_pos c_1, if_pos c_2, if_neg c_3])) (by first | (simp only [renR, if_pos c_1, if_pos c_2, if_neg c_3]; done) | (simp only [renR, ix_nI (show f < 2 ^ 31 by omega), if_pos c_1, if_pos c_2, if_neg c_3]; done)) dX0_rename_29
  refine lv_iload_n hx hb dX0_rename_22 rfl (lv_at hl 2 rfl) ?_
  refine lv_iload_n hx hb dX0_rename_23 rfl (lv_at hl 3 rfl) ?_
  refine lv_icmp_ne (tgt := 30) hx hb dX0_rename_24 (by decide) (fun c_4 => ?_) (fun c_4 => ?_)
  · refine lv_aload_n hx hb dX0_rename_30 rfl (lv_at hl 0 rfl) ?_
    refine gf_q148 (v := .ref (R 6)) hX hZ.1 0 rfl rfl dX0_rename_31 ?_
    refine lv_iload_n hx hb dX0_rename_34 rfl (lv_at hl 1 rfl) ?_
    refine lv_iload_n hx hb dX0_rename_35 rfl (lv_at hl 2 rfl) ?_
    refine lv_iload_n hx hb dX0_rename_36 rfl (lv_at hl 3 rfl) ?_
    refine PM.ci (PM.runV (As := [.int (nI f), .int a, .int b]) (rest := []) hX (K_X1_mayRename l g h R I dr md ed n (R 6) (V 0) (V 1) (V 2) (F 1) (F 2) (F 3) f a b (by omega) (by omega)) (cv_q566 hX ⟨Nat.le_of_ble_eq_true rfl, Nat.le_of_ble_eq_true rfl⟩) (hZ.1.sub (ws' := (wA g h R I dr md ed n (R 6) (V 0) (V 1) (V 2) (F 1) (F 2) (F 3))) [0, 1, 3, 4, 5, 6] rfl) trivial (r_recv hX hZ.1 3 rfl rfl) rfl hl.1 rfl (Nat.le_of_ble_eq_true rfl) dX0_rename_37 ⟨Nat.zero_le _, Nat.zero_le _⟩) ?_
    refine lv_bif_ne (tgt := 46) hx hb dX0_rename_40 (by decide) (fun c_5 => ?_) (fun c_5 => ?_)
    · refine lv_aload_n hx hb dX0_rename_46 rfl (lv_at hl 0 rfl) ?_
      refine gf_q148 (v := .ref (R 6)) hX hZ.1 0 rfl rfl dX0_rename_47 ?_
      refine lv_iload_n hx hb dX0_rename_50 rfl (lv_at hl 1 rfl) ?_
      refine lv_iload_n hx hb dX0_rename_51 rfl (lv_at hl 2 rfl) ?_
      refine lv_iload_n hx hb dX0_rename_52 rfl (lv_at hl 3 rfl) ?_
      refine MM.cv (MM.runV (As := [.int (nI f), .int a, .int b]) (rest := []) hX (K_X1_rename l g h R I dr md ed n (R 6) (V 0) (V 1) (V 2) (F 1) (F 2) (F 3) f a b (by omega) (RoK.tt _)) (cv_q570 hX ⟨Nat.le_of_ble_eq_true rfl, Nat.le_of_ble_eq_true rfl⟩) (hZ.1.sub (ws' := (wA g h R I dr md ed n (R 6) (V 0) (V 1) (V 2) (F 1) (F 2) (F 3))) [0, 1, 3, 4, 5, 6] rfl) (hZ.2.1.sub (ws' := (wA g h R I dr md ed n (R 6) (V 0) (V 1) (V 2) (F 1) (F 2) (F 3))) [0, 1, 3, 4, 5, 6] (by decide) rfl) trivial (r_recv hX hZ.1 3 rfl rfl) rfl hl.1 rfl (Nat.le_of_ble_eq_true rfl) dX0_rename_53 ⟨Nat.zero_le _, Nat.zero_le _⟩) hZ (ws1 := (wC g h R V I dr md ed n (va_up F 1 (rnF (F 1) f a b)))) [0, 1, 3, 4, 5, 6] rfl rfl rfl rfl (fun H locs hZ => ?_)
      refine lv_aload_n hx hb dX0_rename_56 rfl (lv_at hl 0 rfl) ?_
      refine gf_q148 (v := .ref (R 6)) hX hZ.1 0 rfl rfl dX0_rename_57 ?_
      refine lv_iload_n hx hb dX0_rename_60 rfl (lv_at hl 3 rfl) ?_
      refine PM.ci (PM.runV (As := [.int b]) (rest := []) hX (K_X1_under l g h R I dr md ed n (R 6) (V 0) (V 1) (V 2) (rnF (F 1) f a b) (F 2) (F 3) b (by omega)) (cv_q351 hX ⟨Nat.le_of_ble_eq_true rfl, Nat.le_of_ble_eq_true rfl⟩) (hZ.1.sub (ws' := (wA g h R I dr md ed n (R 6) (V 0) (V 1) (V 2) (rnF (F 1) f a b) (F 2) (F 3))) [0, 1, 3, 4, 5, 6] rfl) trivial (r_recv hX hZ.1 3 rfl rfl) rfl hl.1 rfl (Nat.le_of_ble_eq_true rfl) dX0_rename_61 ⟨Nat.zero_le _, Nat.zero_le _⟩) ?_
      exact MM.iret hX hr hlk hZ (by first | (simp only [renF, if_pos c_1, if_pos c_2, if_pos c_3, if_neg c_4, if_pos c_5]; done) | (simp only [renF, ix_nI (show f < 2 ^ 31 by omega), if_pos c_1, if_pos c_2, if_pos c_3, if_neg c_4, if_pos c_5])) (by first | (simp only [renR, if_pos c_1, if_pos c_2, if_pos c_3, if_neg c_4, if_pos c_5]; done) | (simp only [renR, ix_nI (show f < 2 ^ 31 by omega), if_pos c_1, if_pos c_2, if_pos c_3, if_neg c_4, if_pos c_5]; done)) dX0_rename_64
    refine lv_bipush (v := (-103)) hx hb dX0_rename_43 (by decide) ?_
    exact MM.iret hX hr hlk hZ (by first | (simp only [renF, if_pos c_1, if_pos c_2, if_pos c_3, if_neg c_4, if_neg c_5]; done) | (simp only [renF, ix_nI (show f < 2 ^ 31 by omega), if_pos c_1, if_pos c_2, if_pos c_3, if_neg c_4, if_neg c_5])) (by first | (simp only [renR, if_pos c_1, if_pos c_2, if_pos c_3, if_neg c_4, if_neg c_5]; done) | (simp only [renR, ix_nI (show f < 2 ^ 31 by omega), if_pos c_1, if_pos c_2, if_pos c_3, if_neg c_4, if_neg c_5]; done)) dX0_rename_45
  refine lv_bipush (v := (-101)) hx hb dX0_rename_27 (by decide) ?_
  exact MM.iret hX hr hlk hZ (by first | (simp only [renF, if_pos c_1, if_pos c_2, if_pos c_3, if_pos c_4]; done) | (simp only [renF, ix_nI (show f < 2 ^ 31 by omega), if_pos c_1, if_pos c_2, if_pos c_3, if_pos c_4])) (by first | (simp only [renR, if_pos c_1, if_pos c_2, if_pos c_3, if_pos c_4]; done) | (simp only [renR, ix_nI (show f < 2 ^ 31 by omega), if_pos c_1, if_pos c_2, if_pos c_3, if_pos c_4]; done)) dX0_rename_29

set_option maxHeartbeats 400000 in
set_option maxRecDepth 100000 in
theorem K_X0_point (l : Launch) (g : Gx) (h : Nat) (R : Nat → Nat) (V : Nat → Nat) (I : Nat → Int32) (dr : Int64) (md : Int32) (ed : Nat) (n : Nat) (F : Nat → Nat → Int32) (x : Int32) (t : Int32) (hn : n ≤ 5) (hrk : RoK roT (wC g h R V I dr md ed n F)) : MM l g yX0_point cX0_point 4 (some .int) 2 [.ref h, .int x, .int t] roT (wC g h R V I dr md ed n F) (wC g h R V I dr md ed n (poiF F n x t)) (some (.int (poiR F n x t))) := by
  refine MM.of (own := "BurntLetters") (by decide) rfl (Nat.le_of_ble_eq_true rfl) hrk ?_
  intro p e s m below meth c A hX hr hlk hZ ls hl
  have hx := hX.1.1
  have hb := hX.1.2.1
  have hl : lv_has ls 4 [(0, .ref h), (1, .int x), (2, .int t)] := hl
  refine lv_aload_n hx hb dX0_point_0 rfl (lv_at hl 0 rfl) ?_
  refine lv_iload_n hx hb dX0_point_1 rfl (lv_at hl 1 rfl) ?_
  refine PM.ci (PM.runV (As := [.int x]) (rest := []) hX (K_X0_isFile l g h R V I dr md ed n F x) (cv_q462 hX ⟨Nat.le_of_ble_eq_true rfl, Nat.le_of_ble_eq_true rfl⟩) hZ.1 trivial (r_recv hX hZ.1 0 rfl rfl) rfl hl.1 rfl (Nat.le_of_ble_eq_true rfl) dX0_point_2 ⟨Nat.zero_le _, Nat.zero_le _⟩) ?_
  refine lv_bif_eq (tgt := 26) hx hb dX0_point_5 (by decide) (fun c_1 => ?_) (fun c_1 => ?_)
  · refine lv_bipush (v := (-101)) hx hb dX0_point_26 (by decide) ?_
    exact MM.iret hX hr hlk hZ (by first | (simp only [poiF, if_neg c_1]; done) | (simp only [poiF, ix_nI (show f < 2 ^ 31 by omega), if_neg c_1])) (by first | (simp only [poiR, if_neg c_1]; done) | (simp only [poiR, ix_nI (show f < 2 ^ 31 by omega), if_neg c_1]; done)) dX0_point_28
  obtain ⟨f, hf, rfl⟩ := file_nat hn c_1
  refine lv_iload_n hx hb dX0_point_8 rfl (lv_at hl 2 rfl) ?_
  refine lv_iconst (v := (-1)) hx hb dX0_point_9 (by decide) ?_
  refine lv_icmp_eq (tgt := 21) hx hb dX0_point_10 (by decide) (fun c_2 => ?_) (fun c_2 => ?_)
  · refine lv_iload_n hx hb dX0_point_21 rfl (lv_at hl 2 rfl) ?_
    refine lv_iload_n hx hb dX0_point_22 rfl (lv_at hl 1 rfl) ?_
    refine lv_icmp_ne (tgt := 29) hx hb dX0_point_23 (by decide) (fun c_3 => ?_) (fun c_3 => ?_)
    · refine lv_aload_n hx hb dX0_point_29 rfl (lv_at hl 0 rfl) ?_
      refine gf_q148 (v := .ref (R 6)) hX hZ.1 0 rfl rfl dX0_point_30 ?_
      refine lv_iload_n hx hb dX0_point_33 rfl (lv_at hl 1 rfl) ?_
      refine PM.ci (PM.runV (As := [.int (nI f)]) (rest := []) hX (K_X1_lives l g h R I dr md ed n (R 6) (V 0) (V 1) (V 2) (F 1) (F 2) (F 3) f (by omega)) (cv_q501 hX ⟨Nat.le_of_ble_eq_true rfl, Nat.le_of_ble_eq_true rfl⟩) (hZ.1.sub (ws' := (wA g h R I dr md ed n (R 6) (V 0) (V 1) (V 2) (F 1) (F 2) (F 3))) [0, 1, 3, 4, 5, 6] rfl) trivial (r_recv hX hZ.1 3 rfl rfl) rfl hl.1 rfl (Nat.le_of_ble_eq_true rfl) dX0_point_34 ⟨Nat.zero_le _, Nat.zero_le _⟩) ?_
      refine lv_bif_ne (tgt := 43) hx hb dX0_point_37 (by decide) (fun c_4 => ?_) (fun c_4 => ?_)
      · refine lv_aload_n hx hb dX0_point_43 rfl (lv_at hl 0 rfl) ?_
        refine gf_q148 (v := .ref (R 6)) hX hZ.1 0 rfl rfl dX0_point_44 ?_
        refine gf_q126 (v := .ref (V 1)) hX hZ.1 3 rfl rfl dX0_point_47 ?_
        refine lv_iload_n hx hb dX0_point_50 rfl (lv_at hl 1 rfl) ?_
        refine r_iald (f := (F 2)) hX hZ.1 5 rfl f (by omega) (by omega) dX0_point_51 ?_
        refine lv_istore_n (lv' := [(3, .int ((F 2) f)), (0, .ref h), (1, .int (nI f)), (2, .int t)]) hx hb dX0_point_52 rfl hl (by decide) rfl (fun ls hl => ?_)
        refine lv_aload_n hx hb dX0_point_53 rfl (lv_at hl 1 rfl) ?_
        refine gf_q148 (v := .ref (R 6)) hX hZ.1 0 rfl rfl dX0_point_54 ?_
        refine gf_q126 (v := .ref (V 1)) hX hZ.1 3 rfl rfl dX0_point_57 ?_
        refine lv_iload_n hx hb dX0_point_60 rfl (lv_at hl 2 rfl) ?_
        refine lv_iload_n hx hb dX0_point_61 rfl (lv_at hl 3 rfl) ?_
        refine r_iast (f := (F 2)) (x := t) (ws1 := (wC g h R V I dr md ed n (va_up F 2 (upd (F 2) f t)))) hX hZ 5 rfl f (by omega) (by omega) dX0_point_62 rfl (fun H locs hZ => ?_)
        refine lv_iload_n hx hb dX0_point_63 rfl (lv_at hl 0 rfl) ?_
        exact MM.iret hX hr hlk hZ (by first | (simp only [poiF, if_pos c_1, if_pos c_2, if_neg c_3, if_neg c_4]; done) | (simp only [poiF, ix_nI (show f < 2 ^ 31 by omega), if_pos c_1, if_pos c_2, if_neg c_3, if_neg c_4])) (by first | (simp only [poiR, if_pos c_1, if_pos c_2, if_neg c_3, if_neg c_4]; done) | (simp only [poiR, ix_nI (show f < 2 ^ 31 by omega), if_pos c_1, if_pos c_2, if_neg c_3, if_neg c_4]; done)) dX0_point_64
      have c_4 := Decidable.of_not_not c_4
      refine lv_bipush (v := (-103)) hx hb dX0_point_40 (by decide) ?_
      exact MM.iret hX hr hlk hZ (by first | (simp only [poiF, if_pos c_1, if_pos c_2, if_neg c_3, if_pos c_4]; done) | (simp only [poiF, ix_nI (show f < 2 ^ 31 by omega), if_pos c_1, if_pos c_2, if_neg c_3, if_pos c_4])) (by first | (simp only [poiR, if_pos c_1, if_pos c_2, if_neg c_3, if_pos c_4]; done) | (simp only [poiR, ix_nI (show f < 2 ^ 31 by omega), if_pos c_1, if_pos c_2, if_neg c_3, if_pos c_4]; done)) dX0_point_42
    refine lv_bipush (v := (-101)) hx hb dX0_point_26 (by decide) ?_
    exact MM.iret hX hr hlk hZ (by first | (simp only [poiF, if_pos c_1, if_pos c_2, if_pos c_3]; done) | (simp only [poiF, ix_nI (show f < 2 ^ 31 by omega), if_pos c_1, if_pos c_2, if_pos c_3])) (by first | (simp only [poiR, if_pos c_1, if_pos c_2, if_pos c_3]; done) | (simp only [poiR, ix_nI (show f < 2 ^ 31 by omega), if_pos c_1, if_pos c_2, if_pos c_3]; done)) dX0_point_28
  refine lv_aload_n hx hb dX0_point_13 rfl (lv_at hl 0 rfl) ?_
  refine lv_iload_n hx hb dX0_point_14 rfl (lv_at hl 2 rfl) ?_
  refine PM.ci (PM.runV (As := [.int t]) (rest := []) hX (K_X0_isFile l g h R V I dr md ed n F t) (cv_q462 hX ⟨Nat.le_of_ble_eq_true rfl, Nat.le_of_ble_eq_true rfl⟩) hZ.1 trivial (r_recv hX hZ.1 0 rfl rfl) rfl hl.1 rfl (Nat.le_of_ble_eq_true rfl) dX0_point_15 ⟨Nat.zero_le _, Nat.zero_le _⟩) ?_
  refine lv_bif_eq (tgt := 26) hx hb dX0_point_18 (by decide) (fun c_5 => ?_) (fun c_5 => ?_)
  · refine lv_bipush (v := (-101)) hx hb dX0_point_26 (by decide) ?_
    exact MM.iret hX hr hlk hZ (by first | (simp only [poiF, if_pos c_1, if_neg c_2, if_neg c_5]; done) | (simp only [poiF, ix_nI (show f < 2 ^ 31 by omega), if_pos c_1, if_neg c_2, if_neg c_5])) (by first | (simp only [poiR, if_pos c_1, if_neg c_2, if_neg c_5]; done) | (simp only [poiR, ix_nI (show f < 2 ^ 31 by omega), if_pos c_1, if_neg c_2, if_neg c_5]; done)) dX0_point_28
  refine lv_iload_n hx hb dX0_point_21 rfl (lv_at hl 2 rfl) ?_
  refine lv_iload_n hx hb dX0_point_22 rfl (lv_at hl 1 rfl) ?_
  refine lv_icmp_ne (tgt := 29) hx hb dX0_point_23 (by decide) (fun c_6 => ?_) (fun c_6 => ?_)
  · refine lv_aload_n hx hb dX0_point_29 rfl (lv_at hl 0 rfl) ?_
    refine gf_q148 (v := .ref (R 6)) hX hZ.1 0 rfl rfl dX0_point_30 ?_
    refine lv_iload_n hx hb dX0_point_33 rfl (lv_at hl 1 rfl) ?_
    refine PM.ci (PM.runV (As := [.int (nI f)]) (rest := []) hX (K_X1_lives l g h R I dr md ed n (R 6) (V 0) (V 1) (V 2) (F 1) (F 2) (F 3) f (by omega)) (cv_q501 hX ⟨Nat.le_of_ble_eq_true rfl, Nat.le_of_ble_eq_true rfl⟩) (hZ.1.sub (ws' := (wA g h R I dr md ed n (R 6) (V 0) (V 1) (V 2) (F 1) (F 2) (F 3))) [0, 1, 3, 4, 5, 6] rfl) trivial (r_recv hX hZ.1 3 rfl rfl) rfl hl.1 rfl (Nat.le_of_ble_eq_true rfl) dX0_point_34 ⟨Nat.zero_le _, Nat.zero_le _⟩) ?_
    refine lv_bif_ne (tgt := 43) hx hb dX0_point_37 (by decide) (fun c_7 => ?_) (fun c_7 => ?_)
    · refine lv_aload_n hx hb dX0_point_43 rfl (lv_at hl 0 rfl) ?_
      refine gf_q148 (v := .ref (R 6)) hX hZ.1 0 rfl rfl dX0_point_44 ?_
      refine gf_q126 (v := .ref (V 1)) hX hZ.1 3 rfl rfl dX0_point_47 ?_
      refine lv_iload_n hx hb dX0_point_50 rfl (lv_at hl 1 rfl) ?_
      refine r_iald (f := (F 2)) hX hZ.1 5 rfl f (by omega) (by omega) dX0_point_51 ?_
      refine lv_istore_n (lv' := [(3, .int ((F 2) f)), (0, .ref h), (1, .int (nI f)), (2, .int t)]) hx hb dX0_point_52 rfl hl (by decide) rfl (fun ls hl => ?_)
      refine lv_aload_n hx hb dX0_point_53 rfl (lv_at hl 1 rfl) ?_
      refine gf_q148 (v := .ref (R 6)) hX hZ.1 0 rfl rfl dX0_point_54 ?_
      refine gf_q126 (v := .ref (V 1)) hX hZ.1 3 rfl rfl dX0_point_57 ?_
      refine lv_iload_n hx hb dX0_point_60 rfl (lv_at hl 2 rfl) ?_
      refine lv_iload_n hx hb dX0_point_61 rfl (lv_at hl 3 rfl) ?_
      refine r_iast (f := (F 2)) (x := t) (ws1 := (wC g h R V I dr md ed n (va_up F 2 (upd (F 2) f t)))) hX hZ 5 rfl f (by omega) (by omega) dX0_point_62 rfl (fun H locs hZ => ?_)
      refine lv_iload_n hx hb dX0_point_63 rfl (lv_at hl 0 rfl) ?_
      exact MM.iret hX hr hlk hZ (by first | (simp only [poiF, if_pos c_1, if_neg c_2, if_pos c_5, if_neg c_6, if_neg c_7]; done) | (simp only [poiF, ix_nI (show f < 2 ^ 31 by omega), if_pos c_1, if_neg c_2, if_pos c_5, if_neg c_6, if_neg c_7])) (by first | (simp only [poiR, if_pos c_1, if_neg c_2, if_pos c_5, if_neg c_6, if_neg c_7]; done) | (simp only [poiR, ix_nI (show f < 2 ^ 31 by omega), if_pos c_1, if_neg c_2, if_pos c_5, if_neg c_6, if_neg c_7]; done)) dX0_point_64
    have c_7 := Decidable.of_not_not c_7
    refine lv_bipush (v := (-103)) hx hb dX0_point_40 (by decide) ?_
    exact MM.iret hX hr hlk hZ (by first | (simp only [poiF, if_pos c_1, if_neg c_2, if_pos c_5, if_neg c_6, if_pos c_7]; done) | (simp only [poiF, ix_nI (show f < 2 ^ 31 by omega), if_pos c_1, if_neg c_2, if_pos c_5, if_neg c_6, if_pos c_7])) (by first | (simp only [poiR, if_pos c_1, if_neg c_2, if_pos c_5, if_neg c_6, if_pos c_7]; done) | (simp only [poiR, ix_nI (show f < 2 ^ 31 by omega), if_pos c_1, if_neg c_2, if_pos c_5, if_neg c_6, if_pos c_7]; done)) dX0_point_42
  refine lv_bipush (v := (-101)) hx hb dX0_point_26 (by decide) ?_
  exact MM.iret hX hr hlk hZ (by first | (simp only [poiF, if_pos c_1, if_neg c_2, if_pos c_5, if_pos c_6]; done) | (simp only [poiF, ix_nI (show f < 2 ^ 31 by omega), if_pos c_1, if_neg c_2, if_pos c_5, if_pos c_6])) (by first | (simp only [poiR, if_pos c_1, if_neg c_2, if_pos c_5, if_pos c_6]; done) | (simp only [poiR, ix_nI (show f < 2 ^ 31 by omega), if_pos c_1, if_neg c_2, if_pos c_5, if_pos c_6]; done)) dX0_point_28

set_option maxHeartbeats 400000 in
set_option maxRecDepth 100000 in
theorem K_X0_burn (l : Launch) (g : Gx) (h : Nat) (R : Nat → Nat) (V : Nat → Nat) (I : Nat → Int32) (dr : Int64) (md : Int32) (ed : Nat) (n : Nat) (F : Nat → Nat → Int32) (t : Int32) (kd : Nat → Nat) (hn : n ≤ 5) (hrk : RoK (roP g ed n kd) (wC g h R V I dr md ed n F)) : MM l g yX0_burn cX0_burn 2 (some .int) 6 [.ref h, .int t] (roP g ed n kd) (wC g h R V I dr md ed n F) (wC g h R V (burI I t) dr md ed n (burF kd I F n t)) (some (.int (burR kd I F n t))) := by
  refine MM.of (own := "BurntLetters") (by decide) rfl (Nat.le_of_ble_eq_true rfl) hrk ?_
  intro p e s m below meth c A hX hr hlk hZ ls hl
  have hx := hX.1.1
  have hb := hX.1.2.1
  have hl : lv_has ls 2 [(0, .ref h), (1, .int t)] := hl
  refine lv_iload_n hx hb dX0_burn_0 rfl (lv_at hl 1 rfl) ?_
  refine PM.ci (PM.runS (As := [.int t]) (rest := []) hX (K_X0_isLetter l g t) (cs_q348 hX ⟨Nat.le_of_ble_eq_true rfl, Nat.le_of_ble_eq_true rfl⟩) va_P_nil trivial rfl hl.1 rfl (Nat.le_of_ble_eq_true rfl) dX0_burn_1 ⟨Nat.zero_le _, Nat.zero_le _⟩) ?_
  refine lv_bif_ne (tgt := 10) hx hb dX0_burn_4 (by decide) (fun c_1 => ?_) (fun c_1 => ?_)
  · refine lv_aload_n hx hb dX0_burn_10 rfl (lv_at hl 0 rfl) ?_
    refine gf_q142 (v := .int (I 1)) hX hZ.1 0 rfl rfl dX0_burn_11 ?_
    refine lv_if_ne (tgt := 20) hx hb dX0_burn_14 (by decide) (fun c_2 => ?_) (fun c_2 => ?_)
    · refine lv_aload_n hx hb dX0_burn_20 rfl (lv_at hl 0 rfl) ?_
      refine lv_dup hx hb dX0_burn_21 rfl ?_
      refine gf_q147 (v := .int (I 5)) hX hZ.1 0 rfl rfl dX0_burn_22 ?_
      refine lv_iconst (v := 1) hx hb dX0_burn_25 (by decide) ?_
      refine lv_iadd hx hb dX0_burn_26 ?_
      refine pf_q147 (ws1 := (wC g h R V (upd I 5 ((I 5) + 1)) dr md ed n F)) hX hZ 0 rfl (Nat.le_of_ble_eq_true rfl) rfl dX0_burn_27 (fun H locs hZ => ?_)
      refine lv_aload_n hx hb dX0_burn_30 rfl (lv_at hl 0 rfl) ?_
      refine gf_q148 (v := .ref (R 6)) hX hZ.1 0 rfl rfl dX0_burn_31 ?_
      refine lv_iload_n hx hb dX0_burn_34 rfl (lv_at hl 1 rfl) ?_
      refine MM.ci (MM.runV (As := [.int t]) (rest := []) hX (K_X1_burn l g h R (upd I 5 ((I 5) + 1)) dr md ed n (R 6) (V 0) (V 1) (V 2) (F 1) (F 2) (F 3) t kd (by omega) (hrk.sub' [0, 1, 3, 4, 5, 6] rfl)) (cv_q582 hX ⟨Nat.le_of_ble_eq_true rfl, Nat.le_of_ble_eq_true rfl⟩) (hZ.1.sub (ws' := (wA g h R (upd I 5 ((I 5) + 1)) dr md ed n (R 6) (V 0) (V 1) (V 2) (F 1) (F 2) (F 3))) [0, 1, 3, 4, 5, 6] rfl) (hZ.2.1.sub (ws' := (wA g h R (upd I 5 ((I 5) + 1)) dr md ed n (R 6) (V 0) (V 1) (V 2) (F 1) (F 2) (F 3))) [0, 1, 3, 4, 5, 6] (by decide) rfl) hZ.ro (r_recv hX hZ.1 3 rfl rfl) rfl hl.1 rfl (Nat.le_of_ble_eq_true rfl) dX0_burn_35 ⟨Nat.zero_le _, Nat.zero_le _⟩) hZ (ws1 := (wC g h R V (upd I 5 ((I 5) + 1)) dr md ed n (va_up (va_up F 1 (brL kd ((upd I 5 ((I 5) + 1)) 3) (F 2) (F 1) (F 3) t n)) 3 (brK kd (F 2) (F 1) (F 3) t n)))) [0, 1, 3, 4, 5, 6] rfl rfl rfl rfl (fun H locs hZ => ?_)
      exact MM.iret hX hr hlk hZ (by first | (simp only [burI, burF, if_pos c_1, if_neg c_2]; done) | (simp only [burI, burF, if_pos c_1, if_neg c_2]; rfl)) (by first | (simp only [burR, if_pos c_1, if_neg c_2]; done) | (simp only [burR, if_pos c_1, if_neg c_2]; rfl)) dX0_burn_38
    refine lv_bipush (v := (-103)) hx hb dX0_burn_17 (by decide) ?_
    exact MM.iret hX hr hlk hZ (by first | (simp only [burI, burF, if_pos c_1, if_pos c_2]; done) | (simp only [burI, burF, if_pos c_1, if_pos c_2]; rfl)) (by first | (simp only [burR, if_pos c_1, if_pos c_2]; done) | (simp only [burR, if_pos c_1, if_pos c_2]; rfl)) dX0_burn_19
  refine lv_bipush (v := (-101)) hx hb dX0_burn_7 (by decide) ?_
  exact MM.iret hX hr hlk hZ (by first | (simp only [burI, burF, if_neg c_1]; done) | (simp only [burI, burF, if_neg c_1]; rfl)) (by first | (simp only [burR, if_neg c_1]; done) | (simp only [burR, if_neg c_1]; rfl)) dX0_burn_9

set_option maxHeartbeats 400000 in
set_option maxRecDepth 100000 in
theorem K_X0_ashes (l : Launch) (g : Gx) (h : Nat) (R : Nat → Nat) (V : Nat → Nat) (I : Nat → Int32) (dr : Int64) (md : Int32) (ed : Nat) (n : Nat) (F : Nat → Nat → Int32) (x : Int32) (am : Nat) (hn : n ≤ 5) (ham : I 13 = nI am) (ham2 : am ≤ 5) (hrk : RoK roT (wC g h R V I dr md ed n F)) : MM l g yX0_ashes cX0_ashes 2 (some .int) 1 [.ref h, .int x] roT (wC g h R V I dr md ed n F) (wC g h R V (ashI I n x) dr md ed n (ashF I F n x)) (some (.int (ashR I n x))) := by
  refine MM.of (own := "BurntLetters") (by decide) rfl (Nat.le_of_ble_eq_true rfl) hrk ?_
  intro p e s m below meth c A hX hr hlk hZ ls hl
  have hx := hX.1.1
  have hb := hX.1.2.1
  have hl : lv_has ls 2 [(0, .ref h), (1, .int x)] := hl
  refine lv_iload_n hx hb dX0_ashes_0 rfl (lv_at hl 1 rfl) ?_
  refine lv_iconst (v := (-1)) hx hb dX0_ashes_1 (by decide) ?_
  refine lv_icmp_eq (tgt := 27) hx hb dX0_ashes_2 (by decide) (fun c_1 => ?_) (fun c_1 => ?_)
  · refine lv_aload_n hx hb dX0_ashes_27 rfl (lv_at hl 0 rfl) ?_
    refine gf_q157 (v := .int (I 13)) hX hZ.1 0 rfl rfl dX0_ashes_28 ?_
    refine lv_seti (v := (nI am)) (ham) ?_
    refine lv_iconst (v := 5) hx hb dX0_ashes_31 (by decide) ?_
    refine lv_icmp_ne (tgt := 38) hx hb dX0_ashes_32 (by decide) (fun c_2 => ?_) (fun c_2 => ?_)
    · have c_2n : ¬ am = 5 := fun zz_ => c_2 ((nI_eq (a := am) (b := 5) (by omega) (by omega)).mpr zz_)
      refine lv_aload_n hx hb dX0_ashes_38 rfl (lv_at hl 0 rfl) ?_
      refine gf_q158 (v := .ref (R 14)) hX hZ.1 0 rfl rfl dX0_ashes_39 ?_
      refine lv_aload_n hx hb dX0_ashes_42 rfl (lv_at hl 0 rfl) ?_
      refine gf_q157 (v := .int (I 13)) hX hZ.1 0 rfl rfl dX0_ashes_43 ?_
      refine lv_seti (v := (nI am)) (ham) ?_
      refine lv_iload_n hx hb dX0_ashes_46 rfl (lv_at hl 1 rfl) ?_
      refine r_iast (f := (F 11)) (x := x) (ws1 := (wC g h R V I dr md ed n (va_up F 11 (upd (F 11) am x)))) hX hZ 16 rfl am (by omega) (by omega) dX0_ashes_47 rfl (fun H locs hZ => ?_)
      refine lv_aload_n hx hb dX0_ashes_48 rfl (lv_at hl 0 rfl) ?_
      refine lv_dup hx hb dX0_ashes_49 rfl ?_
      refine gf_q157 (v := .int (I 13)) hX hZ.1 0 rfl rfl dX0_ashes_50 ?_
      refine lv_seti (v := (nI am)) (ham) ?_
      refine lv_iconst (v := 1) hx hb dX0_ashes_53 (by decide) ?_
      refine lv_iadd hx hb dX0_ashes_54 ?_
      refine lv_seti (v := (nI (am + 1))) (nI_add _ _) ?_
      refine pf_q157 (ws1 := (wC g h R V (upd I 13 (nI (am + 1))) dr md ed n (va_up F 11 (upd (F 11) am x)))) hX hZ 0 rfl (Nat.le_of_ble_eq_true rfl) rfl dX0_ashes_55 (fun H locs hZ => ?_)
      refine lv_aload_n hx hb dX0_ashes_58 rfl (lv_at hl 0 rfl) ?_
      refine gf_q157 (v := .int (nI (am + 1))) hX hZ.1 0 rfl rfl dX0_ashes_59 ?_
      exact MM.iret hX hr hlk hZ (by simp only [ashI, ashF, if_pos c_1, if_neg c_2, ham, nI_1, ix_nI (show am < 2 ^ 31 by omega)]) (by simp only [ashR, if_pos c_1, if_neg c_2, ham, nI_1]) dX0_ashes_62
    have c_2n : am = 5 := (nI_eq (a := am) (b := 5) (by omega) (by omega)).mp c_2
    refine lv_bipush (v := (-104)) hx hb dX0_ashes_35 (by decide) ?_
    exact MM.iret hX hr hlk hZ (by simp only [ashI, ashF, if_pos c_1, if_pos c_2, ham, nI_1, ix_nI (show am < 2 ^ 31 by omega)]) (by simp only [ashR, if_pos c_1, if_pos c_2, ham, nI_1]) dX0_ashes_37
  refine lv_iload_n hx hb dX0_ashes_5 rfl (lv_at hl 1 rfl) ?_
  refine lv_iconst (v := 0) hx hb dX0_ashes_6 (by decide) ?_
  refine lv_iconst (v := 1) hx hb dX0_ashes_7 (by decide) ?_
  refine lv_aload_n hx hb dX0_ashes_8 rfl (lv_at hl 0 rfl) ?_
  refine gf_q141 (v := .ref (R 0)) hX hZ.1 0 rfl rfl dX0_ashes_9 ?_
  refine PM.ci (PM.runV (As := []) (rest := [.int 1, .int 0, .int x]) hX (K_J2_size l g (R 0) md ed n) (cv_q363 hX ⟨Nat.le_of_ble_eq_true rfl, Nat.le_of_ble_eq_true rfl⟩) (hZ.1.sub (ws' := (wL g (R 0) md ed n)) [1] rfl) trivial (r_recv hX hZ.1 1 rfl rfl) rfl hl.1 rfl (Nat.le_of_ble_eq_true rfl) dX0_ashes_12 ⟨Nat.zero_le _, Nat.zero_le _⟩) ?_
  refine lv_ishl hx hb dX0_ashes_15 ?_
  refine lv_iconst (v := 1) hx hb dX0_ashes_16 (by decide) ?_
  refine lv_isub hx hb dX0_ashes_17 ?_
  refine PM.ci (PM.runS (As := [.int x, .int 0, .int (((1 : Int32) <<< ((nI n) &&& 31)) - 1)]) (rest := []) hX (K_X0_in l g x 0 (((1 : Int32) <<< ((nI n) &&& 31)) - 1)) (cs_q216 hX ⟨Nat.le_of_ble_eq_true rfl, Nat.le_of_ble_eq_true rfl⟩) va_P_nil trivial rfl hl.1 rfl (Nat.le_of_ble_eq_true rfl) dX0_ashes_18 ⟨Nat.zero_le _, Nat.zero_le _⟩) ?_
  refine lv_bif_ne (tgt := 27) hx hb dX0_ashes_21 (by decide) (fun c_3 => ?_) (fun c_3 => ?_)
  · refine lv_aload_n hx hb dX0_ashes_27 rfl (lv_at hl 0 rfl) ?_
    refine gf_q157 (v := .int (I 13)) hX hZ.1 0 rfl rfl dX0_ashes_28 ?_
    refine lv_seti (v := (nI am)) (ham) ?_
    refine lv_iconst (v := 5) hx hb dX0_ashes_31 (by decide) ?_
    refine lv_icmp_ne (tgt := 38) hx hb dX0_ashes_32 (by decide) (fun c_4 => ?_) (fun c_4 => ?_)
    · have c_4n : ¬ am = 5 := fun zz_ => c_4 ((nI_eq (a := am) (b := 5) (by omega) (by omega)).mpr zz_)
      refine lv_aload_n hx hb dX0_ashes_38 rfl (lv_at hl 0 rfl) ?_
      refine gf_q158 (v := .ref (R 14)) hX hZ.1 0 rfl rfl dX0_ashes_39 ?_
      refine lv_aload_n hx hb dX0_ashes_42 rfl (lv_at hl 0 rfl) ?_
      refine gf_q157 (v := .int (I 13)) hX hZ.1 0 rfl rfl dX0_ashes_43 ?_
      refine lv_seti (v := (nI am)) (ham) ?_
      refine lv_iload_n hx hb dX0_ashes_46 rfl (lv_at hl 1 rfl) ?_
      refine r_iast (f := (F 11)) (x := x) (ws1 := (wC g h R V I dr md ed n (va_up F 11 (upd (F 11) am x)))) hX hZ 16 rfl am (by omega) (by omega) dX0_ashes_47 rfl (fun H locs hZ => ?_)
      refine lv_aload_n hx hb dX0_ashes_48 rfl (lv_at hl 0 rfl) ?_
      refine lv_dup hx hb dX0_ashes_49 rfl ?_
      refine gf_q157 (v := .int (I 13)) hX hZ.1 0 rfl rfl dX0_ashes_50 ?_
      refine lv_seti (v := (nI am)) (ham) ?_
      refine lv_iconst (v := 1) hx hb dX0_ashes_53 (by decide) ?_
      refine lv_iadd hx hb dX0_ashes_54 ?_
      refine lv_seti (v := (nI (am + 1))) (nI_add _ _) ?_
      refine pf_q157 (ws1 := (wC g h R V (upd I 13 (nI (am + 1))) dr md ed n (va_up F 11 (upd (F 11) am x)))) hX hZ 0 rfl (Nat.le_of_ble_eq_true rfl) rfl dX0_ashes_55 (fun H locs hZ => ?_)
      refine lv_aload_n hx hb dX0_ashes_58 rfl (lv_at hl 0 rfl) ?_
      refine gf_q157 (v := .int (nI (am + 1))) hX hZ.1 0 rfl rfl dX0_ashes_59 ?_
      exact MM.iret hX hr hlk hZ (by simp only [ashI, ashF, if_neg c_1, if_pos c_3, if_neg c_4, ham, nI_1, ix_nI (show am < 2 ^ 31 by omega)]) (by simp only [ashR, if_neg c_1, if_pos c_3, if_neg c_4, ham, nI_1]) dX0_ashes_62
    have c_4n : am = 5 := (nI_eq (a := am) (b := 5) (by omega) (by omega)).mp c_4
    refine lv_bipush (v := (-104)) hx hb dX0_ashes_35 (by decide) ?_
    exact MM.iret hX hr hlk hZ (by simp only [ashI, ashF, if_neg c_1, if_pos c_3, if_pos c_4, ham, nI_1, ix_nI (show am < 2 ^ 31 by omega)]) (by simp only [ashR, if_neg c_1, if_pos c_3, if_pos c_4, ham, nI_1]) dX0_ashes_37
  refine lv_bipush (v := (-102)) hx hb dX0_ashes_24 (by decide) ?_
  exact MM.iret hX hr hlk hZ (by simp only [ashI, ashF, if_neg c_1, if_neg c_3, ham, nI_1, ix_nI (show am < 2 ^ 31 by omega)]) (by simp only [ashR, if_neg c_1, if_neg c_3, ham, nI_1]) dX0_ashes_26

set_option maxHeartbeats 400000 in
set_option maxRecDepth 100000 in
theorem K_X0_image (l : Launch) (g : Gx) (h : Nat) (R : Nat → Nat) (V : Nat → Nat) (I : Nat → Int32) (dr : Int64) (md : Int32) (ed : Nat) (n : Nat) (F : Nat → Nat → Int32) (hrk : RoK roT (wC g h R V I dr md ed n F)) : MM l g yX0_image cX0_image 2 (some .int) 1 [.ref h] roT (wC g h R V I dr md ed n F) (wC g h R V (imgI I n) dr md ed n (imgF I F)) (some (.int (imgR I))) := by
  refine MM.of (own := "BurntLetters") (by decide) rfl (Nat.le_of_ble_eq_true rfl) hrk ?_
  intro p e s m below meth c A hX hr hlk hZ ls hl
  have hx := hX.1.1
  have hb := hX.1.2.1
  have hl : lv_has ls 2 [(0, .ref h)] := hl
  refine lv_aload_n hx hb dX0_image_0 rfl (lv_at hl 0 rfl) ?_
  refine gf_q142 (v := .int (I 1)) hX hZ.1 0 rfl rfl dX0_image_1 ?_
  refine lv_if_ne (tgt := 10) hx hb dX0_image_4 (by decide) (fun c_1 => ?_) (fun c_1 => ?_)
  · refine lv_aload_n hx hb dX0_image_10 rfl (lv_at hl 0 rfl) ?_
    refine lv_aload_n hx hb dX0_image_11 rfl (lv_at hl 0 rfl) ?_
    refine gf_q143 (v := .int (I 2)) hX hZ.1 0 rfl rfl dX0_image_12 ?_
    refine pf_q161 (ws1 := (wC g h R V (upd I 17 (I 2)) dr md ed n F)) hX hZ 0 rfl (Nat.le_of_ble_eq_true rfl) rfl dX0_image_15 (fun H locs hZ => ?_)
    refine lv_aload_n hx hb dX0_image_18 rfl (lv_at hl 0 rfl) ?_
    refine lv_aload_n hx hb dX0_image_19 rfl (lv_at hl 0 rfl) ?_
    refine gf_q141 (v := .ref (R 0)) hX hZ.1 0 rfl rfl dX0_image_20 ?_
    refine PM.ci (PM.runV (As := []) (rest := [.ref h]) hX (K_J2_size l g (R 0) md ed n) (cv_q363 hX ⟨Nat.le_of_ble_eq_true rfl, Nat.le_of_ble_eq_true rfl⟩) (hZ.1.sub (ws' := (wL g (R 0) md ed n)) [1] rfl) trivial (r_recv hX hZ.1 1 rfl rfl) rfl hl.1 rfl (Nat.le_of_ble_eq_true rfl) dX0_image_23 ⟨Nat.zero_le _, Nat.zero_le _⟩) ?_
    refine pf_q162 (ws1 := (wC g h R V (upd (upd I 17 (I 2)) 18 (nI n)) dr md ed n F)) hX hZ 0 rfl (Nat.le_of_ble_eq_true rfl) rfl dX0_image_26 (fun H locs hZ => ?_)
    refine lv_aload_n hx hb dX0_image_29 rfl (lv_at hl 0 rfl) ?_
    refine lv_aload_n hx hb dX0_image_30 rfl (lv_at hl 0 rfl) ?_
    refine gf_q147 (v := .int (I 5)) hX hZ.1 0 rfl rfl dX0_image_31 ?_
    refine pf_q163 (ws1 := (wC g h R V (upd (upd (upd I 17 (I 2)) 18 (nI n)) 19 (I 5)) dr md ed n F)) hX hZ 0 rfl (Nat.le_of_ble_eq_true rfl) rfl dX0_image_34 (fun H locs hZ => ?_)
    refine lv_aload_n hx hb dX0_image_37 rfl (lv_at hl 0 rfl) ?_
    refine lv_aload_n hx hb dX0_image_38 rfl (lv_at hl 0 rfl) ?_
    refine gf_q157 (v := .int (I 13)) hX hZ.1 0 rfl rfl dX0_image_39 ?_
    refine pf_q164 (ws1 := (wC g h R V (upd (upd (upd (upd I 17 (I 2)) 18 (nI n)) 19 (I 5)) 20 (I 13)) dr md ed n F)) hX hZ 0 rfl (Nat.le_of_ble_eq_true rfl) rfl dX0_image_42 (fun H locs hZ => ?_)
    refine lv_aload_n hx hb dX0_image_45 rfl (lv_at hl 0 rfl) ?_
    refine gf_q150 (v := .ref (R 8)) hX hZ.1 0 rfl rfl dX0_image_46 ?_
    refine lv_aload_n hx hb dX0_image_49 rfl (lv_at hl 0 rfl) ?_
    refine gf_q148 (v := .ref (R 6)) hX hZ.1 0 rfl rfl dX0_image_50 ?_
    refine MM.cv (MM.runV (As := [.ref (R 6)]) (rest := []) hX (K_X1_become l g h (R 8) (V 6) (V 7) (V 8) (F 7) (F 8) (F 9) (R 6) (V 0) (V 1) (V 2) (F 1) (F 2) (F 3) (RoK.tt _)) (cv_q656 hX ⟨Nat.le_of_ble_eq_true rfl, Nat.le_of_ble_eq_true rfl⟩) (hZ.1.sub (ws' := (wB g h (R 8) (V 6) (V 7) (V 8) (F 7) (F 8) (F 9) (R 6) (V 0) (V 1) (V 2) (F 1) (F 2) (F 3))) [11, 12, 13, 14, 3, 4, 5, 6] rfl) (hZ.2.1.sub (ws' := (wB g h (R 8) (V 6) (V 7) (V 8) (F 7) (F 8) (F 9) (R 6) (V 0) (V 1) (V 2) (F 1) (F 2) (F 3))) [11, 12, 13, 14, 3, 4, 5, 6] (by decide) rfl) trivial (r_recv hX hZ.1 11 rfl rfl) rfl hl.1 rfl (Nat.le_of_ble_eq_true rfl) dX0_image_53 ⟨Nat.zero_le _, Nat.zero_le _⟩) hZ (ws1 := (wC g h R V (upd (upd (upd (upd I 17 (I 2)) 18 (nI n)) 19 (I 5)) 20 (I 13)) dr md ed n (va_up (va_up (va_up F 7 (F 1)) 8 (F 2)) 9 (F 3)))) [11, 12, 13, 14, 3, 4, 5, 6] rfl rfl rfl rfl (fun H locs hZ => ?_)
    refine lv_iconst (v := 0) hx hb dX0_image_56 (by decide) ?_
    refine lv_istore_n (lv' := [(1, .int 0), (0, .ref h)]) hx hb dX0_image_57 rfl hl (by decide) rfl (fun ls hl => ?_)
    refine W_loop (α := Nat) (P := fun (i : Nat) (H : Heap) (locs : List Loc) (ls : Array Slot) => i ≤ 5 ∧ Zt g A s.heap roT (wC g h R V (upd (upd (upd (upd I 17 (I 2)) 18 (nI n)) 19 (I 5)) 20 (I 13)) dr md ed n (va_up (va_up (va_up (va_up F 7 (F 1)) 8 (F 2)) 9 (F 3)) 13 (cpF (F 11) (F 13) i))) H locs ∧ lv_has ls 2 [(0, .ref h), (1, .int (nI i))]) (fun i => 5 - i) 0 ⟨Nat.zero_le _, hZ.cast (rfl), lv_cast (lv_sub (l' := [(0, .ref h), (1, .int 0)]) hl [1, 0] rfl) (rfl)⟩ ?_
    rintro i H locs ls ⟨hi, hZ, hl⟩ ihi
    refine lv_iload_n hx hb dX0_image_58 rfl (lv_at hl 1 rfl) ?_
    refine lv_iconst (v := 5) hx hb dX0_image_59 (by decide) ?_
    refine lv_icmp_ge (tgt := 81) hx hb dX0_image_60 (by decide) (fun c_2 => ?_) (fun c_2 => ?_)
    · have c_2n : 5 ≤ i := (nI_leI (a := 5) (b := i) (by omega) (by omega)).mp c_2
      have ei : i = 5 := by omega
      subst ei
      have hZ := hZ.arr 18 (F 11) rfl (cpF_in (F 11) (F 13) 5)
      have hZ : Zt g A s.heap roT (wC g h R V (upd (upd (upd (upd I 17 (I 2)) 18 (nI n)) 19 (I 5)) 20 (I 13)) dr md ed n (va_up (va_up (va_up (va_up F 7 (F 1)) 8 (F 2)) 9 (F 3)) 13 (F 11))) H locs := hZ
      refine lv_aload_n hx hb dX0_image_81 rfl (lv_at hl 0 rfl) ?_
      refine gf_q147 (v := .int (I 5)) hX hZ.1 0 rfl rfl dX0_image_82 ?_
      exact MM.iret hX hr hlk hZ (by simp only [imgI, imgF, if_neg c_1, if_pos c_2]) (by simp only [imgR, if_neg c_1, if_pos c_2]) dX0_image_85
    have c_2n : ¬ 5 ≤ i := fun zz_ => c_2 ((nI_leI (a := 5) (b := i) (by omega) (by omega)).mpr zz_)
    refine lv_aload_n hx hb dX0_image_63 rfl (lv_at hl 0 rfl) ?_
    refine gf_q165 (v := .ref (R 21)) hX hZ.1 0 rfl rfl dX0_image_64 ?_
    refine lv_iload_n hx hb dX0_image_67 rfl (lv_at hl 1 rfl) ?_
    refine lv_aload_n hx hb dX0_image_68 rfl (lv_at hl 0 rfl) ?_
    refine gf_q158 (v := .ref (R 14)) hX hZ.1 0 rfl rfl dX0_image_69 ?_
    refine lv_iload_n hx hb dX0_image_72 rfl (lv_at hl 1 rfl) ?_
    refine r_iald (f := (F 11)) hX hZ.1 16 rfl i (by omega) (by omega) dX0_image_73 ?_
    refine r_iast (f := (cpF (F 11) (F 13) i)) (x := ((F 11) i)) (ws1 := (wC g h R V (upd (upd (upd (upd I 17 (I 2)) 18 (nI n)) 19 (I 5)) 20 (I 13)) dr md ed n (va_up (va_up (va_up (va_up F 7 (F 1)) 8 (F 2)) 9 (F 3)) 13 (upd (cpF (F 11) (F 13) i) i ((F 11) i))))) hX hZ 18 rfl i (by omega) (by omega) dX0_image_74 rfl (fun H locs hZ => ?_)
    refine lv_iinc (v := (nI (i + 1))) (lv' := [(1, .int (nI (i + 1))), (0, .ref h)]) hx hb dX0_image_75 hl (k := 1) rfl (nI_1 _) (by decide) rfl (fun ls hl => ?_)
    refine lv_goto (tgt := 58) hx hb dX0_image_78 (by decide) ?_
    exact ihi (i + 1) _ _ _ ⟨by omega, hZ.cast (rfl), lv_cast (lv_sub (l' := [(0, .ref h), (1, .int (nI (i + 1)))]) hl [1, 0] rfl) (by rfl)⟩ (by omega)
  refine lv_bipush (v := (-103)) hx hb dX0_image_7 (by decide) ?_
  exact MM.iret hX hr hlk hZ (by simp only [imgI, imgF, if_pos c_1]) (by simp only [imgR, if_pos c_1]) dX0_image_9

set_option maxHeartbeats 400000 in
set_option maxRecDepth 100000 in
theorem K_X0_draw (l : Launch) (g : Gx) (h : Nat) (R : Nat → Nat) (V : Nat → Nat) (I : Nat → Int32) (dr : Int64) (md : Int32) (ed : Nat) (n : Nat) (F : Nat → Nat → Int32) (d : Int32) (hd : ¬ d.toInt64 = 0) (hrk : RoK roT (wC g h R V I dr md ed n F)) : MM l g yX0_draw cX0_draw 2 (some .int) 0 [.ref h, .int d] roT (wC g h R V I dr md ed n F) (wC g h R V I (drF dr) md ed n F) (some (.int (drR dr d))) := by
  refine MM.of (own := "BurntLetters") (by decide) rfl (Nat.le_of_ble_eq_true rfl) hrk ?_
  intro p e s m below meth c A hX hr hlk hZ ls hl
  have hx := hX.1.1
  have hb := hX.1.2.1
  have hl : lv_has ls 2 [(0, .ref h), (1, .int d)] := hl
  refine lv_aload_n hx hb dX0_draw_0 rfl (lv_at hl 0 rfl) ?_
  refine lv_ldc2 (v := 1103515245) hx hb hX.1.2.2.2.1 (hX.w q755) dX0_draw_1 ?_
  refine lv_aload_n hx hb dX0_draw_4 rfl (lv_at hl 0 rfl) ?_
  refine gf_q160 (v := .long dr) hX hZ.1 0 rfl rfl dX0_draw_5 ?_
  refine lv_lmul hx hb dX0_draw_8 ?_
  refine lv_ldc2 (v := 12345) hx hb hX.1.2.2.2.1 (hX.w q756) dX0_draw_9 ?_
  refine lv_ladd hx hb dX0_draw_12 ?_
  refine lv_ldc2 (v := 2147483647) hx hb hX.1.2.2.2.1 (hX.w q757) dX0_draw_13 ?_
  refine lv_land hx hb dX0_draw_16 ?_
  refine pf_q160 (ws1 := (wC g h R V I (((1103515245 * dr) + 12345) &&& 2147483647) md ed n F)) hX hZ 0 rfl (Nat.le_of_ble_eq_true rfl) rfl dX0_draw_17 (fun H locs hZ => ?_)
  refine lv_aload_n hx hb dX0_draw_20 rfl (lv_at hl 0 rfl) ?_
  refine gf_q160 (v := .long (((1103515245 * dr) + 12345) &&& 2147483647)) hX hZ.1 0 rfl rfl dX0_draw_21 ?_
  refine lv_ldc2 (v := 65536) hx hb hX.1.2.2.2.1 (hX.w q758) dX0_draw_24 ?_
  refine lv_ldiv hx hb dX0_draw_27 (by decide) ?_
  refine lv_iload_n hx hb dX0_draw_28 rfl (lv_at hl 1 rfl) ?_
  refine lv_i2l (v := d.toInt64) hx hb dX0_draw_29 rfl ?_
  refine lv_lrem hx hb dX0_draw_30 (hd) ?_
  refine lv_l2i (v := (((((1103515245 * dr) + 12345) &&& 2147483647) / 65536) - ((((1103515245 * dr) + 12345) &&& 2147483647) / 65536) / d.toInt64 * d.toInt64).toInt32) hx hb dX0_draw_31 rfl ?_
  exact MM.iret hX hr hlk hZ (rfl) (rfl) dX0_draw_32

set_option maxHeartbeats 400000 in
set_option maxRecDepth 100000 in
theorem K_X0_letterBy (l : Launch) (g : Gx) (h : Nat) (R : Nat → Nat) (V : Nat → Nat) (I : Nat → Int32) (dr : Int64) (md : Int32) (ed : Nat) (n : Nat) (F : Nat → Nat → Int32) (t : Nat) (lo : Nat → Nat) (ht : t < 10) (hlo : ∀ i, i < 6 → F 0 i = nI (lo i)) (hsum : psN lo 6 = 10) : PM l g yX0_letterBy cX0_letterBy 4 (some .int) 0 [.ref h, .int (nI t)] roT (wC g h R V I dr md ed n F) (some (.int (nI (lbG lo t 6 0)))) := by
  refine PM.of (own := "BurntLetters") (by decide) rfl (Nat.le_of_ble_eq_true rfl) ?_
  intro p e s m below meth c hX hr hlk hP hro ls hl
  have hx := hX.1.1
  have hb := hX.1.2.1
  have hl : lv_has ls 4 [(0, .ref h), (1, .int (nI t))] := hl
  have hps : ∀ k, k < 6 → psN lo (k + 1) ≤ 10 := by
    intro k hk
    have h6 : psN lo 6 = lo 0 + lo 1 + lo 2 + lo 3 + lo 4 + lo 5 := by simp [psN]
    rcases (show k = 0 ∨ k = 1 ∨ k = 2 ∨ k = 3 ∨ k = 4 ∨ k = 5 by omega) with rfl | rfl | rfl | rfl | rfl | rfl <;> simp [psN] <;> omega
  refine lv_iconst (v := 0) hx hb dX0_letterBy_0 (by decide) ?_
  refine lv_istore_n (lv' := [(2, .int 0), (0, .ref h), (1, .int (nI t))]) hx hb dX0_letterBy_1 rfl hl (by decide) rfl (fun ls hl => ?_)
  refine lv_aload_n hx hb dX0_letterBy_2 rfl (lv_at hl 1 rfl) ?_
  refine gf_q146 (v := .ref (R 4)) hX hP 0 rfl rfl dX0_letterBy_3 ?_
  refine lv_iconst (v := 0) hx hb dX0_letterBy_6 (by decide) ?_
  refine r_iald (f := (F 0)) hX hP 2 rfl 0 (by omega) (by omega) dX0_letterBy_7 ?_
  refine lv_seti (v := (nI (lo 0))) (hlo 0 (by omega)) ?_
  refine lv_istore_n (lv' := [(3, .int (nI (lo 0))), (2, .int 0), (0, .ref h), (1, .int (nI t))]) hx hb dX0_letterBy_8 rfl hl (by decide) rfl (fun ls hl => ?_)
  refine W_loopP (α := Nat) (P := fun (i : Nat) (ls : Array Slot) => i ≤ 5 ∧ lbG lo t 6 0 = lbG lo t (6 - i) i ∧ lv_has ls 4 [(0, .ref h), (1, .int (nI t)), (2, .int (nI i)), (3, .int (nI (psN lo (i + 1))))]) (fun i => 5 - i) 0 ⟨Nat.zero_le _, rfl, lv_cast (lv_sub (l' := [(0, .ref h), (1, .int (nI t)), (2, .int 0), (3, .int (nI (lo 0)))]) hl [2, 3, 1, 0] rfl) (by simp [psN, nI])⟩ ?_
  rintro i ls ⟨hi, hg, hl⟩ ihi
  have hpi := hps i (by omega)
  refine lv_iload_n hx hb dX0_letterBy_9 rfl (lv_at hl 1 rfl) ?_
  refine lv_iload_n hx hb dX0_letterBy_10 rfl (lv_at hl 3 rfl) ?_
  refine lv_icmp_lt (tgt := 29) hx hb dX0_letterBy_11 (by decide) (fun c_1 => ?_) (fun c_1 => ?_)
  · have c_1n : t < (psN lo (i + 1)) := (nI_ltI (a := t) (b := (psN lo (i + 1))) (by omega) (by omega)).mp c_1
    refine lv_iload_n hx hb dX0_letterBy_29 rfl (lv_at hl 2 rfl) ?_
    exact PM.iret hX hr hlk (by rw [hg, show 6 - i = (5 - i) + 1 by omega, lbG, if_pos c_1n]) dX0_letterBy_30
  have c_1n : ¬ t < (psN lo (i + 1)) := fun zz_ => c_1 ((nI_ltI (a := t) (b := (psN lo (i + 1))) (by omega) (by omega)).mpr zz_)
  have hi5 : i + 1 < 6 := by
    rcases Nat.lt_or_ge (i + 1) 6 with h | h
    · exact h
    · exfalso
      have e5 : i = 5 := by omega
      subst e5
      have h6 : psN lo (5 + 1) = 10 := hsum
      omega
  refine lv_iinc (v := (nI (i + 1))) (lv' := [(2, .int (nI (i + 1))), (0, .ref h), (1, .int (nI t)), (3, .int (nI (psN lo (i + 1))))]) hx hb dX0_letterBy_14 hl (k := 2) rfl (nI_1 _) (by decide) rfl (fun ls hl => ?_)
  refine lv_iload_n hx hb dX0_letterBy_17 rfl (lv_at hl 3 rfl) ?_
  refine lv_aload_n hx hb dX0_letterBy_18 rfl (lv_at hl 1 rfl) ?_
  refine gf_q146 (v := .ref (R 4)) hX hP 0 rfl rfl dX0_letterBy_19 ?_
  refine lv_iload_n hx hb dX0_letterBy_22 rfl (lv_at hl 0 rfl) ?_
  refine r_iald (f := (F 0)) hX hP 2 rfl (i + 1) (by omega) (by omega) dX0_letterBy_23 ?_
  refine lv_seti (v := (nI (lo (i + 1)))) (hlo (i + 1) (by omega)) ?_
  refine lv_iadd hx hb dX0_letterBy_24 ?_
  refine lv_seti (v := (nI ((psN lo (i + 1)) + (lo (i + 1))))) (nI_add _ _) ?_
  refine lv_istore_n (lv' := [(3, .int (nI ((psN lo (i + 1)) + (lo (i + 1))))), (2, .int (nI (i + 1))), (0, .ref h), (1, .int (nI t))]) hx hb dX0_letterBy_25 rfl hl (by decide) rfl (fun ls hl => ?_)
  refine lv_goto (tgt := 9) hx hb dX0_letterBy_26 (by decide) ?_
  exact ihi (i + 1) _ ⟨by omega, by rw [hg, show 6 - i = (5 - i) + 1 by omega, lbG, if_neg c_1n, show 6 - (i + 1) = 5 - i by omega], lv_cast (lv_sub (l' := [(0, .ref h), (1, .int (nI t)), (2, .int (nI (i + 1))), (3, .int (nI ((psN lo (i + 1)) + (lo (i + 1)))))]) hl [2, 3, 1, 0] rfl) (by rfl)⟩ (by omega)
