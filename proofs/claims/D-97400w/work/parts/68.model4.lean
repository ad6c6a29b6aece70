/-! THE MODEL, 4 (by program: gen/model4.py) -/
set_option maxHeartbeats 400000 in
set_option maxRecDepth 100000 in
theorem K_X2_countOf (l : Launch) (g : Gx) (h : Nat) (R : Nat → Nat) (J : Nat → Int32) (hs : Int64) (G : Nat → Nat → Int32) (w : Int32) (n_ : Nat) (pt : Nat → Int32) (hn : n_ ≤ 5) (hJ6 : (J 6) = nI n_) (hlv : LvOk (G 3) n_) : PM l g yX2_countOf cX2_countOf 5 (some .int) 1 [.ref h, .int w] roT (wM g h R J hs G) (some (.int (countF (vI J) (vF G pt) n_ w))) := by
  refine PM.of (own := "BurntLettersModel") (by decide) rfl (Nat.le_of_ble_eq_true rfl) ?_
  intro p e s m below meth c hX hr hlk hP hro ls hl
  have hx := hX.1.1
  have hb := hX.1.2.1
  have hl : lv_has ls 5 [(0, .ref h), (1, .int w)] := hl
  refine lv_iconst (v := 0) hx hb dX2_countOf_0 (by decide) ?_
  refine lv_istore_n (lv' := [(2, .int 0), (0, .ref h), (1, .int w)]) hx hb dX2_countOf_1 rfl hl (by decide) rfl (fun ls hl => ?_)
  refine lv_iconst (v := 0) hx hb dX2_countOf_2 (by decide) ?_
  refine lv_istore_n (lv' := [(3, .int 0), (2, .int 0), (0, .ref h), (1, .int w)]) hx hb dX2_countOf_3 rfl hl (by decide) rfl (fun ls hl => ?_)
  refine lv_iconst (v := 0) hx hb dX2_countOf_4 (by decide) ?_
  refine lv_istore (lv' := [(4, .int 0), (3, .int 0), (2, .int 0), (0, .ref h), (1, .int w)]) hx hb dX2_countOf_5 hl (by decide) rfl (fun ls hl => ?_)
  refine W_loopP (α := Nat) (P := fun (i : Nat) (ls : Array Slot) => i ≤ n_ ∧ lv_has ls 5 [(0, .ref h), (1, .int w), (2, .int (cnF (G 3) i)), (3, .int (oaF (G 3) i)), (4, .int (nI i))]) (fun i => n_ - i) 0 ⟨Nat.zero_le _, lv_cast (lv_sub (l' := [(0, .ref h), (1, .int w), (2, .int 0), (3, .int 0), (4, .int 0)]) hl [3, 4, 2, 1, 0] rfl) (rfl)⟩ ?_
  rintro i ls ⟨hi, hl⟩ ihi
  refine lv_iload hx hb dX2_countOf_7 (lv_at hl 4 rfl) ?_
  refine lv_aload_n hx hb dX2_countOf_9 rfl (lv_at hl 0 rfl) ?_
  refine gf_q813 (v := .int (J 6)) hX hP 0 rfl rfl dX2_countOf_10 ?_
  refine lv_seti (v := (nI n_)) (hJ6) ?_
  refine lv_icmp_ge (tgt := 53) hx hb dX2_countOf_13 (by decide) (fun c_1 => ?_) (fun c_1 => ?_)
  · have c_1n : n_ ≤ i := (nI_leI (a := n_) (b := i) (by omega) (by omega)).mp c_1
    have ei : n_ = i := by omega
    subst ei
    refine lv_iload_n hx hb dX2_countOf_53 rfl (lv_at hl 1 rfl) ?_
    by_cases c_2 : w = 0
    · have c_2i : w.toInt = 0 := by rw [c_2]; rfl
      refine lv_tableIn (off := 54) (tgt := 108) hx hb dX2_countOf_54 (by rw [c_2i]; decide) (by rw [c_2i]; decide) (by rw [c_2i]; rfl) (by decide) ?_
      refine lv_aload_n hx hb dX2_countOf_108 rfl (lv_at hl 0 rfl) ?_
      refine gf_q809 (v := .int (J 2)) hX hP 0 rfl rfl dX2_countOf_109 ?_
      exact PM.iret hX hr hlk (by first | (simp only [countF, if_pos c_1, if_pos c_2]; done) | (simp only [countF, if_pos c_1, if_pos c_2]; rfl)) dX2_countOf_112
    by_cases c_3 : w = 1
    · have c_3i : w.toInt = 1 := by rw [c_3]; rfl
      refine lv_tableIn (off := 59) (tgt := 113) hx hb dX2_countOf_54 (by rw [c_3i]; decide) (by rw [c_3i]; decide) (by rw [c_3i]; rfl) (by decide) ?_
      refine lv_aload_n hx hb dX2_countOf_113 rfl (lv_at hl 0 rfl) ?_
      refine gf_q813 (v := .int (J 6)) hX hP 0 rfl rfl dX2_countOf_114 ?_
      refine lv_seti (v := (nI n_)) (hJ6) ?_
      exact PM.iret hX hr hlk (by first | (simp only [countF, if_pos c_1, if_neg c_2, if_pos c_3]; done) | (simp only [countF, if_pos c_1, if_neg c_2, if_pos c_3]; rfl)) dX2_countOf_117
    by_cases c_4 : w = 2
    · have c_4i : w.toInt = 2 := by rw [c_4]; rfl
      refine lv_tableIn (off := 64) (tgt := 118) hx hb dX2_countOf_54 (by rw [c_4i]; decide) (by rw [c_4i]; decide) (by rw [c_4i]; rfl) (by decide) ?_
      refine lv_iload_n hx hb dX2_countOf_118 rfl (lv_at hl 2 rfl) ?_
      exact PM.iret hX hr hlk (by rw [cn_bc (G 3) hn]; simp only [countF, if_pos c_1, if_neg c_2, if_neg c_3, if_pos c_4]; rfl) dX2_countOf_119
    by_cases c_5 : w = 3
    · have c_5i : w.toInt = 3 := by rw [c_5]; rfl
      refine lv_tableIn (off := 66) (tgt := 120) hx hb dX2_countOf_54 (by rw [c_5i]; decide) (by rw [c_5i]; decide) (by rw [c_5i]; rfl) (by decide) ?_
      refine lv_iload_n hx hb dX2_countOf_120 rfl (lv_at hl 3 rfl) ?_
      exact PM.iret hX hr hlk (by rw [oa_all hlv n_ (Nat.le_refl n_)]; simp only [countF, if_pos c_1, if_neg c_2, if_neg c_3, if_neg c_4, if_pos c_5]; rfl) dX2_countOf_121
    by_cases c_6 : w = 4
    · have c_6i : w.toInt = 4 := by rw [c_6]; rfl
      refine lv_tableIn (off := 68) (tgt := 122) hx hb dX2_countOf_54 (by rw [c_6i]; decide) (by rw [c_6i]; decide) (by rw [c_6i]; rfl) (by decide) ?_
      refine lv_aload_n hx hb dX2_countOf_122 rfl (lv_at hl 0 rfl) ?_
      refine gf_q810 (v := .int (J 3)) hX hP 0 rfl rfl dX2_countOf_123 ?_
      exact PM.iret hX hr hlk (by first | (simp only [countF, if_pos c_1, if_neg c_2, if_neg c_3, if_neg c_4, if_neg c_5, if_pos c_6]; done) | (simp only [countF, if_pos c_1, if_neg c_2, if_neg c_3, if_neg c_4, if_neg c_5, if_pos c_6]; rfl)) dX2_countOf_126
    by_cases c_7 : w = 5
    · have c_7i : w.toInt = 5 := by rw [c_7]; rfl
      refine lv_tableIn (off := 73) (tgt := 127) hx hb dX2_countOf_54 (by rw [c_7i]; decide) (by rw [c_7i]; decide) (by rw [c_7i]; rfl) (by decide) ?_
      refine lv_aload_n hx hb dX2_countOf_127 rfl (lv_at hl 0 rfl) ?_
      refine gf_q823 (v := .int (J 16)) hX hP 0 rfl rfl dX2_countOf_128 ?_
      exact PM.iret hX hr hlk (by first | (simp only [countF, if_pos c_1, if_neg c_2, if_neg c_3, if_neg c_4, if_neg c_5, if_neg c_6, if_pos c_7]; done) | (simp only [countF, if_pos c_1, if_neg c_2, if_neg c_3, if_neg c_4, if_neg c_5, if_neg c_6, if_pos c_7]; rfl)) dX2_countOf_131
    by_cases c_8 : w = 6
    · have c_8i : w.toInt = 6 := by rw [c_8]; rfl
      refine lv_tableIn (off := 78) (tgt := 132) hx hb dX2_countOf_54 (by rw [c_8i]; decide) (by rw [c_8i]; decide) (by rw [c_8i]; rfl) (by decide) ?_
      refine lv_aload_n hx hb dX2_countOf_132 rfl (lv_at hl 0 rfl) ?_
      refine gf_q808 (v := .int (J 1)) hX hP 0 rfl rfl dX2_countOf_133 ?_
      exact PM.iret hX hr hlk (by first | (simp only [countF, if_pos c_1, if_neg c_2, if_neg c_3, if_neg c_4, if_neg c_5, if_neg c_6, if_neg c_7, if_pos c_8]; done) | (simp only [countF, if_pos c_1, if_neg c_2, if_neg c_3, if_neg c_4, if_neg c_5, if_neg c_6, if_neg c_7, if_pos c_8]; rfl)) dX2_countOf_136
    by_cases c_9 : w = 7
    · have c_9i : w.toInt = 7 := by rw [c_9]; rfl
      refine lv_tableIn (off := 83) (tgt := 137) hx hb dX2_countOf_54 (by rw [c_9i]; decide) (by rw [c_9i]; decide) (by rw [c_9i]; rfl) (by decide) ?_
      refine lv_aload_n hx hb dX2_countOf_137 rfl (lv_at hl 0 rfl) ?_
      refine gf_q811 (v := .int (J 4)) hX hP 0 rfl rfl dX2_countOf_138 ?_
      exact PM.iret hX hr hlk (by first | (simp only [countF, if_pos c_1, if_neg c_2, if_neg c_3, if_neg c_4, if_neg c_5, if_neg c_6, if_neg c_7, if_neg c_8, if_pos c_9]; done) | (simp only [countF, if_pos c_1, if_neg c_2, if_neg c_3, if_neg c_4, if_neg c_5, if_neg c_6, if_neg c_7, if_neg c_8, if_pos c_9]; rfl)) dX2_countOf_141
    by_cases c_10 : w = 8
    · have c_10i : w.toInt = 8 := by rw [c_10]; rfl
      refine lv_tableIn (off := 88) (tgt := 142) hx hb dX2_countOf_54 (by rw [c_10i]; decide) (by rw [c_10i]; decide) (by rw [c_10i]; rfl) (by decide) ?_
      refine lv_aload_n hx hb dX2_countOf_142 rfl (lv_at hl 0 rfl) ?_
      refine gf_q820 (v := .int (J 13)) hX hP 0 rfl rfl dX2_countOf_143 ?_
      exact PM.iret hX hr hlk (by first | (simp only [countF, if_pos c_1, if_neg c_2, if_neg c_3, if_neg c_4, if_neg c_5, if_neg c_6, if_neg c_7, if_neg c_8, if_neg c_9, if_pos c_10]; done) | (simp only [countF, if_pos c_1, if_neg c_2, if_neg c_3, if_neg c_4, if_neg c_5, if_neg c_6, if_neg c_7, if_neg c_8, if_neg c_9, if_pos c_10]; rfl)) dX2_countOf_146
    by_cases c_11 : w = 9
    · have c_11i : w.toInt = 9 := by rw [c_11]; rfl
      refine lv_tableIn (off := 93) (tgt := 147) hx hb dX2_countOf_54 (by rw [c_11i]; decide) (by rw [c_11i]; decide) (by rw [c_11i]; rfl) (by decide) ?_
      refine lv_aload_n hx hb dX2_countOf_147 rfl (lv_at hl 0 rfl) ?_
      refine gf_q821 (v := .int (J 14)) hX hP 0 rfl rfl dX2_countOf_148 ?_
      exact PM.iret hX hr hlk (by first | (simp only [countF, if_pos c_1, if_neg c_2, if_neg c_3, if_neg c_4, if_neg c_5, if_neg c_6, if_neg c_7, if_neg c_8, if_neg c_9, if_neg c_10, if_pos c_11]; done) | (simp only [countF, if_pos c_1, if_neg c_2, if_neg c_3, if_neg c_4, if_neg c_5, if_neg c_6, if_neg c_7, if_neg c_8, if_neg c_9, if_neg c_10, if_pos c_11]; rfl)) dX2_countOf_151
    have o_12 : w.toInt < 0 ∨ 9 < w.toInt := by
      have c_2n : w.toInt ≠ 0 := fun z => c_2 (Int32.toInt_inj.mp z)
      have c_3n : w.toInt ≠ 1 := fun z => c_3 (Int32.toInt_inj.mp z)
      have c_4n : w.toInt ≠ 2 := fun z => c_4 (Int32.toInt_inj.mp z)
      have c_5n : w.toInt ≠ 3 := fun z => c_5 (Int32.toInt_inj.mp z)
      have c_6n : w.toInt ≠ 4 := fun z => c_6 (Int32.toInt_inj.mp z)
      have c_7n : w.toInt ≠ 5 := fun z => c_7 (Int32.toInt_inj.mp z)
      have c_8n : w.toInt ≠ 6 := fun z => c_8 (Int32.toInt_inj.mp z)
      have c_9n : w.toInt ≠ 7 := fun z => c_9 (Int32.toInt_inj.mp z)
      have c_10n : w.toInt ≠ 8 := fun z => c_10 (Int32.toInt_inj.mp z)
      have c_11n : w.toInt ≠ 9 := fun z => c_11 (Int32.toInt_inj.mp z)
      omega
    refine lv_tableOut (tgt := 152) hx hb dX2_countOf_54 o_12 (by decide) ?_
    refine lv_bipush (v := (-102)) hx hb dX2_countOf_152 (by decide) ?_
    exact PM.iret hX hr hlk (by first | (simp only [countF, if_pos c_1, if_neg c_2, if_neg c_3, if_neg c_4, if_neg c_5, if_neg c_6, if_neg c_7, if_neg c_8, if_neg c_9, if_neg c_10, if_neg c_11]; done) | (simp only [countF, if_pos c_1, if_neg c_2, if_neg c_3, if_neg c_4, if_neg c_5, if_neg c_6, if_neg c_7, if_neg c_8, if_neg c_9, if_neg c_10, if_neg c_11]; rfl)) dX2_countOf_154
  have c_1n : ¬ n_ ≤ i := fun zz_ => c_1 ((nI_leI (a := n_) (b := i) (by omega) (by omega)).mpr zz_)
  refine lv_iload_n hx hb dX2_countOf_16 rfl (lv_at hl 2 rfl) ?_
  refine lv_aload_n hx hb dX2_countOf_17 rfl (lv_at hl 0 rfl) ?_
  refine gf_q815 (v := .ref (R 8)) hX hP 0 rfl rfl dX2_countOf_18 ?_
  refine lv_iload hx hb dX2_countOf_21 (lv_at hl 4 rfl) ?_
  refine r_iald (f := (G 3)) hX hP 4 rfl i (by omega) (by omega) dX2_countOf_23 ?_
  refine lv_if_ne (tgt := 31) hx hb dX2_countOf_24 (by decide) (fun c_13 => ?_) (fun c_13 => ?_)
  · refine lv_iconst (v := 1) hx hb dX2_countOf_31 (by decide) ?_
    refine lv_iadd hx hb dX2_countOf_32 ?_
    refine lv_istore_n (lv' := [(2, .int ((cnF (G 3) i) + 1)), (0, .ref h), (1, .int w), (3, .int (oaF (G 3) i)), (4, .int (nI i))]) hx hb dX2_countOf_33 rfl hl (by decide) rfl (fun ls hl => ?_)
    refine lv_iload_n hx hb dX2_countOf_34 rfl (lv_at hl 3 rfl) ?_
    refine lv_aload_n hx hb dX2_countOf_35 rfl (lv_at hl 1 rfl) ?_
    refine gf_q815 (v := .ref (R 8)) hX hP 0 rfl rfl dX2_countOf_36 ?_
    refine lv_iload hx hb dX2_countOf_39 (lv_at hl 4 rfl) ?_
    refine r_iald (f := (G 3)) hX hP 4 rfl i (by omega) (by omega) dX2_countOf_41 ?_
    refine PM.ci (PM.runS (As := [.int ((G 3) i)]) (rest := [.int (oaF (G 3) i)]) hX (K_X2_ones l g ((G 3) i)) (cs_q976 hX ⟨Nat.le_of_ble_eq_true rfl, Nat.le_of_ble_eq_true rfl⟩) va_P_nil trivial rfl hl.1 rfl (Nat.le_of_ble_eq_true rfl) dX2_countOf_42 ⟨Nat.zero_le _, Nat.zero_le _⟩) ?_
    refine lv_iadd hx hb dX2_countOf_45 ?_
    refine lv_istore_n (lv' := [(3, .int ((oaF (G 3) i) + (onF ((G 3) i) 6))), (2, .int ((cnF (G 3) i) + 1)), (0, .ref h), (1, .int w), (4, .int (nI i))]) hx hb dX2_countOf_46 rfl hl (by decide) rfl (fun ls hl => ?_)
    refine lv_iinc (v := (nI (i + 1))) (lv' := [(4, .int (nI (i + 1))), (3, .int ((oaF (G 3) i) + (onF ((G 3) i) 6))), (2, .int ((cnF (G 3) i) + 1)), (0, .ref h), (1, .int w)]) hx hb dX2_countOf_47 hl (k := 4) rfl (nI_1 _) (by decide) rfl (fun ls hl => ?_)
    refine lv_goto (tgt := 7) hx hb dX2_countOf_50 (by decide) ?_
    exact ihi (i + 1) _ ⟨by omega, lv_cast (lv_sub (l' := [(0, .ref h), (1, .int w), (2, .int ((cnF (G 3) i) + 1)), (3, .int ((oaF (G 3) i) + (onF ((G 3) i) 6))), (4, .int (nI (i + 1)))]) hl [3, 4, 2, 1, 0] rfl) (by simp only [cnF, oaF, if_neg c_13])⟩ (by omega)
  refine lv_iconst (v := 0) hx hb dX2_countOf_27 (by decide) ?_
  refine lv_goto (tgt := 32) hx hb dX2_countOf_28 (by decide) ?_
  refine lv_iadd hx hb dX2_countOf_32 ?_
  refine lv_istore_n (lv' := [(2, .int ((cnF (G 3) i) + 0)), (0, .ref h), (1, .int w), (3, .int (oaF (G 3) i)), (4, .int (nI i))]) hx hb dX2_countOf_33 rfl hl (by decide) rfl (fun ls hl => ?_)
  refine lv_iload_n hx hb dX2_countOf_34 rfl (lv_at hl 3 rfl) ?_
  refine lv_aload_n hx hb dX2_countOf_35 rfl (lv_at hl 1 rfl) ?_
  refine gf_q815 (v := .ref (R 8)) hX hP 0 rfl rfl dX2_countOf_36 ?_
  refine lv_iload hx hb dX2_countOf_39 (lv_at hl 4 rfl) ?_
  refine r_iald (f := (G 3)) hX hP 4 rfl i (by omega) (by omega) dX2_countOf_41 ?_
  refine PM.ci (PM.runS (As := [.int ((G 3) i)]) (rest := [.int (oaF (G 3) i)]) hX (K_X2_ones l g ((G 3) i)) (cs_q976 hX ⟨Nat.le_of_ble_eq_true rfl, Nat.le_of_ble_eq_true rfl⟩) va_P_nil trivial rfl hl.1 rfl (Nat.le_of_ble_eq_true rfl) dX2_countOf_42 ⟨Nat.zero_le _, Nat.zero_le _⟩) ?_
  refine lv_iadd hx hb dX2_countOf_45 ?_
  refine lv_istore_n (lv' := [(3, .int ((oaF (G 3) i) + (onF ((G 3) i) 6))), (2, .int ((cnF (G 3) i) + 0)), (0, .ref h), (1, .int w), (4, .int (nI i))]) hx hb dX2_countOf_46 rfl hl (by decide) rfl (fun ls hl => ?_)
  refine lv_iinc (v := (nI (i + 1))) (lv' := [(4, .int (nI (i + 1))), (3, .int ((oaF (G 3) i) + (onF ((G 3) i) 6))), (2, .int ((cnF (G 3) i) + 0)), (0, .ref h), (1, .int w)]) hx hb dX2_countOf_47 hl (k := 4) rfl (nI_1 _) (by decide) rfl (fun ls hl => ?_)
  refine lv_goto (tgt := 7) hx hb dX2_countOf_50 (by decide) ?_
  exact ihi (i + 1) _ ⟨by omega, lv_cast (lv_sub (l' := [(0, .ref h), (1, .int w), (2, .int ((cnF (G 3) i) + 0)), (3, .int ((oaF (G 3) i) + (onF ((G 3) i) 6))), (4, .int (nI (i + 1)))]) hl [3, 4, 2, 1, 0] rfl) (by simp only [cnF, oaF, if_pos c_13])⟩ (by omega)

set_option maxHeartbeats 400000 in
set_option maxRecDepth 100000 in
theorem K_X2_count (l : Launch) (g : Gx) (h : Nat) (R : Nat → Nat) (J : Nat → Int32) (hs : Int64) (G : Nat → Nat → Int32) (w : Int32) (n_ : Nat) (pt : Nat → Int32) (hn : n_ ≤ 5) (hJ6 : (J 6) = nI n_) (hlv : LvOk (G 3) n_) : PM l g yX2_count cX2_count 2 (some .int) 2 [.ref h, .int w] roT (wM g h R J hs G) (some (.int (countF (vI J) (vF G pt) n_ w))) := by
  refine PM.of (own := "BurntLettersModel") (by decide) rfl (Nat.le_of_ble_eq_true rfl) ?_
  intro p e s m below meth c hX hr hlk hP hro ls hl
  have hx := hX.1.1
  have hb := hX.1.2.1
  have hl : lv_has ls 2 [(0, .ref h), (1, .int w)] := hl
  refine lv_aload_n hx hb dX2_count_0 rfl (lv_at hl 0 rfl) ?_
  refine lv_iload_n hx hb dX2_count_1 rfl (lv_at hl 1 rfl) ?_
  refine PM.ci (PM.runV (As := [.int w]) (rest := []) hX (K_X2_countOf l g h R J hs G w n_ pt (by omega) (hJ6) (hlv)) (cv_q1135 hX ⟨Nat.le_of_ble_eq_true rfl, Nat.le_of_ble_eq_true rfl⟩) hP trivial (r_recv hX hP 0 rfl rfl) rfl hl.1 rfl (Nat.le_of_ble_eq_true rfl) dX2_count_2 ⟨Nat.zero_le _, Nat.zero_le _⟩) ?_
  exact PM.iret hX hr hlk (rfl) dX2_count_5

set_option maxHeartbeats 400000 in
set_option maxRecDepth 100000 in
theorem K_X2_draw (l : Launch) (g : Gx) (h : Nat) (R : Nat → Nat) (J : Nat → Int32) (hs : Int64) (G : Nat → Nat → Int32) (d : Int32) (hd : d = 10) (hrk : RoK roT (wM g h R J hs G)) : MM l g yX2_draw cX2_draw 2 (some .int) 0 [.ref h, .int d] roT (wM g h R J hs G) (wM g h R (upd J 19 ((drF (J 19).toInt64).toInt32)) hs G) (some (.int (drR (J 19).toInt64 10))) := by
  refine MM.of (own := "BurntLettersModel") (by decide) rfl (Nat.le_of_ble_eq_true rfl) hrk ?_
  intro p e s m below meth c A hX hr hlk hZ ls hl
  have hx := hX.1.1
  have hb := hX.1.2.1
  have hl : lv_has ls 2 [(0, .ref h), (1, .int d)] := hl
  refine lv_aload_n hx hb dX2_draw_0 rfl (lv_at hl 0 rfl) ?_
  refine lv_ldc2 (v := 1103515245) hx hb hX.1.2.2.2.1 (hX.w q1112) dX2_draw_1 ?_
  refine lv_aload_n hx hb dX2_draw_4 rfl (lv_at hl 0 rfl) ?_
  refine gf_q826 (v := .int (J 19)) hX hZ.1 0 rfl rfl dX2_draw_5 ?_
  refine lv_i2l (v := (J 19).toInt64) hx hb dX2_draw_8 rfl ?_
  refine lv_lmul hx hb dX2_draw_9 ?_
  refine lv_ldc2 (v := 12345) hx hb hX.1.2.2.2.1 (hX.w q1113) dX2_draw_10 ?_
  refine lv_ladd hx hb dX2_draw_13 ?_
  refine lv_ldc2 (v := 2147483647) hx hb hX.1.2.2.2.1 (hX.w q1114) dX2_draw_14 ?_
  refine lv_land hx hb dX2_draw_17 ?_
  refine lv_l2i (v := (((1103515245 * ((J 19).toInt64)) + 12345) &&& 2147483647).toInt32) hx hb dX2_draw_18 rfl ?_
  refine lv_seti (v := ((drF (J 19).toInt64).toInt32)) (rfl) ?_
  refine pf_q826 (ws1 := (wM g h R (upd J 19 ((drF (J 19).toInt64).toInt32)) hs G)) hX hZ 0 rfl (Nat.le_of_ble_eq_true rfl) rfl dX2_draw_19 (fun H locs hZ => ?_)
  refine lv_aload_n hx hb dX2_draw_22 rfl (lv_at hl 0 rfl) ?_
  refine gf_q826 (v := .int ((drF (J 19).toInt64).toInt32)) hX hZ.1 0 rfl rfl dX2_draw_23 ?_
  refine lv_ldc (v := 65536) hx hb hX.1.2.2.2.1 (hX.w q1115) dX2_draw_26 ?_
  refine lv_idiv hx hb dX2_draw_28 (by decide) ?_
  refine lv_iload_n hx hb dX2_draw_29 rfl (lv_at hl 1 rfl) ?_
  refine lv_irem hx hb dX2_draw_30 (by rw [hd]; decide) ?_
  exact MM.iret hX hr hlk hZ (rfl) (by rw [hd]; exact dr_m _) dX2_draw_31

set_option maxHeartbeats 400000 in
set_option maxRecDepth 100000 in
theorem K_X2_lotOf (l : Launch) (g : Gx) (h : Nat) (R : Nat → Nat) (J : Nat → Int32) (hs : Int64) (G : Nat → Nat → Int32) (t : Nat) (lo : Nat → Nat) (ht : t < 10) (hlo_ : ∀ i, i < 6 → (G 1) i = nI (lo i)) (hsum : psN lo 6 = 10) : PM l g yX2_lotOf cX2_lotOf 4 (some .int) 0 [.ref h, .int (nI t)] roT (wM g h R J hs G) (some (.int (nI (lbG lo t 6 0)))) := by
  refine PM.of (own := "BurntLettersModel") (by decide) rfl (Nat.le_of_ble_eq_true rfl) ?_
  intro p e s m below meth c hX hr hlk hP hro ls hl
  have hx := hX.1.1
  have hb := hX.1.2.1
  have hl : lv_has ls 4 [(0, .ref h), (1, .int (nI t))] := hl
  have hps : ∀ k, k < 6 → lo k ≤ 10 := by
    intro k hk
    have h6 : psN lo 6 = lo 0 + lo 1 + lo 2 + lo 3 + lo 4 + lo 5 := by simp [psN]
    rcases (show k = 0 ∨ k = 1 ∨ k = 2 ∨ k = 3 ∨ k = 4 ∨ k = 5 by omega) with rfl | rfl | rfl | rfl | rfl | rfl <;> omega
  refine lv_iload_n hx hb dX2_lotOf_0 rfl (lv_at hl 1 rfl) ?_
  refine lv_istore_n (lv' := [(2, .int (nI t)), (0, .ref h), (1, .int (nI t))]) hx hb dX2_lotOf_1 rfl hl (by decide) rfl (fun ls hl => ?_)
  refine lv_iconst (v := 0) hx hb dX2_lotOf_2 (by decide) ?_
  refine lv_istore_n (lv' := [(3, .int 0), (2, .int (nI t)), (0, .ref h), (1, .int (nI t))]) hx hb dX2_lotOf_3 rfl hl (by decide) rfl (fun ls hl => ?_)
  refine W_loopP (α := Nat) (P := fun (i : Nat) (ls : Array Slot) => i ≤ 6 ∧ lbG lo t 6 0 = lbG lo t (6 - i) i ∧ psN lo i ≤ t ∧ lv_has ls 4 [(0, .ref h), (1, .int (nI t)), (2, .int (nI (t - psN lo i))), (3, .int (nI i))]) (fun i => 6 - i) 0 ⟨Nat.zero_le _, rfl, Nat.zero_le _, lv_cast (lv_sub (l' := [(0, .ref h), (1, .int (nI t)), (2, .int (nI t)), (3, .int 0)]) hl [2, 3, 1, 0] rfl) (by simp [psN, nI])⟩ ?_
  rintro i ls ⟨hi, hg, hle, hl⟩ ihi
  refine lv_iload_n hx hb dX2_lotOf_4 rfl (lv_at hl 3 rfl) ?_
  refine lv_bipush (v := 6) hx hb dX2_lotOf_5 (by decide) ?_
  refine lv_icmp_ge (tgt := 31) hx hb dX2_lotOf_7 (by decide) (fun c_1 => ?_) (fun c_1 => ?_)
  · have c_1n : 6 ≤ i := (nI_leI (a := 6) (b := i) (by omega) (by omega)).mp c_1
    exact absurd hle (by rw [show i = 6 by omega, hsum]; omega)
  have c_1n : ¬ 6 ≤ i := fun zz_ => c_1 ((nI_leI (a := 6) (b := i) (by omega) (by omega)).mpr zz_)
  refine lv_iload_n hx hb dX2_lotOf_10 rfl (lv_at hl 2 rfl) ?_
  refine lv_aload_n hx hb dX2_lotOf_11 rfl (lv_at hl 0 rfl) ?_
  refine gf_q812 (v := .ref (R 5)) hX hP 0 rfl rfl dX2_lotOf_12 ?_
  refine lv_iload_n hx hb dX2_lotOf_15 rfl (lv_at hl 3 rfl) ?_
  refine r_iald (f := (G 1)) hX hP 2 rfl i (by omega) (by omega) dX2_lotOf_16 ?_
  have hpi := hps i (by omega)
  refine lv_seti (v := (nI (lo i))) (hlo_ i (by omega)) ?_
  refine lv_isub hx hb dX2_lotOf_17 ?_
  refine lv_istore_n (lv' := [(2, .int ((nI (t - psN lo i)) - (nI (lo i)))), (0, .ref h), (1, .int (nI t)), (3, .int (nI i))]) hx hb dX2_lotOf_18 rfl hl (by decide) rfl (fun ls hl => ?_)
  refine lv_iload_n hx hb dX2_lotOf_19 rfl (lv_at hl 0 rfl) ?_
  refine lv_if_ge (tgt := 25) hx hb dX2_lotOf_20 (by decide) (fun c_2 => ?_) (fun c_2 => ?_)
  · have hc2 : lo i ≤ t - psN lo i := (sub_ge (by omega) (by omega)).mp c_2
    refine lv_iinc (v := (nI (i + 1))) (lv' := [(3, .int (nI (i + 1))), (2, .int ((nI (t - psN lo i)) - (nI (lo i)))), (0, .ref h), (1, .int (nI t))]) hx hb dX2_lotOf_25 hl (k := 3) rfl (nI_1 _) (by decide) rfl (fun ls hl => ?_)
    refine lv_goto (tgt := 4) hx hb dX2_lotOf_28 (by decide) ?_
    exact ihi (i + 1) _ ⟨by omega, by rw [hg, show 6 - i = (5 - i) + 1 by omega, lbG, if_neg (by rw [psN]; omega), show 6 - (i + 1) = 5 - i by omega], by rw [psN]; omega, lv_cast (lv_sub (l' := [(0, .ref h), (1, .int (nI t)), (2, .int ((nI (t - psN lo i)) - (nI (lo i)))), (3, .int (nI (i + 1)))]) hl [2, 3, 1, 0] rfl) (by rw [pk_sub (show lo i ≤ t - psN lo i from hc2), show t - psN lo i - lo i = t - psN lo (i + 1) by rw [psN]; omega])⟩ (by omega)
  have hc2 : ¬ lo i ≤ t - psN lo i := fun q => c_2 ((sub_ge (by omega) (by omega)).mpr q)
  refine lv_iload_n hx hb dX2_lotOf_23 rfl (lv_at hl 3 rfl) ?_
  exact PM.iret hX hr hlk (by rw [hg, show 6 - i = (5 - i) + 1 by omega, lbG, if_pos (by rw [psN]; omega)]) dX2_lotOf_24

set_option maxHeartbeats 400000 in
set_option maxRecDepth 100000 in
theorem K_X2_years (l : Launch) (g : Gx) (h : Nat) (R : Nat → Nat) (J : Nat → Int32) (hs : Int64) (G : Nat → Nat → Int32) (x : Int32) (seed : Int32) (w : Int32) (n_ : Nat) (kd : Nat → Nat) (pt : Nat → Int32) (lo : Nat → Nat) (hn : n_ ≤ 5) (hJ6 : (J 6) = nI n_) (hrow : RowsOk G n_ kd pt) (hlv : LvOk (G 3) n_) (hlo_ : ¬ (J 2) = 0 → ∀ i, i < 6 → (G 1) i = nI (lo i)) (hsum : ¬ (J 2) = 0 → psN lo 6 = 10) (hrk : RoK roT (wM g h R J hs G)) : EM l g yX2_years cX2_years 6 (some .int) 3 [.ref h, .int x, .int seed, .int w] roT (wM g h R J hs G) (fun u => (wM g h R (myJ J x seed w) hs (va_up (va_up (va_up G 5 (u 5)) 6 (u 6)) 7 (u 7)))) (some (.int (yrsR kd (vI J) (vF G pt) n_ lo x seed w))) := by
  refine EM.of (own := "BurntLettersModel") (by decide) rfl (Nat.le_of_ble_eq_true rfl) hrk ?_
  intro p e s m below meth c A hX hr hlk hZ ls hl
  have hx := hX.1.1
  have hb := hX.1.2.1
  have hl : lv_has ls 6 [(0, .ref h), (1, .int x), (2, .int seed), (3, .int w)] := hl
  have hk5 : ∀ f, f < n_ → kd f < 5 := fun f hf => (hrow f hf).2.2
  refine lv_iload_n hx hb dX2_years_0 rfl (lv_at hl 1 rfl) ?_
  refine lv_i2l (v := x.toInt64) hx hb dX2_years_1 rfl ?_
  refine lv_lconst (v := 1) hx hb dX2_years_2 (by decide) ?_
  refine lv_ldc2 (v := 60) hx hb hX.1.2.2.2.1 (hX.w q1106) dX2_years_3 ?_
  refine PM.ci (PM.runS (As := [.long x.toInt64, .long 1, .long 60]) (rest := []) hX (K_X2_in l g x.toInt64 1 60) (cs_q900 hX ⟨Nat.le_of_ble_eq_true rfl, Nat.le_of_ble_eq_true rfl⟩) va_P_nil trivial rfl hl.1 rfl (Nat.le_of_ble_eq_true rfl) dX2_years_6 ⟨Nat.zero_le _, Nat.zero_le _⟩) ?_
  refine lv_seti (v := (b01 (inP x 1 60))) (inL_c (a := 1) (b := 60) (by decide) (by decide)) ?_
  refine lv_bif_eq (tgt := 28) hx hb dX2_years_9 (by decide) (fun c_1 => ?_) (fun c_1 => ?_)
  · refine lv_bipush (v := (-102)) hx hb dX2_years_28 (by decide) ?_
    exact EM.iret hX hr hlk hZ (ws1 := fun u => (wM g h R (myJ J x seed w) hs (va_up (va_up (va_up G 5 (u 5)) 6 (u 6)) 7 (u 7)))) G (by first | (simp only [myJ, if_neg c_1]; done) | (simp only [myJ, if_neg c_1]; rfl) | (simp only [myJ, if_neg c_1, ix_nI (show xx < 2 ^ 31 by omega)]; rfl)) (by first | (rw [yrsR, if_neg c_1]; done) | (rw [yrsR, if_pos c_1, if_pos c_none]; done) | (rw [yrsR, if_pos c_1, if_neg c_none, if_neg c_none]; done) | (rw [yrsR, if_pos c_1, if_neg c_none, if_pos c_none, if_pos (vI1.mpr c_none)]; done)) dX2_years_30
  obtain ⟨xx, hxx, rfl⟩ := inP_nat1 (b := 60) (by omega) c_1
  refine lv_iload_n hx hb dX2_years_12 rfl (lv_at hl 2 rfl) ?_
  refine lv_if_lt (tgt := 28) hx hb dX2_years_13 (by decide) (fun c_2 => ?_) (fun c_2 => ?_)
  · refine lv_bipush (v := (-102)) hx hb dX2_years_28 (by decide) ?_
    exact EM.iret hX hr hlk hZ (ws1 := fun u => (wM g h R (myJ J (nI xx) seed w) hs (va_up (va_up (va_up G 5 (u 5)) 6 (u 6)) 7 (u 7)))) G (by first | (simp only [myJ, if_pos c_1, if_pos c_2]; done) | (simp only [myJ, if_pos c_1, if_pos c_2]; rfl) | (simp only [myJ, if_pos c_1, if_pos c_2, ix_nI (show xx < 2 ^ 31 by omega)]; rfl)) (by first | (rw [yrsR, if_neg c_1]; done) | (rw [yrsR, if_pos c_1, if_pos c_2]; done) | (rw [yrsR, if_pos c_1, if_neg c_2, if_neg c_none]; done) | (rw [yrsR, if_pos c_1, if_neg c_2, if_pos c_none, if_pos (vI1.mpr c_none)]; done)) dX2_years_30
  refine lv_iload_n hx hb dX2_years_16 rfl (lv_at hl 3 rfl) ?_
  refine lv_i2l (v := w.toInt64) hx hb dX2_years_17 rfl ?_
  refine lv_lconst (v := 0) hx hb dX2_years_18 (by decide) ?_
  refine lv_ldc2 (v := 2) hx hb hX.1.2.2.2.1 (hX.w q1107) dX2_years_19 ?_
  refine PM.ci (PM.runS (As := [.long w.toInt64, .long 0, .long 2]) (rest := []) hX (K_X2_in l g w.toInt64 0 2) (cs_q900 hX ⟨Nat.le_of_ble_eq_true rfl, Nat.le_of_ble_eq_true rfl⟩) va_P_nil trivial rfl hl.1 rfl (Nat.le_of_ble_eq_true rfl) dX2_years_22 ⟨Nat.zero_le _, Nat.zero_le _⟩) ?_
  refine lv_seti (v := (b01 (inP w 0 2))) (inL_c (a := 0) (b := 2) (by decide) (by decide)) ?_
  refine lv_bif_ne (tgt := 31) hx hb dX2_years_25 (by decide) (fun c_3 => ?_) (fun c_3 => ?_)
  · refine lv_aload_n hx hb dX2_years_31 rfl (lv_at hl 0 rfl) ?_
    refine PM.ci (PM.runV (As := []) (rest := []) hX (K_X2_lacks l g h R J hs G) (cv_q944 hX ⟨Nat.le_of_ble_eq_true rfl, Nat.le_of_ble_eq_true rfl⟩) hZ.1 trivial (r_recv hX hZ.1 0 rfl rfl) rfl hl.1 rfl (Nat.le_of_ble_eq_true rfl) dX2_years_32 ⟨Nat.zero_le _, Nat.zero_le _⟩) ?_
    refine lv_bif_eq (tgt := 41) hx hb dX2_years_35 (by decide) (fun c_4 => ?_) (fun c_4 => ?_)
    · have hsm := hsum c_4
      have hlt := hlo_ c_4
      refine lv_aload_n hx hb dX2_years_41 rfl (lv_at hl 0 rfl) ?_
      refine MM.cvA (MM.runV (As := []) (rest := []) hX (K_X2_asItIs l g h R J hs G (RoK.tt _)) (cv_q995 hX ⟨Nat.le_of_ble_eq_true rfl, Nat.le_of_ble_eq_true rfl⟩) hZ.1 hZ.2.1 trivial (r_recv hX hZ.1 0 rfl rfl) rfl hl.1 rfl (Nat.le_of_ble_eq_true rfl) dX2_years_42 ⟨Nat.zero_le _, Nat.zero_le _⟩) hZ adM (fun H locs hZ => ?_)
      refine lv_aload_n hx hb dX2_years_45 rfl (lv_at hl 0 rfl) ?_
      refine lv_iload_n hx hb dX2_years_46 rfl (lv_at hl 2 rfl) ?_
      refine pf_q826 (ws1 := (wM g h R (upd J 19 seed) hs (va_up (va_up G 5 (G 3)) 6 (G 4)))) hX hZ 0 rfl (Nat.le_of_ble_eq_true rfl) rfl dX2_years_47 (fun H locs hZ => ?_)
      refine lv_iconst (v := 0) hx hb dX2_years_50 (by decide) ?_
      refine lv_istore (lv' := [(4, .int 0), (0, .ref h), (1, .int (nI xx)), (2, .int seed), (3, .int w)]) hx hb dX2_years_51 hl (by decide) rfl (fun ls hl => ?_)
      refine W_loopU (α := Nat) (P := fun (j : Nat) (u : Nat → Nat → Int32) (H : Heap) (locs : List Loc) (ls : Array Slot) => j ≤ xx ∧ Zt g A s.heap roT (wM g h R (upd J 19 ((drI seed.toInt64 j).toInt32)) hs (va_up (va_up (va_up G 5 ((ysF kd (J 2) pt n_ lo (G 3, G 4) seed.toInt64 j).1)) 6 ((ysF kd (J 2) pt n_ lo (G 3, G 4) seed.toInt64 j).2)) 7 (u 7))) H locs ∧ lv_has ls 6 [(0, .ref h), (1, .int (nI xx)), (2, .int seed), (3, .int w), (4, .int (nI j))]) (fun j => xx - j) 0 (va_up (va_up G 5 (G 3)) 6 (G 4)) ⟨Nat.zero_le _, hZ.cast (by rw [drI_0]; rfl), lv_cast (lv_sub (l' := [(0, .ref h), (1, .int (nI xx)), (2, .int seed), (3, .int w), (4, .int 0)]) hl [1, 2, 3, 4, 0] rfl) (rfl)⟩ ?_
      rintro j u H locs ls ⟨hj, hZ, hl⟩ ihj
      refine lv_iload hx hb dX2_years_53 (lv_at hl 4 rfl) ?_
      refine lv_iload_n hx hb dX2_years_55 rfl (lv_at hl 1 rfl) ?_
      refine lv_icmp_ge (tgt := 81) hx hb dX2_years_56 (by decide) (fun c_5 => ?_) (fun c_5 => ?_)
      · have c_5n : xx ≤ j := (nI_leI (a := xx) (b := j) (by omega) (by omega)).mp c_5
        have ej : xx = j := by omega
        subst ej
        refine lv_iconst (v := 0) hx hb dX2_years_81 (by decide) ?_
        refine lv_istore (lv' := [(4, .int 0), (0, .ref h), (1, .int (nI xx)), (2, .int seed), (3, .int w)]) hx hb dX2_years_82 hl (by decide) rfl (fun ls hl => ?_)
        refine lv_iconst (v := 0) hx hb dX2_years_84 (by decide) ?_
        refine lv_istore (lv' := [(5, .int 0), (4, .int 0), (0, .ref h), (1, .int (nI xx)), (2, .int seed), (3, .int w)]) hx hb dX2_years_85 hl (by decide) rfl (fun ls hl => ?_)
        refine W_loop (α := Nat) (P := fun (k : Nat) (H : Heap) (locs : List Loc) (ls : Array Slot) => k ≤ n_ ∧ Zt g A s.heap roT (wM g h R (upd J 19 ((drI seed.toInt64 xx).toInt32)) hs (va_up (va_up (va_up G 5 ((ysF kd (J 2) pt n_ lo (G 3, G 4) seed.toInt64 xx).1)) 6 ((ysF kd (J 2) pt n_ lo (G 3, G 4) seed.toInt64 xx).2)) 7 (u 7))) H locs ∧ lv_has ls 6 [(0, .ref h), (1, .int (nI xx)), (2, .int seed), (3, .int w), (4, .int (oaF (ysF kd (J 2) pt n_ lo (G 3, G 4) seed.toInt64 xx).1 k)), (5, .int (nI k))]) (fun k => n_ - k) 0 ⟨Nat.zero_le _, hZ.cast (rfl), lv_cast (lv_sub (l' := [(0, .ref h), (1, .int (nI xx)), (2, .int seed), (3, .int w), (4, .int 0), (5, .int 0)]) hl [2, 3, 4, 5, 1, 0] rfl) (rfl)⟩ ?_
        rintro k H locs ls ⟨hk, hZ, hl⟩ ihk
        refine lv_iload hx hb dX2_years_87 (lv_at hl 5 rfl) ?_
        refine lv_aload_n hx hb dX2_years_89 rfl (lv_at hl 0 rfl) ?_
        refine gf_q813 (v := .int (J 6)) hX hZ.1 0 rfl rfl dX2_years_90 ?_
        refine lv_seti (v := (nI n_)) (hJ6) ?_
        refine lv_icmp_ge (tgt := 117) hx hb dX2_years_93 (by decide) (fun c_6 => ?_) (fun c_6 => ?_)
        · have c_6n : n_ ≤ k := (nI_leI (a := n_) (b := k) (by omega) (by omega)).mp c_6
          have ek : n_ = k := by omega
          subst ek
          have hoa := oa_all (lv := (ysF kd (J 2) pt n_ lo (G 3, G 4) seed.toInt64 xx).1) (ysF_ok hn hlv hk5 (fun t ht => lbG_lt hsm ht) xx) n_ (Nat.le_refl n_)
          refine lv_iload_n hx hb dX2_years_117 rfl (lv_at hl 3 rfl) ?_
          refine lv_if_ne (tgt := 128) hx hb dX2_years_118 (by decide) (fun c_7 => ?_) (fun c_7 => ?_)
          · refine lv_iload_n hx hb dX2_years_128 rfl (lv_at hl 3 rfl) ?_
            refine lv_iconst (v := 1) hx hb dX2_years_129 (by decide) ?_
            refine lv_icmp_ne (tgt := 138) hx hb dX2_years_130 (by decide) (fun c_8 => ?_) (fun c_8 => ?_)
            · refine lv_aload_n hx hb dX2_years_138 rfl (lv_at hl 0 rfl) ?_
              refine gf_q826 (v := .int ((drI seed.toInt64 xx).toInt32)) hX hZ.1 0 rfl rfl dX2_years_139 ?_
              exact EM.iret hX hr hlk hZ (ws1 := fun u => (wM g h R (myJ J (nI xx) seed w) hs (va_up (va_up (va_up G 5 (u 5)) 6 (u 6)) 7 (u 7)))) (va_up (va_up (va_up G 5 ((ysF kd (J 2) pt n_ lo (G 3, G 4) seed.toInt64 xx).1)) 6 ((ysF kd (J 2) pt n_ lo (G 3, G 4) seed.toInt64 xx).2)) 7 (u 7)) (by first | (simp only [myJ, if_pos c_1, if_neg c_2, if_pos c_3, if_neg c_4, if_pos c_5, if_pos c_6, if_neg c_7, if_neg c_8]; done) | (simp only [myJ, if_pos c_1, if_neg c_2, if_pos c_3, if_neg c_4, if_pos c_5, if_pos c_6, if_neg c_7, if_neg c_8]; rfl) | (simp only [myJ, if_pos c_1, if_neg c_2, if_pos c_3, if_neg c_4, if_pos c_5, if_pos c_6, if_neg c_7, if_neg c_8, ix_nI (show xx < 2 ^ 31 by omega)]; rfl)) (by rw [yrsR, if_pos c_1, if_neg c_2, if_pos c_3, if_neg (fun q => c_4 (vI1.mp q)), ix_nI (show xx < 2 ^ 31 by omega), ytR] <;> first | (rw [if_neg c_8]; done) | (rw [if_neg c_8]; rfl) | (simp only [if_pos c_1, if_neg c_2, if_pos c_3, if_neg c_4, if_pos c_5, if_pos c_6, if_neg c_7, if_neg c_8]; done) | (simp only [if_pos c_1, if_neg c_2, if_pos c_3, if_neg c_4, if_pos c_5, if_pos c_6, if_neg c_7, if_neg c_8]; exact hoa) | (simp only [if_pos c_1, if_neg c_2, if_pos c_3, if_neg c_4, if_pos c_5, if_pos c_6, if_neg c_7, if_neg c_8]; rfl)) dX2_years_142
            refine lv_iload hx hb dX2_years_133 (lv_at hl 4 rfl) ?_
            refine lv_goto (tgt := 142) hx hb dX2_years_135 (by decide) ?_
            exact EM.iret hX hr hlk hZ (ws1 := fun u => (wM g h R (myJ J (nI xx) seed w) hs (va_up (va_up (va_up G 5 (u 5)) 6 (u 6)) 7 (u 7)))) (va_up (va_up (va_up G 5 ((ysF kd (J 2) pt n_ lo (G 3, G 4) seed.toInt64 xx).1)) 6 ((ysF kd (J 2) pt n_ lo (G 3, G 4) seed.toInt64 xx).2)) 7 (u 7)) (by first | (simp only [myJ, if_pos c_1, if_neg c_2, if_pos c_3, if_neg c_4, if_pos c_5, if_pos c_6, if_neg c_7, if_pos c_8]; done) | (simp only [myJ, if_pos c_1, if_neg c_2, if_pos c_3, if_neg c_4, if_pos c_5, if_pos c_6, if_neg c_7, if_pos c_8]; rfl) | (simp only [myJ, if_pos c_1, if_neg c_2, if_pos c_3, if_neg c_4, if_pos c_5, if_pos c_6, if_neg c_7, if_pos c_8, ix_nI (show xx < 2 ^ 31 by omega)]; rfl)) (by rw [yrsR, if_pos c_1, if_neg c_2, if_pos c_3, if_neg (fun q => c_4 (vI1.mp q)), ix_nI (show xx < 2 ^ 31 by omega), ytR] <;> first | (rw [if_pos c_8]; done) | (rw [if_pos c_8]; rfl) | (simp only [if_pos c_1, if_neg c_2, if_pos c_3, if_neg c_4, if_pos c_5, if_pos c_6, if_neg c_7, if_pos c_8]; done) | (simp only [if_pos c_1, if_neg c_2, if_pos c_3, if_neg c_4, if_pos c_5, if_pos c_6, if_neg c_7, if_pos c_8]; exact hoa) | (simp only [if_pos c_1, if_neg c_2, if_pos c_3, if_neg c_4, if_pos c_5, if_pos c_6, if_neg c_7, if_pos c_8]; rfl)) dX2_years_142
          refine lv_aload_n hx hb dX2_years_121 rfl (lv_at hl 0 rfl) ?_
          refine PM.ci (PM.runV (As := []) (rest := []) hX (K_X2_livesNow l g h R (upd J 19 ((drI seed.toInt64 xx).toInt32)) hs (va_up (va_up (va_up G 5 ((ysF kd (J 2) pt n_ lo (G 3, G 4) seed.toInt64 xx).1)) 6 ((ysF kd (J 2) pt n_ lo (G 3, G 4) seed.toInt64 xx).2)) 7 (u 7)) n_ (by omega) (hJ6)) (cv_q1094 hX ⟨Nat.le_of_ble_eq_true rfl, Nat.le_of_ble_eq_true rfl⟩) hZ.1 trivial (r_recv hX hZ.1 0 rfl rfl) rfl hl.1 rfl (Nat.le_of_ble_eq_true rfl) dX2_years_122 ⟨Nat.zero_le _, Nat.zero_le _⟩) ?_
          refine lv_seti (v := (livF ((ysF kd (J 2) pt n_ lo (G 3, G 4) seed.toInt64 xx).1) n_)) (rfl) ?_
          refine lv_goto (tgt := 142) hx hb dX2_years_125 (by decide) ?_
          exact EM.iret hX hr hlk hZ (ws1 := fun u => (wM g h R (myJ J (nI xx) seed w) hs (va_up (va_up (va_up G 5 (u 5)) 6 (u 6)) 7 (u 7)))) (va_up (va_up (va_up G 5 ((ysF kd (J 2) pt n_ lo (G 3, G 4) seed.toInt64 xx).1)) 6 ((ysF kd (J 2) pt n_ lo (G 3, G 4) seed.toInt64 xx).2)) 7 (u 7)) (by first | (simp only [myJ, if_pos c_1, if_neg c_2, if_pos c_3, if_neg c_4, if_pos c_5, if_pos c_6, if_pos c_7]; done) | (simp only [myJ, if_pos c_1, if_neg c_2, if_pos c_3, if_neg c_4, if_pos c_5, if_pos c_6, if_pos c_7]; rfl) | (simp only [myJ, if_pos c_1, if_neg c_2, if_pos c_3, if_neg c_4, if_pos c_5, if_pos c_6, if_pos c_7, ix_nI (show xx < 2 ^ 31 by omega)]; rfl)) (by rw [yrsR, if_pos c_1, if_neg c_2, if_pos c_3, if_neg (fun q => c_4 (vI1.mp q)), ix_nI (show xx < 2 ^ 31 by omega), ytR] <;> first | (rw [if_pos c_7]; done) | (rw [if_pos c_7]; rfl) | (simp only [if_pos c_1, if_neg c_2, if_pos c_3, if_neg c_4, if_pos c_5, if_pos c_6, if_pos c_7]; done) | (simp only [if_pos c_1, if_neg c_2, if_pos c_3, if_neg c_4, if_pos c_5, if_pos c_6, if_pos c_7]; exact hoa) | (simp only [if_pos c_1, if_neg c_2, if_pos c_3, if_neg c_4, if_pos c_5, if_pos c_6, if_pos c_7]; rfl)) dX2_years_142
        have c_6n : ¬ n_ ≤ k := fun zz_ => c_6 ((nI_leI (a := n_) (b := k) (by omega) (by omega)).mpr zz_)
        refine lv_iload hx hb dX2_years_96 (lv_at hl 4 rfl) ?_
        refine lv_aload_n hx hb dX2_years_98 rfl (lv_at hl 0 rfl) ?_
        refine gf_q817 (v := .ref (R 10)) hX hZ.1 0 rfl rfl dX2_years_99 ?_
        refine lv_iload hx hb dX2_years_102 (lv_at hl 5 rfl) ?_
        refine r_iald (f := ((ysF kd (J 2) pt n_ lo (G 3, G 4) seed.toInt64 xx).1)) hX hZ.1 6 rfl k (by omega) (by omega) dX2_years_104 ?_
        refine PM.ci (PM.runS (As := [.int (((ysF kd (J 2) pt n_ lo (G 3, G 4) seed.toInt64 xx).1) k)]) (rest := [.int (oaF (ysF kd (J 2) pt n_ lo (G 3, G 4) seed.toInt64 xx).1 k)]) hX (K_X2_ones l g (((ysF kd (J 2) pt n_ lo (G 3, G 4) seed.toInt64 xx).1) k)) (cs_q976 hX ⟨Nat.le_of_ble_eq_true rfl, Nat.le_of_ble_eq_true rfl⟩) va_P_nil trivial rfl hl.1 rfl (Nat.le_of_ble_eq_true rfl) dX2_years_105 ⟨Nat.zero_le _, Nat.zero_le _⟩) ?_
        refine lv_iadd hx hb dX2_years_108 ?_
        refine lv_istore (lv' := [(4, .int ((oaF (ysF kd (J 2) pt n_ lo (G 3, G 4) seed.toInt64 xx).1 k) + (onF (((ysF kd (J 2) pt n_ lo (G 3, G 4) seed.toInt64 xx).1) k) 6))), (0, .ref h), (1, .int (nI xx)), (2, .int seed), (3, .int w), (5, .int (nI k))]) hx hb dX2_years_109 hl (by decide) rfl (fun ls hl => ?_)
        refine lv_iinc (v := (nI (k + 1))) (lv' := [(5, .int (nI (k + 1))), (4, .int ((oaF (ysF kd (J 2) pt n_ lo (G 3, G 4) seed.toInt64 xx).1 k) + (onF (((ysF kd (J 2) pt n_ lo (G 3, G 4) seed.toInt64 xx).1) k) 6))), (0, .ref h), (1, .int (nI xx)), (2, .int seed), (3, .int w)]) hx hb dX2_years_111 hl (k := 5) rfl (nI_1 _) (by decide) rfl (fun ls hl => ?_)
        refine lv_goto (tgt := 87) hx hb dX2_years_114 (by decide) ?_
        exact ihk (k + 1) _ _ _ ⟨by omega, hZ.cast (rfl), lv_cast (lv_sub (l' := [(0, .ref h), (1, .int (nI xx)), (2, .int seed), (3, .int w), (4, .int ((oaF (ysF kd (J 2) pt n_ lo (G 3, G 4) seed.toInt64 xx).1 k) + (onF (((ysF kd (J 2) pt n_ lo (G 3, G 4) seed.toInt64 xx).1) k) 6))), (5, .int (nI (k + 1)))]) hl [2, 3, 4, 5, 1, 0] rfl) (by rfl)⟩ (by omega)
      have c_5n : ¬ xx ≤ j := fun zz_ => c_5 ((nI_leI (a := xx) (b := j) (by omega) (by omega)).mpr zz_)
      refine lv_aload_n hx hb dX2_years_59 rfl (lv_at hl 0 rfl) ?_
      refine lv_aload_n hx hb dX2_years_60 rfl (lv_at hl 0 rfl) ?_
      refine lv_aload_n hx hb dX2_years_61 rfl (lv_at hl 0 rfl) ?_
      refine lv_bipush (v := 10) hx hb dX2_years_62 (by decide) ?_
      refine MM.ciA (MM.runV (As := [.int 10]) (rest := [.ref h, .ref h]) hX (K_X2_draw l g h R (upd J 19 ((drI seed.toInt64 j).toInt32)) hs (va_up (va_up (va_up G 5 ((ysF kd (J 2) pt n_ lo (G 3, G 4) seed.toInt64 j).1)) 6 ((ysF kd (J 2) pt n_ lo (G 3, G 4) seed.toInt64 j).2)) 7 (u 7)) 10 (rfl) (RoK.tt _)) (cv_q1108 hX ⟨Nat.le_of_ble_eq_true rfl, Nat.le_of_ble_eq_true rfl⟩) hZ.1 hZ.2.1 trivial (r_recv hX hZ.1 0 rfl rfl) rfl hl.1 rfl (Nat.le_of_ble_eq_true rfl) dX2_years_64 ⟨Nat.zero_le _, Nat.zero_le _⟩) hZ adM (fun H locs hZ => ?_)
      refine lv_seti (v := (drR ((drI seed.toInt64 j).toInt32).toInt64 10)) (rfl) ?_
      have hdr := drR_nat (drI seed.toInt64 j)
      refine lv_seti (v := (nI (ix (drR (drI seed.toInt64 j) 10)))) (by rw [drI_rt]; exact hdr.1) ?_
      refine PM.ci (PM.runV (As := [.int (nI (ix (drR (drI seed.toInt64 j) 10)))]) (rest := [.ref h]) hX (K_X2_lotOf l g h R (upd J 19 ((drF ((drI seed.toInt64 j).toInt32).toInt64).toInt32)) hs (va_up (va_up (va_up G 5 ((ysF kd (J 2) pt n_ lo (G 3, G 4) seed.toInt64 j).1)) 6 ((ysF kd (J 2) pt n_ lo (G 3, G 4) seed.toInt64 j).2)) 7 (u 7)) (ix (drR (drI seed.toInt64 j) 10)) lo (hdr.2) (hlt) (hsm)) (cv_q1116 hX ⟨Nat.le_of_ble_eq_true rfl, Nat.le_of_ble_eq_true rfl⟩) hZ.1 trivial (r_recv hX hZ.1 0 rfl rfl) rfl hl.1 rfl (Nat.le_of_ble_eq_true rfl) dX2_years_67 ⟨Nat.zero_le _, Nat.zero_le _⟩) ?_
      refine EM.ciA (EM.runV (As := [.int (nI (lbG lo (ix (drR (drI seed.toInt64 j) 10)) 6 0))]) (rest := []) hX (K_X2_pass l g h R (upd J 19 ((drF ((drI seed.toInt64 j).toInt32).toInt64).toInt32)) hs (va_up (va_up (va_up G 5 ((ysF kd (J 2) pt n_ lo (G 3, G 4) seed.toInt64 j).1)) 6 ((ysF kd (J 2) pt n_ lo (G 3, G 4) seed.toInt64 j).2)) 7 (u 7)) (lbG lo (ix (drR (drI seed.toInt64 j) 10)) 6 0) n_ kd pt (by omega) (hJ6) (hrow) (lbG_lt hsm hdr.2) (ysF_ok hn hlv hk5 (fun t ht => lbG_lt hsm ht) j) (RoK.tt _)) (cv_q999 hX ⟨Nat.le_of_ble_eq_true rfl, Nat.le_of_ble_eq_true rfl⟩) hZ.1 hZ.2.1 trivial (r_recv hX hZ.1 0 rfl rfl) rfl hl.1 rfl (Nat.le_of_ble_eq_true rfl) dX2_years_70 ⟨Nat.zero_le _, Nat.zero_le _⟩) hZ (fun _ => adM) (fun u_9 H locs hZ => ?_)
      refine lv_seti (v := (brR kd pt ((ysF kd (J 2) pt n_ lo (G 3, G 4) seed.toInt64 j).1) ((ysF kd (J 2) pt n_ lo (G 3, G 4) seed.toInt64 j).2) (nI (lbG lo (ix (drR (drI seed.toInt64 j) 10)) 6 0)) n_)) (rfl) ?_
      refine lv_istore (lv' := [(5, .int (brR kd pt ((ysF kd (J 2) pt n_ lo (G 3, G 4) seed.toInt64 j).1) ((ysF kd (J 2) pt n_ lo (G 3, G 4) seed.toInt64 j).2) (nI (lbG lo (ix (drR (drI seed.toInt64 j) 10)) 6 0)) n_)), (0, .ref h), (1, .int (nI xx)), (2, .int seed), (3, .int w), (4, .int (nI j))]) hx hb dX2_years_73 hl (by decide) rfl (fun ls hl => ?_)
      refine lv_iinc (v := (nI (j + 1))) (lv' := [(4, .int (nI (j + 1))), (5, .int (brR kd pt ((ysF kd (J 2) pt n_ lo (G 3, G 4) seed.toInt64 j).1) ((ysF kd (J 2) pt n_ lo (G 3, G 4) seed.toInt64 j).2) (nI (lbG lo (ix (drR (drI seed.toInt64 j) 10)) 6 0)) n_)), (0, .ref h), (1, .int (nI xx)), (2, .int seed), (3, .int w)]) hx hb dX2_years_75 hl (k := 5) rfl (nI_1 _) (by decide) rfl (fun ls hl => ?_)
      refine lv_goto (tgt := 53) hx hb dX2_years_78 (by decide) ?_
      exact ihj (j + 1) (va_up (va_up (va_up G 5 (brL kd (J 2) pt ((ysF kd (J 2) pt n_ lo (G 3, G 4) seed.toInt64 j).1) ((ysF kd (J 2) pt n_ lo (G 3, G 4) seed.toInt64 j).2) (nI (lbG lo (ix (drR (drI seed.toInt64 j) 10)) 6 0)) n_)) 6 (brK kd pt ((ysF kd (J 2) pt n_ lo (G 3, G 4) seed.toInt64 j).1) ((ysF kd (J 2) pt n_ lo (G 3, G 4) seed.toInt64 j).2) (nI (lbG lo (ix (drR (drI seed.toInt64 j) 10)) 6 0)) n_)) 7 (u_9 7)) _ _ _ ⟨by omega, hZ.cast (by rw [drI_rt]; rfl), lv_cast (lv_sub (l' := [(0, .ref h), (1, .int (nI xx)), (2, .int seed), (3, .int w), (4, .int (nI (j + 1)))]) hl [2, 3, 4, 5, 0] rfl) (by rfl)⟩ (by omega)
    refine lv_bipush (v := (-103)) hx hb dX2_years_38 (by decide) ?_
    exact EM.iret hX hr hlk hZ (ws1 := fun u => (wM g h R (myJ J (nI xx) seed w) hs (va_up (va_up (va_up G 5 (u 5)) 6 (u 6)) 7 (u 7)))) G (by first | (simp only [myJ, if_pos c_1, if_neg c_2, if_pos c_3, if_pos c_4]; done) | (simp only [myJ, if_pos c_1, if_neg c_2, if_pos c_3, if_pos c_4]; rfl) | (simp only [myJ, if_pos c_1, if_neg c_2, if_pos c_3, if_pos c_4, ix_nI (show xx < 2 ^ 31 by omega)]; rfl)) (by first | (rw [yrsR, if_neg c_1]; done) | (rw [yrsR, if_pos c_1, if_pos c_2]; done) | (rw [yrsR, if_pos c_1, if_neg c_2, if_neg c_3]; done) | (rw [yrsR, if_pos c_1, if_neg c_2, if_pos c_3, if_pos (vI1.mpr c_4)]; done)) dX2_years_40
  refine lv_bipush (v := (-102)) hx hb dX2_years_28 (by decide) ?_
  exact EM.iret hX hr hlk hZ (ws1 := fun u => (wM g h R (myJ J (nI xx) seed w) hs (va_up (va_up (va_up G 5 (u 5)) 6 (u 6)) 7 (u 7)))) G (by first | (simp only [myJ, if_pos c_1, if_neg c_2, if_neg c_3]; done) | (simp only [myJ, if_pos c_1, if_neg c_2, if_neg c_3]; rfl) | (simp only [myJ, if_pos c_1, if_neg c_2, if_neg c_3, ix_nI (show xx < 2 ^ 31 by omega)]; rfl)) (by first | (rw [yrsR, if_neg c_1]; done) | (rw [yrsR, if_pos c_1, if_pos c_2]; done) | (rw [yrsR, if_pos c_1, if_neg c_2, if_neg c_3]; done) | (rw [yrsR, if_pos c_1, if_neg c_2, if_pos c_3, if_pos (vI1.mpr c_none)]; done)) dX2_years_30

set_option maxHeartbeats 400000 in
set_option maxRecDepth 100000 in
theorem K_X2_copyTo (l : Launch) (g : Gx) (k : Nat) (ra : Nat) (fa : Nat → Int32) (rb : Nat) (fb : Nat → Int32) (hk : k < 1000) (hrk : RoK roT (wP2 g k ra fa rb fb)) : MM l g yX2_copyTo cX2_copyTo 3 none 0 [.ref ra, .ref rb] roT (wP2 g k ra fa rb fb) (wP2 g k ra fa rb fa) none := by
  refine MM.of (own := "BurntLettersModel") (by decide) rfl (Nat.le_of_ble_eq_true rfl) hrk ?_
  intro p e s m below meth c A hX hr hlk hZ ls hl
  have hx := hX.1.1
  have hb := hX.1.2.1
  have hl : lv_has ls 3 [(0, .ref ra), (1, .ref rb)] := hl
  refine lv_iconst (v := 0) hx hb dX2_copyTo_0 (by decide) ?_
  refine lv_istore_n (lv' := [(2, .int 0), (0, .ref ra), (1, .ref rb)]) hx hb dX2_copyTo_1 rfl hl (by decide) rfl (fun ls hl => ?_)
  refine W_loop (α := Nat) (P := fun (i : Nat) (H : Heap) (locs : List Loc) (ls : Array Slot) => i ≤ k ∧ Zt g A s.heap roT (wP2 g k ra fa rb (cpF fa fb i)) H locs ∧ lv_has ls 3 [(0, .ref ra), (1, .ref rb), (2, .int (nI i))]) (fun i => k - i) 0 ⟨Nat.zero_le _, hZ.cast (rfl), lv_cast (lv_sub (l' := [(0, .ref ra), (1, .ref rb), (2, .int 0)]) hl [1, 2, 0] rfl) (rfl)⟩ ?_
  rintro i H locs ls ⟨hi, hZ, hl⟩ ihi
  refine lv_iload_n hx hb dX2_copyTo_2 rfl (lv_at hl 2 rfl) ?_
  refine lv_aload_n hx hb dX2_copyTo_3 rfl (lv_at hl 0 rfl) ?_
  refine r_alen (v := (nI k)) hX hZ.1 0 rfl rfl dX2_copyTo_4 ?_
  refine lv_icmp_ge (tgt := 20) hx hb dX2_copyTo_5 (by decide) (fun c_1 => ?_) (fun c_1 => ?_)
  · have c_1n : k ≤ i := (nI_leI (a := k) (b := i) (by omega) (by omega)).mp c_1
    have ei : k = i := by omega
    subst ei
    have hZ := hZ.arr 1 fa rfl (cpF_in fa fb k)
    have hZ : Zt g A s.heap roT (wP2 g k ra fa rb fa) H locs := hZ
    exact MM.vret hX hr hlk hZ (rfl) dX2_copyTo_20
  have c_1n : ¬ k ≤ i := fun zz_ => c_1 ((nI_leI (a := k) (b := i) (by omega) (by omega)).mpr zz_)
  refine lv_aload_n hx hb dX2_copyTo_8 rfl (lv_at hl 1 rfl) ?_
  refine lv_iload_n hx hb dX2_copyTo_9 rfl (lv_at hl 2 rfl) ?_
  refine lv_aload_n hx hb dX2_copyTo_10 rfl (lv_at hl 0 rfl) ?_
  refine lv_iload_n hx hb dX2_copyTo_11 rfl (lv_at hl 2 rfl) ?_
  refine r_iald (f := fa) hX hZ.1 0 rfl i (by omega) (by omega) dX2_copyTo_12 ?_
  refine r_iast (f := (cpF fa fb i)) (x := (fa i)) (ws1 := (wP2 g k ra fa rb (upd (cpF fa fb i) i (fa i)))) hX hZ 1 rfl i (by omega) (by omega) dX2_copyTo_13 rfl (fun H locs hZ => ?_)
  refine lv_iinc (v := (nI (i + 1))) (lv' := [(2, .int (nI (i + 1))), (0, .ref ra), (1, .ref rb)]) hx hb dX2_copyTo_14 hl (k := 2) rfl (nI_1 _) (by decide) rfl (fun ls hl => ?_)
  refine lv_goto (tgt := 2) hx hb dX2_copyTo_17 (by decide) ?_
  exact ihi (i + 1) _ _ _ ⟨by omega, hZ.cast (rfl), lv_cast (lv_sub (l' := [(0, .ref ra), (1, .ref rb), (2, .int (nI (i + 1)))]) hl [1, 2, 0] rfl) (by rfl)⟩ (by omega)

set_option maxHeartbeats 400000 in
set_option maxRecDepth 100000 in
theorem K_X2_image (l : Launch) (g : Gx) (h : Nat) (R : Nat → Nat) (J : Nat → Int32) (hs : Int64) (G : Nat → Nat → Int32) (n_ : Nat) (hJ6 : (J 6) = nI n_) (hrk : RoK roT (wM g h R J hs G)) : MM l g yX2_image cX2_image 1 (some .int) 1 [.ref h] roT (wM g h R J hs G) (wM g h R (mimJ J n_) hs (mimG J G)) (some (.int (imgR (vI J)))) := by
  refine MM.of (own := "BurntLettersModel") (by decide) rfl (Nat.le_of_ble_eq_true rfl) hrk ?_
  intro p e s m below meth c A hX hr hlk hZ ls hl
  have hx := hX.1.1
  have hb := hX.1.2.1
  have hl : lv_has ls 1 [(0, .ref h)] := hl
  refine lv_aload_n hx hb dX2_image_0 rfl (lv_at hl 0 rfl) ?_
  refine PM.ci (PM.runV (As := []) (rest := []) hX (K_X2_lacks l g h R J hs G) (cv_q944 hX ⟨Nat.le_of_ble_eq_true rfl, Nat.le_of_ble_eq_true rfl⟩) hZ.1 trivial (r_recv hX hZ.1 0 rfl rfl) rfl hl.1 rfl (Nat.le_of_ble_eq_true rfl) dX2_image_1 ⟨Nat.zero_le _, Nat.zero_le _⟩) ?_
  refine lv_bif_eq (tgt := 10) hx hb dX2_image_4 (by decide) (fun c_1 => ?_) (fun c_1 => ?_)
  · refine lv_aload_n hx hb dX2_image_10 rfl (lv_at hl 0 rfl) ?_
    refine gf_q814 (v := .ref (R 7)) hX hZ.1 0 rfl rfl dX2_image_11 ?_
    refine lv_aload_n hx hb dX2_image_14 rfl (lv_at hl 0 rfl) ?_
    refine gf_q831 (v := .ref (R 24)) hX hZ.1 0 rfl rfl dX2_image_15 ?_
    refine MM.cv (MM.runS (As := [.ref (R 7), .ref (R 24)]) (rest := []) hX (K_X2_copyTo l g 10 (R 7) (G 2) (R 24) (G 11) (by omega) (RoK.tt _)) (cs_q1124 hX ⟨Nat.le_of_ble_eq_true rfl, Nat.le_of_ble_eq_true rfl⟩) (hZ.1.sub (ws' := (wP2 g 10 (R 7) (G 2) (R 24) (G 11))) [3, 12] rfl) (hZ.2.1.sub (ws' := (wP2 g 10 (R 7) (G 2) (R 24) (G 11))) [3, 12] (by decide) rfl) trivial rfl hl.1 rfl (Nat.le_of_ble_eq_true rfl) dX2_image_18 ⟨Nat.zero_le _, Nat.zero_le _⟩) hZ (ws1 := (wM g h R J hs (va_up G 11 (G 2)))) [3, 12] rfl rfl rfl rfl (fun H locs hZ => ?_)
    refine lv_aload_n hx hb dX2_image_21 rfl (lv_at hl 0 rfl) ?_
    refine gf_q815 (v := .ref (R 8)) hX hZ.1 0 rfl rfl dX2_image_22 ?_
    refine lv_aload_n hx hb dX2_image_25 rfl (lv_at hl 0 rfl) ?_
    refine gf_q832 (v := .ref (R 25)) hX hZ.1 0 rfl rfl dX2_image_26 ?_
    refine MM.cv (MM.runS (As := [.ref (R 8), .ref (R 25)]) (rest := []) hX (K_X2_copyTo l g 5 (R 8) (G 3) (R 25) (G 12) (by omega) (RoK.tt _)) (cs_q1124 hX ⟨Nat.le_of_ble_eq_true rfl, Nat.le_of_ble_eq_true rfl⟩) (hZ.1.sub (ws' := (wP2 g 5 (R 8) (G 3) (R 25) (G 12))) [4, 13] rfl) (hZ.2.1.sub (ws' := (wP2 g 5 (R 8) (G 3) (R 25) (G 12))) [4, 13] (by decide) rfl) trivial rfl hl.1 rfl (Nat.le_of_ble_eq_true rfl) dX2_image_29 ⟨Nat.zero_le _, Nat.zero_le _⟩) hZ (ws1 := (wM g h R J hs (va_up (va_up G 11 (G 2)) 12 (G 3)))) [4, 13] rfl rfl rfl rfl (fun H locs hZ => ?_)
    refine lv_aload_n hx hb dX2_image_32 rfl (lv_at hl 0 rfl) ?_
    refine gf_q816 (v := .ref (R 9)) hX hZ.1 0 rfl rfl dX2_image_33 ?_
    refine lv_aload_n hx hb dX2_image_36 rfl (lv_at hl 0 rfl) ?_
    refine gf_q833 (v := .ref (R 26)) hX hZ.1 0 rfl rfl dX2_image_37 ?_
    refine MM.cv (MM.runS (As := [.ref (R 9), .ref (R 26)]) (rest := []) hX (K_X2_copyTo l g 5 (R 9) (G 4) (R 26) (G 13) (by omega) (RoK.tt _)) (cs_q1124 hX ⟨Nat.le_of_ble_eq_true rfl, Nat.le_of_ble_eq_true rfl⟩) (hZ.1.sub (ws' := (wP2 g 5 (R 9) (G 4) (R 26) (G 13))) [5, 14] rfl) (hZ.2.1.sub (ws' := (wP2 g 5 (R 9) (G 4) (R 26) (G 13))) [5, 14] (by decide) rfl) trivial rfl hl.1 rfl (Nat.le_of_ble_eq_true rfl) dX2_image_40 ⟨Nat.zero_le _, Nat.zero_le _⟩) hZ (ws1 := (wM g h R J hs (va_up (va_up (va_up G 11 (G 2)) 12 (G 3)) 13 (G 4)))) [5, 14] rfl rfl rfl rfl (fun H locs hZ => ?_)
    refine lv_aload_n hx hb dX2_image_43 rfl (lv_at hl 0 rfl) ?_
    refine gf_q824 (v := .ref (R 17)) hX hZ.1 0 rfl rfl dX2_image_44 ?_
    refine lv_aload_n hx hb dX2_image_47 rfl (lv_at hl 0 rfl) ?_
    refine gf_q834 (v := .ref (R 27)) hX hZ.1 0 rfl rfl dX2_image_48 ?_
    refine MM.cv (MM.runS (As := [.ref (R 17), .ref (R 27)]) (rest := []) hX (K_X2_copyTo l g 5 (R 17) (G 9) (R 27) (G 14) (by omega) (RoK.tt _)) (cs_q1124 hX ⟨Nat.le_of_ble_eq_true rfl, Nat.le_of_ble_eq_true rfl⟩) (hZ.1.sub (ws' := (wP2 g 5 (R 17) (G 9) (R 27) (G 14))) [10, 15] rfl) (hZ.2.1.sub (ws' := (wP2 g 5 (R 17) (G 9) (R 27) (G 14))) [10, 15] (by decide) rfl) trivial rfl hl.1 rfl (Nat.le_of_ble_eq_true rfl) dX2_image_51 ⟨Nat.zero_le _, Nat.zero_le _⟩) hZ (ws1 := (wM g h R J hs (va_up (va_up (va_up (va_up G 11 (G 2)) 12 (G 3)) 13 (G 4)) 14 (G 9)))) [10, 15] rfl rfl rfl rfl (fun H locs hZ => ?_)
    refine lv_aload_n hx hb dX2_image_54 rfl (lv_at hl 0 rfl) ?_
    refine lv_aload_n hx hb dX2_image_55 rfl (lv_at hl 0 rfl) ?_
    refine gf_q813 (v := .int (J 6)) hX hZ.1 0 rfl rfl dX2_image_56 ?_
    refine lv_seti (v := (nI n_)) (hJ6) ?_
    refine pf_q828 (ws1 := (wM g h R (upd J 21 (nI n_)) hs (va_up (va_up (va_up (va_up G 11 (G 2)) 12 (G 3)) 13 (G 4)) 14 (G 9)))) hX hZ 0 rfl (Nat.le_of_ble_eq_true rfl) rfl dX2_image_59 (fun H locs hZ => ?_)
    refine lv_aload_n hx hb dX2_image_62 rfl (lv_at hl 0 rfl) ?_
    refine lv_aload_n hx hb dX2_image_63 rfl (lv_at hl 0 rfl) ?_
    refine gf_q810 (v := .int (J 3)) hX hZ.1 0 rfl rfl dX2_image_64 ?_
    refine pf_q829 (ws1 := (wM g h R (upd (upd J 21 (nI n_)) 22 (J 3)) hs (va_up (va_up (va_up (va_up G 11 (G 2)) 12 (G 3)) 13 (G 4)) 14 (G 9)))) hX hZ 0 rfl (Nat.le_of_ble_eq_true rfl) rfl dX2_image_67 (fun H locs hZ => ?_)
    refine lv_aload_n hx hb dX2_image_70 rfl (lv_at hl 0 rfl) ?_
    refine lv_aload_n hx hb dX2_image_71 rfl (lv_at hl 0 rfl) ?_
    refine gf_q823 (v := .int (J 16)) hX hZ.1 0 rfl rfl dX2_image_72 ?_
    refine pf_q830 (ws1 := (wM g h R (upd (upd (upd J 21 (nI n_)) 22 (J 3)) 23 (J 16)) hs (va_up (va_up (va_up (va_up G 11 (G 2)) 12 (G 3)) 13 (G 4)) 14 (G 9)))) hX hZ 0 rfl (Nat.le_of_ble_eq_true rfl) rfl dX2_image_75 (fun H locs hZ => ?_)
    refine lv_aload_n hx hb dX2_image_78 rfl (lv_at hl 0 rfl) ?_
    refine lv_aload_n hx hb dX2_image_79 rfl (lv_at hl 0 rfl) ?_
    refine gf_q811 (v := .int (J 4)) hX hZ.1 0 rfl rfl dX2_image_80 ?_
    refine pf_q827 (ws1 := (wM g h R (upd (upd (upd (upd J 21 (nI n_)) 22 (J 3)) 23 (J 16)) 20 (J 4)) hs (va_up (va_up (va_up (va_up G 11 (G 2)) 12 (G 3)) 13 (G 4)) 14 (G 9)))) hX hZ 0 rfl (Nat.le_of_ble_eq_true rfl) rfl dX2_image_83 (fun H locs hZ => ?_)
    refine lv_aload_n hx hb dX2_image_86 rfl (lv_at hl 0 rfl) ?_
    refine gf_q810 (v := .int (J 3)) hX hZ.1 0 rfl rfl dX2_image_87 ?_
    exact MM.iret hX hr hlk hZ (by first | (simp only [mimJ, mimG, if_neg c_1]; done) | (simp only [mimJ, mimG, if_neg c_1]; rfl)) (by first | (rw [imgR, if_pos (vI1.mpr c_1)]; done) | (rw [imgR, if_neg (fun q => c_1 (vI1.mp q))]; rfl)) dX2_image_90
  refine lv_bipush (v := (-103)) hx hb dX2_image_7 (by decide) ?_
  exact MM.iret hX hr hlk hZ (by first | (simp only [mimJ, mimG, if_pos c_1]; done) | (simp only [mimJ, mimG, if_pos c_1]; rfl)) (by first | (rw [imgR, if_pos (vI1.mpr c_1)]; done) | (rw [imgR, if_neg (fun q => c_1 (vI1.mp q))]; rfl)) dX2_image_9

set_option maxHeartbeats 400000 in
set_option maxRecDepth 100000 in
theorem K_X2_restore (l : Launch) (g : Gx) (h : Nat) (R : Nat → Nat) (J : Nat → Int32) (hs : Int64) (G : Nat → Nat → Int32) (hrk : RoK roT (wM g h R J hs G)) : MM l g yX2_restore cX2_restore 1 (some .int) 1 [.ref h] roT (wM g h R J hs G) (wM g h R (mreJ J) hs (mreG J G)) (some (.int (mreR J))) := by
  refine MM.of (own := "BurntLettersModel") (by decide) rfl (Nat.le_of_ble_eq_true rfl) hrk ?_
  intro p e s m below meth c A hX hr hlk hZ ls hl
  have hx := hX.1.1
  have hb := hX.1.2.1
  have hl : lv_has ls 1 [(0, .ref h)] := hl
  refine lv_aload_n hx hb dX2_restore_0 rfl (lv_at hl 0 rfl) ?_
  refine gf_q827 (v := .int (J 20)) hX hZ.1 0 rfl rfl dX2_restore_1 ?_
  refine lv_aload_n hx hb dX2_restore_4 rfl (lv_at hl 0 rfl) ?_
  refine gf_q811 (v := .int (J 4)) hX hZ.1 0 rfl rfl dX2_restore_5 ?_
  refine lv_icmp_eq (tgt := 14) hx hb dX2_restore_8 (by decide) (fun c_1 => ?_) (fun c_1 => ?_)
  · refine lv_aload_n hx hb dX2_restore_14 rfl (lv_at hl 0 rfl) ?_
    refine gf_q831 (v := .ref (R 24)) hX hZ.1 0 rfl rfl dX2_restore_15 ?_
    refine lv_aload_n hx hb dX2_restore_18 rfl (lv_at hl 0 rfl) ?_
    refine gf_q814 (v := .ref (R 7)) hX hZ.1 0 rfl rfl dX2_restore_19 ?_
    refine MM.cv (MM.runS (As := [.ref (R 24), .ref (R 7)]) (rest := []) hX (K_X2_copyTo l g 10 (R 24) (G 11) (R 7) (G 2) (by omega) (RoK.tt _)) (cs_q1124 hX ⟨Nat.le_of_ble_eq_true rfl, Nat.le_of_ble_eq_true rfl⟩) (hZ.1.sub (ws' := (wP2 g 10 (R 24) (G 11) (R 7) (G 2))) [12, 3] rfl) (hZ.2.1.sub (ws' := (wP2 g 10 (R 24) (G 11) (R 7) (G 2))) [12, 3] (by decide) rfl) trivial rfl hl.1 rfl (Nat.le_of_ble_eq_true rfl) dX2_restore_22 ⟨Nat.zero_le _, Nat.zero_le _⟩) hZ (ws1 := (wM g h R J hs (va_up G 2 (G 11)))) [12, 3] rfl rfl rfl rfl (fun H locs hZ => ?_)
    refine lv_aload_n hx hb dX2_restore_25 rfl (lv_at hl 0 rfl) ?_
    refine gf_q832 (v := .ref (R 25)) hX hZ.1 0 rfl rfl dX2_restore_26 ?_
    refine lv_aload_n hx hb dX2_restore_29 rfl (lv_at hl 0 rfl) ?_
    refine gf_q815 (v := .ref (R 8)) hX hZ.1 0 rfl rfl dX2_restore_30 ?_
    refine MM.cv (MM.runS (As := [.ref (R 25), .ref (R 8)]) (rest := []) hX (K_X2_copyTo l g 5 (R 25) (G 12) (R 8) (G 3) (by omega) (RoK.tt _)) (cs_q1124 hX ⟨Nat.le_of_ble_eq_true rfl, Nat.le_of_ble_eq_true rfl⟩) (hZ.1.sub (ws' := (wP2 g 5 (R 25) (G 12) (R 8) (G 3))) [13, 4] rfl) (hZ.2.1.sub (ws' := (wP2 g 5 (R 25) (G 12) (R 8) (G 3))) [13, 4] (by decide) rfl) trivial rfl hl.1 rfl (Nat.le_of_ble_eq_true rfl) dX2_restore_33 ⟨Nat.zero_le _, Nat.zero_le _⟩) hZ (ws1 := (wM g h R J hs (va_up (va_up G 2 (G 11)) 3 (G 12)))) [13, 4] rfl rfl rfl rfl (fun H locs hZ => ?_)
    refine lv_aload_n hx hb dX2_restore_36 rfl (lv_at hl 0 rfl) ?_
    refine gf_q833 (v := .ref (R 26)) hX hZ.1 0 rfl rfl dX2_restore_37 ?_
    refine lv_aload_n hx hb dX2_restore_40 rfl (lv_at hl 0 rfl) ?_
    refine gf_q816 (v := .ref (R 9)) hX hZ.1 0 rfl rfl dX2_restore_41 ?_
    refine MM.cv (MM.runS (As := [.ref (R 26), .ref (R 9)]) (rest := []) hX (K_X2_copyTo l g 5 (R 26) (G 13) (R 9) (G 4) (by omega) (RoK.tt _)) (cs_q1124 hX ⟨Nat.le_of_ble_eq_true rfl, Nat.le_of_ble_eq_true rfl⟩) (hZ.1.sub (ws' := (wP2 g 5 (R 26) (G 13) (R 9) (G 4))) [14, 5] rfl) (hZ.2.1.sub (ws' := (wP2 g 5 (R 26) (G 13) (R 9) (G 4))) [14, 5] (by decide) rfl) trivial rfl hl.1 rfl (Nat.le_of_ble_eq_true rfl) dX2_restore_44 ⟨Nat.zero_le _, Nat.zero_le _⟩) hZ (ws1 := (wM g h R J hs (va_up (va_up (va_up G 2 (G 11)) 3 (G 12)) 4 (G 13)))) [14, 5] rfl rfl rfl rfl (fun H locs hZ => ?_)
    refine lv_aload_n hx hb dX2_restore_47 rfl (lv_at hl 0 rfl) ?_
    refine gf_q834 (v := .ref (R 27)) hX hZ.1 0 rfl rfl dX2_restore_48 ?_
    refine lv_aload_n hx hb dX2_restore_51 rfl (lv_at hl 0 rfl) ?_
    refine gf_q824 (v := .ref (R 17)) hX hZ.1 0 rfl rfl dX2_restore_52 ?_
    refine MM.cv (MM.runS (As := [.ref (R 27), .ref (R 17)]) (rest := []) hX (K_X2_copyTo l g 5 (R 27) (G 14) (R 17) (G 9) (by omega) (RoK.tt _)) (cs_q1124 hX ⟨Nat.le_of_ble_eq_true rfl, Nat.le_of_ble_eq_true rfl⟩) (hZ.1.sub (ws' := (wP2 g 5 (R 27) (G 14) (R 17) (G 9))) [15, 10] rfl) (hZ.2.1.sub (ws' := (wP2 g 5 (R 27) (G 14) (R 17) (G 9))) [15, 10] (by decide) rfl) trivial rfl hl.1 rfl (Nat.le_of_ble_eq_true rfl) dX2_restore_55 ⟨Nat.zero_le _, Nat.zero_le _⟩) hZ (ws1 := (wM g h R J hs (va_up (va_up (va_up (va_up G 2 (G 11)) 3 (G 12)) 4 (G 13)) 9 (G 14)))) [15, 10] rfl rfl rfl rfl (fun H locs hZ => ?_)
    refine lv_aload_n hx hb dX2_restore_58 rfl (lv_at hl 0 rfl) ?_
    refine lv_aload_n hx hb dX2_restore_59 rfl (lv_at hl 0 rfl) ?_
    refine gf_q828 (v := .int (J 21)) hX hZ.1 0 rfl rfl dX2_restore_60 ?_
    refine pf_q813 (ws1 := (wM g h R (upd J 6 (J 21)) hs (va_up (va_up (va_up (va_up G 2 (G 11)) 3 (G 12)) 4 (G 13)) 9 (G 14)))) hX hZ 0 rfl (Nat.le_of_ble_eq_true rfl) rfl dX2_restore_63 (fun H locs hZ => ?_)
    refine lv_aload_n hx hb dX2_restore_66 rfl (lv_at hl 0 rfl) ?_
    refine lv_aload_n hx hb dX2_restore_67 rfl (lv_at hl 0 rfl) ?_
    refine gf_q829 (v := .int (J 22)) hX hZ.1 0 rfl rfl dX2_restore_68 ?_
    refine pf_q810 (ws1 := (wM g h R (upd (upd J 6 (J 21)) 3 (J 22)) hs (va_up (va_up (va_up (va_up G 2 (G 11)) 3 (G 12)) 4 (G 13)) 9 (G 14)))) hX hZ 0 rfl (Nat.le_of_ble_eq_true rfl) rfl dX2_restore_71 (fun H locs hZ => ?_)
    refine lv_aload_n hx hb dX2_restore_74 rfl (lv_at hl 0 rfl) ?_
    refine lv_aload_n hx hb dX2_restore_75 rfl (lv_at hl 0 rfl) ?_
    refine gf_q830 (v := .int (J 23)) hX hZ.1 0 rfl rfl dX2_restore_76 ?_
    refine pf_q823 (ws1 := (wM g h R (upd (upd (upd J 6 (J 21)) 3 (J 22)) 16 (J 23)) hs (va_up (va_up (va_up (va_up G 2 (G 11)) 3 (G 12)) 4 (G 13)) 9 (G 14)))) hX hZ 0 rfl (Nat.le_of_ble_eq_true rfl) rfl dX2_restore_79 (fun H locs hZ => ?_)
    refine lv_aload_n hx hb dX2_restore_82 rfl (lv_at hl 0 rfl) ?_
    refine gf_q810 (v := .int (J 22)) hX hZ.1 0 rfl rfl dX2_restore_83 ?_
    exact MM.iret hX hr hlk hZ (by first | (simp only [mreJ, mreG, if_pos c_1]; done) | (simp only [mreJ, mreG, if_pos c_1]; rfl)) (by first | (simp only [mreR, if_pos c_1]; done)) dX2_restore_86
  refine lv_bipush (v := (-103)) hx hb dX2_restore_11 (by decide) ?_
  exact MM.iret hX hr hlk hZ (by first | (simp only [mreJ, mreG, if_neg c_1]; done) | (simp only [mreJ, mreG, if_neg c_1]; rfl)) (by first | (simp only [mreR, if_neg c_1]; done)) dX2_restore_13

set_option maxHeartbeats 400000 in
set_option maxRecDepth 100000 in
theorem K_X2_say (l : Launch) (g : Gx) (h : Nat) (R : Nat → Nat) (J : Nat → Int32) (hs : Int64) (G : Nat → Nat → Int32) (v : Int64) (hrk : RoK roT (wM g h R J hs G)) : MM l g yX2_say cX2_say 3 none 0 [.ref h, .long v] roT (wM g h R J hs G) (wM g h R J (31 * hs + v) G) none := by
  refine MM.of (own := "BurntLettersModel") (by decide) rfl (Nat.le_of_ble_eq_true rfl) hrk ?_
  intro p e s m below meth c A hX hr hlk hZ ls hl
  have hx := hX.1.1
  have hb := hX.1.2.1
  have hl : lv_has ls 3 [(0, .ref h), (1, .long v)] := hl
  refine lv_aload_n hx hb dX2_say_0 rfl (lv_at hl 0 rfl) ?_
  refine lv_ldc2 (v := 31) hx hb hX.1.2.2.2.1 (hX.w q1148) dX2_say_1 ?_
  refine lv_aload_n hx hb dX2_say_4 rfl (lv_at hl 0 rfl) ?_
  refine gf_q835 (v := .long hs) hX hZ.1 0 rfl rfl dX2_say_5 ?_
  refine lv_lmul hx hb dX2_say_8 ?_
  refine lv_lload_n hx hb dX2_say_9 rfl (lv_at hl 1 rfl) ?_
  refine lv_ladd hx hb dX2_say_10 ?_
  refine pf_q835 (ws1 := (wM g h R J ((31 * hs) + v) G)) hX hZ 0 rfl (Nat.le_of_ble_eq_true rfl) rfl dX2_say_11 (fun H locs hZ => ?_)
  exact MM.vret hX hr hlk hZ (rfl) dX2_say_14

set_option maxHeartbeats 400000 in
set_option maxRecDepth 100000 in
theorem K_X2_sayFile (l : Launch) (g : Gx) (h : Nat) (R : Nat → Nat) (J : Nat → Int32) (hs : Int64) (G : Nat → Nat → Int32) (fi : Nat) (n_ : Nat) (kd : Nat → Nat) (pt : Nat → Int32) (hn : n_ ≤ 5) (hJ6 : (J 6) = nI n_) (hrow : RowsOk G n_ kd pt) (hlv : LvOk (G 3) n_) (hlo : LotsOk (G 1)) (hf : fi < n_) (hrk : RoK roT (wM g h R J hs G)) : EM l g yX2_sayFile cX2_sayFile 3 none 5 [.ref h, .int (nI fi)] roT (wM g h R J hs G) (fun u => (wM g h R J (mxF kd (vI J) (vF G pt) n_ fi hs) (va_up (va_up (va_up G 5 (u 5)) 6 (u 6)) 7 (u 7)))) none := by
  refine EM.of (own := "BurntLettersModel") (by decide) rfl (Nat.le_of_ble_eq_true rfl) hrk ?_
  intro p e s m below meth c A hX hr hlk hZ ls hl
  have hx := hX.1.1
  have hb := hX.1.2.1
  have hl : lv_has ls 3 [(0, .ref h), (1, .int (nI fi))] := hl
  refine lv_iconst (v := 0) hx hb dX2_sayFile_0 (by decide) ?_
  refine lv_istore_n (lv' := [(2, .int 0), (0, .ref h), (1, .int (nI fi))]) hx hb dX2_sayFile_1 rfl hl (by decide) rfl (fun ls hl => ?_)
  refine W_loop (α := Nat) (P := fun (i : Nat) (H : Heap) (locs : List Loc) (ls : Array Slot) => i ≤ 6 ∧ Zt g A s.heap roT (wM g h R J (mfF kd (vF G pt) fi hs i) G) H locs ∧ lv_has ls 3 [(0, .ref h), (1, .int (nI fi)), (2, .int (nI i))]) (fun i => 6 - i) 0 ⟨Nat.zero_le _, hZ.cast (rfl), lv_cast (lv_sub (l' := [(0, .ref h), (1, .int (nI fi)), (2, .int 0)]) hl [1, 2, 0] rfl) (rfl)⟩ ?_
  rintro i H locs ls ⟨hi, hZ, hl⟩ ihi
  refine lv_iload_n hx hb dX2_sayFile_2 rfl (lv_at hl 2 rfl) ?_
  refine lv_bipush (v := 6) hx hb dX2_sayFile_3 (by decide) ?_
  refine lv_icmp_ge (tgt := 25) hx hb dX2_sayFile_5 (by decide) (fun c_1 => ?_) (fun c_1 => ?_)
  · have c_1n : 6 ≤ i := (nI_leI (a := 6) (b := i) (by omega) (by omega)).mp c_1
    have eii : i = 6 := by omega
    subst eii
    refine lv_aload_n hx hb dX2_sayFile_25 rfl (lv_at hl 0 rfl) ?_
    refine lv_aload_n hx hb dX2_sayFile_26 rfl (lv_at hl 0 rfl) ?_
    refine lv_iload_n hx hb dX2_sayFile_27 rfl (lv_at hl 1 rfl) ?_
    refine lv_iconst (v := 2) hx hb dX2_sayFile_28 (by decide) ?_
    refine lv_iconst (v := 0) hx hb dX2_sayFile_29 (by decide) ?_
    refine EM.ciA (EM.runV (As := [.int (nI fi), .int 2, .int 0]) (rest := [.ref h]) hX (K_X2_oddsOf l g h R J (mfF kd (vF G pt) fi hs 6) G fi 2 0 n_ kd pt (by omega) (hJ6) (hrow) (hlv) (hlo) (by omega) (by omega) (RoK.tt _)) (cv_q1019 hX ⟨Nat.le_of_ble_eq_true rfl, Nat.le_of_ble_eq_true rfl⟩) hZ.1 hZ.2.1 trivial (r_recv hX hZ.1 0 rfl rfl) rfl hl.1 rfl (Nat.le_of_ble_eq_true rfl) dX2_sayFile_30 ⟨Nat.zero_le _, Nat.zero_le _⟩) hZ (fun _ => adM) (fun u_2 H locs hZ => ?_)
    refine lv_i2l (v := (odF kd (vI J) (vF G pt) n_ fi 2 0).toInt64) hx hb dX2_sayFile_33 rfl ?_
    refine MM.cvA (MM.runV (As := [.long ((odF kd (vI J) (vF G pt) n_ fi 2 0).toInt64)]) (rest := []) hX (K_X2_say l g h R J (mfF kd (vF G pt) fi hs 6) (va_up (va_up (va_up G 5 (u_2 5)) 6 (u_2 6)) 7 (u_2 7)) ((odF kd (vI J) (vF G pt) n_ fi 2 0).toInt64) (RoK.tt _)) (cv_q1144 hX ⟨Nat.le_of_ble_eq_true rfl, Nat.le_of_ble_eq_true rfl⟩) hZ.1 hZ.2.1 trivial (r_recv hX hZ.1 0 rfl rfl) rfl hl.1 rfl (Nat.le_of_ble_eq_true rfl) dX2_sayFile_34 ⟨Nat.zero_le _, Nat.zero_le _⟩) hZ adM (fun H locs hZ => ?_)
    refine lv_aload_n hx hb dX2_sayFile_37 rfl (lv_at hl 0 rfl) ?_
    refine lv_aload_n hx hb dX2_sayFile_38 rfl (lv_at hl 0 rfl) ?_
    refine lv_iload_n hx hb dX2_sayFile_39 rfl (lv_at hl 1 rfl) ?_
    refine lv_iconst (v := 2) hx hb dX2_sayFile_40 (by decide) ?_
    refine lv_iconst (v := 1) hx hb dX2_sayFile_41 (by decide) ?_
    refine EM.ciA (EM.runV (As := [.int (nI fi), .int 2, .int 1]) (rest := [.ref h]) hX (K_X2_oddsOf l g h R J (31 * (mfF kd (vF G pt) fi hs 6) + ((odF kd (vI J) (vF G pt) n_ fi 2 0).toInt64)) (va_up (va_up (va_up G 5 (u_2 5)) 6 (u_2 6)) 7 (u_2 7)) fi 2 1 n_ kd pt (by omega) (hJ6) (hrow) (hlv) (hlo) (by omega) (by omega) (RoK.tt _)) (cv_q1019 hX ⟨Nat.le_of_ble_eq_true rfl, Nat.le_of_ble_eq_true rfl⟩) hZ.1 hZ.2.1 trivial (r_recv hX hZ.1 0 rfl rfl) rfl hl.1 rfl (Nat.le_of_ble_eq_true rfl) dX2_sayFile_42 ⟨Nat.zero_le _, Nat.zero_le _⟩) hZ (fun _ => adM) (fun u_3 H locs hZ => ?_)
    refine lv_seti (v := (odF kd (vI J) (vF G pt) n_ fi 2 1)) (rfl) ?_
    refine lv_i2l (v := (odF kd (vI J) (vF G pt) n_ fi 2 1).toInt64) hx hb dX2_sayFile_45 rfl ?_
    refine MM.cvA (MM.runV (As := [.long ((odF kd (vI J) (vF G pt) n_ fi 2 1).toInt64)]) (rest := []) hX (K_X2_say l g h R J (31 * (mfF kd (vF G pt) fi hs 6) + ((odF kd (vI J) (vF G pt) n_ fi 2 0).toInt64)) (va_up (va_up (va_up G 5 (u_3 5)) 6 (u_3 6)) 7 (u_3 7)) ((odF kd (vI J) (vF G pt) n_ fi 2 1).toInt64) (RoK.tt _)) (cv_q1144 hX ⟨Nat.le_of_ble_eq_true rfl, Nat.le_of_ble_eq_true rfl⟩) hZ.1 hZ.2.1 trivial (r_recv hX hZ.1 0 rfl rfl) rfl hl.1 rfl (Nat.le_of_ble_eq_true rfl) dX2_sayFile_46 ⟨Nat.zero_le _, Nat.zero_le _⟩) hZ adM (fun H locs hZ => ?_)
    refine lv_aload_n hx hb dX2_sayFile_49 rfl (lv_at hl 0 rfl) ?_
    refine lv_aload_n hx hb dX2_sayFile_50 rfl (lv_at hl 0 rfl) ?_
    refine lv_iload_n hx hb dX2_sayFile_51 rfl (lv_at hl 1 rfl) ?_
    refine lv_iconst (v := 2) hx hb dX2_sayFile_52 (by decide) ?_
    refine EM.ciA (EM.runV (As := [.int (nI fi), .int 2]) (rest := [.ref h]) hX (K_X2_whereOf l g h R J (31 * (31 * (mfF kd (vF G pt) fi hs 6) + ((odF kd (vI J) (vF G pt) n_ fi 2 0).toInt64)) + ((odF kd (vI J) (vF G pt) n_ fi 2 1).toInt64)) (va_up (va_up (va_up G 5 (u_3 5)) 6 (u_3 6)) 7 (u_3 7)) fi 2 n_ kd pt (by omega) (hJ6) (hrow) (hlv) (hlo) (by omega) (by omega) (RoK.tt _)) (cv_q1037 hX ⟨Nat.le_of_ble_eq_true rfl, Nat.le_of_ble_eq_true rfl⟩) hZ.1 hZ.2.1 trivial (r_recv hX hZ.1 0 rfl rfl) rfl hl.1 rfl (Nat.le_of_ble_eq_true rfl) dX2_sayFile_53 ⟨Nat.zero_le _, Nat.zero_le _⟩) hZ (fun _ => adM) (fun u_4 H locs hZ => ?_)
    refine lv_seti (v := ((whF kd (vI J) (vF G pt) n_ fi 2 6).1)) (rfl) ?_
    refine lv_i2l (v := ((whF kd (vI J) (vF G pt) n_ fi 2 6).1).toInt64) hx hb dX2_sayFile_56 rfl ?_
    refine MM.cvA (MM.runV (As := [.long (((whF kd (vI J) (vF G pt) n_ fi 2 6).1).toInt64)]) (rest := []) hX (K_X2_say l g h R J (31 * (31 * (mfF kd (vF G pt) fi hs 6) + ((odF kd (vI J) (vF G pt) n_ fi 2 0).toInt64)) + ((odF kd (vI J) (vF G pt) n_ fi 2 1).toInt64)) (va_up (va_up (va_up G 5 (u_4 5)) 6 (u_4 6)) 7 (u_4 7)) (((whF kd (vI J) (vF G pt) n_ fi 2 6).1).toInt64) (RoK.tt _)) (cv_q1144 hX ⟨Nat.le_of_ble_eq_true rfl, Nat.le_of_ble_eq_true rfl⟩) hZ.1 hZ.2.1 trivial (r_recv hX hZ.1 0 rfl rfl) rfl hl.1 rfl (Nat.le_of_ble_eq_true rfl) dX2_sayFile_57 ⟨Nat.zero_le _, Nat.zero_le _⟩) hZ adM (fun H locs hZ => ?_)
    exact EM.vret hX hr hlk hZ (ws1 := fun u => (wM g h R J (mxF kd (vI J) (vF G pt) n_ fi hs) (va_up (va_up (va_up G 5 (u 5)) 6 (u 6)) 7 (u 7)))) (va_up (va_up (va_up G 5 (u_4 5)) 6 (u_4 6)) 7 (u_4 7)) (rfl) dX2_sayFile_60
  have c_1n : ¬ 6 ≤ i := fun zz_ => c_1 ((nI_leI (a := 6) (b := i) (by omega) (by omega)).mpr zz_)
  refine lv_aload_n hx hb dX2_sayFile_8 rfl (lv_at hl 0 rfl) ?_
  refine lv_aload_n hx hb dX2_sayFile_9 rfl (lv_at hl 0 rfl) ?_
  refine lv_iload_n hx hb dX2_sayFile_10 rfl (lv_at hl 1 rfl) ?_
  refine lv_iload_n hx hb dX2_sayFile_11 rfl (lv_at hl 2 rfl) ?_
  refine PM.ci (PM.runV (As := [.int (nI fi), .int (nI i)]) (rest := [.ref h]) hX (K_X2_tell l g h R J (mfF kd (vF G pt) fi hs i) G fi (nI i) n_ kd pt (by omega) (by omega) (hrow)) (cv_q956 hX ⟨Nat.le_of_ble_eq_true rfl, Nat.le_of_ble_eq_true rfl⟩) hZ.1 trivial (r_recv hX hZ.1 0 rfl rfl) rfl hl.1 rfl (Nat.le_of_ble_eq_true rfl) dX2_sayFile_12 ⟨Nat.zero_le _, Nat.zero_le _⟩) ?_
  refine lv_seti (v := (toldF kd (vF G pt) fi (nI i))) (tell_told (by omega)) ?_
  refine lv_i2l (v := (toldF kd (vF G pt) fi (nI i)).toInt64) hx hb dX2_sayFile_15 rfl ?_
  refine MM.cvA (MM.runV (As := [.long ((toldF kd (vF G pt) fi (nI i)).toInt64)]) (rest := []) hX (K_X2_say l g h R J (mfF kd (vF G pt) fi hs i) G ((toldF kd (vF G pt) fi (nI i)).toInt64) (RoK.tt _)) (cv_q1144 hX ⟨Nat.le_of_ble_eq_true rfl, Nat.le_of_ble_eq_true rfl⟩) hZ.1 hZ.2.1 trivial (r_recv hX hZ.1 0 rfl rfl) rfl hl.1 rfl (Nat.le_of_ble_eq_true rfl) dX2_sayFile_16 ⟨Nat.zero_le _, Nat.zero_le _⟩) hZ adM (fun H locs hZ => ?_)
  refine lv_iinc (v := (nI (i + 1))) (lv' := [(2, .int (nI (i + 1))), (0, .ref h), (1, .int (nI fi))]) hx hb dX2_sayFile_19 hl (k := 2) rfl (nI_1 _) (by decide) rfl (fun ls hl => ?_)
  refine lv_goto (tgt := 2) hx hb dX2_sayFile_22 (by decide) ?_
  exact ihi (i + 1) _ _ _ ⟨by omega, hZ.cast (rfl), lv_cast (lv_sub (l' := [(0, .ref h), (1, .int (nI fi)), (2, .int (nI (i + 1)))]) hl [1, 2, 0] rfl) (by rfl)⟩ (by omega)

set_option maxHeartbeats 400000 in
set_option maxRecDepth 100000 in
theorem K_X2_digest (l : Launch) (g : Gx) (h : Nat) (R : Nat → Nat) (J : Nat → Int32) (hs : Int64) (G : Nat → Nat → Int32) (n_ : Nat) (kd : Nat → Nat) (pt : Nat → Int32) (am : Nat) (pl : Nat) (hn : n_ ≤ 5) (hJ6 : (J 6) = nI n_) (hrow : RowsOk G n_ kd pt) (hlv : LvOk (G 3) n_) (hlo : LotsOk (G 1)) (ham : (J 16) = nI am) (ham2 : am ≤ 5) (hpl : (J 1) = nI pl) (hpl2 : pl ≤ 10) (hptv : ∀ k, k < n_ → pt k = -1 ∨ ∃ j, j < 5 ∧ pt k = nI j) (hrk : RoK roT (wM g h R J hs G)) : EM l g yX2_digest cX2_digest 2 (some .long) 6 [.ref h] roT (wM g h R J hs G) (fun u => (wM g h R J (dgR kd (vI J) (vF G pt) n_ pl am) (va_up (va_up (va_up (va_up G 5 (u 5)) 6 (u 6)) 7 (u 7)) 10 (u 10)))) (some (.long (dgR kd (vI J) (vF G pt) n_ pl am))) := by
  refine EM.of (own := "BurntLettersModel") (by decide) rfl (Nat.le_of_ble_eq_true rfl) hrk ?_
  intro p e s m below meth c A hX hr hlk hZ ls hl
  have hx := hX.1.1
  have hb := hX.1.2.1
  have hl : lv_has ls 2 [(0, .ref h)] := hl
  refine lv_aload_n hx hb dX2_digest_0 rfl (lv_at hl 0 rfl) ?_
  refine lv_ldc2 (v := 769) hx hb hX.1.2.2.2.1 (hX.w q1143) dX2_digest_1 ?_
  refine pf_q835 (ws1 := (wM g h R J 769 G)) hX hZ 0 rfl (Nat.le_of_ble_eq_true rfl) rfl dX2_digest_4 (fun H locs hZ => ?_)
  refine lv_iconst (v := 0) hx hb dX2_digest_7 (by decide) ?_
  refine lv_istore_n (lv' := [(1, .int 0), (0, .ref h)]) hx hb dX2_digest_8 rfl hl (by decide) rfl (fun ls hl => ?_)
  refine W_loop (α := Nat) (P := fun (k1 : Nat) (H : Heap) (locs : List Loc) (ls : Array Slot) => k1 ≤ 6 ∧ Zt g A s.heap roT (wM g h R J (dg1 (vF G pt) n_ k1) G) H locs ∧ lv_has ls 2 [(0, .ref h), (1, .int (nI k1))]) (fun k1 => 6 - k1) 0 ⟨Nat.zero_le _, hZ.cast (rfl), lv_cast (lv_sub (l' := [(0, .ref h), (1, .int 0)]) hl [1, 0] rfl) (rfl)⟩ ?_
  rintro k1 H locs ls ⟨hk1, hZ, hl⟩ ihk1
  refine lv_iload_n hx hb dX2_digest_9 rfl (lv_at hl 1 rfl) ?_
  refine lv_bipush (v := 6) hx hb dX2_digest_10 (by decide) ?_
  refine lv_icmp_ge (tgt := 46) hx hb dX2_digest_12 (by decide) (fun c_1 => ?_) (fun c_1 => ?_)
  · have c_1n : 6 ≤ k1 := (nI_leI (a := 6) (b := k1) (by omega) (by omega)).mp c_1
    have eik1 : k1 = 6 := by omega
    subst eik1
    refine lv_iconst (v := 0) hx hb dX2_digest_46 (by decide) ?_
    refine lv_istore_n (lv' := [(1, .int 0), (0, .ref h)]) hx hb dX2_digest_47 rfl hl (by decide) rfl (fun ls hl => ?_)
    refine W_loopU (α := Nat) (P := fun (k2 : Nat) (u : Nat → Nat → Int32) (H : Heap) (locs : List Loc) (ls : Array Slot) => k2 ≤ n_ ∧ Zt g A s.heap roT (wM g h R J (dg2 kd (vI J) (vF G pt) n_ (dg1 (vF G pt) n_ 6) k2) (va_up (va_up (va_up G 5 (u 5)) 6 (u 6)) 7 (u 7))) H locs ∧ lv_has ls 2 [(0, .ref h), (1, .int (nI k2))]) (fun k2 => n_ - k2) 0 G ⟨Nat.zero_le _, hZ.cast (rfl), lv_cast (lv_sub (l' := [(0, .ref h), (1, .int 0)]) hl [1, 0] rfl) (rfl)⟩ ?_
    rintro k2 u H locs ls ⟨hk2, hZ, hl⟩ ihk2
    refine lv_iload_n hx hb dX2_digest_48 rfl (lv_at hl 1 rfl) ?_
    refine lv_aload_n hx hb dX2_digest_49 rfl (lv_at hl 0 rfl) ?_
    refine gf_q813 (v := .int (J 6)) hX hZ.1 0 rfl rfl dX2_digest_50 ?_
    refine lv_seti (v := (nI n_)) (hJ6) ?_
    refine lv_icmp_ge (tgt := 67) hx hb dX2_digest_53 (by decide) (fun c_2 => ?_) (fun c_2 => ?_)
    · have c_2n : n_ ≤ k2 := (nI_leI (a := n_) (b := k2) (by omega) (by omega)).mp c_2
      have ek2 : n_ = k2 := by omega
      subst ek2
      refine lv_aload_n hx hb dX2_digest_67 rfl (lv_at hl 0 rfl) ?_
      refine lv_aload_n hx hb dX2_digest_68 rfl (lv_at hl 0 rfl) ?_
      refine PM.ci (PM.runV (As := []) (rest := [.ref h]) hX (K_X2_nowhereOf l g h R J (dg2 kd (vI J) (vF G pt) n_ (dg1 (vF G pt) n_ 6) n_) (va_up (va_up (va_up G 5 (u 5)) 6 (u 6)) 7 (u 7)) n_ kd pt (by omega) (hJ6) (hrow) (hptv)) (cv_q1053 hX ⟨Nat.le_of_ble_eq_true rfl, Nat.le_of_ble_eq_true rfl⟩) hZ.1 trivial (r_recv hX hZ.1 0 rfl rfl) rfl hl.1 rfl (Nat.le_of_ble_eq_true rfl) dX2_digest_69 ⟨Nat.zero_le _, Nat.zero_le _⟩) ?_
      refine lv_seti (v := (nowF (vF G pt) n_)) (by refine nowF_congr ?_ ?_ n_ <;> rfl) ?_
      refine lv_i2l (v := (nowF (vF G pt) n_).toInt64) hx hb dX2_digest_72 rfl ?_
      refine MM.cvA (MM.runV (As := [.long ((nowF (vF G pt) n_).toInt64)]) (rest := []) hX (K_X2_say l g h R J (dg2 kd (vI J) (vF G pt) n_ (dg1 (vF G pt) n_ 6) n_) (va_up (va_up (va_up G 5 (u 5)) 6 (u 6)) 7 (u 7)) ((nowF (vF G pt) n_).toInt64) (RoK.tt _)) (cv_q1144 hX ⟨Nat.le_of_ble_eq_true rfl, Nat.le_of_ble_eq_true rfl⟩) hZ.1 hZ.2.1 trivial (r_recv hX hZ.1 0 rfl rfl) rfl hl.1 rfl (Nat.le_of_ble_eq_true rfl) dX2_digest_73 ⟨Nat.zero_le _, Nat.zero_le _⟩) hZ adM (fun H locs hZ => ?_)
      refine lv_aload_n hx hb dX2_digest_76 rfl (lv_at hl 0 rfl) ?_
      refine PM.ci (PM.runV (As := []) (rest := []) hX (K_X2_lacks l g h R J (31 * (dg2 kd (vI J) (vF G pt) n_ (dg1 (vF G pt) n_ 6) n_) + ((nowF (vF G pt) n_).toInt64)) (va_up (va_up (va_up G 5 (u 5)) 6 (u 6)) 7 (u 7))) (cv_q944 hX ⟨Nat.le_of_ble_eq_true rfl, Nat.le_of_ble_eq_true rfl⟩) hZ.1 trivial (r_recv hX hZ.1 0 rfl rfl) rfl hl.1 rfl (Nat.le_of_ble_eq_true rfl) dX2_digest_77 ⟨Nat.zero_le _, Nat.zero_le _⟩) ?_
      refine lv_bif_ne (tgt := 92) hx hb dX2_digest_80 (by decide) (fun c_3 => ?_) (fun c_3 => ?_)
      · refine lv_iconst (v := 0) hx hb dX2_digest_92 (by decide) ?_
        refine lv_istore_n (lv' := [(1, .int 0), (0, .ref h)]) hx hb dX2_digest_93 rfl hl (by decide) rfl (fun ls hl => ?_)
        refine W_loop (α := Nat) (P := fun (k3 : Nat) (H : Heap) (locs : List Loc) (ls : Array Slot) => k3 ≤ pl ∧ Zt g A s.heap roT (wM g h R J (dg3 (vF G pt) (if vI J 1 = 0 then dgA kd (vI J) (vF G pt) n_ else 31 * dgA kd (vI J) (vF G pt) n_ + (ftC kd (vI J) (vF G pt) n_ am (p6 am)).toInt64) k3) (va_up (va_up (va_up G 5 (u 5)) 6 (u 6)) 7 (u 7))) H locs ∧ lv_has ls 2 [(0, .ref h), (1, .int (nI k3))]) (fun k3 => pl - k3) 0 ⟨Nat.zero_le _, hZ.cast (by first | (rw [dg3, if_pos (vI1.mpr c_3)]; rfl) | (rw [dg3, if_neg (fun q => c_3 (vI1.mp q))]; rfl)), lv_cast (lv_sub (l' := [(0, .ref h), (1, .int 0)]) hl [1, 0] rfl) (rfl)⟩ ?_
        rintro k3 H locs ls ⟨hk3, hZ, hl⟩ ihk3
        refine lv_iload_n hx hb dX2_digest_94 rfl (lv_at hl 1 rfl) ?_
        refine lv_aload_n hx hb dX2_digest_95 rfl (lv_at hl 0 rfl) ?_
        refine gf_q808 (v := .int (J 1)) hX hZ.1 0 rfl rfl dX2_digest_96 ?_
        refine lv_seti (v := (nI pl)) (hpl) ?_
        refine lv_icmp_ge (tgt := 119) hx hb dX2_digest_99 (by decide) (fun c_4 => ?_) (fun c_4 => ?_)
        · have c_4n : pl ≤ k3 := (nI_leI (a := pl) (b := k3) (by omega) (by omega)).mp c_4
          have ek3 : pl = k3 := by omega
          subst ek3
          refine lv_iconst (v := 0) hx hb dX2_digest_119 (by decide) ?_
          refine lv_istore_n (lv' := [(1, .int 0), (0, .ref h)]) hx hb dX2_digest_120 rfl hl (by decide) rfl (fun ls hl => ?_)
          refine W_loop (α := Nat) (P := fun (k4 : Nat) (H : Heap) (locs : List Loc) (ls : Array Slot) => k4 ≤ 10 ∧ Zt g A s.heap roT (wM g h R J (dg4 (vI J) (vF G pt) n_ (dg3 (vF G pt) (if vI J 1 = 0 then dgA kd (vI J) (vF G pt) n_ else 31 * dgA kd (vI J) (vF G pt) n_ + (ftC kd (vI J) (vF G pt) n_ am (p6 am)).toInt64) pl) k4) (va_up (va_up (va_up G 5 (u 5)) 6 (u 6)) 7 (u 7))) H locs ∧ lv_has ls 2 [(0, .ref h), (1, .int (nI k4))]) (fun k4 => 10 - k4) 0 ⟨Nat.zero_le _, hZ.cast (rfl), lv_cast (lv_sub (l' := [(0, .ref h), (1, .int 0)]) hl [1, 0] rfl) (rfl)⟩ ?_
          rintro k4 H locs ls ⟨hk4, hZ, hl⟩ ihk4
          refine lv_iload_n hx hb dX2_digest_121 rfl (lv_at hl 1 rfl) ?_
          refine lv_bipush (v := 10) hx hb dX2_digest_122 (by decide) ?_
          refine lv_icmp_ge (tgt := 143) hx hb dX2_digest_124 (by decide) (fun c_5 => ?_) (fun c_5 => ?_)
          · have c_5n : 10 ≤ k4 := (nI_leI (a := 10) (b := k4) (by omega) (by omega)).mp c_5
            have eik4 : k4 = 10 := by omega
            subst eik4
            refine lv_aload_n hx hb dX2_digest_143 rfl (lv_at hl 0 rfl) ?_
            refine gf_q835 (v := .long (dg4 (vI J) (vF G pt) n_ (dg3 (vF G pt) (if vI J 1 = 0 then dgA kd (vI J) (vF G pt) n_ else 31 * dgA kd (vI J) (vF G pt) n_ + (ftC kd (vI J) (vF G pt) n_ am (p6 am)).toInt64) pl) 10)) hX hZ.1 0 rfl rfl dX2_digest_144 ?_
            exact EM.lret hX hr hlk hZ (ws1 := fun u => (wM g h R J (dgR kd (vI J) (vF G pt) n_ pl am) (va_up (va_up (va_up (va_up G 5 (u 5)) 6 (u 6)) 7 (u 7)) 10 (u 10)))) (va_up (va_up (va_up G 5 (u 5)) 6 (u 6)) 7 (u 7)) (rfl) (rfl) dX2_digest_147
          have c_5n : ¬ 10 ≤ k4 := fun zz_ => c_5 ((nI_leI (a := 10) (b := k4) (by omega) (by omega)).mpr zz_)
          refine lv_aload_n hx hb dX2_digest_127 rfl (lv_at hl 0 rfl) ?_
          refine lv_aload_n hx hb dX2_digest_128 rfl (lv_at hl 0 rfl) ?_
          refine lv_iload_n hx hb dX2_digest_129 rfl (lv_at hl 1 rfl) ?_
          refine PM.ci (PM.runV (As := [.int (nI k4)]) (rest := [.ref h]) hX (K_X2_countOf l g h R J (dg4 (vI J) (vF G pt) n_ (dg3 (vF G pt) (if vI J 1 = 0 then dgA kd (vI J) (vF G pt) n_ else 31 * dgA kd (vI J) (vF G pt) n_ + (ftC kd (vI J) (vF G pt) n_ am (p6 am)).toInt64) pl) k4) (va_up (va_up (va_up G 5 (u 5)) 6 (u 6)) 7 (u 7)) (nI k4) n_ pt (by omega) (hJ6) (hlv)) (cv_q1135 hX ⟨Nat.le_of_ble_eq_true rfl, Nat.le_of_ble_eq_true rfl⟩) hZ.1 trivial (r_recv hX hZ.1 0 rfl rfl) rfl hl.1 rfl (Nat.le_of_ble_eq_true rfl) dX2_digest_130 ⟨Nat.zero_le _, Nat.zero_le _⟩) ?_
          refine lv_seti (v := (countF (vI J) (vF G pt) n_ (nI k4))) (rfl) ?_
          refine lv_i2l (v := (countF (vI J) (vF G pt) n_ (nI k4)).toInt64) hx hb dX2_digest_133 rfl ?_
          refine MM.cvA (MM.runV (As := [.long ((countF (vI J) (vF G pt) n_ (nI k4)).toInt64)]) (rest := []) hX (K_X2_say l g h R J (dg4 (vI J) (vF G pt) n_ (dg3 (vF G pt) (if vI J 1 = 0 then dgA kd (vI J) (vF G pt) n_ else 31 * dgA kd (vI J) (vF G pt) n_ + (ftC kd (vI J) (vF G pt) n_ am (p6 am)).toInt64) pl) k4) (va_up (va_up (va_up G 5 (u 5)) 6 (u 6)) 7 (u 7)) ((countF (vI J) (vF G pt) n_ (nI k4)).toInt64) (RoK.tt _)) (cv_q1144 hX ⟨Nat.le_of_ble_eq_true rfl, Nat.le_of_ble_eq_true rfl⟩) hZ.1 hZ.2.1 trivial (r_recv hX hZ.1 0 rfl rfl) rfl hl.1 rfl (Nat.le_of_ble_eq_true rfl) dX2_digest_134 ⟨Nat.zero_le _, Nat.zero_le _⟩) hZ adM (fun H locs hZ => ?_)
          refine lv_iinc (v := (nI (k4 + 1))) (lv' := [(1, .int (nI (k4 + 1))), (0, .ref h)]) hx hb dX2_digest_137 hl (k := 1) rfl (nI_1 _) (by decide) rfl (fun ls hl => ?_)
          refine lv_goto (tgt := 121) hx hb dX2_digest_140 (by decide) ?_
          exact ihk4 (k4 + 1) _ _ _ ⟨by omega, hZ.cast (rfl), lv_cast (lv_sub (l' := [(0, .ref h), (1, .int (nI (k4 + 1)))]) hl [1, 0] rfl) (by rfl)⟩ (by omega)
        have c_4n : ¬ pl ≤ k3 := fun zz_ => c_4 ((nI_leI (a := pl) (b := k3) (by omega) (by omega)).mpr zz_)
        refine lv_aload_n hx hb dX2_digest_102 rfl (lv_at hl 0 rfl) ?_
        refine lv_aload_n hx hb dX2_digest_103 rfl (lv_at hl 0 rfl) ?_
        refine gf_q807 (v := .ref (R 0)) hX hZ.1 0 rfl rfl dX2_digest_104 ?_
        refine lv_iload_n hx hb dX2_digest_107 rfl (lv_at hl 1 rfl) ?_
        refine r_iald (f := (G 0)) hX hZ.1 1 rfl k3 (by omega) (by omega) dX2_digest_108 ?_
        refine lv_i2l (v := ((G 0) k3).toInt64) hx hb dX2_digest_109 rfl ?_
        refine MM.cvA (MM.runV (As := [.long (((G 0) k3).toInt64)]) (rest := []) hX (K_X2_say l g h R J (dg3 (vF G pt) (if vI J 1 = 0 then dgA kd (vI J) (vF G pt) n_ else 31 * dgA kd (vI J) (vF G pt) n_ + (ftC kd (vI J) (vF G pt) n_ am (p6 am)).toInt64) k3) (va_up (va_up (va_up G 5 (u 5)) 6 (u 6)) 7 (u 7)) (((G 0) k3).toInt64) (RoK.tt _)) (cv_q1144 hX ⟨Nat.le_of_ble_eq_true rfl, Nat.le_of_ble_eq_true rfl⟩) hZ.1 hZ.2.1 trivial (r_recv hX hZ.1 0 rfl rfl) rfl hl.1 rfl (Nat.le_of_ble_eq_true rfl) dX2_digest_110 ⟨Nat.zero_le _, Nat.zero_le _⟩) hZ adM (fun H locs hZ => ?_)
        refine lv_iinc (v := (nI (k3 + 1))) (lv' := [(1, .int (nI (k3 + 1))), (0, .ref h)]) hx hb dX2_digest_113 hl (k := 1) rfl (nI_1 _) (by decide) rfl (fun ls hl => ?_)
        refine lv_goto (tgt := 94) hx hb dX2_digest_116 (by decide) ?_
        exact ihk3 (k3 + 1) _ _ _ ⟨by omega, hZ.cast (rfl), lv_cast (lv_sub (l' := [(0, .ref h), (1, .int (nI (k3 + 1)))]) hl [1, 0] rfl) (by rfl)⟩ (by omega)
      refine lv_aload_n hx hb dX2_digest_83 rfl (lv_at hl 0 rfl) ?_
      refine lv_aload_n hx hb dX2_digest_84 rfl (lv_at hl 0 rfl) ?_
      refine EM.ciA (EM.runV (As := []) (rest := [.ref h]) hX (K_X2_layFits l g h R J (31 * (dg2 kd (vI J) (vF G pt) n_ (dg1 (vF G pt) n_ 6) n_) + ((nowF (vF G pt) n_).toInt64)) (va_up (va_up (va_up G 5 (u 5)) 6 (u 6)) 7 (u 7)) n_ kd pt am (by omega) (hJ6) (hrow) (hlv) (ham) (by omega) (RoK.tt _)) (cv_q1086 hX ⟨Nat.le_of_ble_eq_true rfl, Nat.le_of_ble_eq_true rfl⟩) hZ.1 hZ.2.1 trivial (r_recv hX hZ.1 0 rfl rfl) rfl hl.1 rfl (Nat.le_of_ble_eq_true rfl) dX2_digest_85 ⟨Nat.zero_le _, Nat.zero_le _⟩) hZ (fun _ => adM) (fun u_6 H locs hZ => ?_)
      refine lv_seti (v := (ftC kd (vI J) (vF G pt) n_ am (p6 am))) (by refine ftC_congr ?_ ?_ ?_ ?_ ?_ _ <;> rfl) ?_
      refine lv_i2l (v := (ftC kd (vI J) (vF G pt) n_ am (p6 am)).toInt64) hx hb dX2_digest_88 rfl ?_
      refine MM.cvA (MM.runV (As := [.long ((ftC kd (vI J) (vF G pt) n_ am (p6 am)).toInt64)]) (rest := []) hX (K_X2_say l g h R J (31 * (dg2 kd (vI J) (vF G pt) n_ (dg1 (vF G pt) n_ 6) n_) + ((nowF (vF G pt) n_).toInt64)) (va_up (va_up (va_up (va_up G 5 (u_6 5)) 6 (u_6 6)) 7 (u_6 7)) 10 (ftB kd (vI J) (vF (va_up (va_up (va_up G 5 (u 5)) 6 (u 6)) 7 (u 7)) pt) n_ am (p6 am))) ((ftC kd (vI J) (vF G pt) n_ am (p6 am)).toInt64) (RoK.tt _)) (cv_q1144 hX ⟨Nat.le_of_ble_eq_true rfl, Nat.le_of_ble_eq_true rfl⟩) hZ.1 hZ.2.1 trivial (r_recv hX hZ.1 0 rfl rfl) rfl hl.1 rfl (Nat.le_of_ble_eq_true rfl) dX2_digest_89 ⟨Nat.zero_le _, Nat.zero_le _⟩) hZ adM (fun H locs hZ => ?_)
      refine lv_iconst (v := 0) hx hb dX2_digest_92 (by decide) ?_
      refine lv_istore_n (lv' := [(1, .int 0), (0, .ref h)]) hx hb dX2_digest_93 rfl hl (by decide) rfl (fun ls hl => ?_)
      refine W_loop (α := Nat) (P := fun (k3 : Nat) (H : Heap) (locs : List Loc) (ls : Array Slot) => k3 ≤ pl ∧ Zt g A s.heap roT (wM g h R J (dg3 (vF G pt) (if vI J 1 = 0 then dgA kd (vI J) (vF G pt) n_ else 31 * dgA kd (vI J) (vF G pt) n_ + (ftC kd (vI J) (vF G pt) n_ am (p6 am)).toInt64) k3) (va_up (va_up (va_up (va_up G 5 (u_6 5)) 6 (u_6 6)) 7 (u_6 7)) 10 (ftB kd (vI J) (vF (va_up (va_up (va_up G 5 (u 5)) 6 (u 6)) 7 (u 7)) pt) n_ am (p6 am)))) H locs ∧ lv_has ls 2 [(0, .ref h), (1, .int (nI k3))]) (fun k3 => pl - k3) 0 ⟨Nat.zero_le _, hZ.cast (by first | (rw [dg3, if_pos (vI1.mpr c_3)]; rfl) | (rw [dg3, if_neg (fun q => c_3 (vI1.mp q))]; rfl)), lv_cast (lv_sub (l' := [(0, .ref h), (1, .int 0)]) hl [1, 0] rfl) (rfl)⟩ ?_
      rintro k3 H locs ls ⟨hk3, hZ, hl⟩ ihk3
      refine lv_iload_n hx hb dX2_digest_94 rfl (lv_at hl 1 rfl) ?_
      refine lv_aload_n hx hb dX2_digest_95 rfl (lv_at hl 0 rfl) ?_
      refine gf_q808 (v := .int (J 1)) hX hZ.1 0 rfl rfl dX2_digest_96 ?_
      refine lv_seti (v := (nI pl)) (hpl) ?_
      refine lv_icmp_ge (tgt := 119) hx hb dX2_digest_99 (by decide) (fun c_7 => ?_) (fun c_7 => ?_)
      · have c_7n : pl ≤ k3 := (nI_leI (a := pl) (b := k3) (by omega) (by omega)).mp c_7
        have ek3 : pl = k3 := by omega
        subst ek3
        refine lv_iconst (v := 0) hx hb dX2_digest_119 (by decide) ?_
        refine lv_istore_n (lv' := [(1, .int 0), (0, .ref h)]) hx hb dX2_digest_120 rfl hl (by decide) rfl (fun ls hl => ?_)
        refine W_loop (α := Nat) (P := fun (k4 : Nat) (H : Heap) (locs : List Loc) (ls : Array Slot) => k4 ≤ 10 ∧ Zt g A s.heap roT (wM g h R J (dg4 (vI J) (vF G pt) n_ (dg3 (vF G pt) (if vI J 1 = 0 then dgA kd (vI J) (vF G pt) n_ else 31 * dgA kd (vI J) (vF G pt) n_ + (ftC kd (vI J) (vF G pt) n_ am (p6 am)).toInt64) pl) k4) (va_up (va_up (va_up (va_up G 5 (u_6 5)) 6 (u_6 6)) 7 (u_6 7)) 10 (ftB kd (vI J) (vF (va_up (va_up (va_up G 5 (u 5)) 6 (u 6)) 7 (u 7)) pt) n_ am (p6 am)))) H locs ∧ lv_has ls 2 [(0, .ref h), (1, .int (nI k4))]) (fun k4 => 10 - k4) 0 ⟨Nat.zero_le _, hZ.cast (rfl), lv_cast (lv_sub (l' := [(0, .ref h), (1, .int 0)]) hl [1, 0] rfl) (rfl)⟩ ?_
        rintro k4 H locs ls ⟨hk4, hZ, hl⟩ ihk4
        refine lv_iload_n hx hb dX2_digest_121 rfl (lv_at hl 1 rfl) ?_
        refine lv_bipush (v := 10) hx hb dX2_digest_122 (by decide) ?_
        refine lv_icmp_ge (tgt := 143) hx hb dX2_digest_124 (by decide) (fun c_8 => ?_) (fun c_8 => ?_)
        · have c_8n : 10 ≤ k4 := (nI_leI (a := 10) (b := k4) (by omega) (by omega)).mp c_8
          have eik4 : k4 = 10 := by omega
          subst eik4
          refine lv_aload_n hx hb dX2_digest_143 rfl (lv_at hl 0 rfl) ?_
          refine gf_q835 (v := .long (dg4 (vI J) (vF G pt) n_ (dg3 (vF G pt) (if vI J 1 = 0 then dgA kd (vI J) (vF G pt) n_ else 31 * dgA kd (vI J) (vF G pt) n_ + (ftC kd (vI J) (vF G pt) n_ am (p6 am)).toInt64) pl) 10)) hX hZ.1 0 rfl rfl dX2_digest_144 ?_
          exact EM.lret hX hr hlk hZ (ws1 := fun u => (wM g h R J (dgR kd (vI J) (vF G pt) n_ pl am) (va_up (va_up (va_up (va_up G 5 (u 5)) 6 (u 6)) 7 (u 7)) 10 (u 10)))) (va_up (va_up (va_up (va_up G 5 (u_6 5)) 6 (u_6 6)) 7 (u_6 7)) 10 (ftB kd (vI J) (vF (va_up (va_up (va_up G 5 (u 5)) 6 (u 6)) 7 (u 7)) pt) n_ am (p6 am))) (rfl) (rfl) dX2_digest_147
        have c_8n : ¬ 10 ≤ k4 := fun zz_ => c_8 ((nI_leI (a := 10) (b := k4) (by omega) (by omega)).mpr zz_)
        refine lv_aload_n hx hb dX2_digest_127 rfl (lv_at hl 0 rfl) ?_
        refine lv_aload_n hx hb dX2_digest_128 rfl (lv_at hl 0 rfl) ?_
        refine lv_iload_n hx hb dX2_digest_129 rfl (lv_at hl 1 rfl) ?_
        refine PM.ci (PM.runV (As := [.int (nI k4)]) (rest := [.ref h]) hX (K_X2_countOf l g h R J (dg4 (vI J) (vF G pt) n_ (dg3 (vF G pt) (if vI J 1 = 0 then dgA kd (vI J) (vF G pt) n_ else 31 * dgA kd (vI J) (vF G pt) n_ + (ftC kd (vI J) (vF G pt) n_ am (p6 am)).toInt64) pl) k4) (va_up (va_up (va_up (va_up G 5 (u_6 5)) 6 (u_6 6)) 7 (u_6 7)) 10 (ftB kd (vI J) (vF (va_up (va_up (va_up G 5 (u 5)) 6 (u 6)) 7 (u 7)) pt) n_ am (p6 am))) (nI k4) n_ pt (by omega) (hJ6) (hlv)) (cv_q1135 hX ⟨Nat.le_of_ble_eq_true rfl, Nat.le_of_ble_eq_true rfl⟩) hZ.1 trivial (r_recv hX hZ.1 0 rfl rfl) rfl hl.1 rfl (Nat.le_of_ble_eq_true rfl) dX2_digest_130 ⟨Nat.zero_le _, Nat.zero_le _⟩) ?_
        refine lv_seti (v := (countF (vI J) (vF G pt) n_ (nI k4))) (rfl) ?_
        refine lv_i2l (v := (countF (vI J) (vF G pt) n_ (nI k4)).toInt64) hx hb dX2_digest_133 rfl ?_
        refine MM.cvA (MM.runV (As := [.long ((countF (vI J) (vF G pt) n_ (nI k4)).toInt64)]) (rest := []) hX (K_X2_say l g h R J (dg4 (vI J) (vF G pt) n_ (dg3 (vF G pt) (if vI J 1 = 0 then dgA kd (vI J) (vF G pt) n_ else 31 * dgA kd (vI J) (vF G pt) n_ + (ftC kd (vI J) (vF G pt) n_ am (p6 am)).toInt64) pl) k4) (va_up (va_up (va_up (va_up G 5 (u_6 5)) 6 (u_6 6)) 7 (u_6 7)) 10 (ftB kd (vI J) (vF (va_up (va_up (va_up G 5 (u 5)) 6 (u 6)) 7 (u 7)) pt) n_ am (p6 am))) ((countF (vI J) (vF G pt) n_ (nI k4)).toInt64) (RoK.tt _)) (cv_q1144 hX ⟨Nat.le_of_ble_eq_true rfl, Nat.le_of_ble_eq_true rfl⟩) hZ.1 hZ.2.1 trivial (r_recv hX hZ.1 0 rfl rfl) rfl hl.1 rfl (Nat.le_of_ble_eq_true rfl) dX2_digest_134 ⟨Nat.zero_le _, Nat.zero_le _⟩) hZ adM (fun H locs hZ => ?_)
        refine lv_iinc (v := (nI (k4 + 1))) (lv' := [(1, .int (nI (k4 + 1))), (0, .ref h)]) hx hb dX2_digest_137 hl (k := 1) rfl (nI_1 _) (by decide) rfl (fun ls hl => ?_)
        refine lv_goto (tgt := 121) hx hb dX2_digest_140 (by decide) ?_
        exact ihk4 (k4 + 1) _ _ _ ⟨by omega, hZ.cast (rfl), lv_cast (lv_sub (l' := [(0, .ref h), (1, .int (nI (k4 + 1)))]) hl [1, 0] rfl) (by rfl)⟩ (by omega)
      have c_7n : ¬ pl ≤ k3 := fun zz_ => c_7 ((nI_leI (a := pl) (b := k3) (by omega) (by omega)).mpr zz_)
      refine lv_aload_n hx hb dX2_digest_102 rfl (lv_at hl 0 rfl) ?_
      refine lv_aload_n hx hb dX2_digest_103 rfl (lv_at hl 0 rfl) ?_
      refine gf_q807 (v := .ref (R 0)) hX hZ.1 0 rfl rfl dX2_digest_104 ?_
      refine lv_iload_n hx hb dX2_digest_107 rfl (lv_at hl 1 rfl) ?_
      refine r_iald (f := (G 0)) hX hZ.1 1 rfl k3 (by omega) (by omega) dX2_digest_108 ?_
      refine lv_i2l (v := ((G 0) k3).toInt64) hx hb dX2_digest_109 rfl ?_
      refine MM.cvA (MM.runV (As := [.long (((G 0) k3).toInt64)]) (rest := []) hX (K_X2_say l g h R J (dg3 (vF G pt) (if vI J 1 = 0 then dgA kd (vI J) (vF G pt) n_ else 31 * dgA kd (vI J) (vF G pt) n_ + (ftC kd (vI J) (vF G pt) n_ am (p6 am)).toInt64) k3) (va_up (va_up (va_up (va_up G 5 (u_6 5)) 6 (u_6 6)) 7 (u_6 7)) 10 (ftB kd (vI J) (vF (va_up (va_up (va_up G 5 (u 5)) 6 (u 6)) 7 (u 7)) pt) n_ am (p6 am))) (((G 0) k3).toInt64) (RoK.tt _)) (cv_q1144 hX ⟨Nat.le_of_ble_eq_true rfl, Nat.le_of_ble_eq_true rfl⟩) hZ.1 hZ.2.1 trivial (r_recv hX hZ.1 0 rfl rfl) rfl hl.1 rfl (Nat.le_of_ble_eq_true rfl) dX2_digest_110 ⟨Nat.zero_le _, Nat.zero_le _⟩) hZ adM (fun H locs hZ => ?_)
      refine lv_iinc (v := (nI (k3 + 1))) (lv' := [(1, .int (nI (k3 + 1))), (0, .ref h)]) hx hb dX2_digest_113 hl (k := 1) rfl (nI_1 _) (by decide) rfl (fun ls hl => ?_)
      refine lv_goto (tgt := 94) hx hb dX2_digest_116 (by decide) ?_
      exact ihk3 (k3 + 1) _ _ _ ⟨by omega, hZ.cast (rfl), lv_cast (lv_sub (l' := [(0, .ref h), (1, .int (nI (k3 + 1)))]) hl [1, 0] rfl) (by rfl)⟩ (by omega)
    have c_2n : ¬ n_ ≤ k2 := fun zz_ => c_2 ((nI_leI (a := n_) (b := k2) (by omega) (by omega)).mpr zz_)
    refine lv_aload_n hx hb dX2_digest_56 rfl (lv_at hl 0 rfl) ?_
    refine lv_iload_n hx hb dX2_digest_57 rfl (lv_at hl 1 rfl) ?_
    refine EM.cvA (EM.runV (As := [.int (nI k2)]) (rest := []) hX (K_X2_sayFile l g h R J (dg2 kd (vI J) (vF G pt) n_ (dg1 (vF G pt) n_ 6) k2) (va_up (va_up (va_up G 5 (u 5)) 6 (u 6)) 7 (u 7)) k2 n_ kd pt (by omega) (hJ6) (hrow) (hlv) (hlo) (by omega) (RoK.tt _)) (cv_q1149 hX ⟨Nat.le_of_ble_eq_true rfl, Nat.le_of_ble_eq_true rfl⟩) hZ.1 hZ.2.1 trivial (r_recv hX hZ.1 0 rfl rfl) rfl hl.1 rfl (Nat.le_of_ble_eq_true rfl) dX2_digest_58 ⟨Nat.zero_le _, Nat.zero_le _⟩) hZ (fun _ => adM) (fun u_9 H locs hZ => ?_)
    refine lv_iinc (v := (nI (k2 + 1))) (lv' := [(1, .int (nI (k2 + 1))), (0, .ref h)]) hx hb dX2_digest_61 hl (k := 1) rfl (nI_1 _) (by decide) rfl (fun ls hl => ?_)
    refine lv_goto (tgt := 48) hx hb dX2_digest_64 (by decide) ?_
    exact ihk2 (k2 + 1) (va_up (va_up (va_up G 5 (u_9 5)) 6 (u_9 6)) 7 (u_9 7)) _ _ _ ⟨by omega, hZ.cast (rfl), lv_cast (lv_sub (l' := [(0, .ref h), (1, .int (nI (k2 + 1)))]) hl [1, 0] rfl) (by rfl)⟩ (by omega)
  have c_1n : ¬ 6 ≤ k1 := fun zz_ => c_1 ((nI_leI (a := 6) (b := k1) (by omega) (by omega)).mpr zz_)
  refine lv_aload_n hx hb dX2_digest_15 rfl (lv_at hl 0 rfl) ?_
  refine lv_aload_n hx hb dX2_digest_16 rfl (lv_at hl 0 rfl) ?_
  refine gf_q812 (v := .ref (R 5)) hX hZ.1 0 rfl rfl dX2_digest_17 ?_
  refine lv_iload_n hx hb dX2_digest_20 rfl (lv_at hl 1 rfl) ?_
  refine r_iald (f := (G 1)) hX hZ.1 2 rfl k1 (by omega) (by omega) dX2_digest_21 ?_
  refine lv_i2l (v := ((G 1) k1).toInt64) hx hb dX2_digest_22 rfl ?_
  refine MM.cvA (MM.runV (As := [.long (((G 1) k1).toInt64)]) (rest := []) hX (K_X2_say l g h R J (dg1 (vF G pt) n_ k1) G (((G 1) k1).toInt64) (RoK.tt _)) (cv_q1144 hX ⟨Nat.le_of_ble_eq_true rfl, Nat.le_of_ble_eq_true rfl⟩) hZ.1 hZ.2.1 trivial (r_recv hX hZ.1 0 rfl rfl) rfl hl.1 rfl (Nat.le_of_ble_eq_true rfl) dX2_digest_23 ⟨Nat.zero_le _, Nat.zero_le _⟩) hZ adM (fun H locs hZ => ?_)
  refine lv_aload_n hx hb dX2_digest_26 rfl (lv_at hl 0 rfl) ?_
  refine lv_aload_n hx hb dX2_digest_27 rfl (lv_at hl 0 rfl) ?_
  refine lv_aload_n hx hb dX2_digest_28 rfl (lv_at hl 0 rfl) ?_
  refine gf_q815 (v := .ref (R 8)) hX hZ.1 0 rfl rfl dX2_digest_29 ?_
  refine lv_iload_n hx hb dX2_digest_32 rfl (lv_at hl 1 rfl) ?_
  refine PM.ci (PM.runV (As := [.ref (R 8), .int (nI k1)]) (rest := [.ref h]) hX (K_X2_fullness l g h R J (31 * (dg1 (vF G pt) n_ k1) + (((G 1) k1).toInt64)) (R 8) (G 3) (nI k1) n_ (by omega) (hJ6)) (cv_q935 hX ⟨Nat.le_of_ble_eq_true rfl, Nat.le_of_ble_eq_true rfl⟩) (hZ.1.sub (ws' := (wF g h R J (31 * (dg1 (vF G pt) n_ k1) + (((G 1) k1).toInt64)) (R 8) (G 3))) [0, 4] rfl) trivial (r_recv hX hZ.1 0 rfl rfl) rfl hl.1 rfl (Nat.le_of_ble_eq_true rfl) dX2_digest_33 ⟨Nat.zero_le _, Nat.zero_le _⟩) ?_
  refine lv_i2l (v := (undF (G 3) (nI k1) n_).toInt64) hx hb dX2_digest_36 rfl ?_
  refine MM.cvA (MM.runV (As := [.long ((undF (G 3) (nI k1) n_).toInt64)]) (rest := []) hX (K_X2_say l g h R J (31 * (dg1 (vF G pt) n_ k1) + (((G 1) k1).toInt64)) G ((undF (G 3) (nI k1) n_).toInt64) (RoK.tt _)) (cv_q1144 hX ⟨Nat.le_of_ble_eq_true rfl, Nat.le_of_ble_eq_true rfl⟩) hZ.1 hZ.2.1 trivial (r_recv hX hZ.1 0 rfl rfl) rfl hl.1 rfl (Nat.le_of_ble_eq_true rfl) dX2_digest_37 ⟨Nat.zero_le _, Nat.zero_le _⟩) hZ adM (fun H locs hZ => ?_)
  refine lv_iinc (v := (nI (k1 + 1))) (lv' := [(1, .int (nI (k1 + 1))), (0, .ref h)]) hx hb dX2_digest_40 hl (k := 1) rfl (nI_1 _) (by decide) rfl (fun ls hl => ?_)
  refine lv_goto (tgt := 9) hx hb dX2_digest_43 (by decide) ?_
  exact ihk1 (k1 + 1) _ _ _ ⟨by omega, hZ.cast (rfl), lv_cast (lv_sub (l' := [(0, .ref h), (1, .int (nI (k1 + 1)))]) hl [1, 0] rfl) (by rfl)⟩ (by omega)
