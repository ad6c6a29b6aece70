/-! LEAVES (by program: gen/leaf.py) -/
set_option maxHeartbeats 400000 in
set_option maxRecDepth 100000 in
theorem K_X0_in (l : Launch) (g : Gx) (v : Int32) (a : Int32) (b : Int32) : PM l g yX0_in cX0_in 3 (some .boolean) 0 [.int v, .int a, .int b] roT ([] : va_W) (some (.int (b01 (inP v a b)))) := by
  refine PM.of (own := "BurntLetters") (by decide) rfl (Nat.le_of_ble_eq_true rfl) ?_
  intro p e s m below meth c hX hr hlk hP hro ls hl
  have hx := hX.1.1
  have hb := hX.1.2.1
  have hl : lv_has ls 3 [(0, .int v), (1, .int a), (2, .int b)] := hl
  refine lv_iload_n hx hb dX0_in_0 rfl (lv_at hl 0 rfl) ?_
  refine lv_iload_n hx hb dX0_in_1 rfl (lv_at hl 1 rfl) ?_
  refine lv_icmp_lt (tgt := 14) hx hb dX0_in_2 (by decide) (fun c_1 => ?_) (fun c_1 => ?_)
  · refine lv_iconst (v := 0) hx hb dX0_in_14 (by decide) ?_
    exact PM.zret hX hr hlk (by first | rfl | (simp [b01, c_1]; done) | (simp_all [b01]; done)) (Or.inl rfl) dX0_in_15
  refine lv_iload_n hx hb dX0_in_5 rfl (lv_at hl 0 rfl) ?_
  refine lv_iload_n hx hb dX0_in_6 rfl (lv_at hl 2 rfl) ?_
  refine lv_icmp_gt (tgt := 14) hx hb dX0_in_7 (by decide) (fun c_2 => ?_) (fun c_2 => ?_)
  · refine lv_iconst (v := 0) hx hb dX0_in_14 (by decide) ?_
    exact PM.zret hX hr hlk (by first | rfl | (simp [b01, c_1, c_2]; done) | (simp_all [b01]; done)) (Or.inl rfl) dX0_in_15
  refine lv_iconst (v := 1) hx hb dX0_in_10 (by decide) ?_
  refine lv_goto (tgt := 15) hx hb dX0_in_11 (by decide) ?_
  exact PM.zret hX hr hlk (by first | rfl | (simp [b01, c_1, c_2]; done) | (simp_all [b01]; done)) (Or.inr rfl) dX0_in_15

set_option maxHeartbeats 400000 in
set_option maxRecDepth 100000 in
theorem K_X0_isIn (l : Launch) (g : Gx) (x : Int32) (k : Int32) : PM l g yX0_isIn cX0_isIn 2 (some .boolean) 0 [.int x, .int k] roT ([] : va_W) (some (.int (b01 (isInP x k)))) := by
  refine PM.of (own := "BurntLetters") (by decide) rfl (Nat.le_of_ble_eq_true rfl) ?_
  intro p e s m below meth c hX hr hlk hP hro ls hl
  have hx := hX.1.1
  have hb := hX.1.2.1
  have hl : lv_has ls 2 [(0, .int x), (1, .int k)] := hl
  refine lv_iload_n hx hb dX0_isIn_0 rfl (lv_at hl 0 rfl) ?_
  refine lv_iload_n hx hb dX0_isIn_1 rfl (lv_at hl 1 rfl) ?_
  refine lv_ishr hx hb dX0_isIn_2 ?_
  refine lv_iconst (v := 1) hx hb dX0_isIn_3 (by decide) ?_
  refine lv_iand hx hb dX0_isIn_4 ?_
  refine lv_iconst (v := 1) hx hb dX0_isIn_5 (by decide) ?_
  refine lv_icmp_ne (tgt := 13) hx hb dX0_isIn_6 (by decide) (fun c_1 => ?_) (fun c_1 => ?_)
  · refine lv_iconst (v := 0) hx hb dX0_isIn_13 (by decide) ?_
    exact PM.zret hX hr hlk (by first | rfl | (simp [b01, c_1]; done) | (simp_all [b01]; done)) (Or.inl rfl) dX0_isIn_14
  refine lv_iconst (v := 1) hx hb dX0_isIn_9 (by decide) ?_
  refine lv_goto (tgt := 14) hx hb dX0_isIn_10 (by decide) ?_
  exact PM.zret hX hr hlk (by first | rfl | (simp [b01, c_1]; done) | (simp_all [b01]; done)) (Or.inr rfl) dX0_isIn_14

set_option maxHeartbeats 400000 in
set_option maxRecDepth 100000 in
theorem K_X0_power (l : Launch) (g : Gx) (b : Int32) (t : Nat) (ht : t < 1000) : PM l g yX0_power cX0_power 4 (some .int) 0 [.int b, .int (nI t)] roT ([] : va_W) (some (.int (powF b t))) := by
  refine PM.of (own := "BurntLetters") (by decide) rfl (Nat.le_of_ble_eq_true rfl) ?_
  intro p e s m below meth c hX hr hlk hP hro ls hl
  have hx := hX.1.1
  have hb := hX.1.2.1
  have hl : lv_has ls 4 [(0, .int b), (1, .int (nI t))] := hl
  refine lv_iconst (v := 1) hx hb dX0_power_0 (by decide) ?_
  refine lv_istore_n (lv' := [(2, .int 1), (0, .int b), (1, .int (nI t))]) hx hb dX0_power_1 rfl hl (by decide) rfl (fun ls hl => ?_)
  refine lv_iconst (v := 0) hx hb dX0_power_2 (by decide) ?_
  refine lv_istore_n (lv' := [(3, .int 0), (2, .int 1), (0, .int b), (1, .int (nI t))]) hx hb dX0_power_3 rfl hl (by decide) rfl (fun ls hl => ?_)
  refine W_loopP (α := Nat) (P := fun (i : Nat) (ls : Array Slot) => i ≤ t ∧ lv_has ls 4 [(0, .int b), (1, .int (nI t)), (2, .int (powF b i)), (3, .int (nI i))]) (fun i => t - i) 0 ⟨Nat.zero_le _, lv_cast (lv_sub (l' := [(0, .int b), (1, .int (nI t)), (2, .int 1), (3, .int 0)]) hl [2, 3, 1, 0] rfl) (rfl)⟩ ?_
  rintro i ls ⟨hi, hl⟩ ihi
  refine lv_iload_n hx hb dX0_power_4 rfl (lv_at hl 3 rfl) ?_
  refine lv_iload_n hx hb dX0_power_5 rfl (lv_at hl 1 rfl) ?_
  refine lv_icmp_ge (tgt := 19) hx hb dX0_power_6 (by decide) (fun c_1 => ?_) (fun c_1 => ?_)
  · have c_1n : t ≤ i := (nI_leI (a := t) (b := i) (by omega) (by omega)).mp c_1
    have ei : t = i := by omega
    subst ei
    refine lv_iload_n hx hb dX0_power_19 rfl (lv_at hl 2 rfl) ?_
    exact PM.iret hX hr hlk (rfl) dX0_power_20
  have c_1n : ¬ t ≤ i := fun zz_ => c_1 ((nI_leI (a := t) (b := i) (by omega) (by omega)).mpr zz_)
  refine lv_iload_n hx hb dX0_power_9 rfl (lv_at hl 2 rfl) ?_
  refine lv_iload_n hx hb dX0_power_10 rfl (lv_at hl 0 rfl) ?_
  refine lv_imul hx hb dX0_power_11 ?_
  refine lv_istore_n (lv' := [(2, .int ((powF b i) * b)), (0, .int b), (1, .int (nI t)), (3, .int (nI i))]) hx hb dX0_power_12 rfl hl (by decide) rfl (fun ls hl => ?_)
  refine lv_iinc (v := (nI (i + 1))) (lv' := [(3, .int (nI (i + 1))), (2, .int ((powF b i) * b)), (0, .int b), (1, .int (nI t))]) hx hb dX0_power_13 hl (k := 3) rfl (nI_1 _) (by decide) rfl (fun ls hl => ?_)
  refine lv_goto (tgt := 4) hx hb dX0_power_16 (by decide) ?_
  exact ihi (i + 1) _ ⟨by omega, lv_cast (lv_sub (l' := [(0, .int b), (1, .int (nI t)), (2, .int ((powF b i) * b)), (3, .int (nI (i + 1)))]) hl [2, 3, 1, 0] rfl) (by rfl)⟩ (by omega)

set_option maxHeartbeats 400000 in
set_option maxRecDepth 100000 in
theorem K_X0_isLetter (l : Launch) (g : Gx) (v : Int32) : PM l g yX0_isLetter cX0_isLetter 1 (some .boolean) 1 [.int v] roT ([] : va_W) (some (.int (b01 (inP v 0 5)))) := by
  refine PM.of (own := "BurntLetters") (by decide) rfl (Nat.le_of_ble_eq_true rfl) ?_
  intro p e s m below meth c hX hr hlk hP hro ls hl
  have hx := hX.1.1
  have hb := hX.1.2.1
  have hl : lv_has ls 1 [(0, .int v)] := hl
  refine lv_iload_n hx hb dX0_isLetter_0 rfl (lv_at hl 0 rfl) ?_
  refine lv_iconst (v := 0) hx hb dX0_isLetter_1 (by decide) ?_
  refine lv_iconst (v := 5) hx hb dX0_isLetter_2 (by decide) ?_
  refine PM.ci (PM.runS (As := [.int v, .int 0, .int 5]) (rest := []) hX (K_X0_in l g v 0 5) (cs_q216 hX ⟨Nat.le_of_ble_eq_true rfl, Nat.le_of_ble_eq_true rfl⟩) va_P_nil trivial rfl hl.1 rfl (Nat.le_of_ble_eq_true rfl) dX0_isLetter_3 ⟨Nat.zero_le _, Nat.zero_le _⟩) ?_
  exact PM.zret hX hr hlk (by first | rfl | (simp [b01, ]; done) | (simp_all [b01]; done)) (b01_or _) dX0_isLetter_6

set_option maxHeartbeats 400000 in
set_option maxRecDepth 100000 in
theorem K_J10_bitCount (l : Launch) (g : Gx) (x : Int32) : PM l g yJ10_bitCount cJ10_bitCount 1 (some .int) 0 [.int x] roT ([] : va_W) (some (.int (bcF x))) := by
  refine PM.of (own := "java/lang/Integer") (by decide) rfl (Nat.le_of_ble_eq_true rfl) ?_
  intro p e s m below meth c hX hr hlk hP hro ls hl
  have hx := hX.1.1
  have hb := hX.1.2.1
  have hl : lv_has ls 1 [(0, .int x)] := hl
  refine lv_iload_n hx hb dJ10_bitCount_0 rfl (lv_at hl 0 rfl) ?_
  refine lv_iload_n hx hb dJ10_bitCount_1 rfl (lv_at hl 0 rfl) ?_
  refine lv_iconst (v := 1) hx hb dJ10_bitCount_2 (by decide) ?_
  refine lv_iushr (v := (ush x 1)) hx hb dJ10_bitCount_3 rfl ?_
  refine lv_ldcw (v := 1431655765) hx hb hX.1.2.2.2.1 (hX.w q555) dJ10_bitCount_4 ?_
  refine lv_iand hx hb dJ10_bitCount_7 ?_
  refine lv_isub hx hb dJ10_bitCount_8 ?_
  refine lv_seti (v := (bc1 x)) (rfl) ?_
  refine lv_istore_n (lv' := [(0, .int (bc1 x))]) hx hb dJ10_bitCount_9 rfl hl (by decide) rfl (fun ls hl => ?_)
  refine lv_iload_n hx hb dJ10_bitCount_10 rfl (lv_at hl 0 rfl) ?_
  refine lv_ldcw (v := 858993459) hx hb hX.1.2.2.2.1 (hX.w q556) dJ10_bitCount_11 ?_
  refine lv_iand hx hb dJ10_bitCount_14 ?_
  refine lv_iload_n hx hb dJ10_bitCount_15 rfl (lv_at hl 0 rfl) ?_
  refine lv_iconst (v := 2) hx hb dJ10_bitCount_16 (by decide) ?_
  refine lv_iushr (v := (ush (bc1 x) 2)) hx hb dJ10_bitCount_17 rfl ?_
  refine lv_ldcw (v := 858993459) hx hb hX.1.2.2.2.1 (hX.w q556) dJ10_bitCount_18 ?_
  refine lv_iand hx hb dJ10_bitCount_21 ?_
  refine lv_iadd hx hb dJ10_bitCount_22 ?_
  refine lv_seti (v := (bc2 (bc1 x))) (rfl) ?_
  refine lv_istore_n (lv' := [(0, .int (bc2 (bc1 x)))]) hx hb dJ10_bitCount_23 rfl hl (by decide) rfl (fun ls hl => ?_)
  refine lv_iload_n hx hb dJ10_bitCount_24 rfl (lv_at hl 0 rfl) ?_
  refine lv_iload_n hx hb dJ10_bitCount_25 rfl (lv_at hl 0 rfl) ?_
  refine lv_iconst (v := 4) hx hb dJ10_bitCount_26 (by decide) ?_
  refine lv_iushr (v := (ush (bc2 (bc1 x)) 4)) hx hb dJ10_bitCount_27 rfl ?_
  refine lv_iadd hx hb dJ10_bitCount_28 ?_
  refine lv_ldcw (v := 252645135) hx hb hX.1.2.2.2.1 (hX.w q557) dJ10_bitCount_29 ?_
  refine lv_iand hx hb dJ10_bitCount_32 ?_
  refine lv_seti (v := (bc3 (bc2 (bc1 x)))) (rfl) ?_
  refine lv_istore_n (lv' := [(0, .int (bc3 (bc2 (bc1 x))))]) hx hb dJ10_bitCount_33 rfl hl (by decide) rfl (fun ls hl => ?_)
  refine lv_iload_n hx hb dJ10_bitCount_34 rfl (lv_at hl 0 rfl) ?_
  refine lv_iload_n hx hb dJ10_bitCount_35 rfl (lv_at hl 0 rfl) ?_
  refine lv_bipush (v := 8) hx hb dJ10_bitCount_36 (by decide) ?_
  refine lv_iushr (v := (ush (bc3 (bc2 (bc1 x))) 8)) hx hb dJ10_bitCount_38 rfl ?_
  refine lv_iadd hx hb dJ10_bitCount_39 ?_
  refine lv_seti (v := (bc4 (bc3 (bc2 (bc1 x))))) (rfl) ?_
  refine lv_istore_n (lv' := [(0, .int (bc4 (bc3 (bc2 (bc1 x)))))]) hx hb dJ10_bitCount_40 rfl hl (by decide) rfl (fun ls hl => ?_)
  refine lv_iload_n hx hb dJ10_bitCount_41 rfl (lv_at hl 0 rfl) ?_
  refine lv_iload_n hx hb dJ10_bitCount_42 rfl (lv_at hl 0 rfl) ?_
  refine lv_bipush (v := 16) hx hb dJ10_bitCount_43 (by decide) ?_
  refine lv_iushr (v := (ush (bc4 (bc3 (bc2 (bc1 x)))) 16)) hx hb dJ10_bitCount_45 rfl ?_
  refine lv_iadd hx hb dJ10_bitCount_46 ?_
  refine lv_seti (v := (bc5 (bc4 (bc3 (bc2 (bc1 x)))))) (rfl) ?_
  refine lv_istore_n (lv' := [(0, .int (bc5 (bc4 (bc3 (bc2 (bc1 x))))))]) hx hb dJ10_bitCount_47 rfl hl (by decide) rfl (fun ls hl => ?_)
  refine lv_iload_n hx hb dJ10_bitCount_48 rfl (lv_at hl 0 rfl) ?_
  refine lv_bipush (v := 63) hx hb dJ10_bitCount_49 (by decide) ?_
  refine lv_iand hx hb dJ10_bitCount_51 ?_
  exact PM.iret hX hr hlk (rfl) dJ10_bitCount_52

set_option maxHeartbeats 400000 in
set_option maxRecDepth 100000 in
theorem K_X0_mixed (l : Launch) (g : Gx) (h : Int64) (v : Int64) : PM l g yX0_mixed cX0_mixed 4 (some .long) 0 [.long h, .long v] roT ([] : va_W) (some (.long (31 * h + v))) := by
  refine PM.of (own := "BurntLetters") (by decide) rfl (Nat.le_of_ble_eq_true rfl) ?_
  intro p e s m below meth c hX hr hlk hP hro ls hl
  have hx := hX.1.1
  have hb := hX.1.2.1
  have hl : lv_has ls 4 [(0, .long h), (2, .long v)] := hl
  refine lv_ldc2 (v := 31) hx hb hX.1.2.2.2.1 (hX.w q796) dX0_mixed_0 ?_
  refine lv_lload_n hx hb dX0_mixed_3 rfl (lv_at hl 0 rfl) ?_
  refine lv_lmul hx hb dX0_mixed_4 ?_
  refine lv_lload_n hx hb dX0_mixed_5 rfl (lv_at hl 1 rfl) ?_
  refine lv_ladd hx hb dX0_mixed_6 ?_
  exact PM.lret hX hr hlk (rfl) dX0_mixed_7

set_option maxHeartbeats 400000 in
set_option maxRecDepth 100000 in
theorem K_J2_size (l : Launch) (g : Gx) (al : Nat) (md : Int32) (ed : Nat) (n : Nat) : PM l g yJ2_size cJ2_size 1 (some .int) 0 [.ref al] roT (wL g al md ed n) (some (.int (nI n))) := by
  refine PM.of (own := "java/util/ArrayList") (by decide) rfl (Nat.le_of_ble_eq_true rfl) ?_
  intro p e s m below meth c hX hr hlk hP hro ls hl
  have hx := hX.1.1
  have hb := hX.1.2.1
  have hl : lv_has ls 1 [(0, .ref al)] := hl
  refine lv_aload_n hx hb dJ2_size_0 rfl (lv_at hl 0 rfl) ?_
  refine gf_q106 (v := .int (nI n)) hX hP 0 rfl rfl dJ2_size_1 ?_
  exact PM.iret hX hr hlk (rfl) dJ2_size_4

set_option maxHeartbeats 400000 in
set_option maxRecDepth 100000 in
theorem K_J9_checkIndex (l : Launch) (g : Gx) (i : Nat) (n : Nat) (hi : i < n) (hn : n ≤ 1000) : PM l g yJ9_checkIndex cJ9_checkIndex 3 (some .int) 0 [.int (nI i), .int (nI n), .null] roT ([] : va_W) (some (.int (nI i))) := by
  refine PM.of (own := "jdk/internal/util/Preconditions") (by decide) rfl (Nat.le_of_ble_eq_true rfl) ?_
  intro p e s m below meth c hX hr hlk hP hro ls hl
  have hx := hX.1.1
  have hb := hX.1.2.1
  have hl : lv_has ls 3 [(0, .int (nI i)), (1, .int (nI n)), (2, .null)] := hl
  refine lv_iload_n hx hb dJ9_checkIndex_0 rfl (lv_at hl 0 rfl) ?_
  refine lv_if_lt (tgt := 9) hx hb dJ9_checkIndex_1 (by decide) (fun c_1 => ?_) (fun c_1 => ?_)
  · exact absurd c_1 (nI_pos (by omega))
  refine lv_iload_n hx hb dJ9_checkIndex_4 rfl (lv_at hl 0 rfl) ?_
  refine lv_iload_n hx hb dJ9_checkIndex_5 rfl (lv_at hl 1 rfl) ?_
  refine lv_icmp_lt (tgt := 16) hx hb dJ9_checkIndex_6 (by decide) (fun c_2 => ?_) (fun c_2 => ?_)
  · have c_2n : i < n := (nI_ltI (a := i) (b := n) (by omega) (by omega)).mp c_2
    refine lv_iload_n hx hb dJ9_checkIndex_16 rfl (lv_at hl 0 rfl) ?_
    exact PM.iret hX hr hlk (rfl) dJ9_checkIndex_17
  have c_2n : ¬ i < n := fun zz_ => c_2 ((nI_ltI (a := i) (b := n) (by omega) (by omega)).mpr zz_)
  exact absurd c_2n (by omega)

set_option maxHeartbeats 400000 in
set_option maxRecDepth 100000 in
theorem K_J8_checkIndex (l : Launch) (g : Gx) (i : Nat) (n : Nat) (hi : i < n) (hn : n ≤ 1000) : PM l g yJ8_checkIndex cJ8_checkIndex 2 (some .int) 1 [.int (nI i), .int (nI n)] roT ([] : va_W) (some (.int (nI i))) := by
  refine PM.of (own := "java/util/Objects") (by decide) rfl (Nat.le_of_ble_eq_true rfl) ?_
  intro p e s m below meth c hX hr hlk hP hro ls hl
  have hx := hX.1.1
  have hb := hX.1.2.1
  have hl : lv_has ls 2 [(0, .int (nI i)), (1, .int (nI n))] := hl
  refine lv_iload_n hx hb dJ8_checkIndex_0 rfl (lv_at hl 0 rfl) ?_
  refine lv_iload_n hx hb dJ8_checkIndex_1 rfl (lv_at hl 1 rfl) ?_
  refine lv_null hx hb dJ8_checkIndex_2 ?_
  refine PM.ci (PM.runS (As := [.int (nI i), .int (nI n), .null]) (rest := []) hX (K_J9_checkIndex l g i n (by omega) (by omega)) (cs_q477 hX ⟨Nat.le_of_ble_eq_true rfl, Nat.le_of_ble_eq_true rfl⟩) va_P_nil trivial rfl hl.1 rfl (Nat.le_of_ble_eq_true rfl) dJ8_checkIndex_3 ⟨Nat.zero_le _, Nat.zero_le _⟩) ?_
  exact PM.iret hX hr hlk (rfl) dJ8_checkIndex_6

set_option maxHeartbeats 400000 in
set_option maxRecDepth 100000 in
theorem K_J2_elementData (l : Launch) (g : Gx) (al : Nat) (md : Int32) (ed : Nat) (n : Nat) (ea : Nat → Option Nat) (i : Nat) (pa : Nat) (hi : i < n) (hn : n ≤ 10) (he : ea i = some pa) : PM l g yJ2_elementData cJ2_elementData 2 (some (.object "java/lang/Object")) 0 [.ref al, .int (nI i)] roT (wLE g al md ed n ea) (some (.ref pa)) := by
  refine PM.of (own := "java/util/ArrayList") (by decide) rfl (Nat.le_of_ble_eq_true rfl) ?_
  intro p e s m below meth c hX hr hlk hP hro ls hl
  have hx := hX.1.1
  have hb := hX.1.2.1
  have hl : lv_has ls 2 [(0, .ref al), (1, .int (nI i))] := hl
  refine lv_aload_n hx hb dJ2_elementData_0 rfl (lv_at hl 0 rfl) ?_
  refine gf_q105 (v := .ref ed) hX hP 0 rfl rfl dJ2_elementData_1 ?_
  refine lv_iload_n hx hb dJ2_elementData_4 rfl (lv_at hl 1 rfl) ?_
  refine r_aald (f := ea) (pa := pa) hX hP 1 rfl i (by omega) (by omega) he dJ2_elementData_5 ?_
  exact PM.aret hX hr (Or.inl ⟨_, rfl⟩) hlk dJ2_elementData_6

set_option maxHeartbeats 400000 in
set_option maxRecDepth 100000 in
theorem K_J2_get (l : Launch) (g : Gx) (al : Nat) (md : Int32) (ed : Nat) (n : Nat) (ea : Nat → Option Nat) (i : Nat) (pa : Nat) (hi : i < n) (hn : n ≤ 10) (he : ea i = some pa) : PM l g yJ2_get cJ2_get 2 (some (.object "java/lang/Object")) 2 [.ref al, .int (nI i)] roT (wLE g al md ed n ea) (some (.ref pa)) := by
  refine PM.of (own := "java/util/ArrayList") (by decide) rfl (Nat.le_of_ble_eq_true rfl) ?_
  intro p e s m below meth c hX hr hlk hP hro ls hl
  have hx := hX.1.1
  have hb := hX.1.2.1
  have hl : lv_has ls 2 [(0, .ref al), (1, .int (nI i))] := hl
  refine lv_iload_n hx hb dJ2_get_0 rfl (lv_at hl 1 rfl) ?_
  refine lv_aload_n hx hb dJ2_get_1 rfl (lv_at hl 0 rfl) ?_
  refine gf_q106 (v := .int (nI n)) hX hP 0 rfl rfl dJ2_get_2 ?_
  refine PM.ci (PM.runS (As := [.int (nI i), .int (nI n)]) (rest := []) hX (K_J8_checkIndex l g i n (by omega) (by omega)) (cs_q474 hX ⟨Nat.le_of_ble_eq_true rfl, Nat.le_of_ble_eq_true rfl⟩) va_P_nil trivial rfl hl.1 rfl (Nat.le_of_ble_eq_true rfl) dJ2_get_5 ⟨Nat.zero_le _, Nat.zero_le _⟩) ?_
  refine lv_pop hx hb dJ2_get_8 rfl ?_
  refine lv_aload_n hx hb dJ2_get_9 rfl (lv_at hl 0 rfl) ?_
  refine lv_iload_n hx hb dJ2_get_10 rfl (lv_at hl 1 rfl) ?_
  refine PM.cr (PM.runV (As := [.int (nI i)]) (rest := []) hX (K_J2_elementData l g al md ed n ea i pa (by omega) (by omega) (he)) (cv_q480 hX ⟨Nat.le_of_ble_eq_true rfl, Nat.le_of_ble_eq_true rfl⟩) hP trivial (r_recv hX hP 0 rfl rfl) rfl hl.1 rfl (Nat.le_of_ble_eq_true rfl) dJ2_get_11 ⟨Nat.zero_le _, Nat.zero_le _⟩) ?_
  exact PM.aret hX hr (Or.inl ⟨_, rfl⟩) hlk dJ2_get_14
