/-! THE MODEL, 1 (by program: gen/model1.py) -/
set_option maxHeartbeats 400000 in
set_option maxRecDepth 100000 in
theorem K_X2_in (l : Launch) (g : Gx) (v : Int64) (a : Int64) (b : Int64) : PM l g yX2_in cX2_in 6 (some .boolean) 0 [.long v, .long a, .long b] roT ([] : va_W) (some (.int (b01 (inL v a b)))) := by
  refine PM.of (own := "BurntLettersModel") (by decide) rfl (Nat.le_of_ble_eq_true rfl) ?_
  intro p e s m below meth c hX hr hlk hP hro ls hl
  have hx := hX.1.1
  have hb := hX.1.2.1
  have hl : lv_has ls 6 [(0, .long v), (2, .long a), (4, .long b)] := hl
  refine lv_lload_n hx hb dX2_in_0 rfl (lv_at hl 0 rfl) ?_
  refine lv_lload_n hx hb dX2_in_1 rfl (lv_at hl 1 rfl) ?_
  refine W.lcmp hx hb dX2_in_2 ?_
  refine lv_if_lt (tgt := 17) hx hb dX2_in_3 (by decide) (fun c_1 => ?_) (fun c_1 => ?_)
  · refine lv_iconst (v := 0) hx hb dX2_in_17 (by decide) ?_
    exact PM.zret hX hr hlk (by first | exact b01_t ⟨fun q => c_1 ((lg_cmp_lt _ _).mpr q), fun q => c_2 ((lg_cmp_gt _ _).mpr q)⟩ | exact b01_f (fun q => q.1 ((lg_cmp_lt _ _).mp c_1)) | exact b01_f (fun q => q.2 ((lg_cmp_gt _ _).mp c_2))) (Or.inl rfl) dX2_in_18
  refine lv_lload_n hx hb dX2_in_6 rfl (lv_at hl 0 rfl) ?_
  refine lv_lload hx hb dX2_in_7 (lv_at hl 2 rfl) ?_
  refine W.lcmp hx hb dX2_in_9 ?_
  refine lv_if_gt (tgt := 17) hx hb dX2_in_10 (by decide) (fun c_2 => ?_) (fun c_2 => ?_)
  · refine lv_iconst (v := 0) hx hb dX2_in_17 (by decide) ?_
    exact PM.zret hX hr hlk (by first | exact b01_t ⟨fun q => c_1 ((lg_cmp_lt _ _).mpr q), fun q => c_2 ((lg_cmp_gt _ _).mpr q)⟩ | exact b01_f (fun q => q.1 ((lg_cmp_lt _ _).mp c_1)) | exact b01_f (fun q => q.2 ((lg_cmp_gt _ _).mp c_2))) (Or.inl rfl) dX2_in_18
  refine lv_iconst (v := 1) hx hb dX2_in_13 (by decide) ?_
  refine lv_goto (tgt := 18) hx hb dX2_in_14 (by decide) ?_
  exact PM.zret hX hr hlk (by first | exact b01_t ⟨fun q => c_1 ((lg_cmp_lt _ _).mpr q), fun q => c_2 ((lg_cmp_gt _ _).mpr q)⟩ | exact b01_f (fun q => q.1 ((lg_cmp_lt _ _).mp c_1)) | exact b01_f (fun q => q.2 ((lg_cmp_gt _ _).mp c_2))) (Or.inr rfl) dX2_in_18

set_option maxHeartbeats 400000 in
set_option maxRecDepth 100000 in
theorem K_X2_ones (l : Launch) (g : Gx) (x : Int32) : PM l g yX2_ones cX2_ones 3 (some .int) 0 [.int x] roT ([] : va_W) (some (.int (onF x 6))) := by
  refine PM.of (own := "BurntLettersModel") (by decide) rfl (Nat.le_of_ble_eq_true rfl) ?_
  intro p e s m below meth c hX hr hlk hP hro ls hl
  have hx := hX.1.1
  have hb := hX.1.2.1
  have hl : lv_has ls 3 [(0, .int x)] := hl
  refine lv_iconst (v := 0) hx hb dX2_ones_0 (by decide) ?_
  refine lv_istore_n (lv' := [(1, .int 0), (0, .int x)]) hx hb dX2_ones_1 rfl hl (by decide) rfl (fun ls hl => ?_)
  refine lv_iconst (v := 0) hx hb dX2_ones_2 (by decide) ?_
  refine lv_istore_n (lv' := [(2, .int 0), (1, .int 0), (0, .int x)]) hx hb dX2_ones_3 rfl hl (by decide) rfl (fun ls hl => ?_)
  refine W_loopP (α := Nat) (P := fun (i : Nat) (ls : Array Slot) => i ≤ 6 ∧ lv_has ls 3 [(0, .int x), (1, .int (onF x i)), (2, .int (nI i))]) (fun i => 6 - i) 0 ⟨Nat.zero_le _, lv_cast (lv_sub (l' := [(0, .int x), (1, .int 0), (2, .int 0)]) hl [2, 1, 0] rfl) (rfl)⟩ ?_
  rintro i ls ⟨hi, hl⟩ ihi
  refine lv_iload_n hx hb dX2_ones_4 rfl (lv_at hl 2 rfl) ?_
  refine lv_bipush (v := 6) hx hb dX2_ones_5 (by decide) ?_
  refine lv_icmp_ge (tgt := 24) hx hb dX2_ones_7 (by decide) (fun c_1 => ?_) (fun c_1 => ?_)
  · have c_1n : 6 ≤ i := (nI_leI (a := 6) (b := i) (by omega) (by omega)).mp c_1
    have ei : i = 6 := by omega
    subst ei
    refine lv_iload_n hx hb dX2_ones_24 rfl (lv_at hl 1 rfl) ?_
    exact PM.iret hX hr hlk (rfl) dX2_ones_25
  have c_1n : ¬ 6 ≤ i := fun zz_ => c_1 ((nI_leI (a := 6) (b := i) (by omega) (by omega)).mpr zz_)
  refine lv_iload_n hx hb dX2_ones_10 rfl (lv_at hl 1 rfl) ?_
  refine lv_iload_n hx hb dX2_ones_11 rfl (lv_at hl 0 rfl) ?_
  refine lv_iload_n hx hb dX2_ones_12 rfl (lv_at hl 2 rfl) ?_
  refine lv_ishr hx hb dX2_ones_13 ?_
  refine lv_iconst (v := 1) hx hb dX2_ones_14 (by decide) ?_
  refine lv_iand hx hb dX2_ones_15 ?_
  refine lv_iadd hx hb dX2_ones_16 ?_
  refine lv_istore_n (lv' := [(1, .int ((onF x i) + ((x >>> ((nI i) &&& 31)) &&& 1))), (0, .int x), (2, .int (nI i))]) hx hb dX2_ones_17 rfl hl (by decide) rfl (fun ls hl => ?_)
  refine lv_iinc (v := (nI (i + 1))) (lv' := [(2, .int (nI (i + 1))), (1, .int ((onF x i) + ((x >>> ((nI i) &&& 31)) &&& 1))), (0, .int x)]) hx hb dX2_ones_18 hl (k := 2) rfl (nI_1 _) (by decide) rfl (fun ls hl => ?_)
  refine lv_goto (tgt := 4) hx hb dX2_ones_21 (by decide) ?_
  exact ihi (i + 1) _ ⟨by omega, lv_cast (lv_sub (l' := [(0, .int x), (1, .int ((onF x i) + ((x >>> ((nI i) &&& 31)) &&& 1))), (2, .int (nI (i + 1)))]) hl [2, 1, 0] rfl) (by rfl)⟩ (by omega)

set_option maxHeartbeats 400000 in
set_option maxRecDepth 100000 in
theorem K_X2_power (l : Launch) (g : Gx) (b : Int32) (t : Nat) (ht : t < 1000) : PM l g yX2_power cX2_power 4 (some .int) 0 [.int b, .int (nI t)] roT ([] : va_W) (some (.int (powF b t))) := by
  refine PM.of (own := "BurntLettersModel") (by decide) rfl (Nat.le_of_ble_eq_true rfl) ?_
  intro p e s m below meth c hX hr hlk hP hro ls hl
  have hx := hX.1.1
  have hb := hX.1.2.1
  have hl : lv_has ls 4 [(0, .int b), (1, .int (nI t))] := hl
  refine lv_iconst (v := 1) hx hb dX2_power_0 (by decide) ?_
  refine lv_istore_n (lv' := [(2, .int 1), (0, .int b), (1, .int (nI t))]) hx hb dX2_power_1 rfl hl (by decide) rfl (fun ls hl => ?_)
  refine lv_iconst (v := 0) hx hb dX2_power_2 (by decide) ?_
  refine lv_istore_n (lv' := [(3, .int 0), (2, .int 1), (0, .int b), (1, .int (nI t))]) hx hb dX2_power_3 rfl hl (by decide) rfl (fun ls hl => ?_)
  refine W_loopP (α := Nat) (P := fun (i : Nat) (ls : Array Slot) => i ≤ t ∧ lv_has ls 4 [(0, .int b), (1, .int (nI t)), (2, .int (powF b i)), (3, .int (nI i))]) (fun i => t - i) 0 ⟨Nat.zero_le _, lv_cast (lv_sub (l' := [(0, .int b), (1, .int (nI t)), (2, .int 1), (3, .int 0)]) hl [2, 3, 1, 0] rfl) (rfl)⟩ ?_
  rintro i ls ⟨hi, hl⟩ ihi
  refine lv_iload_n hx hb dX2_power_4 rfl (lv_at hl 3 rfl) ?_
  refine lv_iload_n hx hb dX2_power_5 rfl (lv_at hl 1 rfl) ?_
  refine lv_icmp_ge (tgt := 19) hx hb dX2_power_6 (by decide) (fun c_1 => ?_) (fun c_1 => ?_)
  · have c_1n : t ≤ i := (nI_leI (a := t) (b := i) (by omega) (by omega)).mp c_1
    have ei : t = i := by omega
    subst ei
    refine lv_iload_n hx hb dX2_power_19 rfl (lv_at hl 2 rfl) ?_
    exact PM.iret hX hr hlk (rfl) dX2_power_20
  have c_1n : ¬ t ≤ i := fun zz_ => c_1 ((nI_leI (a := t) (b := i) (by omega) (by omega)).mpr zz_)
  refine lv_iload_n hx hb dX2_power_9 rfl (lv_at hl 2 rfl) ?_
  refine lv_iload_n hx hb dX2_power_10 rfl (lv_at hl 0 rfl) ?_
  refine lv_imul hx hb dX2_power_11 ?_
  refine lv_istore_n (lv' := [(2, .int ((powF b i) * b)), (0, .int b), (1, .int (nI t)), (3, .int (nI i))]) hx hb dX2_power_12 rfl hl (by decide) rfl (fun ls hl => ?_)
  refine lv_iinc (v := (nI (i + 1))) (lv' := [(3, .int (nI (i + 1))), (2, .int ((powF b i) * b)), (0, .int b), (1, .int (nI t))]) hx hb dX2_power_13 hl (k := 3) rfl (nI_1 _) (by decide) rfl (fun ls hl => ?_)
  refine lv_goto (tgt := 4) hx hb dX2_power_16 (by decide) ?_
  exact ihi (i + 1) _ ⟨by omega, lv_cast (lv_sub (l' := [(0, .int b), (1, .int (nI t)), (2, .int ((powF b i) * b)), (3, .int (nI (i + 1)))]) hl [2, 3, 1, 0] rfl) (by rfl)⟩ (by omega)

set_option maxHeartbeats 400000 in
set_option maxRecDepth 100000 in
theorem K_X2_isLetter (l : Launch) (g : Gx) (v : Int32) : PM l g yX2_isLetter cX2_isLetter 1 (some .boolean) 1 [.int v] roT ([] : va_W) (some (.int (b01 (inP v 0 5)))) := by
  refine PM.of (own := "BurntLettersModel") (by decide) rfl (Nat.le_of_ble_eq_true rfl) ?_
  intro p e s m below meth c hX hr hlk hP hro ls hl
  have hx := hX.1.1
  have hb := hX.1.2.1
  have hl : lv_has ls 1 [(0, .int v)] := hl
  refine lv_iload_n hx hb dX2_isLetter_0 rfl (lv_at hl 0 rfl) ?_
  refine lv_i2l (v := v.toInt64) hx hb dX2_isLetter_1 rfl ?_
  refine lv_lconst (v := 0) hx hb dX2_isLetter_2 (by decide) ?_
  refine lv_ldc2 (v := 5) hx hb hX.1.2.2.2.1 (hX.w q930) dX2_isLetter_3 ?_
  refine PM.ci (PM.runS (As := [.long v.toInt64, .long 0, .long 5]) (rest := []) hX (K_X2_in l g v.toInt64 0 5) (cs_q900 hX ⟨Nat.le_of_ble_eq_true rfl, Nat.le_of_ble_eq_true rfl⟩) va_P_nil trivial rfl hl.1 rfl (Nat.le_of_ble_eq_true rfl) dX2_isLetter_6 ⟨Nat.zero_le _, Nat.zero_le _⟩) ?_
  refine lv_seti (v := (b01 (inP v 0 5))) (inL_c (a := 0) (b := 5) (by decide) (by decide)) ?_
  exact PM.zret hX hr hlk (rfl) (b01_or _) dX2_isLetter_9

set_option maxHeartbeats 400000 in
set_option maxRecDepth 100000 in
theorem K_X2_lacks (l : Launch) (g : Gx) (h : Nat) (R : Nat → Nat) (J : Nat → Int32) (hs : Int64) (G : Nat → Nat → Int32) : PM l g yX2_lacks cX2_lacks 1 (some .boolean) 0 [.ref h] roT (wM g h R J hs G) (some (.int (b01 ((J 2) = 0)))) := by
  refine PM.of (own := "BurntLettersModel") (by decide) rfl (Nat.le_of_ble_eq_true rfl) ?_
  intro p e s m below meth c hX hr hlk hP hro ls hl
  have hx := hX.1.1
  have hb := hX.1.2.1
  have hl : lv_has ls 1 [(0, .ref h)] := hl
  refine lv_aload_n hx hb dX2_lacks_0 rfl (lv_at hl 0 rfl) ?_
  refine gf_q809 (v := .int (J 2)) hX hP 0 rfl rfl dX2_lacks_1 ?_
  refine lv_if_ne (tgt := 11) hx hb dX2_lacks_4 (by decide) (fun c_1 => ?_) (fun c_1 => ?_)
  · refine lv_iconst (v := 0) hx hb dX2_lacks_11 (by decide) ?_
    exact PM.zret hX hr hlk (by first | rfl | (simp [b01, c_1]; done) | (simp_all [b01]; done)) (Or.inl rfl) dX2_lacks_12
  refine lv_iconst (v := 1) hx hb dX2_lacks_7 (by decide) ?_
  refine lv_goto (tgt := 12) hx hb dX2_lacks_8 (by decide) ?_
  exact PM.zret hX hr hlk (by first | rfl | (simp [b01, c_1]; done) | (simp_all [b01]; done)) (Or.inr rfl) dX2_lacks_12

set_option maxHeartbeats 400000 in
set_option maxRecDepth 100000 in
theorem K_X2_isFile (l : Launch) (g : Gx) (h : Nat) (R : Nat → Nat) (J : Nat → Int32) (hs : Int64) (G : Nat → Nat → Int32) (x : Int32) (n_ : Nat) (hJ6 : (J 6) = nI n_) : PM l g yX2_isFile cX2_isFile 2 (some .boolean) 1 [.ref h, .int x] roT (wM g h R J hs G) (some (.int (b01 (isFileP n_ x)))) := by
  refine PM.of (own := "BurntLettersModel") (by decide) rfl (Nat.le_of_ble_eq_true rfl) ?_
  intro p e s m below meth c hX hr hlk hP hro ls hl
  have hx := hX.1.1
  have hb := hX.1.2.1
  have hl : lv_has ls 2 [(0, .ref h), (1, .int x)] := hl
  refine lv_iload_n hx hb dX2_isFile_0 rfl (lv_at hl 1 rfl) ?_
  refine lv_i2l (v := x.toInt64) hx hb dX2_isFile_1 rfl ?_
  refine lv_lconst (v := 0) hx hb dX2_isFile_2 (by decide) ?_
  refine lv_aload_n hx hb dX2_isFile_3 rfl (lv_at hl 0 rfl) ?_
  refine gf_q813 (v := .int (J 6)) hX hP 0 rfl rfl dX2_isFile_4 ?_
  refine lv_seti (v := (nI n_)) (hJ6) ?_
  refine lv_iconst (v := 1) hx hb dX2_isFile_7 (by decide) ?_
  refine lv_isub hx hb dX2_isFile_8 ?_
  refine lv_i2l (v := ((nI n_) - 1).toInt64) hx hb dX2_isFile_9 rfl ?_
  refine PM.ci (PM.runS (As := [.long x.toInt64, .long 0, .long (((nI n_) - 1).toInt64)]) (rest := []) hX (K_X2_in l g x.toInt64 0 (((nI n_) - 1).toInt64)) (cs_q900 hX ⟨Nat.le_of_ble_eq_true rfl, Nat.le_of_ble_eq_true rfl⟩) va_P_nil trivial rfl hl.1 rfl (Nat.le_of_ble_eq_true rfl) dX2_isFile_10 ⟨Nat.zero_le _, Nat.zero_le _⟩) ?_
  refine lv_seti (v := (b01 (inP x 0 ((nI n_) - 1)))) (inL_c (a := 0) (b := ((nI n_) - 1)) (by decide) (rfl)) ?_
  exact PM.zret hX hr hlk (rfl) (b01_or _) dX2_isFile_13

set_option maxHeartbeats 400000 in
set_option maxRecDepth 100000 in
theorem K_X2_fullness (l : Launch) (g : Gx) (h : Nat) (R : Nat → Nat) (J : Nat → Int32) (hs : Int64) (r : Nat) (f : Nat → Int32) (t : Int32) (n_ : Nat) (hn : n_ ≤ 5) (hJ6 : (J 6) = nI n_) : PM l g yX2_fullness cX2_fullness 5 (some .int) 0 [.ref h, .ref r, .int t] roT (wF g h R J hs r f) (some (.int (undF f t n_))) := by
  refine PM.of (own := "BurntLettersModel") (by decide) rfl (Nat.le_of_ble_eq_true rfl) ?_
  intro p e s m below meth c hX hr hlk hP hro ls hl
  have hx := hX.1.1
  have hb := hX.1.2.1
  have hl : lv_has ls 5 [(0, .ref h), (1, .ref r), (2, .int t)] := hl
  refine lv_iconst (v := 0) hx hb dX2_fullness_0 (by decide) ?_
  refine lv_istore_n (lv' := [(3, .int 0), (0, .ref h), (1, .ref r), (2, .int t)]) hx hb dX2_fullness_1 rfl hl (by decide) rfl (fun ls hl => ?_)
  refine lv_iconst (v := 0) hx hb dX2_fullness_2 (by decide) ?_
  refine lv_istore (lv' := [(4, .int 0), (3, .int 0), (0, .ref h), (1, .ref r), (2, .int t)]) hx hb dX2_fullness_3 hl (by decide) rfl (fun ls hl => ?_)
  refine W_loopP (α := Nat) (P := fun (i : Nat) (ls : Array Slot) => i ≤ n_ ∧ lv_has ls 5 [(0, .ref h), (1, .ref r), (2, .int t), (3, .int (undF f t i)), (4, .int (nI i))]) (fun i => n_ - i) 0 ⟨Nat.zero_le _, lv_cast (lv_sub (l' := [(0, .ref h), (1, .ref r), (2, .int t), (3, .int 0), (4, .int 0)]) hl [2, 3, 4, 1, 0] rfl) (rfl)⟩ ?_
  rintro i ls ⟨hi, hl⟩ ihi
  refine lv_iload hx hb dX2_fullness_5 (lv_at hl 4 rfl) ?_
  refine lv_aload_n hx hb dX2_fullness_7 rfl (lv_at hl 0 rfl) ?_
  refine gf_q813 (v := .int (J 6)) hX hP 0 rfl rfl dX2_fullness_8 ?_
  refine lv_seti (v := (nI n_)) (hJ6) ?_
  refine lv_icmp_ge (tgt := 31) hx hb dX2_fullness_11 (by decide) (fun c_1 => ?_) (fun c_1 => ?_)
  · have c_1n : n_ ≤ i := (nI_leI (a := n_) (b := i) (by omega) (by omega)).mp c_1
    have ei : n_ = i := by omega
    subst ei
    refine lv_iload_n hx hb dX2_fullness_31 rfl (lv_at hl 3 rfl) ?_
    exact PM.iret hX hr hlk (rfl) dX2_fullness_32
  have c_1n : ¬ n_ ≤ i := fun zz_ => c_1 ((nI_leI (a := n_) (b := i) (by omega) (by omega)).mpr zz_)
  refine lv_iload_n hx hb dX2_fullness_14 rfl (lv_at hl 3 rfl) ?_
  refine lv_aload_n hx hb dX2_fullness_15 rfl (lv_at hl 1 rfl) ?_
  refine lv_iload hx hb dX2_fullness_16 (lv_at hl 4 rfl) ?_
  refine r_iald (f := f) hX hP 1 rfl i (by omega) (by omega) dX2_fullness_18 ?_
  refine lv_iload_n hx hb dX2_fullness_19 rfl (lv_at hl 2 rfl) ?_
  refine lv_ishr hx hb dX2_fullness_20 ?_
  refine lv_iconst (v := 1) hx hb dX2_fullness_21 (by decide) ?_
  refine lv_iand hx hb dX2_fullness_22 ?_
  refine lv_iadd hx hb dX2_fullness_23 ?_
  refine lv_istore_n (lv' := [(3, .int ((undF f t i) + (((f i) >>> (t &&& 31)) &&& 1))), (0, .ref h), (1, .ref r), (2, .int t), (4, .int (nI i))]) hx hb dX2_fullness_24 rfl hl (by decide) rfl (fun ls hl => ?_)
  refine lv_iinc (v := (nI (i + 1))) (lv' := [(4, .int (nI (i + 1))), (3, .int ((undF f t i) + (((f i) >>> (t &&& 31)) &&& 1))), (0, .ref h), (1, .ref r), (2, .int t)]) hx hb dX2_fullness_25 hl (k := 4) rfl (nI_1 _) (by decide) rfl (fun ls hl => ?_)
  refine lv_goto (tgt := 5) hx hb dX2_fullness_28 (by decide) ?_
  exact ihi (i + 1) _ ⟨by omega, lv_cast (lv_sub (l' := [(0, .ref h), (1, .ref r), (2, .int t), (3, .int ((undF f t i) + (((f i) >>> (t &&& 31)) &&& 1))), (4, .int (nI (i + 1)))]) hl [2, 3, 4, 1, 0] rfl) (by rfl)⟩ (by omega)

set_option maxHeartbeats 400000 in
set_option maxRecDepth 100000 in
theorem K_X2_tellUnder (l : Launch) (g : Gx) (h : Nat) (R : Nat → Nat) (J : Nat → Int32) (hs : Int64) (G : Nat → Nat → Int32) (x : Nat) (w : Int32) (n_ : Nat) (hn : n_ ≤ 5) (hJ6 : (J 6) = nI n_) (hx5 : x ≤ 5) : PM l g yX2_tellUnder cX2_tellUnder 3 (some .int) 1 [.ref h, .int (nI x), .int w] roT (wM g h R J hs G) (some (.int (if w = 0 then (G 1) x else undF (G 3) (nI x) n_))) := by
  refine PM.of (own := "BurntLettersModel") (by decide) rfl (Nat.le_of_ble_eq_true rfl) ?_
  intro p e s m below meth c hX hr hlk hP hro ls hl
  have hx := hX.1.1
  have hb := hX.1.2.1
  have hl : lv_has ls 3 [(0, .ref h), (1, .int (nI x)), (2, .int w)] := hl
  refine lv_iload_n hx hb dX2_tellUnder_0 rfl (lv_at hl 2 rfl) ?_
  refine lv_if_ne (tgt := 13) hx hb dX2_tellUnder_1 (by decide) (fun c_1 => ?_) (fun c_1 => ?_)
  · refine lv_aload_n hx hb dX2_tellUnder_13 rfl (lv_at hl 0 rfl) ?_
    refine lv_aload_n hx hb dX2_tellUnder_14 rfl (lv_at hl 0 rfl) ?_
    refine gf_q815 (v := .ref (R 8)) hX hP 0 rfl rfl dX2_tellUnder_15 ?_
    refine lv_iload_n hx hb dX2_tellUnder_18 rfl (lv_at hl 1 rfl) ?_
    refine PM.ci (PM.runV (As := [.ref (R 8), .int (nI x)]) (rest := []) hX (K_X2_fullness l g h R J hs (R 8) (G 3) (nI x) n_ (by omega) (hJ6)) (cv_q935 hX ⟨Nat.le_of_ble_eq_true rfl, Nat.le_of_ble_eq_true rfl⟩) (hP.sub (ws' := (wF g h R J hs (R 8) (G 3))) [0, 4] rfl) trivial (r_recv hX hP 0 rfl rfl) rfl hl.1 rfl (Nat.le_of_ble_eq_true rfl) dX2_tellUnder_19 ⟨Nat.zero_le _, Nat.zero_le _⟩) ?_
    exact PM.iret hX hr hlk (by simp only [if_neg c_1]) dX2_tellUnder_22
  refine lv_aload_n hx hb dX2_tellUnder_4 rfl (lv_at hl 0 rfl) ?_
  refine gf_q812 (v := .ref (R 5)) hX hP 0 rfl rfl dX2_tellUnder_5 ?_
  refine lv_iload_n hx hb dX2_tellUnder_8 rfl (lv_at hl 1 rfl) ?_
  refine r_iald (f := (G 1)) hX hP 2 rfl x (by omega) (by omega) dX2_tellUnder_9 ?_
  refine lv_goto (tgt := 22) hx hb dX2_tellUnder_10 (by decide) ?_
  exact PM.iret hX hr hlk (by simp only [if_pos c_1]) dX2_tellUnder_22

set_option maxHeartbeats 400000 in
set_option maxRecDepth 100000 in
theorem K_X2_under (l : Launch) (g : Gx) (h : Nat) (R : Nat → Nat) (J : Nat → Int32) (hs : Int64) (G : Nat → Nat → Int32) (x : Int32) (w : Int32) (n_ : Nat) (pt : Nat → Int32) (hn : n_ ≤ 5) (hJ6 : (J 6) = nI n_) : PM l g yX2_under cX2_under 3 (some .int) 2 [.ref h, .int x, .int w] roT (wM g h R J hs G) (some (.int (underF (vF G pt) n_ x w))) := by
  refine PM.of (own := "BurntLettersModel") (by decide) rfl (Nat.le_of_ble_eq_true rfl) ?_
  intro p e s m below meth c hX hr hlk hP hro ls hl
  have hx := hX.1.1
  have hb := hX.1.2.1
  have hl : lv_has ls 3 [(0, .ref h), (1, .int x), (2, .int w)] := hl
  refine lv_iload_n hx hb dX2_under_0 rfl (lv_at hl 1 rfl) ?_
  refine PM.ci (PM.runS (As := [.int x]) (rest := []) hX (K_X2_isLetter l g x) (cs_q927 hX ⟨Nat.le_of_ble_eq_true rfl, Nat.le_of_ble_eq_true rfl⟩) va_P_nil trivial rfl hl.1 rfl (Nat.le_of_ble_eq_true rfl) dX2_under_1 ⟨Nat.zero_le _, Nat.zero_le _⟩) ?_
  refine lv_bif_ne (tgt := 10) hx hb dX2_under_4 (by decide) (fun c_1 => ?_) (fun c_1 => ?_)
  · obtain ⟨xx, hxx, rfl⟩ := inP_nat (b := 5) (by omega) c_1
    refine lv_iload_n hx hb dX2_under_10 rfl (lv_at hl 2 rfl) ?_
    refine lv_i2l (v := w.toInt64) hx hb dX2_under_11 rfl ?_
    refine lv_lconst (v := 0) hx hb dX2_under_12 (by decide) ?_
    refine lv_lconst (v := 1) hx hb dX2_under_13 (by decide) ?_
    refine PM.ci (PM.runS (As := [.long w.toInt64, .long 0, .long 1]) (rest := []) hX (K_X2_in l g w.toInt64 0 1) (cs_q900 hX ⟨Nat.le_of_ble_eq_true rfl, Nat.le_of_ble_eq_true rfl⟩) va_P_nil trivial rfl hl.1 rfl (Nat.le_of_ble_eq_true rfl) dX2_under_14 ⟨Nat.zero_le _, Nat.zero_le _⟩) ?_
    refine lv_seti (v := (b01 (inP w 0 1))) (inL_c (a := 0) (b := 1) (by decide) (by decide)) ?_
    refine lv_bif_eq (tgt := 29) hx hb dX2_under_17 (by decide) (fun c_2 => ?_) (fun c_2 => ?_)
    · refine lv_bipush (v := (-102)) hx hb dX2_under_29 (by decide) ?_
      exact PM.iret hX hr hlk (by first | (simp only [underF, if_pos c_1, if_neg c_2]; done) | (simp only [underF, if_pos c_1, if_neg c_2, ix_nI (show xx < 2 ^ 31 by omega)]; rfl)) dX2_under_31
    refine lv_aload_n hx hb dX2_under_20 rfl (lv_at hl 0 rfl) ?_
    refine lv_iload_n hx hb dX2_under_21 rfl (lv_at hl 1 rfl) ?_
    refine lv_iload_n hx hb dX2_under_22 rfl (lv_at hl 2 rfl) ?_
    refine PM.ci (PM.runV (As := [.int (nI xx), .int w]) (rest := []) hX (K_X2_tellUnder l g h R J hs G xx w n_ (by omega) (hJ6) (by omega)) (cv_q931 hX ⟨Nat.le_of_ble_eq_true rfl, Nat.le_of_ble_eq_true rfl⟩) hP trivial (r_recv hX hP 0 rfl rfl) rfl hl.1 rfl (Nat.le_of_ble_eq_true rfl) dX2_under_23 ⟨Nat.zero_le _, Nat.zero_le _⟩) ?_
    refine lv_goto (tgt := 31) hx hb dX2_under_26 (by decide) ?_
    exact PM.iret hX hr hlk (by first | (simp only [underF, if_pos c_1, if_pos c_2]; done) | (simp only [underF, if_pos c_1, if_pos c_2, ix_nI (show xx < 2 ^ 31 by omega)]; rfl)) dX2_under_31
  refine lv_bipush (v := (-101)) hx hb dX2_under_7 (by decide) ?_
  exact PM.iret hX hr hlk (by first | (simp only [underF, if_neg c_1]; done) | (simp only [underF, if_neg c_1, ix_nI (show xx < 2 ^ 31 by omega)]; rfl)) dX2_under_9

set_option maxHeartbeats 400000 in
set_option maxRecDepth 100000 in
theorem K_X2_namesOf (l : Launch) (g : Gx) (h : Nat) (R : Nat → Nat) (J : Nat → Int32) (hs : Int64) (G : Nat → Nat → Int32) (fi : Nat) (n_ : Nat) (kd : Nat → Nat) (pt : Nat → Int32) (hn : n_ ≤ 5) (hf : fi < n_) (hrow : RowsOk G n_ kd pt) : PM l g yX2_namesOf cX2_namesOf 3 (some .int) 0 [.ref h, .int (nI fi)] roT (wM g h R J hs G) (some (.int (nmF (kd fi)))) := by
  refine PM.of (own := "BurntLettersModel") (by decide) rfl (Nat.le_of_ble_eq_true rfl) ?_
  intro p e s m below meth c hX hr hlk hP hro ls hl
  have hx := hX.1.1
  have hb := hX.1.2.1
  have hl : lv_has ls 3 [(0, .ref h), (1, .int (nI fi))] := hl
  refine lv_aload_n hx hb dX2_namesOf_0 rfl (lv_at hl 0 rfl) ?_
  refine gf_q814 (v := .ref (R 7)) hX hP 0 rfl rfl dX2_namesOf_1 ?_
  refine lv_iconst (v := 2) hx hb dX2_namesOf_4 (by decide) ?_
  refine lv_iload_n hx hb dX2_namesOf_5 rfl (lv_at hl 1 rfl) ?_
  refine lv_imul hx hb dX2_namesOf_6 ?_
  refine lv_seti (v := (nI (2 * fi))) (pk_mul _ _) ?_
  refine r_iald (f := (G 2)) hX hP 3 rfl (2 * fi) (by omega) (by omega) dX2_namesOf_7 ?_
  refine lv_seti (v := (nI (kd fi))) ((hrow fi hf).1) ?_
  refine lv_istore_n (lv' := [(2, .int (nI (kd fi))), (0, .ref h), (1, .int (nI fi))]) hx hb dX2_namesOf_8 rfl hl (by decide) rfl (fun ls hl => ?_)
  refine lv_iload_n hx hb dX2_namesOf_9 rfl (lv_at hl 0 rfl) ?_
  refine lv_iconst (v := 1) hx hb dX2_namesOf_10 (by decide) ?_
  refine lv_icmp_ne (tgt := 19) hx hb dX2_namesOf_11 (by decide) (fun c_1 => ?_) (fun c_1 => ?_)
  · refine lv_iload_n hx hb dX2_namesOf_19 rfl (lv_at hl 0 rfl) ?_
    refine lv_iconst (v := 2) hx hb dX2_namesOf_20 (by decide) ?_
    refine lv_icmp_le (tgt := 28) hx hb dX2_namesOf_21 (by decide) (fun c_2 => ?_) (fun c_2 => ?_)
    · refine lv_iconst (v := 2) hx hb dX2_namesOf_28 (by decide) ?_
      exact PM.iret hX hr hlk (by rw [← nmF_i (kd fi) (hrow fi hf).2.2]; simp only [if_neg c_1, if_pos c_2]) dX2_namesOf_29
    refine lv_iconst (v := 3) hx hb dX2_namesOf_24 (by decide) ?_
    refine lv_goto (tgt := 29) hx hb dX2_namesOf_25 (by decide) ?_
    exact PM.iret hX hr hlk (by rw [← nmF_i (kd fi) (hrow fi hf).2.2]; simp only [if_neg c_1, if_neg c_2]) dX2_namesOf_29
  refine lv_bipush (v := 6) hx hb dX2_namesOf_14 (by decide) ?_
  refine lv_goto (tgt := 29) hx hb dX2_namesOf_16 (by decide) ?_
  exact PM.iret hX hr hlk (by rw [← nmF_i (kd fi) (hrow fi hf).2.2]; simp only [if_pos c_1]) dX2_namesOf_29

set_option maxHeartbeats 400000 in
set_option maxRecDepth 100000 in
theorem K_X2_tell (l : Launch) (g : Gx) (h : Nat) (R : Nat → Nat) (J : Nat → Int32) (hs : Int64) (G : Nat → Nat → Int32) (fi : Nat) (w : Int32) (n_ : Nat) (kd : Nat → Nat) (pt : Nat → Int32) (hn : n_ ≤ 5) (hf : fi < n_) (hrow : RowsOk G n_ kd pt) : PM l g yX2_tell cX2_tell 3 (some .int) 1 [.ref h, .int (nI fi), .int w] roT (wM g h R J hs G) (some (.int (tellF kd (vF G pt) fi w))) := by
  refine PM.of (own := "BurntLettersModel") (by decide) rfl (Nat.le_of_ble_eq_true rfl) ?_
  intro p e s m below meth c hX hr hlk hP hro ls hl
  have hx := hX.1.1
  have hb := hX.1.2.1
  have hl : lv_has ls 3 [(0, .ref h), (1, .int (nI fi)), (2, .int w)] := hl
  refine lv_iload_n hx hb dX2_tell_0 rfl (lv_at hl 2 rfl) ?_
  by_cases c_1 : w = 0
  · have c_1i : w.toInt = 0 := by rw [c_1]; rfl
    refine lv_tableIn (off := 39) (tgt := 40) hx hb dX2_tell_1 (by rw [c_1i]; decide) (by rw [c_1i]; decide) (by rw [c_1i]; rfl) (by decide) ?_
    refine lv_aload_n hx hb dX2_tell_40 rfl (lv_at hl 0 rfl) ?_
    refine gf_q814 (v := .ref (R 7)) hX hP 0 rfl rfl dX2_tell_41 ?_
    refine lv_iconst (v := 2) hx hb dX2_tell_44 (by decide) ?_
    refine lv_iload_n hx hb dX2_tell_45 rfl (lv_at hl 1 rfl) ?_
    refine lv_imul hx hb dX2_tell_46 ?_
    refine lv_seti (v := (nI (2 * fi))) (pk_mul _ _) ?_
    refine r_iald (f := (G 2)) hX hP 3 rfl (2 * fi) (by omega) (by omega) dX2_tell_47 ?_
    exact PM.iret hX hr hlk (by rw [(hrow fi hf).1, tellF, toldF, if_pos (show inP w 0 5 by rw [c_1]; decide), if_pos c_1]) dX2_tell_48
  by_cases c_2 : w = 1
  · have c_2i : w.toInt = 1 := by rw [c_2]; rfl
    refine lv_tableIn (off := 48) (tgt := 49) hx hb dX2_tell_1 (by rw [c_2i]; decide) (by rw [c_2i]; decide) (by rw [c_2i]; rfl) (by decide) ?_
    refine lv_aload_n hx hb dX2_tell_49 rfl (lv_at hl 0 rfl) ?_
    refine gf_q815 (v := .ref (R 8)) hX hP 0 rfl rfl dX2_tell_50 ?_
    refine lv_iload_n hx hb dX2_tell_53 rfl (lv_at hl 1 rfl) ?_
    refine r_iald (f := (G 3)) hX hP 4 rfl fi (by omega) (by omega) dX2_tell_54 ?_
    exact PM.iret hX hr hlk (by rw [tellF, toldF, if_pos (show inP w 0 5 by rw [c_2]; decide), if_neg c_1, if_pos c_2]; rfl) dX2_tell_55
  by_cases c_3 : w = 2
  · have c_3i : w.toInt = 2 := by rw [c_3]; rfl
    refine lv_tableIn (off := 55) (tgt := 56) hx hb dX2_tell_1 (by rw [c_3i]; decide) (by rw [c_3i]; decide) (by rw [c_3i]; rfl) (by decide) ?_
    refine lv_aload_n hx hb dX2_tell_56 rfl (lv_at hl 0 rfl) ?_
    refine gf_q814 (v := .ref (R 7)) hX hP 0 rfl rfl dX2_tell_57 ?_
    refine lv_iconst (v := 2) hx hb dX2_tell_60 (by decide) ?_
    refine lv_iload_n hx hb dX2_tell_61 rfl (lv_at hl 1 rfl) ?_
    refine lv_imul hx hb dX2_tell_62 ?_
    refine lv_seti (v := (nI (2 * fi))) (pk_mul _ _) ?_
    refine lv_iconst (v := 1) hx hb dX2_tell_63 (by decide) ?_
    refine lv_iadd hx hb dX2_tell_64 ?_
    refine lv_seti (v := (nI ((2 * fi) + 1))) (nI_add _ _) ?_
    refine r_iald (f := (G 2)) hX hP 3 rfl ((2 * fi) + 1) (by omega) (by omega) dX2_tell_65 ?_
    exact PM.iret hX hr hlk (by rw [(hrow fi hf).2.1, tellF, toldF, if_pos (show inP w 0 5 by rw [c_3]; decide), if_neg c_1, if_neg c_2, if_pos c_3]; rfl) dX2_tell_66
  by_cases c_4 : w = 3
  · have c_4i : w.toInt = 3 := by rw [c_4]; rfl
    refine lv_tableIn (off := 66) (tgt := 67) hx hb dX2_tell_1 (by rw [c_4i]; decide) (by rw [c_4i]; decide) (by rw [c_4i]; rfl) (by decide) ?_
    refine lv_aload_n hx hb dX2_tell_67 rfl (lv_at hl 0 rfl) ?_
    refine gf_q816 (v := .ref (R 9)) hX hP 0 rfl rfl dX2_tell_68 ?_
    refine lv_iload_n hx hb dX2_tell_71 rfl (lv_at hl 1 rfl) ?_
    refine r_iald (f := (G 4)) hX hP 5 rfl fi (by omega) (by omega) dX2_tell_72 ?_
    exact PM.iret hX hr hlk (by rw [tellF, toldF, if_pos (show inP w 0 5 by rw [c_4]; decide), if_neg c_1, if_neg c_2, if_neg c_3, if_pos c_4]; rfl) dX2_tell_73
  by_cases c_5 : w = 4
  · have c_5i : w.toInt = 4 := by rw [c_5]; rfl
    refine lv_tableIn (off := 73) (tgt := 74) hx hb dX2_tell_1 (by rw [c_5i]; decide) (by rw [c_5i]; decide) (by rw [c_5i]; rfl) (by decide) ?_
    refine lv_aload_n hx hb dX2_tell_74 rfl (lv_at hl 0 rfl) ?_
    refine gf_q815 (v := .ref (R 8)) hX hP 0 rfl rfl dX2_tell_75 ?_
    refine lv_iload_n hx hb dX2_tell_78 rfl (lv_at hl 1 rfl) ?_
    refine r_iald (f := (G 3)) hX hP 4 rfl fi (by omega) (by omega) dX2_tell_79 ?_
    refine lv_if_ne (tgt := 87) hx hb dX2_tell_80 (by decide) (fun c_6 => ?_) (fun c_6 => ?_)
    · refine lv_iconst (v := 1) hx hb dX2_tell_87 (by decide) ?_
      exact PM.iret hX hr hlk (by rw [tellF, toldF, if_pos (show inP w 0 5 by rw [c_5]; decide), if_neg c_1, if_neg c_2, if_neg c_3, if_neg c_4, if_pos c_5]; first | exact (if_pos c_6).symm | exact (if_neg c_6).symm) dX2_tell_88
    refine lv_iconst (v := 0) hx hb dX2_tell_83 (by decide) ?_
    refine lv_goto (tgt := 88) hx hb dX2_tell_84 (by decide) ?_
    exact PM.iret hX hr hlk (by rw [tellF, toldF, if_pos (show inP w 0 5 by rw [c_5]; decide), if_neg c_1, if_neg c_2, if_neg c_3, if_neg c_4, if_pos c_5]; first | exact (if_pos c_6).symm | exact (if_neg c_6).symm) dX2_tell_88
  by_cases c_7 : w = 5
  · have c_7i : w.toInt = 5 := by rw [c_7]; rfl
    refine lv_tableIn (off := 88) (tgt := 89) hx hb dX2_tell_1 (by rw [c_7i]; decide) (by rw [c_7i]; decide) (by rw [c_7i]; rfl) (by decide) ?_
    refine lv_aload_n hx hb dX2_tell_89 rfl (lv_at hl 0 rfl) ?_
    refine lv_iload_n hx hb dX2_tell_90 rfl (lv_at hl 1 rfl) ?_
    refine PM.ci (PM.runV (As := [.int (nI fi)]) (rest := []) hX (K_X2_namesOf l g h R J hs G fi n_ kd pt (by omega) (by omega) (hrow)) (cv_q960 hX ⟨Nat.le_of_ble_eq_true rfl, Nat.le_of_ble_eq_true rfl⟩) hP trivial (r_recv hX hP 0 rfl rfl) rfl hl.1 rfl (Nat.le_of_ble_eq_true rfl) dX2_tell_91 ⟨Nat.zero_le _, Nat.zero_le _⟩) ?_
    exact PM.iret hX hr hlk (by rw [tellF, toldF, if_pos (show inP w 0 5 by rw [c_7]; decide), if_neg c_1, if_neg c_2, if_neg c_3, if_neg c_4, if_neg c_5]) dX2_tell_94
  have o_8 : w.toInt < 0 ∨ 5 < w.toInt := by
    have c_1n : w.toInt ≠ 0 := fun z => c_1 (Int32.toInt_inj.mp z)
    have c_2n : w.toInt ≠ 1 := fun z => c_2 (Int32.toInt_inj.mp z)
    have c_3n : w.toInt ≠ 2 := fun z => c_3 (Int32.toInt_inj.mp z)
    have c_4n : w.toInt ≠ 3 := fun z => c_4 (Int32.toInt_inj.mp z)
    have c_5n : w.toInt ≠ 4 := fun z => c_5 (Int32.toInt_inj.mp z)
    have c_7n : w.toInt ≠ 5 := fun z => c_7 (Int32.toInt_inj.mp z)
    omega
  refine lv_tableOut (tgt := 95) hx hb dX2_tell_1 o_8 (by decide) ?_
  refine lv_bipush (v := (-102)) hx hb dX2_tell_95 (by decide) ?_
  exact PM.iret hX hr hlk (by rw [tellF, if_neg (in_05 c_1 c_2 c_3 c_4 c_5 c_7)]) dX2_tell_97

set_option maxHeartbeats 400000 in
set_option maxRecDepth 100000 in
theorem K_X2_about (l : Launch) (g : Gx) (h : Nat) (R : Nat → Nat) (J : Nat → Int32) (hs : Int64) (G : Nat → Nat → Int32) (x : Int32) (w : Int32) (n_ : Nat) (kd : Nat → Nat) (pt : Nat → Int32) (hn : n_ ≤ 5) (hJ6 : (J 6) = nI n_) (hrow : RowsOk G n_ kd pt) : PM l g yX2_about cX2_about 3 (some .int) 2 [.ref h, .int x, .int w] roT (wM g h R J hs G) (some (.int (aboutF kd (vF G pt) n_ x w))) := by
  refine PM.of (own := "BurntLettersModel") (by decide) rfl (Nat.le_of_ble_eq_true rfl) ?_
  intro p e s m below meth c hX hr hlk hP hro ls hl
  have hx := hX.1.1
  have hb := hX.1.2.1
  have hl : lv_has ls 3 [(0, .ref h), (1, .int x), (2, .int w)] := hl
  refine lv_aload_n hx hb dX2_about_0 rfl (lv_at hl 0 rfl) ?_
  refine lv_iload_n hx hb dX2_about_1 rfl (lv_at hl 1 rfl) ?_
  refine PM.ci (PM.runV (As := [.int x]) (rest := []) hX (K_X2_isFile l g h R J hs G x n_ (hJ6)) (cv_q952 hX ⟨Nat.le_of_ble_eq_true rfl, Nat.le_of_ble_eq_true rfl⟩) hP trivial (r_recv hX hP 0 rfl rfl) rfl hl.1 rfl (Nat.le_of_ble_eq_true rfl) dX2_about_2 ⟨Nat.zero_le _, Nat.zero_le _⟩) ?_
  refine lv_bif_eq (tgt := 17) hx hb dX2_about_5 (by decide) (fun c_1 => ?_) (fun c_1 => ?_)
  · refine lv_bipush (v := (-101)) hx hb dX2_about_17 (by decide) ?_
    exact PM.iret hX hr hlk (by first | (rw [aboutF_tell, if_neg c_1]; done) | (rw [aboutF_tell, if_neg c_1, ix_nI (show f < 2 ^ 31 by omega)]; done)) dX2_about_19
  obtain ⟨f, hf, rfl⟩ := file_nat hn c_1
  refine lv_aload_n hx hb dX2_about_8 rfl (lv_at hl 0 rfl) ?_
  refine lv_iload_n hx hb dX2_about_9 rfl (lv_at hl 1 rfl) ?_
  refine lv_iload_n hx hb dX2_about_10 rfl (lv_at hl 2 rfl) ?_
  refine PM.ci (PM.runV (As := [.int (nI f), .int w]) (rest := []) hX (K_X2_tell l g h R J hs G f w n_ kd pt (by omega) (by omega) (hrow)) (cv_q956 hX ⟨Nat.le_of_ble_eq_true rfl, Nat.le_of_ble_eq_true rfl⟩) hP trivial (r_recv hX hP 0 rfl rfl) rfl hl.1 rfl (Nat.le_of_ble_eq_true rfl) dX2_about_11 ⟨Nat.zero_le _, Nat.zero_le _⟩) ?_
  refine lv_goto (tgt := 19) hx hb dX2_about_14 (by decide) ?_
  exact PM.iret hX hr hlk (by first | (rw [aboutF_tell, if_pos c_1]; done) | (rw [aboutF_tell, if_pos c_1, ix_nI (show f < 2 ^ 31 by omega)]; done)) dX2_about_19

set_option maxHeartbeats 400000 in
set_option maxRecDepth 100000 in
theorem K_X2_as (l : Launch) (g : Gx) (h : Nat) (R : Nat → Nat) (J : Nat → Int32) (hs : Int64) (G : Nat → Nat → Int32) (x : Int32) (k : Int32) (n_ : Nat) (kd : Nat → Nat) (pt : Nat → Int32) (hn : n_ ≤ 5) (hJ6 : (J 6) = nI n_) (hrow : RowsOk G n_ kd pt) : PM l g yX2_as cX2_as 5 (some .int) 2 [.ref h, .int x, .int k] roT (wM g h R J hs G) (some (.int (asF kd n_ x k))) := by
  refine PM.of (own := "BurntLettersModel") (by decide) rfl (Nat.le_of_ble_eq_true rfl) ?_
  intro p e s m below meth c hX hr hlk hP hro ls hl
  have hx := hX.1.1
  have hb := hX.1.2.1
  have hl : lv_has ls 5 [(0, .ref h), (1, .int x), (2, .int k)] := hl
  refine lv_aload_n hx hb dX2_as_0 rfl (lv_at hl 0 rfl) ?_
  refine lv_iload_n hx hb dX2_as_1 rfl (lv_at hl 1 rfl) ?_
  refine PM.ci (PM.runV (As := [.int x]) (rest := []) hX (K_X2_isFile l g h R J hs G x n_ (hJ6)) (cv_q952 hX ⟨Nat.le_of_ble_eq_true rfl, Nat.le_of_ble_eq_true rfl⟩) hP trivial (r_recv hX hP 0 rfl rfl) rfl hl.1 rfl (Nat.le_of_ble_eq_true rfl) dX2_as_2 ⟨Nat.zero_le _, Nat.zero_le _⟩) ?_
  refine lv_bif_ne (tgt := 11) hx hb dX2_as_5 (by decide) (fun c_1 => ?_) (fun c_1 => ?_)
  · obtain ⟨f, hf, rfl⟩ := file_nat hn c_1
    refine lv_iload_n hx hb dX2_as_11 rfl (lv_at hl 2 rfl) ?_
    refine lv_i2l (v := k.toInt64) hx hb dX2_as_12 rfl ?_
    refine lv_lconst (v := 0) hx hb dX2_as_13 (by decide) ?_
    refine lv_ldc2 (v := 4) hx hb hX.1.2.2.2.1 (hX.w q943) dX2_as_14 ?_
    refine PM.ci (PM.runS (As := [.long k.toInt64, .long 0, .long 4]) (rest := []) hX (K_X2_in l g k.toInt64 0 4) (cs_q900 hX ⟨Nat.le_of_ble_eq_true rfl, Nat.le_of_ble_eq_true rfl⟩) va_P_nil trivial rfl hl.1 rfl (Nat.le_of_ble_eq_true rfl) dX2_as_17 ⟨Nat.zero_le _, Nat.zero_le _⟩) ?_
    refine lv_seti (v := (b01 (inP k 0 4))) (inL_c (a := 0) (b := 4) (by decide) (by decide)) ?_
    refine lv_bif_ne (tgt := 26) hx hb dX2_as_20 (by decide) (fun c_2 => ?_) (fun c_2 => ?_)
    · refine lv_aload_n hx hb dX2_as_26 rfl (lv_at hl 0 rfl) ?_
      refine gf_q814 (v := .ref (R 7)) hX hP 0 rfl rfl dX2_as_27 ?_
      refine lv_iconst (v := 2) hx hb dX2_as_30 (by decide) ?_
      refine lv_iload_n hx hb dX2_as_31 rfl (lv_at hl 1 rfl) ?_
      refine lv_imul hx hb dX2_as_32 ?_
      refine lv_seti (v := (nI (2 * f))) (pk_mul _ _) ?_
      refine r_iald (f := (G 2)) hX hP 3 rfl (2 * f) (by omega) (by omega) dX2_as_33 ?_
      refine lv_seti (v := (nI (kd f))) ((hrow f hf).1) ?_
      refine lv_istore_n (lv' := [(3, .int (nI (kd f))), (0, .ref h), (1, .int (nI f)), (2, .int k)]) hx hb dX2_as_34 rfl hl (by decide) rfl (fun ls hl => ?_)
      refine lv_iload_n hx hb dX2_as_35 rfl (lv_at hl 3 rfl) ?_
      refine lv_if_eq (tgt := 54) hx hb dX2_as_36 (by decide) (fun c_3 => ?_) (fun c_3 => ?_)
      · refine lv_iconst (v := 1) hx hb dX2_as_54 (by decide) ?_
        refine lv_goto (tgt := 59) hx hb dX2_as_55 (by decide) ?_
        refine lv_istore (lv' := [(4, .int 1), (3, .int (nI (kd f))), (0, .ref h), (1, .int (nI f)), (2, .int k)]) hx hb dX2_as_59 hl (by decide) rfl (fun ls hl => ?_)
        refine lv_iload hx hb dX2_as_61 (lv_at hl 0 rfl) ?_
        refine lv_if_eq (tgt := 70) hx hb dX2_as_63 (by decide) (fun c_4 => ?_) (fun c_4 => ?_)
        · exact absurd c_4 (by decide)
        refine lv_iload_n hx hb dX2_as_66 rfl (lv_at hl 3 rfl) ?_
        refine lv_goto (tgt := 71) hx hb dX2_as_67 (by decide) ?_
        exact PM.iret hX hr hlk (by first | (simp only [asF, if_pos c_1, if_pos c_2, if_pos c_3]; done) | (rw [asF, if_pos c_1, if_pos c_2, ix_nI (show f < 2 ^ 31 by omega)]; first | exact (if_pos (Or.inl c_3)).symm | exact (if_pos (Or.inr (Or.inl c_none))).symm | exact (if_pos (ofP_4' (hrow f hf).2.2 c_none c_none)).symm | exact (if_neg (ofP_m (hrow f hf).2.2 c_3 c_none (fun q => c_none q.1))).symm | exact (if_neg (ofP_m (hrow f hf).2.2 c_3 c_none (fun q => c_none q.2))).symm)) dX2_as_71
      refine lv_iload_n hx hb dX2_as_39 rfl (lv_at hl 3 rfl) ?_
      refine lv_iload_n hx hb dX2_as_40 rfl (lv_at hl 0 rfl) ?_
      refine lv_icmp_eq (tgt := 54) hx hb dX2_as_41 (by decide) (fun c_5 => ?_) (fun c_5 => ?_)
      · refine lv_iconst (v := 1) hx hb dX2_as_54 (by decide) ?_
        refine lv_goto (tgt := 59) hx hb dX2_as_55 (by decide) ?_
        refine lv_istore (lv' := [(4, .int 1), (3, .int (nI (kd f))), (0, .ref h), (1, .int (nI f)), (2, .int k)]) hx hb dX2_as_59 hl (by decide) rfl (fun ls hl => ?_)
        refine lv_iload hx hb dX2_as_61 (lv_at hl 0 rfl) ?_
        refine lv_if_eq (tgt := 70) hx hb dX2_as_63 (by decide) (fun c_6 => ?_) (fun c_6 => ?_)
        · exact absurd c_6 (by decide)
        refine lv_iload_n hx hb dX2_as_66 rfl (lv_at hl 3 rfl) ?_
        refine lv_goto (tgt := 71) hx hb dX2_as_67 (by decide) ?_
        exact PM.iret hX hr hlk (by first | (simp only [asF, if_pos c_1, if_pos c_2, if_neg c_3, if_pos c_5]; done) | (rw [asF, if_pos c_1, if_pos c_2, ix_nI (show f < 2 ^ 31 by omega)]; first | exact (if_pos (Or.inl c_3)).symm | exact (if_pos (Or.inr (Or.inl c_5))).symm | exact (if_pos (ofP_4' (hrow f hf).2.2 c_none c_none)).symm | exact (if_neg (ofP_m (hrow f hf).2.2 c_3 c_5 (fun q => c_none q.1))).symm | exact (if_neg (ofP_m (hrow f hf).2.2 c_3 c_5 (fun q => c_none q.2))).symm)) dX2_as_71
      refine lv_iload_n hx hb dX2_as_44 rfl (lv_at hl 3 rfl) ?_
      refine lv_iconst (v := 3) hx hb dX2_as_45 (by decide) ?_
      refine lv_icmp_ne (tgt := 58) hx hb dX2_as_46 (by decide) (fun c_7 => ?_) (fun c_7 => ?_)
      · refine lv_iconst (v := 0) hx hb dX2_as_58 (by decide) ?_
        refine lv_istore (lv' := [(4, .int 0), (3, .int (nI (kd f))), (0, .ref h), (1, .int (nI f)), (2, .int k)]) hx hb dX2_as_59 hl (by decide) rfl (fun ls hl => ?_)
        refine lv_iload hx hb dX2_as_61 (lv_at hl 0 rfl) ?_
        refine lv_if_eq (tgt := 70) hx hb dX2_as_63 (by decide) (fun c_8 => ?_) (fun c_8 => ?_)
        · refine lv_iconst (v := (-1)) hx hb dX2_as_70 (by decide) ?_
          exact PM.iret hX hr hlk (by first | (simp only [asF, if_pos c_1, if_pos c_2, if_neg c_3, if_neg c_5, if_neg c_7]; done) | (rw [asF, if_pos c_1, if_pos c_2, ix_nI (show f < 2 ^ 31 by omega)]; first | exact (if_pos (Or.inl c_3)).symm | exact (if_pos (Or.inr (Or.inl c_5))).symm | exact (if_pos (ofP_4' (hrow f hf).2.2 c_7 c_none)).symm | exact (if_neg (ofP_m (hrow f hf).2.2 c_3 c_5 (fun q => c_7 q.1))).symm | exact (if_neg (ofP_m (hrow f hf).2.2 c_3 c_5 (fun q => c_none q.2))).symm)) dX2_as_71
        exact absurd c_8 (by decide)
      refine lv_iload_n hx hb dX2_as_49 rfl (lv_at hl 0 rfl) ?_
      refine lv_iconst (v := 4) hx hb dX2_as_50 (by decide) ?_
      refine lv_icmp_ne (tgt := 58) hx hb dX2_as_51 (by decide) (fun c_9 => ?_) (fun c_9 => ?_)
      · refine lv_iconst (v := 0) hx hb dX2_as_58 (by decide) ?_
        refine lv_istore (lv' := [(4, .int 0), (3, .int (nI (kd f))), (0, .ref h), (1, .int (nI f)), (2, .int k)]) hx hb dX2_as_59 hl (by decide) rfl (fun ls hl => ?_)
        refine lv_iload hx hb dX2_as_61 (lv_at hl 0 rfl) ?_
        refine lv_if_eq (tgt := 70) hx hb dX2_as_63 (by decide) (fun c_10 => ?_) (fun c_10 => ?_)
        · refine lv_iconst (v := (-1)) hx hb dX2_as_70 (by decide) ?_
          exact PM.iret hX hr hlk (by first | (simp only [asF, if_pos c_1, if_pos c_2, if_neg c_3, if_neg c_5, if_pos c_7, if_neg c_9]; done) | (rw [asF, if_pos c_1, if_pos c_2, ix_nI (show f < 2 ^ 31 by omega)]; first | exact (if_pos (Or.inl c_3)).symm | exact (if_pos (Or.inr (Or.inl c_5))).symm | exact (if_pos (ofP_4' (hrow f hf).2.2 c_7 c_9)).symm | exact (if_neg (ofP_m (hrow f hf).2.2 c_3 c_5 (fun q => c_7 q.1))).symm | exact (if_neg (ofP_m (hrow f hf).2.2 c_3 c_5 (fun q => c_9 q.2))).symm)) dX2_as_71
        exact absurd c_10 (by decide)
      refine lv_iconst (v := 1) hx hb dX2_as_54 (by decide) ?_
      refine lv_goto (tgt := 59) hx hb dX2_as_55 (by decide) ?_
      refine lv_istore (lv' := [(4, .int 1), (3, .int (nI (kd f))), (0, .ref h), (1, .int (nI f)), (2, .int k)]) hx hb dX2_as_59 hl (by decide) rfl (fun ls hl => ?_)
      refine lv_iload hx hb dX2_as_61 (lv_at hl 0 rfl) ?_
      refine lv_if_eq (tgt := 70) hx hb dX2_as_63 (by decide) (fun c_11 => ?_) (fun c_11 => ?_)
      · exact absurd c_11 (by decide)
      refine lv_iload_n hx hb dX2_as_66 rfl (lv_at hl 3 rfl) ?_
      refine lv_goto (tgt := 71) hx hb dX2_as_67 (by decide) ?_
      exact PM.iret hX hr hlk (by first | (simp only [asF, if_pos c_1, if_pos c_2, if_neg c_3, if_neg c_5, if_pos c_7, if_pos c_9]; done) | (rw [asF, if_pos c_1, if_pos c_2, ix_nI (show f < 2 ^ 31 by omega)]; first | exact (if_pos (Or.inl c_3)).symm | exact (if_pos (Or.inr (Or.inl c_5))).symm | exact (if_pos (ofP_4' (hrow f hf).2.2 c_7 c_9)).symm | exact (if_neg (ofP_m (hrow f hf).2.2 c_3 c_5 (fun q => c_7 q.1))).symm | exact (if_neg (ofP_m (hrow f hf).2.2 c_3 c_5 (fun q => c_9 q.2))).symm)) dX2_as_71
    refine lv_bipush (v := (-102)) hx hb dX2_as_23 (by decide) ?_
    exact PM.iret hX hr hlk (by first | (simp only [asF, if_pos c_1, if_neg c_2]; done) | (rw [asF, if_pos c_1, if_pos c_2, ix_nI (show f < 2 ^ 31 by omega)]; first | exact (if_pos (Or.inl c_none)).symm | exact (if_pos (Or.inr (Or.inl c_none))).symm | exact (if_pos (ofP_4' (hrow f hf).2.2 c_none c_none)).symm | exact (if_neg (ofP_m (hrow f hf).2.2 c_none c_none (fun q => c_none q.1))).symm | exact (if_neg (ofP_m (hrow f hf).2.2 c_none c_none (fun q => c_none q.2))).symm)) dX2_as_25
  refine lv_bipush (v := (-101)) hx hb dX2_as_8 (by decide) ?_
  exact PM.iret hX hr hlk (by first | (simp only [asF, if_neg c_1]; done) | (rw [asF, if_pos c_1, if_pos c_2, ix_nI (show f < 2 ^ 31 by omega)]; first | exact (if_pos (Or.inl c_none)).symm | exact (if_pos (Or.inr (Or.inl c_none))).symm | exact (if_pos (ofP_4' (hrow f hf).2.2 c_none c_none)).symm | exact (if_neg (ofP_m (hrow f hf).2.2 c_none c_none (fun q => c_none q.1))).symm | exact (if_neg (ofP_m (hrow f hf).2.2 c_none c_none (fun q => c_none q.2))).symm)) dX2_as_10

set_option maxHeartbeats 400000 in
set_option maxRecDepth 100000 in
theorem K_X2_mayCopy (l : Launch) (g : Gx) (h : Nat) (R : Nat → Nat) (J : Nat → Int32) (hs : Int64) (G : Nat → Nat → Int32) (fi : Nat) (t : Int32) (n_ : Nat) (kd : Nat → Nat) (pt : Nat → Int32) (hn : n_ ≤ 5) (hJ6 : (J 6) = nI n_) (hrow : RowsOk G n_ kd pt) (hf : fi < n_) (hlv : LvOk (G 3) n_) : PM l g yX2_mayCopy cX2_mayCopy 4 (some .boolean) 1 [.ref h, .int (nI fi), .int t] roT (wM g h R J hs G) (some (.int (b01 (mcP kd (G 3) (J 2) n_ fi t)))) := by
  refine PM.of (own := "BurntLettersModel") (by decide) rfl (Nat.le_of_ble_eq_true rfl) ?_
  intro p e s m below meth c hX hr hlk hP hro ls hl
  have hx := hX.1.1
  have hb := hX.1.2.1
  have hl : lv_has ls 4 [(0, .ref h), (1, .int (nI fi)), (2, .int t)] := hl
  refine lv_aload_n hx hb dX2_mayCopy_0 rfl (lv_at hl 0 rfl) ?_
  refine gf_q815 (v := .ref (R 8)) hX hP 0 rfl rfl dX2_mayCopy_1 ?_
  refine lv_iload_n hx hb dX2_mayCopy_4 rfl (lv_at hl 1 rfl) ?_
  refine r_iald (f := (G 3)) hX hP 4 rfl fi (by omega) (by omega) dX2_mayCopy_5 ?_
  refine lv_istore_n (lv' := [(3, .int ((G 3) fi)), (0, .ref h), (1, .int (nI fi)), (2, .int t)]) hx hb dX2_mayCopy_6 rfl hl (by decide) rfl (fun ls hl => ?_)
  refine lv_iload_n hx hb dX2_mayCopy_7 rfl (lv_at hl 0 rfl) ?_
  refine lv_if_eq (tgt := 51) hx hb dX2_mayCopy_8 (by decide) (fun c_1 => ?_) (fun c_1 => ?_)
  · refine lv_iconst (v := 0) hx hb dX2_mayCopy_51 (by decide) ?_
    exact PM.zret hX hr hlk (by first | exact b01_t ⟨c_1, in0 c_2, c_4, c_3⟩ | exact b01_f (fun q => q.1 c_1) | exact b01_f (fun q => q.2.1 (in1' c_2)) | exact b01_f (fun q => q.2.2.2 c_3) | exact b01_f (fun q => q.2.2.1 c_4)) (Or.inl rfl) dX2_mayCopy_52
  refine lv_iload_n hx hb dX2_mayCopy_11 rfl (lv_at hl 0 rfl) ?_
  refine lv_iload_n hx hb dX2_mayCopy_12 rfl (lv_at hl 3 rfl) ?_
  refine lv_ishr hx hb dX2_mayCopy_13 ?_
  refine lv_iconst (v := 1) hx hb dX2_mayCopy_14 (by decide) ?_
  refine lv_iand hx hb dX2_mayCopy_15 ?_
  refine lv_if_ne (tgt := 51) hx hb dX2_mayCopy_16 (by decide) (fun c_2 => ?_) (fun c_2 => ?_)
  · refine lv_iconst (v := 0) hx hb dX2_mayCopy_51 (by decide) ?_
    exact PM.zret hX hr hlk (by first | exact b01_t ⟨c_1, in0 c_2, c_4, c_3⟩ | exact b01_f (fun q => q.1 c_1) | exact b01_f (fun q => q.2.1 (in1' c_2)) | exact b01_f (fun q => q.2.2.2 c_3) | exact b01_f (fun q => q.2.2.1 c_4)) (Or.inl rfl) dX2_mayCopy_52
  refine lv_iload_n hx hb dX2_mayCopy_19 rfl (lv_at hl 0 rfl) ?_
  refine PM.ci (PM.runS (As := [.int ((G 3) fi)]) (rest := []) hX (K_X2_ones l g ((G 3) fi)) (cs_q976 hX ⟨Nat.le_of_ble_eq_true rfl, Nat.le_of_ble_eq_true rfl⟩) va_P_nil trivial rfl hl.1 rfl (Nat.le_of_ble_eq_true rfl) dX2_mayCopy_20 ⟨Nat.zero_le _, Nat.zero_le _⟩) ?_
  refine lv_seti (v := (bcF (G 3 fi))) (ones_ok hlv hf) ?_
  refine lv_aload_n hx hb dX2_mayCopy_23 rfl (lv_at hl 1 rfl) ?_
  refine lv_iload_n hx hb dX2_mayCopy_24 rfl (lv_at hl 2 rfl) ?_
  refine PM.ci (PM.runV (As := [.int (nI fi)]) (rest := [.int (bcF (G 3 fi))]) hX (K_X2_namesOf l g h R J hs G fi n_ kd pt (by omega) (by omega) (hrow)) (cv_q960 hX ⟨Nat.le_of_ble_eq_true rfl, Nat.le_of_ble_eq_true rfl⟩) hP trivial (r_recv hX hP 0 rfl rfl) rfl hl.1 rfl (Nat.le_of_ble_eq_true rfl) dX2_mayCopy_25 ⟨Nat.zero_le _, Nat.zero_le _⟩) ?_
  refine lv_icmp_ge (tgt := 51) hx hb dX2_mayCopy_28 (by decide) (fun c_3 => ?_) (fun c_3 => ?_)
  · refine lv_iconst (v := 0) hx hb dX2_mayCopy_51 (by decide) ?_
    exact PM.zret hX hr hlk (by first | exact b01_t ⟨c_1, in0 c_2, c_4, c_3⟩ | exact b01_f (fun q => q.1 c_1) | exact b01_f (fun q => q.2.1 (in1' c_2)) | exact b01_f (fun q => q.2.2.2 c_3) | exact b01_f (fun q => q.2.2.1 c_4)) (Or.inl rfl) dX2_mayCopy_52
  refine lv_aload_n hx hb dX2_mayCopy_31 rfl (lv_at hl 1 rfl) ?_
  refine lv_aload_n hx hb dX2_mayCopy_32 rfl (lv_at hl 1 rfl) ?_
  refine gf_q815 (v := .ref (R 8)) hX hP 0 rfl rfl dX2_mayCopy_33 ?_
  refine lv_iload_n hx hb dX2_mayCopy_36 rfl (lv_at hl 3 rfl) ?_
  refine PM.ci (PM.runV (As := [.ref (R 8), .int t]) (rest := []) hX (K_X2_fullness l g h R J hs (R 8) (G 3) t n_ (by omega) (hJ6)) (cv_q935 hX ⟨Nat.le_of_ble_eq_true rfl, Nat.le_of_ble_eq_true rfl⟩) (hP.sub (ws' := (wF g h R J hs (R 8) (G 3))) [0, 4] rfl) trivial (r_recv hX hP 0 rfl rfl) rfl hl.1 rfl (Nat.le_of_ble_eq_true rfl) dX2_mayCopy_37 ⟨Nat.zero_le _, Nat.zero_le _⟩) ?_
  refine lv_aload_n hx hb dX2_mayCopy_40 rfl (lv_at hl 1 rfl) ?_
  refine gf_q809 (v := .int (J 2)) hX hP 0 rfl rfl dX2_mayCopy_41 ?_
  refine lv_icmp_ge (tgt := 51) hx hb dX2_mayCopy_44 (by decide) (fun c_4 => ?_) (fun c_4 => ?_)
  · refine lv_iconst (v := 0) hx hb dX2_mayCopy_51 (by decide) ?_
    exact PM.zret hX hr hlk (by first | exact b01_t ⟨c_1, in0 c_2, c_4, c_3⟩ | exact b01_f (fun q => q.1 c_1) | exact b01_f (fun q => q.2.1 (in1' c_2)) | exact b01_f (fun q => q.2.2.2 c_3) | exact b01_f (fun q => q.2.2.1 c_4)) (Or.inl rfl) dX2_mayCopy_52
  refine lv_iconst (v := 1) hx hb dX2_mayCopy_47 (by decide) ?_
  refine lv_goto (tgt := 52) hx hb dX2_mayCopy_48 (by decide) ?_
  exact PM.zret hX hr hlk (by first | exact b01_t ⟨c_1, in0 c_2, c_4, c_3⟩ | exact b01_f (fun q => q.1 c_1) | exact b01_f (fun q => q.2.1 (in1' c_2)) | exact b01_f (fun q => q.2.2.2 c_3) | exact b01_f (fun q => q.2.2.1 c_4)) (Or.inr rfl) dX2_mayCopy_52

set_option maxHeartbeats 400000 in
set_option maxRecDepth 100000 in
theorem K_X2_mayRename (l : Launch) (g : Gx) (h : Nat) (R : Nat → Nat) (J : Nat → Int32) (hs : Int64) (r : Nat) (f : Nat → Int32) (fi : Nat) (u : Int32) (t : Int32) (n_ : Nat) (hn : n_ ≤ 5) (hJ6 : (J 6) = nI n_) (hf : fi < 5) : PM l g yX2_mayRename cX2_mayRename 5 (some .boolean) 1 [.ref h, .ref r, .int (nI fi), .int u, .int t] roT (wF g h R J hs r f) (some (.int (b01 (mrP f (J 2) n_ fi u t)))) := by
  refine PM.of (own := "BurntLettersModel") (by decide) rfl (Nat.le_of_ble_eq_true rfl) ?_
  intro p e s m below meth c hX hr hlk hP hro ls hl
  have hx := hX.1.1
  have hb := hX.1.2.1
  have hl : lv_has ls 5 [(0, .ref h), (1, .ref r), (2, .int (nI fi)), (3, .int u), (4, .int t)] := hl
  refine lv_aload_n hx hb dX2_mayRename_0 rfl (lv_at hl 1 rfl) ?_
  refine lv_iload_n hx hb dX2_mayRename_1 rfl (lv_at hl 2 rfl) ?_
  refine r_iald (f := f) hX hP 1 rfl fi (by omega) (by omega) dX2_mayRename_2 ?_
  refine lv_iload_n hx hb dX2_mayRename_3 rfl (lv_at hl 3 rfl) ?_
  refine lv_ishr hx hb dX2_mayRename_4 ?_
  refine lv_iconst (v := 1) hx hb dX2_mayRename_5 (by decide) ?_
  refine lv_iand hx hb dX2_mayRename_6 ?_
  refine lv_iconst (v := 1) hx hb dX2_mayRename_7 (by decide) ?_
  refine lv_icmp_ne (tgt := 40) hx hb dX2_mayRename_8 (by decide) (fun c_1 => ?_) (fun c_1 => ?_)
  · refine lv_iconst (v := 0) hx hb dX2_mayRename_40 (by decide) ?_
    exact PM.zret hX hr hlk (by first | exact b01_t ⟨c_1, in0 c_2, c_3⟩ | exact b01_f (fun q => c_1 q.1) | exact b01_f (fun q => q.2.1 (in1' c_2)) | exact b01_f (fun q => q.2.2 c_3)) (Or.inl rfl) dX2_mayRename_41
  refine lv_aload_n hx hb dX2_mayRename_11 rfl (lv_at hl 1 rfl) ?_
  refine lv_iload_n hx hb dX2_mayRename_12 rfl (lv_at hl 2 rfl) ?_
  refine r_iald (f := f) hX hP 1 rfl fi (by omega) (by omega) dX2_mayRename_13 ?_
  refine lv_iload hx hb dX2_mayRename_14 (lv_at hl 4 rfl) ?_
  refine lv_ishr hx hb dX2_mayRename_16 ?_
  refine lv_iconst (v := 1) hx hb dX2_mayRename_17 (by decide) ?_
  refine lv_iand hx hb dX2_mayRename_18 ?_
  refine lv_if_ne (tgt := 40) hx hb dX2_mayRename_19 (by decide) (fun c_2 => ?_) (fun c_2 => ?_)
  · refine lv_iconst (v := 0) hx hb dX2_mayRename_40 (by decide) ?_
    exact PM.zret hX hr hlk (by first | exact b01_t ⟨c_1, in0 c_2, c_3⟩ | exact b01_f (fun q => c_1 q.1) | exact b01_f (fun q => q.2.1 (in1' c_2)) | exact b01_f (fun q => q.2.2 c_3)) (Or.inl rfl) dX2_mayRename_41
  refine lv_aload_n hx hb dX2_mayRename_22 rfl (lv_at hl 0 rfl) ?_
  refine lv_aload_n hx hb dX2_mayRename_23 rfl (lv_at hl 1 rfl) ?_
  refine lv_iload hx hb dX2_mayRename_24 (lv_at hl 4 rfl) ?_
  refine PM.ci (PM.runV (As := [.ref r, .int t]) (rest := []) hX (K_X2_fullness l g h R J hs r f t n_ (by omega) (hJ6)) (cv_q935 hX ⟨Nat.le_of_ble_eq_true rfl, Nat.le_of_ble_eq_true rfl⟩) hP trivial (r_recv hX hP 0 rfl rfl) rfl hl.1 rfl (Nat.le_of_ble_eq_true rfl) dX2_mayRename_26 ⟨Nat.zero_le _, Nat.zero_le _⟩) ?_
  refine lv_aload_n hx hb dX2_mayRename_29 rfl (lv_at hl 0 rfl) ?_
  refine gf_q809 (v := .int (J 2)) hX hP 0 rfl rfl dX2_mayRename_30 ?_
  refine lv_icmp_ge (tgt := 40) hx hb dX2_mayRename_33 (by decide) (fun c_3 => ?_) (fun c_3 => ?_)
  · refine lv_iconst (v := 0) hx hb dX2_mayRename_40 (by decide) ?_
    exact PM.zret hX hr hlk (by first | exact b01_t ⟨c_1, in0 c_2, c_3⟩ | exact b01_f (fun q => c_1 q.1) | exact b01_f (fun q => q.2.1 (in1' c_2)) | exact b01_f (fun q => q.2.2 c_3)) (Or.inl rfl) dX2_mayRename_41
  refine lv_iconst (v := 1) hx hb dX2_mayRename_36 (by decide) ?_
  refine lv_goto (tgt := 41) hx hb dX2_mayRename_37 (by decide) ?_
  exact PM.zret hX hr hlk (by first | exact b01_t ⟨c_1, in0 c_2, c_3⟩ | exact b01_f (fun q => c_1 q.1) | exact b01_f (fun q => q.2.1 (in1' c_2)) | exact b01_f (fun q => q.2.2 c_3)) (Or.inr rfl) dX2_mayRename_41

set_option maxHeartbeats 400000 in
set_option maxRecDepth 100000 in
theorem K_X2_letter (l : Launch) (g : Gx) (h : Nat) (R : Nat → Nat) (J : Nat → Int32) (hs : Int64) (G : Nat → Nat → Int32) (x : Int32) (pl : Nat) (hpl : (J 1) = nI pl) (hpl2 : pl ≤ 10) (hrk : RoK roT (wM g h R J hs G)) : MM l g yX2_letter cX2_letter 2 (some .int) 1 [.ref h, .int x] roT (wM g h R J hs G) (wM g h R (mltJ J x) hs (mltG J G x)) (some (.int (mltR J x))) := by
  refine MM.of (own := "BurntLettersModel") (by decide) rfl (Nat.le_of_ble_eq_true rfl) hrk ?_
  intro p e s m below meth c A hX hr hlk hZ ls hl
  have hx := hX.1.1
  have hb := hX.1.2.1
  have hl : lv_has ls 2 [(0, .ref h), (1, .int x)] := hl
  refine lv_iload_n hx hb dX2_letter_0 rfl (lv_at hl 1 rfl) ?_
  refine lv_i2l (v := x.toInt64) hx hb dX2_letter_1 rfl ?_
  refine lv_lconst (v := 1) hx hb dX2_letter_2 (by decide) ?_
  refine lv_ldc2 (v := 126) hx hb hX.1.2.2.2.1 (hX.w q899) dX2_letter_3 ?_
  refine PM.ci (PM.runS (As := [.long x.toInt64, .long 1, .long 126]) (rest := []) hX (K_X2_in l g x.toInt64 1 126) (cs_q900 hX ⟨Nat.le_of_ble_eq_true rfl, Nat.le_of_ble_eq_true rfl⟩) va_P_nil trivial rfl hl.1 rfl (Nat.le_of_ble_eq_true rfl) dX2_letter_6 ⟨Nat.zero_le _, Nat.zero_le _⟩) ?_
  refine lv_seti (v := (b01 (inP x 1 126))) (inL_c (a := 1) (b := 126) (by decide) (by decide)) ?_
  refine lv_bif_ne (tgt := 15) hx hb dX2_letter_9 (by decide) (fun c_1 => ?_) (fun c_1 => ?_)
  · refine lv_aload_n hx hb dX2_letter_15 rfl (lv_at hl 0 rfl) ?_
    refine gf_q808 (v := .int (J 1)) hX hZ.1 0 rfl rfl dX2_letter_16 ?_
    refine lv_seti (v := (nI pl)) (hpl) ?_
    refine lv_bipush (v := 10) hx hb dX2_letter_19 (by decide) ?_
    refine lv_icmp_ne (tgt := 27) hx hb dX2_letter_21 (by decide) (fun c_2 => ?_) (fun c_2 => ?_)
    · have c_2n : ¬ pl = 10 := fun zz_ => c_2 ((nI_eq (a := pl) (b := 10) (by omega) (by omega)).mpr zz_)
      refine lv_aload_n hx hb dX2_letter_27 rfl (lv_at hl 0 rfl) ?_
      refine gf_q807 (v := .ref (R 0)) hX hZ.1 0 rfl rfl dX2_letter_28 ?_
      refine lv_aload_n hx hb dX2_letter_31 rfl (lv_at hl 0 rfl) ?_
      refine gf_q808 (v := .int (J 1)) hX hZ.1 0 rfl rfl dX2_letter_32 ?_
      refine lv_seti (v := (nI pl)) (hpl) ?_
      refine lv_iload_n hx hb dX2_letter_35 rfl (lv_at hl 1 rfl) ?_
      refine r_iast (f := (G 0)) (x := x) (ws1 := (wM g h R J hs (va_up G 0 (upd (G 0) pl x)))) hX hZ 1 rfl pl (by omega) (by omega) dX2_letter_36 rfl (fun H locs hZ => ?_)
      refine lv_aload_n hx hb dX2_letter_37 rfl (lv_at hl 0 rfl) ?_
      refine lv_dup hx hb dX2_letter_38 rfl ?_
      refine gf_q808 (v := .int (J 1)) hX hZ.1 0 rfl rfl dX2_letter_39 ?_
      refine lv_seti (v := (nI pl)) (hpl) ?_
      refine lv_iconst (v := 1) hx hb dX2_letter_42 (by decide) ?_
      refine lv_iadd hx hb dX2_letter_43 ?_
      refine lv_seti (v := (nI (pl + 1))) (nI_add _ _) ?_
      refine pf_q808 (ws1 := (wM g h R (upd J 1 (nI (pl + 1))) hs (va_up G 0 (upd (G 0) pl x)))) hX hZ 0 rfl (Nat.le_of_ble_eq_true rfl) rfl dX2_letter_44 (fun H locs hZ => ?_)
      refine lv_aload_n hx hb dX2_letter_47 rfl (lv_at hl 0 rfl) ?_
      refine gf_q808 (v := .int (nI (pl + 1))) hX hZ.1 0 rfl rfl dX2_letter_48 ?_
      exact MM.iret hX hr hlk hZ (by simp only [mltJ, mltG, if_pos c_1, if_neg c_2, hpl, nI_1, ix_nI (show pl < 2 ^ 31 by omega)]) (by simp only [mltR, if_pos c_1, if_neg c_2, hpl, nI_1]) dX2_letter_51
    have c_2n : pl = 10 := (nI_eq (a := pl) (b := 10) (by omega) (by omega)).mp c_2
    refine lv_bipush (v := (-104)) hx hb dX2_letter_24 (by decide) ?_
    exact MM.iret hX hr hlk hZ (by simp only [mltJ, mltG, if_pos c_1, if_pos c_2, hpl, nI_1, ix_nI (show pl < 2 ^ 31 by omega)]) (by simp only [mltR, if_pos c_1, if_pos c_2, hpl, nI_1]) dX2_letter_26
  refine lv_bipush (v := (-102)) hx hb dX2_letter_12 (by decide) ?_
  exact MM.iret hX hr hlk hZ (by simp only [mltJ, mltG, if_neg c_1, hpl, nI_1, ix_nI (show pl < 2 ^ 31 by omega)]) (by simp only [mltR, if_neg c_1, hpl, nI_1]) dX2_letter_14

set_option maxHeartbeats 400000 in
set_option maxRecDepth 100000 in
theorem K_X2_blank (l : Launch) (g : Gx) (h : Nat) (R : Nat → Nat) (J : Nat → Int32) (hs : Int64) (G : Nat → Nat → Int32) (hrk : RoK roT (wM g h R J hs G)) : MM l g yX2_blank cX2_blank 2 (some .int) 0 [.ref h] roT (wM g h R J hs G) (wM g h R (upd J 1 0) hs G) (some (.int (J 1))) := by
  refine MM.of (own := "BurntLettersModel") (by decide) rfl (Nat.le_of_ble_eq_true rfl) hrk ?_
  intro p e s m below meth c A hX hr hlk hZ ls hl
  have hx := hX.1.1
  have hb := hX.1.2.1
  have hl : lv_has ls 2 [(0, .ref h)] := hl
  refine lv_aload_n hx hb dX2_blank_0 rfl (lv_at hl 0 rfl) ?_
  refine gf_q808 (v := .int (J 1)) hX hZ.1 0 rfl rfl dX2_blank_1 ?_
  refine lv_istore_n (lv' := [(1, .int (J 1)), (0, .ref h)]) hx hb dX2_blank_4 rfl hl (by decide) rfl (fun ls hl => ?_)
  refine lv_aload_n hx hb dX2_blank_5 rfl (lv_at hl 1 rfl) ?_
  refine lv_iconst (v := 0) hx hb dX2_blank_6 (by decide) ?_
  refine pf_q808 (ws1 := (wM g h R (upd J 1 0) hs G)) hX hZ 0 rfl (Nat.le_of_ble_eq_true rfl) rfl dX2_blank_7 (fun H locs hZ => ?_)
  refine lv_iload_n hx hb dX2_blank_10 rfl (lv_at hl 0 rfl) ?_
  exact MM.iret hX hr hlk hZ (rfl) (rfl) dX2_blank_11

set_option maxHeartbeats 400000 in
set_option maxRecDepth 100000 in
theorem K_X2_forget (l : Launch) (g : Gx) (h : Nat) (R : Nat → Nat) (J : Nat → Int32) (hs : Int64) (G : Nat → Nat → Int32) (hrk : RoK roT (wM g h R J hs G)) : MM l g yX2_forget cX2_forget 2 (some .int) 0 [.ref h] roT (wM g h R J hs G) (wM g h R (upd J 16 0) hs G) (some (.int (J 16))) := by
  refine MM.of (own := "BurntLettersModel") (by decide) rfl (Nat.le_of_ble_eq_true rfl) hrk ?_
  intro p e s m below meth c A hX hr hlk hZ ls hl
  have hx := hX.1.1
  have hb := hX.1.2.1
  have hl : lv_has ls 2 [(0, .ref h)] := hl
  refine lv_aload_n hx hb dX2_forget_0 rfl (lv_at hl 0 rfl) ?_
  refine gf_q823 (v := .int (J 16)) hX hZ.1 0 rfl rfl dX2_forget_1 ?_
  refine lv_istore_n (lv' := [(1, .int (J 16)), (0, .ref h)]) hx hb dX2_forget_4 rfl hl (by decide) rfl (fun ls hl => ?_)
  refine lv_aload_n hx hb dX2_forget_5 rfl (lv_at hl 1 rfl) ?_
  refine lv_iconst (v := 0) hx hb dX2_forget_6 (by decide) ?_
  refine pf_q823 (ws1 := (wM g h R (upd J 16 0) hs G)) hX hZ 0 rfl (Nat.le_of_ble_eq_true rfl) rfl dX2_forget_7 (fun H locs hZ => ?_)
  refine lv_iload_n hx hb dX2_forget_10 rfl (lv_at hl 0 rfl) ?_
  exact MM.iret hX hr hlk hZ (rfl) (rfl) dX2_forget_11

set_option maxHeartbeats 400000 in
set_option maxRecDepth 100000 in
theorem K_X2_copy (l : Launch) (g : Gx) (h : Nat) (R : Nat → Nat) (J : Nat → Int32) (hs : Int64) (G : Nat → Nat → Int32) (x : Int32) (t : Int32) (n_ : Nat) (kd : Nat → Nat) (pt : Nat → Int32) (hn : n_ ≤ 5) (hJ6 : (J 6) = nI n_) (hrow : RowsOk G n_ kd pt) (hlv : LvOk (G 3) n_) (hrk : RoK roT (wM g h R J hs G)) : MM l g yX2_copy cX2_copy 3 (some .int) 2 [.ref h, .int x, .int t] roT (wM g h R J hs G) (wM g h R J hs (mcpG kd J G n_ x t)) (some (.int (cpyR kd (vI J) (vF G pt) n_ x t))) := by
  refine MM.of (own := "BurntLettersModel") (by decide) rfl (Nat.le_of_ble_eq_true rfl) hrk ?_
  intro p e s m below meth c A hX hr hlk hZ ls hl
  have hx := hX.1.1
  have hb := hX.1.2.1
  have hl : lv_has ls 3 [(0, .ref h), (1, .int x), (2, .int t)] := hl
  refine lv_aload_n hx hb dX2_copy_0 rfl (lv_at hl 0 rfl) ?_
  refine lv_iload_n hx hb dX2_copy_1 rfl (lv_at hl 1 rfl) ?_
  refine PM.ci (PM.runV (As := [.int x]) (rest := []) hX (K_X2_isFile l g h R J hs G x n_ (hJ6)) (cv_q952 hX ⟨Nat.le_of_ble_eq_true rfl, Nat.le_of_ble_eq_true rfl⟩) hZ.1 trivial (r_recv hX hZ.1 0 rfl rfl) rfl hl.1 rfl (Nat.le_of_ble_eq_true rfl) dX2_copy_2 ⟨Nat.zero_le _, Nat.zero_le _⟩) ?_
  refine lv_bif_eq (tgt := 15) hx hb dX2_copy_5 (by decide) (fun c_1 => ?_) (fun c_1 => ?_)
  · refine lv_bipush (v := (-101)) hx hb dX2_copy_15 (by decide) ?_
    exact MM.iret hX hr hlk hZ (by first | (simp only [mcpG, if_neg c_1]; done) | (simp only [mcpG, ix_nI (show f < 2 ^ 31 by omega), if_neg c_1])) (by first | (simp only [cpyR, if_neg c_1]; done) | (rw [cpyR, if_pos c_1, if_pos c_2, ix_nI (show f < 2 ^ 31 by omega)]; exact (if_neg c_3).symm) | (rw [cpyR, if_pos c_1, if_pos c_2, ix_nI (show f < 2 ^ 31 by omega)]; exact (if_pos c_3).symm)) dX2_copy_17
  obtain ⟨f, hf, rfl⟩ := file_nat hn c_1
  refine lv_iload_n hx hb dX2_copy_8 rfl (lv_at hl 2 rfl) ?_
  refine PM.ci (PM.runS (As := [.int t]) (rest := []) hX (K_X2_isLetter l g t) (cs_q927 hX ⟨Nat.le_of_ble_eq_true rfl, Nat.le_of_ble_eq_true rfl⟩) va_P_nil trivial rfl hl.1 rfl (Nat.le_of_ble_eq_true rfl) dX2_copy_9 ⟨Nat.zero_le _, Nat.zero_le _⟩) ?_
  refine lv_bif_ne (tgt := 18) hx hb dX2_copy_12 (by decide) (fun c_2 => ?_) (fun c_2 => ?_)
  · obtain ⟨tt, htt, rfl⟩ := inP_nat (b := 5) (by omega) c_2
    refine lv_aload_n hx hb dX2_copy_18 rfl (lv_at hl 0 rfl) ?_
    refine lv_iload_n hx hb dX2_copy_19 rfl (lv_at hl 1 rfl) ?_
    refine lv_iload_n hx hb dX2_copy_20 rfl (lv_at hl 2 rfl) ?_
    refine PM.ci (PM.runV (As := [.int (nI f), .int (nI tt)]) (rest := []) hX (K_X2_mayCopy l g h R J hs G f (nI tt) n_ kd pt (by omega) (hJ6) (hrow) (by omega) (hlv)) (cv_q972 hX ⟨Nat.le_of_ble_eq_true rfl, Nat.le_of_ble_eq_true rfl⟩) hZ.1 trivial (r_recv hX hZ.1 0 rfl rfl) rfl hl.1 rfl (Nat.le_of_ble_eq_true rfl) dX2_copy_21 ⟨Nat.zero_le _, Nat.zero_le _⟩) ?_
    refine lv_bif_ne (tgt := 30) hx hb dX2_copy_24 (by decide) (fun c_3 => ?_) (fun c_3 => ?_)
    · refine lv_aload_n hx hb dX2_copy_30 rfl (lv_at hl 0 rfl) ?_
      refine gf_q815 (v := .ref (R 8)) hX hZ.1 0 rfl rfl dX2_copy_31 ?_
      refine lv_iload_n hx hb dX2_copy_34 rfl (lv_at hl 1 rfl) ?_
      refine lv_dup2_11 hx hb dX2_copy_35 rfl rfl ?_
      refine r_iald (f := (G 3)) hX hZ.1 4 rfl f (by omega) (by omega) dX2_copy_36 ?_
      refine lv_iconst (v := 1) hx hb dX2_copy_37 (by decide) ?_
      refine lv_iload_n hx hb dX2_copy_38 rfl (lv_at hl 2 rfl) ?_
      refine lv_ishl hx hb dX2_copy_39 ?_
      refine lv_ior hx hb dX2_copy_40 ?_
      refine r_iast (f := (G 3)) (x := (((G 3) f) ||| ((1 : Int32) <<< ((nI tt) &&& 31)))) (ws1 := (wM g h R J hs (va_up G 3 (upd (G 3) f (((G 3) f) ||| ((1 : Int32) <<< ((nI tt) &&& 31))))))) hX hZ 4 rfl f (by omega) (by omega) dX2_copy_41 rfl (fun H locs hZ => ?_)
      refine lv_aload_n hx hb dX2_copy_42 rfl (lv_at hl 0 rfl) ?_
      refine gf_q815 (v := .ref (R 8)) hX hZ.1 0 rfl rfl dX2_copy_43 ?_
      refine lv_iload_n hx hb dX2_copy_46 rfl (lv_at hl 1 rfl) ?_
      refine r_iald (f := (upd (G 3) f (((G 3) f) ||| ((1 : Int32) <<< ((nI tt) &&& 31))))) hX hZ.1 4 rfl f (by omega) (by omega) dX2_copy_47 ?_
      refine lv_seti (v := (G 3 f ||| (1 : Int32) <<< (nI tt &&& 31))) (pk_us) ?_
      refine PM.ci (PM.runS (As := [.int (G 3 f ||| (1 : Int32) <<< (nI tt &&& 31))]) (rest := []) hX (K_X2_ones l g (G 3 f ||| (1 : Int32) <<< (nI tt &&& 31))) (cs_q976 hX ⟨Nat.le_of_ble_eq_true rfl, Nat.le_of_ble_eq_true rfl⟩) va_P_nil trivial rfl hl.1 rfl (Nat.le_of_ble_eq_true rfl) dX2_copy_48 ⟨Nat.zero_le _, Nat.zero_le _⟩) ?_
      refine lv_seti (v := (bcF (G 3 f ||| (1 : Int32) <<< (nI tt &&& 31)))) (cpyR_post hlv hf htt) ?_
      exact MM.iret hX hr hlk hZ (by first | (simp only [mcpG, if_pos c_1, if_pos c_2, if_pos c_3]; done) | (simp only [mcpG, ix_nI (show f < 2 ^ 31 by omega), if_pos c_1, if_pos c_2, if_pos c_3])) (by first | (simp only [cpyR, if_pos c_1, if_pos c_2, if_pos c_3]; done) | (rw [cpyR, if_pos c_1, if_pos c_2, ix_nI (show f < 2 ^ 31 by omega)]; exact (if_neg c_3).symm) | (rw [cpyR, if_pos c_1, if_pos c_2, ix_nI (show f < 2 ^ 31 by omega)]; exact (if_pos c_3).symm)) dX2_copy_51
    refine lv_bipush (v := (-103)) hx hb dX2_copy_27 (by decide) ?_
    exact MM.iret hX hr hlk hZ (by first | (simp only [mcpG, if_pos c_1, if_pos c_2, if_neg c_3]; done) | (simp only [mcpG, ix_nI (show f < 2 ^ 31 by omega), if_pos c_1, if_pos c_2, if_neg c_3])) (by first | (simp only [cpyR, if_pos c_1, if_pos c_2, if_neg c_3]; done) | (rw [cpyR, if_pos c_1, if_pos c_2, ix_nI (show f < 2 ^ 31 by omega)]; exact (if_neg c_3).symm) | (rw [cpyR, if_pos c_1, if_pos c_2, ix_nI (show f < 2 ^ 31 by omega)]; exact (if_pos c_3).symm)) dX2_copy_29
  refine lv_bipush (v := (-101)) hx hb dX2_copy_15 (by decide) ?_
  exact MM.iret hX hr hlk hZ (by first | (simp only [mcpG, if_pos c_1, if_neg c_2]; done) | (simp only [mcpG, ix_nI (show f < 2 ^ 31 by omega), if_pos c_1, if_neg c_2])) (by first | (simp only [cpyR, if_pos c_1, if_neg c_2]; done) | (rw [cpyR, if_pos c_1, if_pos c_2, ix_nI (show f < 2 ^ 31 by omega)]; exact (if_neg c_3).symm) | (rw [cpyR, if_pos c_1, if_pos c_2, ix_nI (show f < 2 ^ 31 by omega)]; exact (if_pos c_3).symm)) dX2_copy_17

set_option maxHeartbeats 400000 in
set_option maxRecDepth 100000 in
theorem K_X2_rename (l : Launch) (g : Gx) (h : Nat) (R : Nat → Nat) (J : Nat → Int32) (hs : Int64) (G : Nat → Nat → Int32) (x : Int32) (a : Int32) (b : Int32) (n_ : Nat) (pt : Nat → Int32) (hn : n_ ≤ 5) (hJ6 : (J 6) = nI n_) (hrk : RoK roT (wM g h R J hs G)) : MM l g yX2_rename cX2_rename 4 (some .int) 2 [.ref h, .int x, .int a, .int b] roT (wM g h R J hs G) (wM g h R J hs (mrnG J G n_ x a b)) (some (.int (renR (vI J) (vF G pt) n_ x a b))) := by
  refine MM.of (own := "BurntLettersModel") (by decide) rfl (Nat.le_of_ble_eq_true rfl) hrk ?_
  intro p e s m below meth c A hX hr hlk hZ ls hl
  have hx := hX.1.1
  have hb := hX.1.2.1
  have hl : lv_has ls 4 [(0, .ref h), (1, .int x), (2, .int a), (3, .int b)] := hl
  refine lv_aload_n hx hb dX2_rename_0 rfl (lv_at hl 0 rfl) ?_
  refine lv_iload_n hx hb dX2_rename_1 rfl (lv_at hl 1 rfl) ?_
  refine PM.ci (PM.runV (As := [.int x]) (rest := []) hX (K_X2_isFile l g h R J hs G x n_ (hJ6)) (cv_q952 hX ⟨Nat.le_of_ble_eq_true rfl, Nat.le_of_ble_eq_true rfl⟩) hZ.1 trivial (r_recv hX hZ.1 0 rfl rfl) rfl hl.1 rfl (Nat.le_of_ble_eq_true rfl) dX2_rename_2 ⟨Nat.zero_le _, Nat.zero_le _⟩) ?_
  refine lv_bif_eq (tgt := 27) hx hb dX2_rename_5 (by decide) (fun c_1 => ?_) (fun c_1 => ?_)
  · refine lv_bipush (v := (-101)) hx hb dX2_rename_27 (by decide) ?_
    exact MM.iret hX hr hlk hZ (by first | (simp only [mrnG, if_neg c_1]; done) | (simp only [mrnG, ix_nI (show f < 2 ^ 31 by omega), if_neg c_1]; done) | (simp only [mrnG, ix_nI (show f < 2 ^ 31 by omega), if_neg c_1]; rfl)) (by first | (simp only [renR, if_neg c_1]; done) | (rw [renR, if_pos c_1, if_pos c_2, if_pos c_3, if_neg c_4, ix_nI (show f < 2 ^ 31 by omega)]; exact (if_neg c_5).symm) | (rw [renR, if_pos c_1, if_pos c_2, if_pos c_3, if_neg c_4, ix_nI (show f < 2 ^ 31 by omega)]; exact (if_pos c_5).symm)) dX2_rename_29
  obtain ⟨f, hf, rfl⟩ := file_nat hn c_1
  refine lv_iload_n hx hb dX2_rename_8 rfl (lv_at hl 2 rfl) ?_
  refine PM.ci (PM.runS (As := [.int a]) (rest := []) hX (K_X2_isLetter l g a) (cs_q927 hX ⟨Nat.le_of_ble_eq_true rfl, Nat.le_of_ble_eq_true rfl⟩) va_P_nil trivial rfl hl.1 rfl (Nat.le_of_ble_eq_true rfl) dX2_rename_9 ⟨Nat.zero_le _, Nat.zero_le _⟩) ?_
  refine lv_bif_eq (tgt := 27) hx hb dX2_rename_12 (by decide) (fun c_2 => ?_) (fun c_2 => ?_)
  · refine lv_bipush (v := (-101)) hx hb dX2_rename_27 (by decide) ?_
    exact MM.iret hX hr hlk hZ (by first | (simp only [mrnG, if_pos c_1, if_neg c_2]; done) | (simp only [mrnG, ix_nI (show f < 2 ^ 31 by omega), if_pos c_1, if_neg c_2]; done) | (simp only [mrnG, ix_nI (show f < 2 ^ 31 by omega), if_pos c_1, if_neg c_2]; rfl)) (by first | (simp only [renR, if_pos c_1, if_neg c_2]; done) | (rw [renR, if_pos c_1, if_pos c_2, if_pos c_3, if_neg c_4, ix_nI (show f < 2 ^ 31 by omega)]; exact (if_neg c_5).symm) | (rw [renR, if_pos c_1, if_pos c_2, if_pos c_3, if_neg c_4, ix_nI (show f < 2 ^ 31 by omega)]; exact (if_pos c_5).symm)) dX2_rename_29
  refine lv_iload_n hx hb dX2_rename_15 rfl (lv_at hl 3 rfl) ?_
  refine PM.ci (PM.runS (As := [.int b]) (rest := []) hX (K_X2_isLetter l g b) (cs_q927 hX ⟨Nat.le_of_ble_eq_true rfl, Nat.le_of_ble_eq_true rfl⟩) va_P_nil trivial rfl hl.1 rfl (Nat.le_of_ble_eq_true rfl) dX2_rename_16 ⟨Nat.zero_le _, Nat.zero_le _⟩) ?_
  refine lv_bif_eq (tgt := 27) hx hb dX2_rename_19 (by decide) (fun c_3 => ?_) (fun c_3 => ?_)
  · refine lv_bipush (v := (-101)) hx hb dX2_rename_27 (by decide) ?_
    exact MM.iret hX hr hlk hZ (by first | (simp only [mrnG, if_pos c_1, if_pos c_2, if_neg c_3]; done) | (simp only [mrnG, ix_nI (show f < 2 ^ 31 by omega), if_pos c_1, if_pos c_2, if_neg c_3]; done) | (simp only [mrnG, ix_nI (show f < 2 ^ 31 by omega), if_pos c_1, if_pos c_2, if_neg c_3]; rfl)) (by first | (simp only [renR, if_pos c_1, if_pos c_2, if_neg c_3]; done) | (rw [renR, if_pos c_1, if_pos c_2, if_pos c_3, if_neg c_4, ix_nI (show f < 2 ^ 31 by omega)]; exact (if_neg c_5).symm) | (rw [renR, if_pos c_1, if_pos c_2, if_pos c_3, if_neg c_4, ix_nI (show f < 2 ^ 31 by omega)]; exact (if_pos c_5).symm)) dX2_rename_29
  refine lv_iload_n hx hb dX2_rename_22 rfl (lv_at hl 2 rfl) ?_
  refine lv_iload_n hx hb dX2_rename_23 rfl (lv_at hl 3 rfl) ?_
  refine lv_icmp_ne (tgt := 30) hx hb dX2_rename_24 (by decide) (fun c_4 => ?_) (fun c_4 => ?_)
  · refine lv_aload_n hx hb dX2_rename_30 rfl (lv_at hl 0 rfl) ?_
    refine lv_aload_n hx hb dX2_rename_31 rfl (lv_at hl 0 rfl) ?_
    refine gf_q815 (v := .ref (R 8)) hX hZ.1 0 rfl rfl dX2_rename_32 ?_
    refine lv_iload_n hx hb dX2_rename_35 rfl (lv_at hl 1 rfl) ?_
    refine lv_iload_n hx hb dX2_rename_36 rfl (lv_at hl 2 rfl) ?_
    refine lv_iload_n hx hb dX2_rename_37 rfl (lv_at hl 3 rfl) ?_
    refine PM.ci (PM.runV (As := [.ref (R 8), .int (nI f), .int a, .int b]) (rest := []) hX (K_X2_mayRename l g h R J hs (R 8) (G 3) f a b n_ (by omega) (hJ6) (by omega)) (cv_q983 hX ⟨Nat.le_of_ble_eq_true rfl, Nat.le_of_ble_eq_true rfl⟩) (hZ.1.sub (ws' := (wF g h R J hs (R 8) (G 3))) [0, 4] rfl) trivial (r_recv hX hZ.1 0 rfl rfl) rfl hl.1 rfl (Nat.le_of_ble_eq_true rfl) dX2_rename_38 ⟨Nat.zero_le _, Nat.zero_le _⟩) ?_
    refine lv_bif_ne (tgt := 47) hx hb dX2_rename_41 (by decide) (fun c_5 => ?_) (fun c_5 => ?_)
    · refine lv_aload_n hx hb dX2_rename_47 rfl (lv_at hl 0 rfl) ?_
      refine gf_q815 (v := .ref (R 8)) hX hZ.1 0 rfl rfl dX2_rename_48 ?_
      refine lv_iload_n hx hb dX2_rename_51 rfl (lv_at hl 1 rfl) ?_
      refine lv_aload_n hx hb dX2_rename_52 rfl (lv_at hl 0 rfl) ?_
      refine gf_q815 (v := .ref (R 8)) hX hZ.1 0 rfl rfl dX2_rename_53 ?_
      refine lv_iload_n hx hb dX2_rename_56 rfl (lv_at hl 1 rfl) ?_
      refine r_iald (f := (G 3)) hX hZ.1 4 rfl f (by omega) (by omega) dX2_rename_57 ?_
      refine lv_iconst (v := 1) hx hb dX2_rename_58 (by decide) ?_
      refine lv_iload_n hx hb dX2_rename_59 rfl (lv_at hl 2 rfl) ?_
      refine lv_ishl hx hb dX2_rename_60 ?_
      refine lv_iconst (v := (-1)) hx hb dX2_rename_61 (by decide) ?_
      refine lv_ixor hx hb dX2_rename_62 ?_
      refine lv_iand hx hb dX2_rename_63 ?_
      refine lv_iconst (v := 1) hx hb dX2_rename_64 (by decide) ?_
      refine lv_iload_n hx hb dX2_rename_65 rfl (lv_at hl 3 rfl) ?_
      refine lv_ishl hx hb dX2_rename_66 ?_
      refine lv_ior hx hb dX2_rename_67 ?_
      refine r_iast (f := (G 3)) (x := ((((G 3) f) &&& (((1 : Int32) <<< (a &&& 31)) ^^^ (-1))) ||| ((1 : Int32) <<< (b &&& 31)))) (ws1 := (wM g h R J hs (va_up G 3 (upd (G 3) f ((((G 3) f) &&& (((1 : Int32) <<< (a &&& 31)) ^^^ (-1))) ||| ((1 : Int32) <<< (b &&& 31))))))) hX hZ 4 rfl f (by omega) (by omega) dX2_rename_68 rfl (fun H locs hZ => ?_)
      refine lv_aload_n hx hb dX2_rename_69 rfl (lv_at hl 0 rfl) ?_
      refine lv_aload_n hx hb dX2_rename_70 rfl (lv_at hl 0 rfl) ?_
      refine gf_q815 (v := .ref (R 8)) hX hZ.1 0 rfl rfl dX2_rename_71 ?_
      refine lv_iload_n hx hb dX2_rename_74 rfl (lv_at hl 3 rfl) ?_
      refine PM.ci (PM.runV (As := [.ref (R 8), .int b]) (rest := []) hX (K_X2_fullness l g h R J hs (R 8) (upd (G 3) f ((((G 3) f) &&& (((1 : Int32) <<< (a &&& 31)) ^^^ (-1))) ||| ((1 : Int32) <<< (b &&& 31)))) b n_ (by omega) (hJ6)) (cv_q935 hX ⟨Nat.le_of_ble_eq_true rfl, Nat.le_of_ble_eq_true rfl⟩) (hZ.1.sub (ws' := (wF g h R J hs (R 8) (upd (G 3) f ((((G 3) f) &&& (((1 : Int32) <<< (a &&& 31)) ^^^ (-1))) ||| ((1 : Int32) <<< (b &&& 31)))))) [0, 4] rfl) trivial (r_recv hX hZ.1 0 rfl rfl) rfl hl.1 rfl (Nat.le_of_ble_eq_true rfl) dX2_rename_75 ⟨Nat.zero_le _, Nat.zero_le _⟩) ?_
      exact MM.iret hX hr hlk hZ (by first | (simp only [mrnG, if_pos c_1, if_pos c_2, if_pos c_3, if_neg c_4, if_pos c_5]; done) | (simp only [mrnG, ix_nI (show f < 2 ^ 31 by omega), if_pos c_1, if_pos c_2, if_pos c_3, if_neg c_4, if_pos c_5]; done) | (simp only [mrnG, ix_nI (show f < 2 ^ 31 by omega), if_pos c_1, if_pos c_2, if_pos c_3, if_neg c_4, if_pos c_5]; rfl)) (by first | (simp only [renR, if_pos c_1, if_pos c_2, if_pos c_3, if_neg c_4, if_pos c_5]; done) | (rw [renR, if_pos c_1, if_pos c_2, if_pos c_3, if_neg c_4, ix_nI (show f < 2 ^ 31 by omega)]; exact (if_neg c_5).symm) | (rw [renR, if_pos c_1, if_pos c_2, if_pos c_3, if_neg c_4, ix_nI (show f < 2 ^ 31 by omega)]; exact (if_pos c_5).symm)) dX2_rename_78
    refine lv_bipush (v := (-103)) hx hb dX2_rename_44 (by decide) ?_
    exact MM.iret hX hr hlk hZ (by first | (simp only [mrnG, if_pos c_1, if_pos c_2, if_pos c_3, if_neg c_4, if_neg c_5]; done) | (simp only [mrnG, ix_nI (show f < 2 ^ 31 by omega), if_pos c_1, if_pos c_2, if_pos c_3, if_neg c_4, if_neg c_5]; done) | (simp only [mrnG, ix_nI (show f < 2 ^ 31 by omega), if_pos c_1, if_pos c_2, if_pos c_3, if_neg c_4, if_neg c_5]; rfl)) (by first | (simp only [renR, if_pos c_1, if_pos c_2, if_pos c_3, if_neg c_4, if_neg c_5]; done) | (rw [renR, if_pos c_1, if_pos c_2, if_pos c_3, if_neg c_4, ix_nI (show f < 2 ^ 31 by omega)]; exact (if_neg c_5).symm) | (rw [renR, if_pos c_1, if_pos c_2, if_pos c_3, if_neg c_4, ix_nI (show f < 2 ^ 31 by omega)]; exact (if_pos c_5).symm)) dX2_rename_46
  refine lv_bipush (v := (-101)) hx hb dX2_rename_27 (by decide) ?_
  exact MM.iret hX hr hlk hZ (by first | (simp only [mrnG, if_pos c_1, if_pos c_2, if_pos c_3, if_pos c_4]; done) | (simp only [mrnG, ix_nI (show f < 2 ^ 31 by omega), if_pos c_1, if_pos c_2, if_pos c_3, if_pos c_4]; done) | (simp only [mrnG, ix_nI (show f < 2 ^ 31 by omega), if_pos c_1, if_pos c_2, if_pos c_3, if_pos c_4]; rfl)) (by first | (simp only [renR, if_pos c_1, if_pos c_2, if_pos c_3, if_pos c_4]; done) | (rw [renR, if_pos c_1, if_pos c_2, if_pos c_3, if_neg c_4, ix_nI (show f < 2 ^ 31 by omega)]; exact (if_neg c_5).symm) | (rw [renR, if_pos c_1, if_pos c_2, if_pos c_3, if_neg c_4, ix_nI (show f < 2 ^ 31 by omega)]; exact (if_pos c_5).symm)) dX2_rename_29

set_option maxHeartbeats 400000 in
set_option maxRecDepth 100000 in
theorem K_X2_point (l : Launch) (g : Gx) (h : Nat) (R : Nat → Nat) (J : Nat → Int32) (hs : Int64) (G : Nat → Nat → Int32) (x : Int32) (t : Int32) (n_ : Nat) (kd : Nat → Nat) (pt : Nat → Int32) (hn : n_ ≤ 5) (hJ6 : (J 6) = nI n_) (hrow : RowsOk G n_ kd pt) (hrk : RoK roT (wM g h R J hs G)) : MM l g yX2_point cX2_point 4 (some .int) 2 [.ref h, .int x, .int t] roT (wM g h R J hs G) (wM g h R J hs (mpoG G n_ x t)) (some (.int (poiR (vF G pt) n_ x t))) := by
  refine MM.of (own := "BurntLettersModel") (by decide) rfl (Nat.le_of_ble_eq_true rfl) hrk ?_
  intro p e s m below meth c A hX hr hlk hZ ls hl
  have hx := hX.1.1
  have hb := hX.1.2.1
  have hl : lv_has ls 4 [(0, .ref h), (1, .int x), (2, .int t)] := hl
  refine lv_aload_n hx hb dX2_point_0 rfl (lv_at hl 0 rfl) ?_
  refine lv_iload_n hx hb dX2_point_1 rfl (lv_at hl 1 rfl) ?_
  refine PM.ci (PM.runV (As := [.int x]) (rest := []) hX (K_X2_isFile l g h R J hs G x n_ (hJ6)) (cv_q952 hX ⟨Nat.le_of_ble_eq_true rfl, Nat.le_of_ble_eq_true rfl⟩) hZ.1 trivial (r_recv hX hZ.1 0 rfl rfl) rfl hl.1 rfl (Nat.le_of_ble_eq_true rfl) dX2_point_2 ⟨Nat.zero_le _, Nat.zero_le _⟩) ?_
  refine lv_bif_eq (tgt := 26) hx hb dX2_point_5 (by decide) (fun c_1 => ?_) (fun c_1 => ?_)
  · refine lv_bipush (v := (-101)) hx hb dX2_point_26 (by decide) ?_
    exact MM.iret hX hr hlk hZ (by first | (simp only [mpoG, if_neg c_1]; done) | (simp only [mpoG, ix_nI (show f < 2 ^ 31 by omega), if_neg c_1])) (by first | (simp only [poiR, if_neg c_1]; done) | (simp only [poiR, vF_1, vF_2, ix_nI (show f < 2 ^ 31 by omega), if_neg c_1]; done)) dX2_point_28
  obtain ⟨f, hf, rfl⟩ := file_nat hn c_1
  refine lv_iload_n hx hb dX2_point_8 rfl (lv_at hl 2 rfl) ?_
  refine lv_iconst (v := (-1)) hx hb dX2_point_9 (by decide) ?_
  refine lv_icmp_eq (tgt := 21) hx hb dX2_point_10 (by decide) (fun c_2 => ?_) (fun c_2 => ?_)
  · refine lv_iload_n hx hb dX2_point_21 rfl (lv_at hl 1 rfl) ?_
    refine lv_iload_n hx hb dX2_point_22 rfl (lv_at hl 2 rfl) ?_
    refine lv_icmp_ne (tgt := 29) hx hb dX2_point_23 (by decide) (fun c_3 => ?_) (fun c_3 => ?_)
    · have c_3 : ¬ t = (nI f) := fun q => c_3 q.symm
      refine lv_aload_n hx hb dX2_point_29 rfl (lv_at hl 0 rfl) ?_
      refine gf_q815 (v := .ref (R 8)) hX hZ.1 0 rfl rfl dX2_point_30 ?_
      refine lv_iload_n hx hb dX2_point_33 rfl (lv_at hl 1 rfl) ?_
      refine r_iald (f := (G 3)) hX hZ.1 4 rfl f (by omega) (by omega) dX2_point_34 ?_
      refine lv_if_ne (tgt := 41) hx hb dX2_point_35 (by decide) (fun c_4 => ?_) (fun c_4 => ?_)
      · refine lv_aload_n hx hb dX2_point_41 rfl (lv_at hl 0 rfl) ?_
        refine gf_q814 (v := .ref (R 7)) hX hZ.1 0 rfl rfl dX2_point_42 ?_
        refine lv_iconst (v := 2) hx hb dX2_point_45 (by decide) ?_
        refine lv_iload_n hx hb dX2_point_46 rfl (lv_at hl 1 rfl) ?_
        refine lv_imul hx hb dX2_point_47 ?_
        refine lv_seti (v := (nI (2 * f))) (pk_mul _ _) ?_
        refine lv_iconst (v := 1) hx hb dX2_point_48 (by decide) ?_
        refine lv_iadd hx hb dX2_point_49 ?_
        refine lv_seti (v := (nI ((2 * f) + 1))) (nI_add _ _) ?_
        refine r_iald (f := (G 2)) hX hZ.1 3 rfl ((2 * f) + 1) (by omega) (by omega) dX2_point_50 ?_
        refine lv_seti (v := (pt f)) ((hrow f hf).2.1) ?_
        refine lv_istore_n (lv' := [(3, .int (pt f)), (0, .ref h), (1, .int (nI f)), (2, .int t)]) hx hb dX2_point_51 rfl hl (by decide) rfl (fun ls hl => ?_)
        refine lv_aload_n hx hb dX2_point_52 rfl (lv_at hl 1 rfl) ?_
        refine gf_q814 (v := .ref (R 7)) hX hZ.1 0 rfl rfl dX2_point_53 ?_
        refine lv_iconst (v := 2) hx hb dX2_point_56 (by decide) ?_
        refine lv_iload_n hx hb dX2_point_57 rfl (lv_at hl 2 rfl) ?_
        refine lv_imul hx hb dX2_point_58 ?_
        refine lv_seti (v := (nI (2 * f))) (pk_mul _ _) ?_
        refine lv_iconst (v := 1) hx hb dX2_point_59 (by decide) ?_
        refine lv_iadd hx hb dX2_point_60 ?_
        refine lv_seti (v := (nI ((2 * f) + 1))) (nI_add _ _) ?_
        refine lv_iload_n hx hb dX2_point_61 rfl (lv_at hl 3 rfl) ?_
        refine r_iast (f := (G 2)) (x := t) (ws1 := (wM g h R J hs (va_up G 2 (upd (G 2) ((2 * f) + 1) t)))) hX hZ 3 rfl ((2 * f) + 1) (by omega) (by omega) dX2_point_62 rfl (fun H locs hZ => ?_)
        refine lv_iload_n hx hb dX2_point_63 rfl (lv_at hl 0 rfl) ?_
        exact MM.iret hX hr hlk hZ (by first | (simp only [mpoG, if_pos c_1, if_pos c_2, if_neg c_3, if_neg c_4]; done) | (simp only [mpoG, ix_nI (show f < 2 ^ 31 by omega), if_pos c_1, if_pos c_2, if_neg c_3, if_neg c_4])) (by first | (simp only [poiR, if_pos c_1, if_pos c_2, if_neg c_3, if_neg c_4]; done) | (simp only [poiR, vF_1, vF_2, ix_nI (show f < 2 ^ 31 by omega), if_pos c_1, if_pos c_2, if_neg c_3, if_neg c_4]; done)) dX2_point_64
      refine lv_bipush (v := (-103)) hx hb dX2_point_38 (by decide) ?_
      exact MM.iret hX hr hlk hZ (by first | (simp only [mpoG, if_pos c_1, if_pos c_2, if_neg c_3, if_pos c_4]; done) | (simp only [mpoG, ix_nI (show f < 2 ^ 31 by omega), if_pos c_1, if_pos c_2, if_neg c_3, if_pos c_4])) (by first | (simp only [poiR, if_pos c_1, if_pos c_2, if_neg c_3, if_pos c_4]; done) | (simp only [poiR, vF_1, vF_2, ix_nI (show f < 2 ^ 31 by omega), if_pos c_1, if_pos c_2, if_neg c_3, if_pos c_4]; done)) dX2_point_40
    have c_3 := c_3.symm
    refine lv_bipush (v := (-101)) hx hb dX2_point_26 (by decide) ?_
    exact MM.iret hX hr hlk hZ (by first | (simp only [mpoG, if_pos c_1, if_pos c_2, if_pos c_3]; done) | (simp only [mpoG, ix_nI (show f < 2 ^ 31 by omega), if_pos c_1, if_pos c_2, if_pos c_3])) (by first | (simp only [poiR, if_pos c_1, if_pos c_2, if_pos c_3]; done) | (simp only [poiR, vF_1, vF_2, ix_nI (show f < 2 ^ 31 by omega), if_pos c_1, if_pos c_2, if_pos c_3]; done)) dX2_point_28
  refine lv_aload_n hx hb dX2_point_13 rfl (lv_at hl 0 rfl) ?_
  refine lv_iload_n hx hb dX2_point_14 rfl (lv_at hl 2 rfl) ?_
  refine PM.ci (PM.runV (As := [.int t]) (rest := []) hX (K_X2_isFile l g h R J hs G t n_ (hJ6)) (cv_q952 hX ⟨Nat.le_of_ble_eq_true rfl, Nat.le_of_ble_eq_true rfl⟩) hZ.1 trivial (r_recv hX hZ.1 0 rfl rfl) rfl hl.1 rfl (Nat.le_of_ble_eq_true rfl) dX2_point_15 ⟨Nat.zero_le _, Nat.zero_le _⟩) ?_
  refine lv_bif_eq (tgt := 26) hx hb dX2_point_18 (by decide) (fun c_5 => ?_) (fun c_5 => ?_)
  · refine lv_bipush (v := (-101)) hx hb dX2_point_26 (by decide) ?_
    exact MM.iret hX hr hlk hZ (by first | (simp only [mpoG, if_pos c_1, if_neg c_2, if_neg c_5]; done) | (simp only [mpoG, ix_nI (show f < 2 ^ 31 by omega), if_pos c_1, if_neg c_2, if_neg c_5])) (by first | (simp only [poiR, if_pos c_1, if_neg c_2, if_neg c_5]; done) | (simp only [poiR, vF_1, vF_2, ix_nI (show f < 2 ^ 31 by omega), if_pos c_1, if_neg c_2, if_neg c_5]; done)) dX2_point_28
  refine lv_iload_n hx hb dX2_point_21 rfl (lv_at hl 1 rfl) ?_
  refine lv_iload_n hx hb dX2_point_22 rfl (lv_at hl 2 rfl) ?_
  refine lv_icmp_ne (tgt := 29) hx hb dX2_point_23 (by decide) (fun c_6 => ?_) (fun c_6 => ?_)
  · have c_6 : ¬ t = (nI f) := fun q => c_6 q.symm
    refine lv_aload_n hx hb dX2_point_29 rfl (lv_at hl 0 rfl) ?_
    refine gf_q815 (v := .ref (R 8)) hX hZ.1 0 rfl rfl dX2_point_30 ?_
    refine lv_iload_n hx hb dX2_point_33 rfl (lv_at hl 1 rfl) ?_
    refine r_iald (f := (G 3)) hX hZ.1 4 rfl f (by omega) (by omega) dX2_point_34 ?_
    refine lv_if_ne (tgt := 41) hx hb dX2_point_35 (by decide) (fun c_7 => ?_) (fun c_7 => ?_)
    · refine lv_aload_n hx hb dX2_point_41 rfl (lv_at hl 0 rfl) ?_
      refine gf_q814 (v := .ref (R 7)) hX hZ.1 0 rfl rfl dX2_point_42 ?_
      refine lv_iconst (v := 2) hx hb dX2_point_45 (by decide) ?_
      refine lv_iload_n hx hb dX2_point_46 rfl (lv_at hl 1 rfl) ?_
      refine lv_imul hx hb dX2_point_47 ?_
      refine lv_seti (v := (nI (2 * f))) (pk_mul _ _) ?_
      refine lv_iconst (v := 1) hx hb dX2_point_48 (by decide) ?_
      refine lv_iadd hx hb dX2_point_49 ?_
      refine lv_seti (v := (nI ((2 * f) + 1))) (nI_add _ _) ?_
      refine r_iald (f := (G 2)) hX hZ.1 3 rfl ((2 * f) + 1) (by omega) (by omega) dX2_point_50 ?_
      refine lv_seti (v := (pt f)) ((hrow f hf).2.1) ?_
      refine lv_istore_n (lv' := [(3, .int (pt f)), (0, .ref h), (1, .int (nI f)), (2, .int t)]) hx hb dX2_point_51 rfl hl (by decide) rfl (fun ls hl => ?_)
      refine lv_aload_n hx hb dX2_point_52 rfl (lv_at hl 1 rfl) ?_
      refine gf_q814 (v := .ref (R 7)) hX hZ.1 0 rfl rfl dX2_point_53 ?_
      refine lv_iconst (v := 2) hx hb dX2_point_56 (by decide) ?_
      refine lv_iload_n hx hb dX2_point_57 rfl (lv_at hl 2 rfl) ?_
      refine lv_imul hx hb dX2_point_58 ?_
      refine lv_seti (v := (nI (2 * f))) (pk_mul _ _) ?_
      refine lv_iconst (v := 1) hx hb dX2_point_59 (by decide) ?_
      refine lv_iadd hx hb dX2_point_60 ?_
      refine lv_seti (v := (nI ((2 * f) + 1))) (nI_add _ _) ?_
      refine lv_iload_n hx hb dX2_point_61 rfl (lv_at hl 3 rfl) ?_
      refine r_iast (f := (G 2)) (x := t) (ws1 := (wM g h R J hs (va_up G 2 (upd (G 2) ((2 * f) + 1) t)))) hX hZ 3 rfl ((2 * f) + 1) (by omega) (by omega) dX2_point_62 rfl (fun H locs hZ => ?_)
      refine lv_iload_n hx hb dX2_point_63 rfl (lv_at hl 0 rfl) ?_
      exact MM.iret hX hr hlk hZ (by first | (simp only [mpoG, if_pos c_1, if_neg c_2, if_pos c_5, if_neg c_6, if_neg c_7]; done) | (simp only [mpoG, ix_nI (show f < 2 ^ 31 by omega), if_pos c_1, if_neg c_2, if_pos c_5, if_neg c_6, if_neg c_7])) (by first | (simp only [poiR, if_pos c_1, if_neg c_2, if_pos c_5, if_neg c_6, if_neg c_7]; done) | (simp only [poiR, vF_1, vF_2, ix_nI (show f < 2 ^ 31 by omega), if_pos c_1, if_neg c_2, if_pos c_5, if_neg c_6, if_neg c_7]; done)) dX2_point_64
    refine lv_bipush (v := (-103)) hx hb dX2_point_38 (by decide) ?_
    exact MM.iret hX hr hlk hZ (by first | (simp only [mpoG, if_pos c_1, if_neg c_2, if_pos c_5, if_neg c_6, if_pos c_7]; done) | (simp only [mpoG, ix_nI (show f < 2 ^ 31 by omega), if_pos c_1, if_neg c_2, if_pos c_5, if_neg c_6, if_pos c_7])) (by first | (simp only [poiR, if_pos c_1, if_neg c_2, if_pos c_5, if_neg c_6, if_pos c_7]; done) | (simp only [poiR, vF_1, vF_2, ix_nI (show f < 2 ^ 31 by omega), if_pos c_1, if_neg c_2, if_pos c_5, if_neg c_6, if_pos c_7]; done)) dX2_point_40
  have c_6 := c_6.symm
  refine lv_bipush (v := (-101)) hx hb dX2_point_26 (by decide) ?_
  exact MM.iret hX hr hlk hZ (by first | (simp only [mpoG, if_pos c_1, if_neg c_2, if_pos c_5, if_pos c_6]; done) | (simp only [mpoG, ix_nI (show f < 2 ^ 31 by omega), if_pos c_1, if_neg c_2, if_pos c_5, if_pos c_6])) (by first | (simp only [poiR, if_pos c_1, if_neg c_2, if_pos c_5, if_pos c_6]; done) | (simp only [poiR, vF_1, vF_2, ix_nI (show f < 2 ^ 31 by omega), if_pos c_1, if_neg c_2, if_pos c_5, if_pos c_6]; done)) dX2_point_28
