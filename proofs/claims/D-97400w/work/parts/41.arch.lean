/-! THE ARCHIVE (by program: gen/arch.py) -/
set_option maxHeartbeats 400000 in
set_option maxRecDepth 100000 in
theorem K_X1_lives (l : Launch) (g : Gx) (h : Nat) (R : Nat → Nat) (I : Nat → Int32) (dr : Int64) (md : Int32) (ed : Nat) (n : Nat) (a : Nat) (al : Nat) (ap : Nat) (ak : Nat) (lv : Nat → Int32) (pt : Nat → Int32) (kp : Nat → Int32) (f : Nat) (hf : f < 5) : PM l g yX1_lives cX1_lives 2 (some .boolean) 0 [.ref a, .int (nI f)] roT (wA g h R I dr md ed n a al ap ak lv pt kp) (some (.int (b01 (¬ lv f = 0)))) := by
  refine PM.of (own := "BurntLetters$Archive") (by decide) rfl (Nat.le_of_ble_eq_true rfl) ?_
  intro p e s m below meth c hX hr hlk hP hro ls hl
  have hx := hX.1.1
  have hb := hX.1.2.1
  have hl : lv_has ls 2 [(0, .ref a), (1, .int (nI f))] := hl
  refine lv_aload_n hx hb dX1_lives_0 rfl (lv_at hl 0 rfl) ?_
  refine gf_q123 (v := .ref al) hX hP 2 rfl rfl dX1_lives_1 ?_
  refine lv_iload_n hx hb dX1_lives_4 rfl (lv_at hl 1 rfl) ?_
  refine r_iald (f := lv) hX hP 3 rfl f (by omega) (by omega) dX1_lives_5 ?_
  refine lv_if_eq (tgt := 13) hx hb dX1_lives_6 (by decide) (fun c_1 => ?_) (fun c_1 => ?_)
  · refine lv_iconst (v := 0) hx hb dX1_lives_13 (by decide) ?_
    exact PM.zret hX hr hlk (by first | rfl | (simp [b01, c_1]; done) | (simp_all [b01]; done)) (Or.inl rfl) dX1_lives_14
  refine lv_iconst (v := 1) hx hb dX1_lives_9 (by decide) ?_
  refine lv_goto (tgt := 14) hx hb dX1_lives_10 (by decide) ?_
  exact PM.zret hX hr hlk (by first | rfl | (simp [b01, c_1]; done) | (simp_all [b01]; done)) (Or.inr rfl) dX1_lives_14

set_option maxHeartbeats 400000 in
set_option maxRecDepth 100000 in
theorem K_X1_under (l : Launch) (g : Gx) (h : Nat) (R : Nat → Nat) (I : Nat → Int32) (dr : Int64) (md : Int32) (ed : Nat) (n : Nat) (a : Nat) (al : Nat) (ap : Nat) (ak : Nat) (lv : Nat → Int32) (pt : Nat → Int32) (kp : Nat → Int32) (t : Int32) (hn : n ≤ 5) : PM l g yX1_under cX1_under 4 (some .int) 1 [.ref a, .int t] roT (wA g h R I dr md ed n a al ap ak lv pt kp) (some (.int (undF lv t n))) := by
  refine PM.of (own := "BurntLetters$Archive") (by decide) rfl (Nat.le_of_ble_eq_true rfl) ?_
  intro p e s m below meth c hX hr hlk hP hro ls hl
  have hx := hX.1.1
  have hb := hX.1.2.1
  have hl : lv_has ls 4 [(0, .ref a), (1, .int t)] := hl
  refine lv_iconst (v := 0) hx hb dX1_under_0 (by decide) ?_
  refine lv_istore_n (lv' := [(2, .int 0), (0, .ref a), (1, .int t)]) hx hb dX1_under_1 rfl hl (by decide) rfl (fun ls hl => ?_)
  refine lv_iconst (v := 0) hx hb dX1_under_2 (by decide) ?_
  refine lv_istore_n (lv' := [(3, .int 0), (2, .int 0), (0, .ref a), (1, .int t)]) hx hb dX1_under_3 rfl hl (by decide) rfl (fun ls hl => ?_)
  refine W_loopP (α := Nat) (P := fun (i : Nat) (ls : Array Slot) => i ≤ n ∧ lv_has ls 4 [(0, .ref a), (1, .int t), (2, .int (undF lv t i)), (3, .int (nI i))]) (fun i => n - i) 0 ⟨Nat.zero_le _, lv_cast (lv_sub (l' := [(0, .ref a), (1, .int t), (2, .int 0), (3, .int 0)]) hl [2, 3, 1, 0] rfl) (rfl)⟩ ?_
  rintro i ls ⟨hi, hl⟩ ihi
  refine lv_iload_n hx hb dX1_under_4 rfl (lv_at hl 3 rfl) ?_
  refine lv_aload_n hx hb dX1_under_5 rfl (lv_at hl 0 rfl) ?_
  refine gf_q129 (v := .ref h) hX hP 2 rfl rfl dX1_under_6 ?_
  refine gf_q140 (v := .ref (R 0)) hX hP 0 rfl rfl dX1_under_9 ?_
  refine PM.ci (PM.runV (As := []) (rest := [.int (nI i)]) hX (K_J2_size l g (R 0) md ed n) (cv_q355 hX ⟨Nat.le_of_ble_eq_true rfl, Nat.le_of_ble_eq_true rfl⟩) (hP.sub (ws' := (wL g (R 0) md ed n)) [1] rfl) trivial (r_recv hX hP 1 rfl rfl) rfl hl.1 rfl (Nat.le_of_ble_eq_true rfl) dX1_under_12 ⟨Nat.zero_le _, Nat.zero_le _⟩) ?_
  refine lv_icmp_ge (tgt := 37) hx hb dX1_under_15 (by decide) (fun c_1 => ?_) (fun c_1 => ?_)
  · have c_1n : n ≤ i := (nI_leI (a := n) (b := i) (by omega) (by omega)).mp c_1
    have ei : n = i := by omega
    subst ei
    refine lv_iload_n hx hb dX1_under_37 rfl (lv_at hl 2 rfl) ?_
    exact PM.iret hX hr hlk (rfl) dX1_under_38
  have c_1n : ¬ n ≤ i := fun zz_ => c_1 ((nI_leI (a := n) (b := i) (by omega) (by omega)).mpr zz_)
  refine lv_iload_n hx hb dX1_under_18 rfl (lv_at hl 2 rfl) ?_
  refine lv_aload_n hx hb dX1_under_19 rfl (lv_at hl 0 rfl) ?_
  refine gf_q123 (v := .ref al) hX hP 2 rfl rfl dX1_under_20 ?_
  refine lv_iload_n hx hb dX1_under_23 rfl (lv_at hl 3 rfl) ?_
  refine r_iald (f := lv) hX hP 3 rfl i (by omega) (by omega) dX1_under_24 ?_
  refine lv_iload_n hx hb dX1_under_25 rfl (lv_at hl 1 rfl) ?_
  refine lv_ishr hx hb dX1_under_26 ?_
  refine lv_iconst (v := 1) hx hb dX1_under_27 (by decide) ?_
  refine lv_iand hx hb dX1_under_28 ?_
  refine lv_iadd hx hb dX1_under_29 ?_
  refine lv_istore_n (lv' := [(2, .int ((undF lv t i) + (((lv i) >>> (t &&& 31)) &&& 1))), (0, .ref a), (1, .int t), (3, .int (nI i))]) hx hb dX1_under_30 rfl hl (by decide) rfl (fun ls hl => ?_)
  refine lv_iinc (v := (nI (i + 1))) (lv' := [(3, .int (nI (i + 1))), (2, .int ((undF lv t i) + (((lv i) >>> (t &&& 31)) &&& 1))), (0, .ref a), (1, .int t)]) hx hb dX1_under_31 hl (k := 3) rfl (nI_1 _) (by decide) rfl (fun ls hl => ?_)
  refine lv_goto (tgt := 4) hx hb dX1_under_34 (by decide) ?_
  exact ihi (i + 1) _ ⟨by omega, lv_cast (lv_sub (l' := [(0, .ref a), (1, .int t), (2, .int ((undF lv t i) + (((lv i) >>> (t &&& 31)) &&& 1))), (3, .int (nI (i + 1)))]) hl [2, 3, 1, 0] rfl) (by rfl)⟩ (by omega)

set_option maxHeartbeats 400000 in
set_option maxRecDepth 100000 in
theorem K_X1_living (l : Launch) (g : Gx) (h : Nat) (R : Nat → Nat) (I : Nat → Int32) (dr : Int64) (md : Int32) (ed : Nat) (n : Nat) (a : Nat) (al : Nat) (ap : Nat) (ak : Nat) (lv : Nat → Int32) (pt : Nat → Int32) (kp : Nat → Int32) (hn : n ≤ 5) : PM l g yX1_living cX1_living 3 (some .int) 1 [.ref a] roT (wA g h R I dr md ed n a al ap ak lv pt kp) (some (.int (livF lv n))) := by
  refine PM.of (own := "BurntLetters$Archive") (by decide) rfl (Nat.le_of_ble_eq_true rfl) ?_
  intro p e s m below meth c hX hr hlk hP hro ls hl
  have hx := hX.1.1
  have hb := hX.1.2.1
  have hl : lv_has ls 3 [(0, .ref a)] := hl
  refine lv_iconst (v := 0) hx hb dX1_living_0 (by decide) ?_
  refine lv_istore_n (lv' := [(1, .int 0), (0, .ref a)]) hx hb dX1_living_1 rfl hl (by decide) rfl (fun ls hl => ?_)
  refine lv_iconst (v := 0) hx hb dX1_living_2 (by decide) ?_
  refine lv_istore_n (lv' := [(2, .int 0), (1, .int 0), (0, .ref a)]) hx hb dX1_living_3 rfl hl (by decide) rfl (fun ls hl => ?_)
  refine W_loopP (α := Nat) (P := fun (i : Nat) (ls : Array Slot) => i ≤ n ∧ lv_has ls 3 [(0, .ref a), (1, .int (livF lv i)), (2, .int (nI i))]) (fun i => n - i) 0 ⟨Nat.zero_le _, lv_cast (lv_sub (l' := [(0, .ref a), (1, .int 0), (2, .int 0)]) hl [2, 1, 0] rfl) (rfl)⟩ ?_
  rintro i ls ⟨hi, hl⟩ ihi
  refine lv_iload_n hx hb dX1_living_4 rfl (lv_at hl 2 rfl) ?_
  refine lv_aload_n hx hb dX1_living_5 rfl (lv_at hl 0 rfl) ?_
  refine gf_q129 (v := .ref h) hX hP 2 rfl rfl dX1_living_6 ?_
  refine gf_q140 (v := .ref (R 0)) hX hP 0 rfl rfl dX1_living_9 ?_
  refine PM.ci (PM.runV (As := []) (rest := [.int (nI i)]) hX (K_J2_size l g (R 0) md ed n) (cv_q355 hX ⟨Nat.le_of_ble_eq_true rfl, Nat.le_of_ble_eq_true rfl⟩) (hP.sub (ws' := (wL g (R 0) md ed n)) [1] rfl) trivial (r_recv hX hP 1 rfl rfl) rfl hl.1 rfl (Nat.le_of_ble_eq_true rfl) dX1_living_12 ⟨Nat.zero_le _, Nat.zero_le _⟩) ?_
  refine lv_icmp_ge (tgt := 42) hx hb dX1_living_15 (by decide) (fun c_1 => ?_) (fun c_1 => ?_)
  · have c_1n : n ≤ i := (nI_leI (a := n) (b := i) (by omega) (by omega)).mp c_1
    have ei : n = i := by omega
    subst ei
    refine lv_iload_n hx hb dX1_living_42 rfl (lv_at hl 1 rfl) ?_
    exact PM.iret hX hr hlk (rfl) dX1_living_43
  have c_1n : ¬ n ≤ i := fun zz_ => c_1 ((nI_leI (a := n) (b := i) (by omega) (by omega)).mpr zz_)
  refine lv_iload_n hx hb dX1_living_18 rfl (lv_at hl 1 rfl) ?_
  refine lv_aload_n hx hb dX1_living_19 rfl (lv_at hl 0 rfl) ?_
  refine lv_iload_n hx hb dX1_living_20 rfl (lv_at hl 2 rfl) ?_
  refine PM.ci (PM.runV (As := [.int (nI i)]) (rest := [.int (livF lv i)]) hX (K_X1_lives l g h R I dr md ed n a al ap ak lv pt kp i (by omega)) (cv_q547 hX ⟨Nat.le_of_ble_eq_true rfl, Nat.le_of_ble_eq_true rfl⟩) hP trivial (r_recv hX hP 2 rfl rfl) rfl hl.1 rfl (Nat.le_of_ble_eq_true rfl) dX1_living_21 ⟨Nat.zero_le _, Nat.zero_le _⟩) ?_
  refine lv_bif_eq (tgt := 33) hx hb dX1_living_24 (by decide) (fun c_2 => ?_) (fun c_2 => ?_)
  · have c_2 := Decidable.of_not_not c_2
    refine lv_iconst (v := 0) hx hb dX1_living_33 (by decide) ?_
    refine lv_ior hx hb dX1_living_34 ?_
    refine lv_istore_n (lv' := [(1, .int ((livF lv i) ||| 0)), (0, .ref a), (2, .int (nI i))]) hx hb dX1_living_35 rfl hl (by decide) rfl (fun ls hl => ?_)
    refine lv_iinc (v := (nI (i + 1))) (lv' := [(2, .int (nI (i + 1))), (1, .int ((livF lv i) ||| 0)), (0, .ref a)]) hx hb dX1_living_36 hl (k := 2) rfl (nI_1 _) (by decide) rfl (fun ls hl => ?_)
    refine lv_goto (tgt := 4) hx hb dX1_living_39 (by decide) ?_
    exact ihi (i + 1) _ ⟨by omega, lv_cast (lv_sub (l' := [(0, .ref a), (1, .int ((livF lv i) ||| 0)), (2, .int (nI (i + 1)))]) hl [2, 1, 0] rfl) (by simp [livF, c_1, c_2])⟩ (by omega)
  refine lv_iconst (v := 1) hx hb dX1_living_27 (by decide) ?_
  refine lv_iload_n hx hb dX1_living_28 rfl (lv_at hl 2 rfl) ?_
  refine lv_ishl hx hb dX1_living_29 ?_
  refine lv_goto (tgt := 34) hx hb dX1_living_30 (by decide) ?_
  refine lv_ior hx hb dX1_living_34 ?_
  refine lv_istore_n (lv' := [(1, .int ((livF lv i) ||| ((1 : Int32) <<< ((nI i) &&& 31)))), (0, .ref a), (2, .int (nI i))]) hx hb dX1_living_35 rfl hl (by decide) rfl (fun ls hl => ?_)
  refine lv_iinc (v := (nI (i + 1))) (lv' := [(2, .int (nI (i + 1))), (1, .int ((livF lv i) ||| ((1 : Int32) <<< ((nI i) &&& 31)))), (0, .ref a)]) hx hb dX1_living_36 hl (k := 2) rfl (nI_1 _) (by decide) rfl (fun ls hl => ?_)
  refine lv_goto (tgt := 4) hx hb dX1_living_39 (by decide) ?_
  exact ihi (i + 1) _ ⟨by omega, lv_cast (lv_sub (l' := [(0, .ref a), (1, .int ((livF lv i) ||| ((1 : Int32) <<< ((nI i) &&& 31)))), (2, .int (nI (i + 1)))]) hl [2, 1, 0] rfl) (by simp [livF, c_1, c_2])⟩ (by omega)

set_option maxHeartbeats 400000 in
set_option maxRecDepth 100000 in
theorem K_X1_leavesAll (l : Launch) (g : Gx) (h : Nat) (R : Nat → Nat) (I : Nat → Int32) (dr : Int64) (md : Int32) (ed : Nat) (n : Nat) (a : Nat) (al : Nat) (ap : Nat) (ak : Nat) (lv : Nat → Int32) (pt : Nat → Int32) (kp : Nat → Int32) (hn : n ≤ 5) : PM l g yX1_leavesAll cX1_leavesAll 3 (some .int) 1 [.ref a] roT (wA g h R I dr md ed n a al ap ak lv pt kp) (some (.int (allF lv n))) := by
  refine PM.of (own := "BurntLetters$Archive") (by decide) rfl (Nat.le_of_ble_eq_true rfl) ?_
  intro p e s m below meth c hX hr hlk hP hro ls hl
  have hx := hX.1.1
  have hb := hX.1.2.1
  have hl : lv_has ls 3 [(0, .ref a)] := hl
  refine lv_iconst (v := 0) hx hb dX1_leavesAll_0 (by decide) ?_
  refine lv_istore_n (lv' := [(1, .int 0), (0, .ref a)]) hx hb dX1_leavesAll_1 rfl hl (by decide) rfl (fun ls hl => ?_)
  refine lv_iconst (v := 0) hx hb dX1_leavesAll_2 (by decide) ?_
  refine lv_istore_n (lv' := [(2, .int 0), (1, .int 0), (0, .ref a)]) hx hb dX1_leavesAll_3 rfl hl (by decide) rfl (fun ls hl => ?_)
  refine W_loopP (α := Nat) (P := fun (i : Nat) (ls : Array Slot) => i ≤ n ∧ lv_has ls 3 [(0, .ref a), (1, .int (allF lv i)), (2, .int (nI i))]) (fun i => n - i) 0 ⟨Nat.zero_le _, lv_cast (lv_sub (l' := [(0, .ref a), (1, .int 0), (2, .int 0)]) hl [2, 1, 0] rfl) (rfl)⟩ ?_
  rintro i ls ⟨hi, hl⟩ ihi
  refine lv_iload_n hx hb dX1_leavesAll_4 rfl (lv_at hl 2 rfl) ?_
  refine lv_aload_n hx hb dX1_leavesAll_5 rfl (lv_at hl 0 rfl) ?_
  refine gf_q129 (v := .ref h) hX hP 2 rfl rfl dX1_leavesAll_6 ?_
  refine gf_q140 (v := .ref (R 0)) hX hP 0 rfl rfl dX1_leavesAll_9 ?_
  refine PM.ci (PM.runV (As := []) (rest := [.int (nI i)]) hX (K_J2_size l g (R 0) md ed n) (cv_q355 hX ⟨Nat.le_of_ble_eq_true rfl, Nat.le_of_ble_eq_true rfl⟩) (hP.sub (ws' := (wL g (R 0) md ed n)) [1] rfl) trivial (r_recv hX hP 1 rfl rfl) rfl hl.1 rfl (Nat.le_of_ble_eq_true rfl) dX1_leavesAll_12 ⟨Nat.zero_le _, Nat.zero_le _⟩) ?_
  refine lv_icmp_ge (tgt := 36) hx hb dX1_leavesAll_15 (by decide) (fun c_1 => ?_) (fun c_1 => ?_)
  · have c_1n : n ≤ i := (nI_leI (a := n) (b := i) (by omega) (by omega)).mp c_1
    have ei : n = i := by omega
    subst ei
    refine lv_iload_n hx hb dX1_leavesAll_36 rfl (lv_at hl 1 rfl) ?_
    exact PM.iret hX hr hlk (rfl) dX1_leavesAll_37
  have c_1n : ¬ n ≤ i := fun zz_ => c_1 ((nI_leI (a := n) (b := i) (by omega) (by omega)).mpr zz_)
  refine lv_iload_n hx hb dX1_leavesAll_18 rfl (lv_at hl 1 rfl) ?_
  refine lv_aload_n hx hb dX1_leavesAll_19 rfl (lv_at hl 0 rfl) ?_
  refine gf_q123 (v := .ref al) hX hP 2 rfl rfl dX1_leavesAll_20 ?_
  refine lv_iload_n hx hb dX1_leavesAll_23 rfl (lv_at hl 2 rfl) ?_
  refine r_iald (f := lv) hX hP 3 rfl i (by omega) (by omega) dX1_leavesAll_24 ?_
  refine PM.ci (PM.runS (As := [.int (lv i)]) (rest := [.int (allF lv i)]) hX (K_J10_bitCount l g (lv i)) (cs_q552 hX ⟨Nat.le_of_ble_eq_true rfl, Nat.le_of_ble_eq_true rfl⟩) va_P_nil trivial rfl hl.1 rfl (Nat.le_of_ble_eq_true rfl) dX1_leavesAll_25 ⟨Nat.zero_le _, Nat.zero_le _⟩) ?_
  refine lv_iadd hx hb dX1_leavesAll_28 ?_
  refine lv_istore_n (lv' := [(1, .int ((allF lv i) + (bcF (lv i)))), (0, .ref a), (2, .int (nI i))]) hx hb dX1_leavesAll_29 rfl hl (by decide) rfl (fun ls hl => ?_)
  refine lv_iinc (v := (nI (i + 1))) (lv' := [(2, .int (nI (i + 1))), (1, .int ((allF lv i) + (bcF (lv i)))), (0, .ref a)]) hx hb dX1_leavesAll_30 hl (k := 2) rfl (nI_1 _) (by decide) rfl (fun ls hl => ?_)
  refine lv_goto (tgt := 4) hx hb dX1_leavesAll_33 (by decide) ?_
  exact ihi (i + 1) _ ⟨by omega, lv_cast (lv_sub (l' := [(0, .ref a), (1, .int ((allF lv i) + (bcF (lv i)))), (2, .int (nI (i + 1)))]) hl [2, 1, 0] rfl) (by rfl)⟩ (by omega)

set_option maxHeartbeats 400000 in
set_option maxRecDepth 100000 in
theorem K_X1_mayCopy (l : Launch) (g : Gx) (h : Nat) (R : Nat → Nat) (I : Nat → Int32) (dr : Int64) (md : Int32) (ed : Nat) (n : Nat) (a : Nat) (al : Nat) (ap : Nat) (ak : Nat) (lv : Nat → Int32) (pt : Nat → Int32) (kp : Nat → Int32) (f : Nat) (t : Int32) (kd : Nat → Nat) (hn : n ≤ 5) (hf : f < n) : PM l g yX1_mayCopy cX1_mayCopy 4 (some .boolean) 3 [.ref a, .int (nI f), .int t] (roP g ed n kd) (wA g h R I dr md ed n a al ap ak lv pt kp) (some (.int (b01 (mcP kd lv (I 3) n f t)))) := by
  refine PM.of (own := "BurntLetters$Archive") (by decide) rfl (Nat.le_of_ble_eq_true rfl) ?_
  intro p e s m below meth c hX hr hlk hP hro ls hl
  have hx := hX.1.1
  have hb := hX.1.2.1
  have hl : lv_has ls 4 [(0, .ref a), (1, .int (nI f)), (2, .int t)] := hl
  refine lv_aload_n hx hb dX1_mayCopy_0 rfl (lv_at hl 0 rfl) ?_
  refine lv_iload_n hx hb dX1_mayCopy_1 rfl (lv_at hl 1 rfl) ?_
  refine PM.ci (PM.runV (As := [.int (nI f)]) (rest := []) hX (K_X1_lives l g h R I dr md ed n a al ap ak lv pt kp f (by omega)) (cv_q547 hX ⟨Nat.le_of_ble_eq_true rfl, Nat.le_of_ble_eq_true rfl⟩) hP trivial (r_recv hX hP 2 rfl rfl) rfl hl.1 rfl (Nat.le_of_ble_eq_true rfl) dX1_mayCopy_2 ⟨Nat.zero_le _, Nat.zero_le _⟩) ?_
  refine lv_bif_eq (tgt := 40) hx hb dX1_mayCopy_5 (by decide) (fun c_1 => ?_) (fun c_1 => ?_)
  · have c_1 := Decidable.of_not_not c_1
    refine lv_iconst (v := 0) hx hb dX1_mayCopy_40 (by decide) ?_
    refine lv_istore_n (lv' := [(3, .int 0), (0, .ref a), (1, .int (nI f)), (2, .int t)]) hx hb dX1_mayCopy_41 rfl hl (by decide) rfl (fun ls hl => ?_)
    refine lv_iload_n hx hb dX1_mayCopy_42 rfl (lv_at hl 0 rfl) ?_
    refine lv_if_eq (tgt := 79) hx hb dX1_mayCopy_43 (by decide) (fun c_2 => ?_) (fun c_2 => ?_)
    · refine lv_iconst (v := 0) hx hb dX1_mayCopy_79 (by decide) ?_
      exact PM.zret hX hr hlk (by first | exact b01_t ⟨c_1⟩ | (refine b01_f ?_; rintro ⟨h1, h2, h3, h4⟩; simp_all)) (Or.inl rfl) dX1_mayCopy_80
    exact absurd c_2 (by decide)
  refine lv_aload_n hx hb dX1_mayCopy_8 rfl (lv_at hl 0 rfl) ?_
  refine gf_q123 (v := .ref al) hX hP 2 rfl rfl dX1_mayCopy_9 ?_
  refine lv_iload_n hx hb dX1_mayCopy_12 rfl (lv_at hl 1 rfl) ?_
  refine r_iald (f := lv) hX hP 3 rfl f (by omega) (by omega) dX1_mayCopy_13 ?_
  refine lv_iload_n hx hb dX1_mayCopy_14 rfl (lv_at hl 2 rfl) ?_
  refine PM.ci (PM.runSN (As := [.int (lv f), .int t]) (rest := []) hX (K_X0_isIn l g (lv f) t) (cs_q548 hX ⟨Nat.le_of_ble_eq_true rfl, Nat.le_of_ble_eq_true rfl⟩) va_P_nil trivial rfl hl.1 rfl (Nat.le_of_ble_eq_true rfl) dX1_mayCopy_15 ⟨Nat.zero_le _, Nat.zero_le _⟩) ?_
  refine lv_bif_ne (tgt := 40) hx hb dX1_mayCopy_18 (by decide) (fun c_3 => ?_) (fun c_3 => ?_)
  · refine lv_iconst (v := 0) hx hb dX1_mayCopy_40 (by decide) ?_
    refine lv_istore_n (lv' := [(3, .int 0), (0, .ref a), (1, .int (nI f)), (2, .int t)]) hx hb dX1_mayCopy_41 rfl hl (by decide) rfl (fun ls hl => ?_)
    refine lv_iload_n hx hb dX1_mayCopy_42 rfl (lv_at hl 0 rfl) ?_
    refine lv_if_eq (tgt := 79) hx hb dX1_mayCopy_43 (by decide) (fun c_4 => ?_) (fun c_4 => ?_)
    · refine lv_iconst (v := 0) hx hb dX1_mayCopy_79 (by decide) ?_
      exact PM.zret hX hr hlk (by first | exact b01_t ⟨c_1, c_3⟩ | (refine b01_f ?_; rintro ⟨h1, h2, h3, h4⟩; simp_all)) (Or.inl rfl) dX1_mayCopy_80
    exact absurd c_4 (by decide)
  refine lv_aload_n hx hb dX1_mayCopy_21 rfl (lv_at hl 0 rfl) ?_
  refine lv_iload_n hx hb dX1_mayCopy_22 rfl (lv_at hl 2 rfl) ?_
  refine PM.ci (PM.runV (As := [.int t]) (rest := []) hX (K_X1_under l g h R I dr md ed n a al ap ak lv pt kp t (by omega)) (cv_q551 hX ⟨Nat.le_of_ble_eq_true rfl, Nat.le_of_ble_eq_true rfl⟩) hP trivial (r_recv hX hP 2 rfl rfl) rfl hl.1 rfl (Nat.le_of_ble_eq_true rfl) dX1_mayCopy_23 ⟨Nat.zero_le _, Nat.zero_le _⟩) ?_
  refine lv_aload_n hx hb dX1_mayCopy_26 rfl (lv_at hl 0 rfl) ?_
  refine gf_q129 (v := .ref h) hX hP 2 rfl rfl dX1_mayCopy_27 ?_
  refine gf_q144 (v := .int (I 3)) hX hP 0 rfl rfl dX1_mayCopy_30 ?_
  refine lv_icmp_ge (tgt := 40) hx hb dX1_mayCopy_33 (by decide) (fun c_5 => ?_) (fun c_5 => ?_)
  · refine lv_iconst (v := 0) hx hb dX1_mayCopy_40 (by decide) ?_
    refine lv_istore_n (lv' := [(3, .int 0), (0, .ref a), (1, .int (nI f)), (2, .int t)]) hx hb dX1_mayCopy_41 rfl hl (by decide) rfl (fun ls hl => ?_)
    refine lv_iload_n hx hb dX1_mayCopy_42 rfl (lv_at hl 0 rfl) ?_
    refine lv_if_eq (tgt := 79) hx hb dX1_mayCopy_43 (by decide) (fun c_6 => ?_) (fun c_6 => ?_)
    · refine lv_iconst (v := 0) hx hb dX1_mayCopy_79 (by decide) ?_
      exact PM.zret hX hr hlk (by first | exact b01_t ⟨c_1, c_3, c_5⟩ | (refine b01_f ?_; rintro ⟨h1, h2, h3, h4⟩; simp_all)) (Or.inl rfl) dX1_mayCopy_80
    exact absurd c_6 (by decide)
  refine lv_iconst (v := 1) hx hb dX1_mayCopy_36 (by decide) ?_
  refine lv_goto (tgt := 41) hx hb dX1_mayCopy_37 (by decide) ?_
  refine lv_istore_n (lv' := [(3, .int 1), (0, .ref a), (1, .int (nI f)), (2, .int t)]) hx hb dX1_mayCopy_41 rfl hl (by decide) rfl (fun ls hl => ?_)
  refine lv_iload_n hx hb dX1_mayCopy_42 rfl (lv_at hl 0 rfl) ?_
  refine lv_if_eq (tgt := 79) hx hb dX1_mayCopy_43 (by decide) (fun c_7 => ?_) (fun c_7 => ?_)
  · exact absurd c_7 (by decide)
  refine lv_aload_n hx hb dX1_mayCopy_46 rfl (lv_at hl 1 rfl) ?_
  refine gf_q123 (v := .ref al) hX hP 2 rfl rfl dX1_mayCopy_47 ?_
  refine lv_iload_n hx hb dX1_mayCopy_50 rfl (lv_at hl 2 rfl) ?_
  refine r_iald (f := lv) hX hP 3 rfl f (by omega) (by omega) dX1_mayCopy_51 ?_
  refine PM.ci (PM.runS (As := [.int (lv f)]) (rest := []) hX (K_J10_bitCount l g (lv f)) (cs_q552 hX ⟨Nat.le_of_ble_eq_true rfl, Nat.le_of_ble_eq_true rfl⟩) va_P_nil trivial rfl hl.1 rfl (Nat.le_of_ble_eq_true rfl) dX1_mayCopy_52 ⟨Nat.zero_le _, Nat.zero_le _⟩) ?_
  refine lv_aload_n hx hb dX1_mayCopy_55 rfl (lv_at hl 1 rfl) ?_
  refine gf_q129 (v := .ref h) hX hP 2 rfl rfl dX1_mayCopy_56 ?_
  refine gf_q140 (v := .ref (R 0)) hX hP 0 rfl rfl dX1_mayCopy_59 ?_
  refine lv_iload_n hx hb dX1_mayCopy_62 rfl (lv_at hl 2 rfl) ?_
  obtain ⟨ea_8, pa_9, he_10, hk_11, hq_12⟩ := hro f (by omega)
  refine PM.cr (PM.runV (As := [.int (nI f)]) (rest := [.int (bcF (lv f))]) hX (K_J2_get l g (R 0) md ed n ea_8 f pa_9 (by omega) (by omega) he_10) (cv_q558 hX ⟨Nat.le_of_ble_eq_true rfl, Nat.le_of_ble_eq_true rfl⟩) ((hP.sub (ws' := (wL g (R 0) md ed n)) [1] rfl).app (hq_12.sub (ws' := [(ed, aR g 10 ea_8)]) [0] rfl)) trivial (r_recv hX hP 1 rfl rfl) rfl hl.1 rfl (Nat.le_of_ble_eq_true rfl) dX1_mayCopy_63 ⟨Nat.zero_le _, Nat.zero_le _⟩) ?_
  have hk_11p : kd f < 5 ∧ va_P g.1 vwCl [(pa_9, .inr (6 + kd f, []))] s.heap := ⟨hk_11, hq_12.sub [1] rfl⟩
  refine r_castP hX q559 hk_11p.1 hk_11p.2 dX1_mayCopy_66 ?_
  refine rv_q560 (rest := [.int (bcF (lv f))]) hX hk_11p.1 hk_11p.2 hl.1 (Nat.le_of_ble_eq_true rfl) (Nat.le_of_ble_eq_true rfl) (Nat.le_of_ble_eq_true rfl) ⟨Nat.zero_le _, Nat.zero_le _⟩ dX1_mayCopy_69 ?_
  refine lv_icmp_ge (tgt := 79) hx hb dX1_mayCopy_72 (by decide) (fun c_13 => ?_) (fun c_13 => ?_)
  · refine lv_iconst (v := 0) hx hb dX1_mayCopy_79 (by decide) ?_
    exact PM.zret hX hr hlk (by first | exact b01_t ⟨c_1, c_3, c_5, c_13⟩ | (refine b01_f ?_; rintro ⟨h1, h2, h3, h4⟩; simp_all)) (Or.inl rfl) dX1_mayCopy_80
  refine lv_iconst (v := 1) hx hb dX1_mayCopy_75 (by decide) ?_
  refine lv_goto (tgt := 80) hx hb dX1_mayCopy_76 (by decide) ?_
  exact PM.zret hX hr hlk (by first | exact b01_t ⟨c_1, c_3, c_5, c_13⟩ | (refine b01_f ?_; rintro ⟨h1, h2, h3, h4⟩; simp_all)) (Or.inr rfl) dX1_mayCopy_80

set_option maxHeartbeats 400000 in
set_option maxRecDepth 100000 in
theorem K_X1_mayRename (l : Launch) (g : Gx) (h : Nat) (R : Nat → Nat) (I : Nat → Int32) (dr : Int64) (md : Int32) (ed : Nat) (n : Nat) (a : Nat) (al : Nat) (ap : Nat) (ak : Nat) (lv : Nat → Int32) (pt : Nat → Int32) (kp : Nat → Int32) (f : Nat) (u : Int32) (t : Int32) (hn : n ≤ 5) (hf : f < 5) : PM l g yX1_mayRename cX1_mayRename 4 (some .boolean) 2 [.ref a, .int (nI f), .int u, .int t] roT (wA g h R I dr md ed n a al ap ak lv pt kp) (some (.int (b01 (mrP lv (I 3) n f u t)))) := by
  refine PM.of (own := "BurntLetters$Archive") (by decide) rfl (Nat.le_of_ble_eq_true rfl) ?_
  intro p e s m below meth c hX hr hlk hP hro ls hl
  have hx := hX.1.1
  have hb := hX.1.2.1
  have hl : lv_has ls 4 [(0, .ref a), (1, .int (nI f)), (2, .int u), (3, .int t)] := hl
  refine lv_aload_n hx hb dX1_mayRename_0 rfl (lv_at hl 0 rfl) ?_
  refine gf_q123 (v := .ref al) hX hP 2 rfl rfl dX1_mayRename_1 ?_
  refine lv_iload_n hx hb dX1_mayRename_4 rfl (lv_at hl 1 rfl) ?_
  refine r_iald (f := lv) hX hP 3 rfl f (by omega) (by omega) dX1_mayRename_5 ?_
  refine lv_iload_n hx hb dX1_mayRename_6 rfl (lv_at hl 2 rfl) ?_
  refine PM.ci (PM.runSN (As := [.int (lv f), .int u]) (rest := []) hX (K_X0_isIn l g (lv f) u) (cs_q548 hX ⟨Nat.le_of_ble_eq_true rfl, Nat.le_of_ble_eq_true rfl⟩) va_P_nil trivial rfl hl.1 rfl (Nat.le_of_ble_eq_true rfl) dX1_mayRename_7 ⟨Nat.zero_le _, Nat.zero_le _⟩) ?_
  refine lv_bif_eq (tgt := 45) hx hb dX1_mayRename_10 (by decide) (fun c_1 => ?_) (fun c_1 => ?_)
  · refine lv_iconst (v := 0) hx hb dX1_mayRename_45 (by decide) ?_
    exact PM.zret hX hr hlk (by first | exact b01_t ⟨c_1, c_2, c_3⟩ | (refine b01_f ?_; rintro ⟨h1, h2, h3⟩; simp_all)) (Or.inl rfl) dX1_mayRename_46
  refine lv_aload_n hx hb dX1_mayRename_13 rfl (lv_at hl 0 rfl) ?_
  refine gf_q123 (v := .ref al) hX hP 2 rfl rfl dX1_mayRename_14 ?_
  refine lv_iload_n hx hb dX1_mayRename_17 rfl (lv_at hl 1 rfl) ?_
  refine r_iald (f := lv) hX hP 3 rfl f (by omega) (by omega) dX1_mayRename_18 ?_
  refine lv_iload_n hx hb dX1_mayRename_19 rfl (lv_at hl 3 rfl) ?_
  refine PM.ci (PM.runSN (As := [.int (lv f), .int t]) (rest := []) hX (K_X0_isIn l g (lv f) t) (cs_q548 hX ⟨Nat.le_of_ble_eq_true rfl, Nat.le_of_ble_eq_true rfl⟩) va_P_nil trivial rfl hl.1 rfl (Nat.le_of_ble_eq_true rfl) dX1_mayRename_20 ⟨Nat.zero_le _, Nat.zero_le _⟩) ?_
  refine lv_bif_ne (tgt := 45) hx hb dX1_mayRename_23 (by decide) (fun c_2 => ?_) (fun c_2 => ?_)
  · refine lv_iconst (v := 0) hx hb dX1_mayRename_45 (by decide) ?_
    exact PM.zret hX hr hlk (by first | exact b01_t ⟨c_1, c_2, c_3⟩ | (refine b01_f ?_; rintro ⟨h1, h2, h3⟩; simp_all)) (Or.inl rfl) dX1_mayRename_46
  refine lv_aload_n hx hb dX1_mayRename_26 rfl (lv_at hl 0 rfl) ?_
  refine lv_iload_n hx hb dX1_mayRename_27 rfl (lv_at hl 3 rfl) ?_
  refine PM.ci (PM.runV (As := [.int t]) (rest := []) hX (K_X1_under l g h R I dr md ed n a al ap ak lv pt kp t (by omega)) (cv_q551 hX ⟨Nat.le_of_ble_eq_true rfl, Nat.le_of_ble_eq_true rfl⟩) hP trivial (r_recv hX hP 2 rfl rfl) rfl hl.1 rfl (Nat.le_of_ble_eq_true rfl) dX1_mayRename_28 ⟨Nat.zero_le _, Nat.zero_le _⟩) ?_
  refine lv_aload_n hx hb dX1_mayRename_31 rfl (lv_at hl 0 rfl) ?_
  refine gf_q129 (v := .ref h) hX hP 2 rfl rfl dX1_mayRename_32 ?_
  refine gf_q144 (v := .int (I 3)) hX hP 0 rfl rfl dX1_mayRename_35 ?_
  refine lv_icmp_ge (tgt := 45) hx hb dX1_mayRename_38 (by decide) (fun c_3 => ?_) (fun c_3 => ?_)
  · refine lv_iconst (v := 0) hx hb dX1_mayRename_45 (by decide) ?_
    exact PM.zret hX hr hlk (by first | exact b01_t ⟨c_1, c_2, c_3⟩ | (refine b01_f ?_; rintro ⟨h1, h2, h3⟩; simp_all)) (Or.inl rfl) dX1_mayRename_46
  refine lv_iconst (v := 1) hx hb dX1_mayRename_41 (by decide) ?_
  refine lv_goto (tgt := 46) hx hb dX1_mayRename_42 (by decide) ?_
  exact PM.zret hX hr hlk (by first | exact b01_t ⟨c_1, c_2, c_3⟩ | (refine b01_f ?_; rintro ⟨h1, h2, h3⟩; simp_all)) (Or.inr rfl) dX1_mayRename_46

set_option maxHeartbeats 400000 in
set_option maxRecDepth 100000 in
theorem K_X1_rename (l : Launch) (g : Gx) (h : Nat) (R : Nat → Nat) (I : Nat → Int32) (dr : Int64) (md : Int32) (ed : Nat) (n : Nat) (a : Nat) (al : Nat) (ap : Nat) (ak : Nat) (lv : Nat → Int32) (pt : Nat → Int32) (kp : Nat → Int32) (f : Nat) (u : Int32) (t : Int32) (hf : f < 5) (hrk : RoK roT (wA g h R I dr md ed n a al ap ak lv pt kp)) : MM l g yX1_rename cX1_rename 4 none 0 [.ref a, .int (nI f), .int u, .int t] roT (wA g h R I dr md ed n a al ap ak lv pt kp) (wA g h R I dr md ed n a al ap ak (rnF lv f u t) pt kp) none := by
  refine MM.of (own := "BurntLetters$Archive") (by decide) rfl (Nat.le_of_ble_eq_true rfl) hrk ?_
  intro p e s m below meth c A hX hr hlk hZ ls hl
  have hx := hX.1.1
  have hb := hX.1.2.1
  have hl : lv_has ls 4 [(0, .ref a), (1, .int (nI f)), (2, .int u), (3, .int t)] := hl
  refine lv_aload_n hx hb dX1_rename_0 rfl (lv_at hl 0 rfl) ?_
  refine gf_q123 (v := .ref al) hX hZ.1 2 rfl rfl dX1_rename_1 ?_
  refine lv_iload_n hx hb dX1_rename_4 rfl (lv_at hl 1 rfl) ?_
  refine lv_aload_n hx hb dX1_rename_5 rfl (lv_at hl 0 rfl) ?_
  refine gf_q123 (v := .ref al) hX hZ.1 2 rfl rfl dX1_rename_6 ?_
  refine lv_iload_n hx hb dX1_rename_9 rfl (lv_at hl 1 rfl) ?_
  refine r_iald (f := lv) hX hZ.1 3 rfl f (by omega) (by omega) dX1_rename_10 ?_
  refine lv_iconst (v := 1) hx hb dX1_rename_11 (by decide) ?_
  refine lv_iload_n hx hb dX1_rename_12 rfl (lv_at hl 2 rfl) ?_
  refine lv_ishl hx hb dX1_rename_13 ?_
  refine lv_iconst (v := (-1)) hx hb dX1_rename_14 (by decide) ?_
  refine lv_ixor hx hb dX1_rename_15 ?_
  refine lv_iand hx hb dX1_rename_16 ?_
  refine lv_iconst (v := 1) hx hb dX1_rename_17 (by decide) ?_
  refine lv_iload_n hx hb dX1_rename_18 rfl (lv_at hl 3 rfl) ?_
  refine lv_ishl hx hb dX1_rename_19 ?_
  refine lv_ior hx hb dX1_rename_20 ?_
  refine r_iast (f := lv) (x := (((lv f) &&& (((1 : Int32) <<< (u &&& 31)) ^^^ (-1))) ||| ((1 : Int32) <<< (t &&& 31)))) (ws1 := (wA g h R I dr md ed n a al ap ak (upd lv f (((lv f) &&& (((1 : Int32) <<< (u &&& 31)) ^^^ (-1))) ||| ((1 : Int32) <<< (t &&& 31)))) pt kp)) hX hZ 3 rfl f (by omega) (by omega) dX1_rename_21 rfl (fun H locs hZ => ?_)
  exact MM.vret hX hr hlk hZ (rfl) dX1_rename_22

set_option maxHeartbeats 400000 in
set_option maxRecDepth 100000 in
theorem K_X1_isPointedTo (l : Launch) (g : Gx) (h : Nat) (R : Nat → Nat) (I : Nat → Int32) (dr : Int64) (md : Int32) (ed : Nat) (n : Nat) (a : Nat) (al : Nat) (ap : Nat) (ak : Nat) (lv : Nat → Int32) (pt : Nat → Int32) (kp : Nat → Int32) (x : Int32) (lived : Int32) (hn : n ≤ 5) : PM l g yX1_isPointedTo cX1_isPointedTo 5 (some .boolean) 1 [.ref a, .int x, .int lived] roT (wA g h R I dr md ed n a al ap ak lv pt kp) (some (.int (ptF pt lived x n))) := by
  refine PM.of (own := "BurntLetters$Archive") (by decide) rfl (Nat.le_of_ble_eq_true rfl) ?_
  intro p e s m below meth c hX hr hlk hP hro ls hl
  have hx := hX.1.1
  have hb := hX.1.2.1
  have hl : lv_has ls 5 [(0, .ref a), (1, .int x), (2, .int lived)] := hl
  refine lv_iconst (v := 0) hx hb dX1_isPointedTo_0 (by decide) ?_
  refine lv_istore_n (lv' := [(3, .int 0), (0, .ref a), (1, .int x), (2, .int lived)]) hx hb dX1_isPointedTo_1 rfl hl (by decide) rfl (fun ls hl => ?_)
  refine lv_iconst (v := 0) hx hb dX1_isPointedTo_2 (by decide) ?_
  refine lv_istore (lv' := [(4, .int 0), (3, .int 0), (0, .ref a), (1, .int x), (2, .int lived)]) hx hb dX1_isPointedTo_3 hl (by decide) rfl (fun ls hl => ?_)
  refine W_loopP (α := Nat) (P := fun (i : Nat) (ls : Array Slot) => i ≤ n ∧ lv_has ls 5 [(0, .ref a), (1, .int x), (2, .int lived), (3, .int (ptF pt lived x i)), (4, .int (nI i))]) (fun i => n - i) 0 ⟨Nat.zero_le _, lv_cast (lv_sub (l' := [(0, .ref a), (1, .int x), (2, .int lived), (3, .int 0), (4, .int 0)]) hl [2, 3, 4, 1, 0] rfl) (rfl)⟩ ?_
  rintro i ls ⟨hi, hl⟩ ihi
  refine lv_iload hx hb dX1_isPointedTo_5 (lv_at hl 4 rfl) ?_
  refine lv_aload_n hx hb dX1_isPointedTo_7 rfl (lv_at hl 0 rfl) ?_
  refine gf_q129 (v := .ref h) hX hP 2 rfl rfl dX1_isPointedTo_8 ?_
  refine gf_q140 (v := .ref (R 0)) hX hP 0 rfl rfl dX1_isPointedTo_11 ?_
  refine PM.ci (PM.runV (As := []) (rest := [.int (nI i)]) hX (K_J2_size l g (R 0) md ed n) (cv_q355 hX ⟨Nat.le_of_ble_eq_true rfl, Nat.le_of_ble_eq_true rfl⟩) (hP.sub (ws' := (wL g (R 0) md ed n)) [1] rfl) trivial (r_recv hX hP 1 rfl rfl) rfl hl.1 rfl (Nat.le_of_ble_eq_true rfl) dX1_isPointedTo_14 ⟨Nat.zero_le _, Nat.zero_le _⟩) ?_
  refine lv_icmp_ge (tgt := 54) hx hb dX1_isPointedTo_17 (by decide) (fun c_1 => ?_) (fun c_1 => ?_)
  · have c_1n : n ≤ i := (nI_leI (a := n) (b := i) (by omega) (by omega)).mp c_1
    have ei : n = i := by omega
    subst ei
    refine lv_iload_n hx hb dX1_isPointedTo_54 rfl (lv_at hl 3 rfl) ?_
    exact PM.zret hX hr hlk (rfl) (ptF01 _ _ _ _) dX1_isPointedTo_55
  have c_1n : ¬ n ≤ i := fun zz_ => c_1 ((nI_leI (a := n) (b := i) (by omega) (by omega)).mpr zz_)
  refine lv_iload_n hx hb dX1_isPointedTo_20 rfl (lv_at hl 3 rfl) ?_
  refine lv_iload_n hx hb dX1_isPointedTo_21 rfl (lv_at hl 2 rfl) ?_
  refine lv_iload hx hb dX1_isPointedTo_22 (lv_at hl 4 rfl) ?_
  refine PM.ci (PM.runSN (As := [.int lived, .int (nI i)]) (rest := [.int (ptF pt lived x i)]) hX (K_X0_isIn l g lived (nI i)) (cs_q548 hX ⟨Nat.le_of_ble_eq_true rfl, Nat.le_of_ble_eq_true rfl⟩) va_P_nil trivial rfl hl.1 rfl (Nat.le_of_ble_eq_true rfl) dX1_isPointedTo_24 ⟨Nat.zero_le _, Nat.zero_le _⟩) ?_
  refine lv_bif_eq (tgt := 45) hx hb dX1_isPointedTo_27 (by decide) (fun c_2 => ?_) (fun c_2 => ?_)
  · refine lv_iconst (v := 0) hx hb dX1_isPointedTo_45 (by decide) ?_
    refine lv_ior hx hb dX1_isPointedTo_46 ?_
    refine lv_istore_n (lv' := [(3, .int ((ptF pt lived x i) ||| 0)), (0, .ref a), (1, .int x), (2, .int lived), (4, .int (nI i))]) hx hb dX1_isPointedTo_47 rfl hl (by decide) rfl (fun ls hl => ?_)
    refine lv_iinc (v := (nI (i + 1))) (lv' := [(4, .int (nI (i + 1))), (3, .int ((ptF pt lived x i) ||| 0)), (0, .ref a), (1, .int x), (2, .int lived)]) hx hb dX1_isPointedTo_48 hl (k := 4) rfl (nI_1 _) (by decide) rfl (fun ls hl => ?_)
    refine lv_goto (tgt := 5) hx hb dX1_isPointedTo_51 (by decide) ?_
    exact ihi (i + 1) _ ⟨by omega, lv_cast (lv_sub (l' := [(0, .ref a), (1, .int x), (2, .int lived), (3, .int ((ptF pt lived x i) ||| 0)), (4, .int (nI (i + 1)))]) hl [2, 3, 4, 1, 0] rfl) (by simp [ptF, b01, isInP, c_1, c_2])⟩ (by omega)
  refine lv_aload_n hx hb dX1_isPointedTo_30 rfl (lv_at hl 0 rfl) ?_
  refine gf_q125 (v := .ref ap) hX hP 2 rfl rfl dX1_isPointedTo_31 ?_
  refine lv_iload hx hb dX1_isPointedTo_34 (lv_at hl 4 rfl) ?_
  refine r_iald (f := pt) hX hP 4 rfl i (by omega) (by omega) dX1_isPointedTo_36 ?_
  refine lv_iload_n hx hb dX1_isPointedTo_37 rfl (lv_at hl 1 rfl) ?_
  refine lv_icmp_ne (tgt := 45) hx hb dX1_isPointedTo_38 (by decide) (fun c_3 => ?_) (fun c_3 => ?_)
  · refine lv_iconst (v := 0) hx hb dX1_isPointedTo_45 (by decide) ?_
    refine lv_ior hx hb dX1_isPointedTo_46 ?_
    refine lv_istore_n (lv' := [(3, .int ((ptF pt lived x i) ||| 0)), (0, .ref a), (1, .int x), (2, .int lived), (4, .int (nI i))]) hx hb dX1_isPointedTo_47 rfl hl (by decide) rfl (fun ls hl => ?_)
    refine lv_iinc (v := (nI (i + 1))) (lv' := [(4, .int (nI (i + 1))), (3, .int ((ptF pt lived x i) ||| 0)), (0, .ref a), (1, .int x), (2, .int lived)]) hx hb dX1_isPointedTo_48 hl (k := 4) rfl (nI_1 _) (by decide) rfl (fun ls hl => ?_)
    refine lv_goto (tgt := 5) hx hb dX1_isPointedTo_51 (by decide) ?_
    exact ihi (i + 1) _ ⟨by omega, lv_cast (lv_sub (l' := [(0, .ref a), (1, .int x), (2, .int lived), (3, .int ((ptF pt lived x i) ||| 0)), (4, .int (nI (i + 1)))]) hl [2, 3, 4, 1, 0] rfl) (by simp [ptF, b01, isInP, c_1, c_2, c_3])⟩ (by omega)
  refine lv_iconst (v := 1) hx hb dX1_isPointedTo_41 (by decide) ?_
  refine lv_goto (tgt := 46) hx hb dX1_isPointedTo_42 (by decide) ?_
  refine lv_ior hx hb dX1_isPointedTo_46 ?_
  refine lv_istore_n (lv' := [(3, .int ((ptF pt lived x i) ||| 1)), (0, .ref a), (1, .int x), (2, .int lived), (4, .int (nI i))]) hx hb dX1_isPointedTo_47 rfl hl (by decide) rfl (fun ls hl => ?_)
  refine lv_iinc (v := (nI (i + 1))) (lv' := [(4, .int (nI (i + 1))), (3, .int ((ptF pt lived x i) ||| 1)), (0, .ref a), (1, .int x), (2, .int lived)]) hx hb dX1_isPointedTo_48 hl (k := 4) rfl (nI_1 _) (by decide) rfl (fun ls hl => ?_)
  refine lv_goto (tgt := 5) hx hb dX1_isPointedTo_51 (by decide) ?_
  exact ihi (i + 1) _ ⟨by omega, lv_cast (lv_sub (l' := [(0, .ref a), (1, .int x), (2, .int lived), (3, .int ((ptF pt lived x i) ||| 1)), (4, .int (nI (i + 1)))]) hl [2, 3, 4, 1, 0] rfl) (by simp [ptF, b01, isInP, c_1, c_2, c_3])⟩ (by omega)

set_option maxHeartbeats 400000 in
set_option maxRecDepth 100000 in
theorem K_X1_become (l : Launch) (g : Gx) (h : Nat) (a : Nat) (al : Nat) (ap : Nat) (ak : Nat) (lv : Nat → Int32) (pt : Nat → Int32) (kp : Nat → Int32) (b : Nat) (bl : Nat) (bp : Nat) (bk : Nat) (lw : Nat → Int32) (pw : Nat → Int32) (kw : Nat → Int32) (hrk : RoK roT (wB g h a al ap ak lv pt kp b bl bp bk lw pw kw)) : MM l g yX1_become cX1_become 3 none 0 [.ref a, .ref b] roT (wB g h a al ap ak lv pt kp b bl bp bk lw pw kw) (wB g h a al ap ak lw pw kw b bl bp bk lw pw kw) none := by
  refine MM.of (own := "BurntLetters$Archive") (by decide) rfl (Nat.le_of_ble_eq_true rfl) hrk ?_
  intro p e s m below meth c A hX hr hlk hZ ls hl
  have hx := hX.1.1
  have hb := hX.1.2.1
  have hl : lv_has ls 3 [(0, .ref a), (1, .ref b)] := hl
  refine lv_iconst (v := 0) hx hb dX1_become_0 (by decide) ?_
  refine lv_istore_n (lv' := [(2, .int 0), (0, .ref a), (1, .ref b)]) hx hb dX1_become_1 rfl hl (by decide) rfl (fun ls hl => ?_)
  refine W_loop (α := Nat) (P := fun (i : Nat) (H : Heap) (locs : List Loc) (ls : Array Slot) => i ≤ 5 ∧ Zt g A s.heap roT (wB g h a al ap ak (cpF lw lv i) (cpF pw pt i) (cpF kw kp i) b bl bp bk lw pw kw) H locs ∧ lv_has ls 3 [(0, .ref a), (1, .ref b), (2, .int (nI i))]) (fun i => 5 - i) 0 ⟨Nat.zero_le _, hZ.cast (rfl), lv_cast (lv_sub (l' := [(0, .ref a), (1, .ref b), (2, .int 0)]) hl [1, 2, 0] rfl) (rfl)⟩ ?_
  rintro i H locs ls ⟨hi, hZ, hl⟩ ihi
  refine lv_iload_n hx hb dX1_become_2 rfl (lv_at hl 2 rfl) ?_
  refine lv_iconst (v := 5) hx hb dX1_become_3 (by decide) ?_
  refine lv_icmp_ge (tgt := 49) hx hb dX1_become_4 (by decide) (fun c_1 => ?_) (fun c_1 => ?_)
  · have c_1n : 5 ≤ i := (nI_leI (a := 5) (b := i) (by omega) (by omega)).mp c_1
    have ei : i = 5 := by omega
    subst ei
    have hZ := ((hZ.arr 1 lw rfl (cpF_in lw lv 5)).arr 2 pw rfl (cpF_in pw pt 5)).arr 3 kw rfl (cpF_in kw kp 5)
    have hZ : Zt g A s.heap roT (wB g h a al ap ak lw pw kw b bl bp bk lw pw kw) H locs := hZ
    exact MM.vret hX hr hlk hZ (rfl) dX1_become_49
  have c_1n : ¬ 5 ≤ i := fun zz_ => c_1 ((nI_leI (a := 5) (b := i) (by omega) (by omega)).mpr zz_)
  refine lv_aload_n hx hb dX1_become_7 rfl (lv_at hl 0 rfl) ?_
  refine gf_q123 (v := .ref al) hX hZ.1 0 rfl rfl dX1_become_8 ?_
  refine lv_iload_n hx hb dX1_become_11 rfl (lv_at hl 2 rfl) ?_
  refine lv_aload_n hx hb dX1_become_12 rfl (lv_at hl 1 rfl) ?_
  refine gf_q123 (v := .ref bl) hX hZ.1 4 rfl rfl dX1_become_13 ?_
  refine lv_iload_n hx hb dX1_become_16 rfl (lv_at hl 2 rfl) ?_
  refine r_iald (f := lw) hX hZ.1 5 rfl i (by omega) (by omega) dX1_become_17 ?_
  refine r_iast (f := (cpF lw lv i)) (x := (lw i)) (ws1 := (wB g h a al ap ak (upd (cpF lw lv i) i (lw i)) (cpF pw pt i) (cpF kw kp i) b bl bp bk lw pw kw)) hX hZ 1 rfl i (by omega) (by omega) dX1_become_18 rfl (fun H locs hZ => ?_)
  refine lv_aload_n hx hb dX1_become_19 rfl (lv_at hl 0 rfl) ?_
  refine gf_q125 (v := .ref ap) hX hZ.1 0 rfl rfl dX1_become_20 ?_
  refine lv_iload_n hx hb dX1_become_23 rfl (lv_at hl 2 rfl) ?_
  refine lv_aload_n hx hb dX1_become_24 rfl (lv_at hl 1 rfl) ?_
  refine gf_q125 (v := .ref bp) hX hZ.1 4 rfl rfl dX1_become_25 ?_
  refine lv_iload_n hx hb dX1_become_28 rfl (lv_at hl 2 rfl) ?_
  refine r_iald (f := pw) hX hZ.1 6 rfl i (by omega) (by omega) dX1_become_29 ?_
  refine r_iast (f := (cpF pw pt i)) (x := (pw i)) (ws1 := (wB g h a al ap ak (upd (cpF lw lv i) i (lw i)) (upd (cpF pw pt i) i (pw i)) (cpF kw kp i) b bl bp bk lw pw kw)) hX hZ 2 rfl i (by omega) (by omega) dX1_become_30 rfl (fun H locs hZ => ?_)
  refine lv_aload_n hx hb dX1_become_31 rfl (lv_at hl 0 rfl) ?_
  refine gf_q127 (v := .ref ak) hX hZ.1 0 rfl rfl dX1_become_32 ?_
  refine lv_iload_n hx hb dX1_become_35 rfl (lv_at hl 2 rfl) ?_
  refine lv_aload_n hx hb dX1_become_36 rfl (lv_at hl 1 rfl) ?_
  refine gf_q127 (v := .ref bk) hX hZ.1 4 rfl rfl dX1_become_37 ?_
  refine lv_iload_n hx hb dX1_become_40 rfl (lv_at hl 2 rfl) ?_
  refine r_iald (f := kw) hX hZ.1 7 rfl i (by omega) (by omega) dX1_become_41 ?_
  refine r_iast (f := (cpF kw kp i)) (x := (kw i)) (ws1 := (wB g h a al ap ak (upd (cpF lw lv i) i (lw i)) (upd (cpF pw pt i) i (pw i)) (upd (cpF kw kp i) i (kw i)) b bl bp bk lw pw kw)) hX hZ 3 rfl i (by omega) (by omega) dX1_become_42 rfl (fun H locs hZ => ?_)
  refine lv_iinc (v := (nI (i + 1))) (lv' := [(2, .int (nI (i + 1))), (0, .ref a), (1, .ref b)]) hx hb dX1_become_43 hl (k := 2) rfl (nI_1 _) (by decide) rfl (fun ls hl => ?_)
  refine lv_goto (tgt := 2) hx hb dX1_become_46 (by decide) ?_
  exact ihi (i + 1) _ _ _ ⟨by omega, hZ.cast (rfl), lv_cast (lv_sub (l' := [(0, .ref a), (1, .ref b), (2, .int (nI (i + 1)))]) hl [1, 2, 0] rfl) (by rfl)⟩ (by omega)

set_option maxHeartbeats 400000 in
set_option maxRecDepth 100000 in
theorem K_X1_spread (l : Launch) (g : Gx) (h : Nat) (R : Nat → Nat) (I : Nat → Int32) (dr : Int64) (md : Int32) (ed : Nat) (n : Nat) (a : Nat) (al : Nat) (ap : Nat) (ak : Nat) (lv : Nat → Int32) (pt : Nat → Int32) (kp : Nat → Int32) (f : Nat) (kd : Nat → Nat) (hn : n ≤ 5) (hf : f < n) (hrk : RoK (roP g ed n kd) (wA g h R I dr md ed n a al ap ak lv pt kp)) : MM l g yX1_spread cX1_spread 3 none 4 [.ref a, .int (nI f)] (roP g ed n kd) (wA g h R I dr md ed n a al ap ak lv pt kp) (wA g h R I dr md ed n a al ap ak (spF kd lv (I 3) n f 6) pt kp) none := by
  refine MM.of (own := "BurntLetters$Archive") (by decide) rfl (Nat.le_of_ble_eq_true rfl) hrk ?_
  intro p e s m below meth c A hX hr hlk hZ ls hl
  have hx := hX.1.1
  have hb := hX.1.2.1
  have hl : lv_has ls 3 [(0, .ref a), (1, .int (nI f))] := hl
  refine lv_iconst (v := 0) hx hb dX1_spread_0 (by decide) ?_
  refine lv_istore_n (lv' := [(2, .int 0), (0, .ref a), (1, .int (nI f))]) hx hb dX1_spread_1 rfl hl (by decide) rfl (fun ls hl => ?_)
  refine W_loop (α := Nat) (P := fun (i : Nat) (H : Heap) (locs : List Loc) (ls : Array Slot) => i ≤ 6 ∧ spF kd lv (I 3) n f 6 = spF kd lv (I 3) n f (6 - i) ∧ Zt g A s.heap (roP g ed n kd) (wA g h R I dr md ed n a al ap ak lv pt kp) H locs ∧ lv_has ls 3 [(0, .ref a), (1, .int (nI f)), (2, .int (nI i))]) (fun i => 6 - i) 0 ⟨Nat.zero_le _, rfl, hZ.cast (rfl), lv_cast (lv_sub (l' := [(0, .ref a), (1, .int (nI f)), (2, .int 0)]) hl [1, 2, 0] rfl) (rfl)⟩ ?_
  rintro i H locs ls ⟨hi, hs, hZ, hl⟩ ihi
  refine lv_iload_n hx hb dX1_spread_2 rfl (lv_at hl 2 rfl) ?_
  refine lv_bipush (v := 6) hx hb dX1_spread_3 (by decide) ?_
  refine lv_icmp_ge (tgt := 36) hx hb dX1_spread_5 (by decide) (fun c_1 => ?_) (fun c_1 => ?_)
  · have c_1n : 6 ≤ i := (nI_leI (a := 6) (b := i) (by omega) (by omega)).mp c_1
    exact MM.vret hX hr hlk hZ (by rw [hs, show 6 - i = 0 by omega, spF]) dX1_spread_36
  have c_1n : ¬ 6 ≤ i := fun zz_ => c_1 ((nI_leI (a := 6) (b := i) (by omega) (by omega)).mpr zz_)
  refine lv_aload_n hx hb dX1_spread_8 rfl (lv_at hl 0 rfl) ?_
  refine lv_iload_n hx hb dX1_spread_9 rfl (lv_at hl 1 rfl) ?_
  refine lv_iload_n hx hb dX1_spread_10 rfl (lv_at hl 2 rfl) ?_
  refine PM.ci (PM.runV (As := [.int (nI f), .int (nI i)]) (rest := []) hX (K_X1_mayCopy l g h R I dr md ed n a al ap ak lv pt kp f (nI i) kd (by omega) (by omega)) (cv_q640 hX ⟨Nat.le_of_ble_eq_true rfl, Nat.le_of_ble_eq_true rfl⟩) hZ.1 hZ.ro (r_recv hX hZ.1 2 rfl rfl) rfl hl.1 rfl (Nat.le_of_ble_eq_true rfl) dX1_spread_11 ⟨Nat.zero_le _, Nat.zero_le _⟩) ?_
  refine lv_bif_eq (tgt := 30) hx hb dX1_spread_14 (by decide) (fun c_2 => ?_) (fun c_2 => ?_)
  · refine lv_iinc (v := (nI (i + 1))) (lv' := [(2, .int (nI (i + 1))), (0, .ref a), (1, .int (nI f))]) hx hb dX1_spread_30 hl (k := 2) rfl (nI_1 _) (by decide) rfl (fun ls hl => ?_)
    refine lv_goto (tgt := 2) hx hb dX1_spread_33 (by decide) ?_
    exact ihi (i + 1) _ _ _ ⟨by omega, by rw [hs, show 6 - i = (5 - i) + 1 by omega, spF, if_neg (by rw [show 5 - (5 - i) = i by omega]; exact c_2), show 6 - (i + 1) = 5 - i by omega], hZ.cast (rfl), lv_cast (lv_sub (l' := [(0, .ref a), (1, .int (nI f)), (2, .int (nI (i + 1)))]) hl [1, 2, 0] rfl) (by rfl)⟩ (by omega)
  refine lv_aload_n hx hb dX1_spread_17 rfl (lv_at hl 0 rfl) ?_
  refine gf_q123 (v := .ref al) hX hZ.1 2 rfl rfl dX1_spread_18 ?_
  refine lv_iload_n hx hb dX1_spread_21 rfl (lv_at hl 1 rfl) ?_
  refine lv_dup2_11 hx hb dX1_spread_22 rfl rfl ?_
  refine r_iald (f := lv) hX hZ.1 3 rfl f (by omega) (by omega) dX1_spread_23 ?_
  refine lv_iconst (v := 1) hx hb dX1_spread_24 (by decide) ?_
  refine lv_iload_n hx hb dX1_spread_25 rfl (lv_at hl 2 rfl) ?_
  refine lv_ishl hx hb dX1_spread_26 ?_
  refine lv_ior hx hb dX1_spread_27 ?_
  refine r_iast (f := lv) (x := ((lv f) ||| ((1 : Int32) <<< ((nI i) &&& 31)))) (ws1 := (wA g h R I dr md ed n a al ap ak (upd lv f ((lv f) ||| ((1 : Int32) <<< ((nI i) &&& 31)))) pt kp)) hX hZ 3 rfl f (by omega) (by omega) dX1_spread_28 rfl (fun H locs hZ => ?_)
  exact MM.vret hX hr hlk hZ (by rw [hs, show 6 - i = (5 - i) + 1 by omega, spF, if_pos (by rw [show 5 - (5 - i) = i by omega]; exact c_2), show 5 - (5 - i) = i by omega]) dX1_spread_29

set_option maxHeartbeats 400000 in
set_option maxRecDepth 100000 in
theorem K_X1_burn (l : Launch) (g : Gx) (h : Nat) (R : Nat → Nat) (I : Nat → Int32) (dr : Int64) (md : Int32) (ed : Nat) (n : Nat) (a : Nat) (al : Nat) (ap : Nat) (ak : Nat) (lv : Nat → Int32) (pt : Nat → Int32) (kp : Nat → Int32) (t : Int32) (kd : Nat → Nat) (hn : n ≤ 5) (hrk : RoK (roP g ed n kd) (wA g h R I dr md ed n a al ap ak lv pt kp)) : MM l g yX1_burn cX1_burn 6 (some .int) 5 [.ref a, .int t] (roP g ed n kd) (wA g h R I dr md ed n a al ap ak lv pt kp) (wA g h R I dr md ed n a al ap ak (brL kd (I 3) pt lv kp t n) pt (brK kd pt lv kp t n)) (some (.int (brR kd pt lv kp t n))) := by
  refine MM.of (own := "BurntLetters$Archive") (by decide) rfl (Nat.le_of_ble_eq_true rfl) hrk ?_
  intro p e s m below meth c A hX hr hlk hZ ls hl
  have hx := hX.1.1
  have hb := hX.1.2.1
  have hl : lv_has ls 6 [(0, .ref a), (1, .int t)] := hl
  refine lv_aload_n hx hb dX1_burn_0 rfl (lv_at hl 0 rfl) ?_
  refine PM.ci (PM.runV (As := []) (rest := []) hX (K_X1_living l g h R I dr md ed n a al ap ak lv pt kp (by omega)) (cv_q586 hX ⟨Nat.le_of_ble_eq_true rfl, Nat.le_of_ble_eq_true rfl⟩) hZ.1 trivial (r_recv hX hZ.1 2 rfl rfl) rfl hl.1 rfl (Nat.le_of_ble_eq_true rfl) dX1_burn_1 ⟨Nat.zero_le _, Nat.zero_le _⟩) ?_
  refine lv_istore_n (lv' := [(2, .int (livF lv n)), (0, .ref a), (1, .int t)]) hx hb dX1_burn_4 rfl hl (by decide) rfl (fun ls hl => ?_)
  refine lv_aload_n hx hb dX1_burn_5 rfl (lv_at hl 1 rfl) ?_
  refine PM.ci (PM.runV (As := []) (rest := []) hX (K_X1_leavesAll l g h R I dr md ed n a al ap ak lv pt kp (by omega)) (cv_q590 hX ⟨Nat.le_of_ble_eq_true rfl, Nat.le_of_ble_eq_true rfl⟩) hZ.1 trivial (r_recv hX hZ.1 2 rfl rfl) rfl hl.1 rfl (Nat.le_of_ble_eq_true rfl) dX1_burn_6 ⟨Nat.zero_le _, Nat.zero_le _⟩) ?_
  refine lv_istore_n (lv' := [(3, .int (allF lv n)), (2, .int (livF lv n)), (0, .ref a), (1, .int t)]) hx hb dX1_burn_9 rfl hl (by decide) rfl (fun ls hl => ?_)
  refine lv_iconst (v := 0) hx hb dX1_burn_10 (by decide) ?_
  refine lv_istore (lv' := [(4, .int 0), (3, .int (allF lv n)), (2, .int (livF lv n)), (0, .ref a), (1, .int t)]) hx hb dX1_burn_11 hl (by decide) rfl (fun ls hl => ?_)
  refine W_loop (α := Nat) (P := fun (i : Nat) (H : Heap) (locs : List Loc) (ls : Array Slot) => i ≤ n ∧ Zt g A s.heap (roP g ed n kd) (wA g h R I dr md ed n a al ap ak ((bnF kd pt lv kp (livF lv n) t n i).1) pt ((bnF kd pt lv kp (livF lv n) t n i).2)) H locs ∧ lv_has ls 6 [(0, .ref a), (1, .int t), (2, .int (livF lv n)), (3, .int (allF lv n)), (4, .int (nI i))]) (fun i => n - i) 0 ⟨Nat.zero_le _, hZ.cast (rfl), lv_cast (lv_sub (l' := [(0, .ref a), (1, .int t), (2, .int (livF lv n)), (3, .int (allF lv n)), (4, .int 0)]) hl [3, 4, 2, 1, 0] rfl) (rfl)⟩ ?_
  rintro i H locs ls ⟨hi, hZ, hl⟩ ihi
  refine lv_iload hx hb dX1_burn_13 (lv_at hl 4 rfl) ?_
  refine lv_aload_n hx hb dX1_burn_15 rfl (lv_at hl 0 rfl) ?_
  refine gf_q129 (v := .ref h) hX hZ.1 2 rfl rfl dX1_burn_16 ?_
  refine gf_q140 (v := .ref (R 0)) hX hZ.1 0 rfl rfl dX1_burn_19 ?_
  refine PM.ci (PM.runV (As := []) (rest := [.int (nI i)]) hX (K_J2_size l g (R 0) md ed n) (cv_q355 hX ⟨Nat.le_of_ble_eq_true rfl, Nat.le_of_ble_eq_true rfl⟩) (hZ.1.sub (ws' := (wL g (R 0) md ed n)) [1] rfl) trivial (r_recv hX hZ.1 1 rfl rfl) rfl hl.1 rfl (Nat.le_of_ble_eq_true rfl) dX1_burn_22 ⟨Nat.zero_le _, Nat.zero_le _⟩) ?_
  refine lv_icmp_ge (tgt := 149) hx hb dX1_burn_25 (by decide) (fun c_1 => ?_) (fun c_1 => ?_)
  · have c_1n : n ≤ i := (nI_leI (a := n) (b := i) (by omega) (by omega)).mp c_1
    have ei : n = i := by omega
    subst ei
    refine lv_iload_n hx hb dX1_burn_149 rfl (lv_at hl 3 rfl) ?_
    refine lv_aload_n hx hb dX1_burn_150 rfl (lv_at hl 0 rfl) ?_
    refine PM.ci (PM.runV (As := []) (rest := [.int (allF lv n)]) hX (K_X1_leavesAll l g h R I dr md ed n a al ap ak ((bnF kd pt lv kp (livF lv n) t n n).1) pt ((bnF kd pt lv kp (livF lv n) t n n).2) (by omega)) (cv_q590 hX ⟨Nat.le_of_ble_eq_true rfl, Nat.le_of_ble_eq_true rfl⟩) hZ.1 trivial (r_recv hX hZ.1 2 rfl rfl) rfl hl.1 rfl (Nat.le_of_ble_eq_true rfl) dX1_burn_151 ⟨Nat.zero_le _, Nat.zero_le _⟩) ?_
    refine lv_isub hx hb dX1_burn_154 ?_
    refine lv_istore (lv' := [(4, .int ((allF lv n) - (allF ((bnF kd pt lv kp (livF lv n) t n n).1) n))), (0, .ref a), (1, .int t), (2, .int (livF lv n)), (3, .int (allF lv n))]) hx hb dX1_burn_155 hl (by decide) rfl (fun ls hl => ?_)
    refine lv_iconst (v := 0) hx hb dX1_burn_157 (by decide) ?_
    refine lv_istore (lv' := [(5, .int 0), (4, .int ((allF lv n) - (allF ((bnF kd pt lv kp (livF lv n) t n n).1) n))), (0, .ref a), (1, .int t), (2, .int (livF lv n)), (3, .int (allF lv n))]) hx hb dX1_burn_158 hl (by decide) rfl (fun ls hl => ?_)
    refine W_loop (α := Nat) (P := fun (j : Nat) (H : Heap) (locs : List Loc) (ls : Array Slot) => j ≤ n ∧ Zt g A s.heap (roP g ed n kd) (wA g h R I dr md ed n a al ap ak (spA kd (I 3) n (bnP kd pt lv kp t n).1 j) pt ((bnF kd pt lv kp (livF lv n) t n n).2)) H locs ∧ lv_has ls 6 [(0, .ref a), (1, .int t), (2, .int (livF lv n)), (3, .int (allF lv n)), (4, .int ((allF lv n) - (allF ((bnF kd pt lv kp (livF lv n) t n n).1) n))), (5, .int (nI j))]) (fun j => n - j) 0 ⟨Nat.zero_le _, hZ.cast (rfl), lv_cast (lv_sub (l' := [(0, .ref a), (1, .int t), (2, .int (livF lv n)), (3, .int (allF lv n)), (4, .int ((allF lv n) - (allF ((bnF kd pt lv kp (livF lv n) t n n).1) n))), (5, .int 0)]) hl [2, 3, 4, 5, 1, 0] rfl) (rfl)⟩ ?_
    rintro j H locs ls ⟨hj, hZ, hl⟩ ihj
    refine lv_iload hx hb dX1_burn_160 (lv_at hl 5 rfl) ?_
    refine lv_aload_n hx hb dX1_burn_162 rfl (lv_at hl 0 rfl) ?_
    refine gf_q129 (v := .ref h) hX hZ.1 2 rfl rfl dX1_burn_163 ?_
    refine gf_q140 (v := .ref (R 0)) hX hZ.1 0 rfl rfl dX1_burn_166 ?_
    refine PM.ci (PM.runV (As := []) (rest := [.int (nI j)]) hX (K_J2_size l g (R 0) md ed n) (cv_q355 hX ⟨Nat.le_of_ble_eq_true rfl, Nat.le_of_ble_eq_true rfl⟩) (hZ.1.sub (ws' := (wL g (R 0) md ed n)) [1] rfl) trivial (r_recv hX hZ.1 1 rfl rfl) rfl hl.1 rfl (Nat.le_of_ble_eq_true rfl) dX1_burn_169 ⟨Nat.zero_le _, Nat.zero_le _⟩) ?_
    refine lv_icmp_ge (tgt := 217) hx hb dX1_burn_172 (by decide) (fun c_2 => ?_) (fun c_2 => ?_)
    · have c_2n : n ≤ j := (nI_leI (a := n) (b := j) (by omega) (by omega)).mp c_2
      have ej : n = j := by omega
      subst ej
      refine lv_iload hx hb dX1_burn_217 (lv_at hl 4 rfl) ?_
      exact MM.iret hX hr hlk hZ (rfl) (rfl) dX1_burn_219
    have c_2n : ¬ n ≤ j := fun zz_ => c_2 ((nI_leI (a := n) (b := j) (by omega) (by omega)).mpr zz_)
    refine lv_aload_n hx hb dX1_burn_175 rfl (lv_at hl 0 rfl) ?_
    refine gf_q129 (v := .ref h) hX hZ.1 2 rfl rfl dX1_burn_176 ?_
    refine gf_q140 (v := .ref (R 0)) hX hZ.1 0 rfl rfl dX1_burn_179 ?_
    refine lv_iload hx hb dX1_burn_182 (lv_at hl 5 rfl) ?_
    obtain ⟨ea_3, pa_4, he_5, hk_6, hq_7⟩ := hZ.ro j (by omega)
    refine PM.cr (PM.runV (As := [.int (nI j)]) (rest := []) hX (K_J2_get l g (R 0) md ed n ea_3 j pa_4 (by omega) (by omega) he_5) (cv_q558 hX ⟨Nat.le_of_ble_eq_true rfl, Nat.le_of_ble_eq_true rfl⟩) ((hZ.1.sub (ws' := (wL g (R 0) md ed n)) [1] rfl).app (hq_7.sub (ws' := [(ed, aR g 10 ea_3)]) [0] rfl)) trivial (r_recv hX hZ.1 1 rfl rfl) rfl hl.1 rfl (Nat.le_of_ble_eq_true rfl) dX1_burn_184 ⟨Nat.zero_le _, Nat.zero_le _⟩) ?_
    have hk_6p : kd j < 5 ∧ va_P g.1 vwCl [(pa_4, .inr (6 + kd j, []))] _ := ⟨hk_6, hq_7.sub [1] rfl⟩
    refine r_castP hX q559 hk_6p.1 hk_6p.2 dX1_burn_187 ?_
    refine rv_q624 (rest := []) hX hk_6p.1 hk_6p.2 hl.1 (Nat.le_of_ble_eq_true rfl) (Nat.le_of_ble_eq_true rfl) (Nat.le_of_ble_eq_true rfl) ⟨Nat.zero_le _, Nat.zero_le _⟩ dX1_burn_190 ?_
    refine lv_bif_eq (tgt := 211) hx hb dX1_burn_193 (by decide) (fun c_8 => ?_) (fun c_8 => ?_)
    · refine lv_iinc (v := (nI (j + 1))) (lv' := [(5, .int (nI (j + 1))), (0, .ref a), (1, .int t), (2, .int (livF lv n)), (3, .int (allF lv n)), (4, .int ((allF lv n) - (allF ((bnF kd pt lv kp (livF lv n) t n n).1) n)))]) hx hb dX1_burn_211 hl (k := 5) rfl (nI_1 _) (by decide) rfl (fun ls hl => ?_)
      refine lv_goto (tgt := 160) hx hb dX1_burn_214 (by decide) ?_
      exact ihj (j + 1) _ _ _ ⟨by omega, hZ.cast (by first | (rw [spA, if_neg (by simp_all)]; done) | (rw [spA, if_pos (by simp_all)]; done)), lv_cast (lv_sub (l' := [(0, .ref a), (1, .int t), (2, .int (livF lv n)), (3, .int (allF lv n)), (4, .int ((allF lv n) - (allF ((bnF kd pt lv kp (livF lv n) t n n).1) n))), (5, .int (nI (j + 1)))]) hl [1, 2, 3, 4, 5, 0] rfl) (by rfl)⟩ (by omega)
    refine lv_aload_n hx hb dX1_burn_196 rfl (lv_at hl 0 rfl) ?_
    refine lv_iload hx hb dX1_burn_197 (lv_at hl 5 rfl) ?_
    refine PM.ci (PM.runV (As := [.int (nI j)]) (rest := []) hX (K_X1_lives l g h R I dr md ed n a al ap ak (spA kd (I 3) n (bnP kd pt lv kp t n).1 j) pt ((bnF kd pt lv kp (livF lv n) t n n).2) j (by omega)) (cv_q547 hX ⟨Nat.le_of_ble_eq_true rfl, Nat.le_of_ble_eq_true rfl⟩) hZ.1 trivial (r_recv hX hZ.1 2 rfl rfl) rfl hl.1 rfl (Nat.le_of_ble_eq_true rfl) dX1_burn_199 ⟨Nat.zero_le _, Nat.zero_le _⟩) ?_
    refine lv_bif_eq (tgt := 211) hx hb dX1_burn_202 (by decide) (fun c_9 => ?_) (fun c_9 => ?_)
    · have c_9 := Decidable.of_not_not c_9
      refine lv_iinc (v := (nI (j + 1))) (lv' := [(5, .int (nI (j + 1))), (0, .ref a), (1, .int t), (2, .int (livF lv n)), (3, .int (allF lv n)), (4, .int ((allF lv n) - (allF ((bnF kd pt lv kp (livF lv n) t n n).1) n)))]) hx hb dX1_burn_211 hl (k := 5) rfl (nI_1 _) (by decide) rfl (fun ls hl => ?_)
      refine lv_goto (tgt := 160) hx hb dX1_burn_214 (by decide) ?_
      exact ihj (j + 1) _ _ _ ⟨by omega, hZ.cast (by first | (rw [spA, if_neg (by simp_all)]; done) | (rw [spA, if_pos (by simp_all)]; done)), lv_cast (lv_sub (l' := [(0, .ref a), (1, .int t), (2, .int (livF lv n)), (3, .int (allF lv n)), (4, .int ((allF lv n) - (allF ((bnF kd pt lv kp (livF lv n) t n n).1) n))), (5, .int (nI (j + 1)))]) hl [1, 2, 3, 4, 5, 0] rfl) (by rfl)⟩ (by omega)
    refine lv_aload_n hx hb dX1_burn_205 rfl (lv_at hl 0 rfl) ?_
    refine lv_iload hx hb dX1_burn_206 (lv_at hl 5 rfl) ?_
    refine MM.cvA (MM.runV (As := [.int (nI j)]) (rest := []) hX (K_X1_spread l g h R I dr md ed n a al ap ak (spA kd (I 3) n (bnP kd pt lv kp t n).1 j) pt ((bnF kd pt lv kp (livF lv n) t n n).2) j kd (by omega) (by omega) (hrk.addr adA)) (cv_q636 hX ⟨Nat.le_of_ble_eq_true rfl, Nat.le_of_ble_eq_true rfl⟩) hZ.1 hZ.2.1 hZ.ro (r_recv hX hZ.1 2 rfl rfl) rfl hl.1 rfl (Nat.le_of_ble_eq_true rfl) dX1_burn_208 ⟨Nat.zero_le _, Nat.zero_le _⟩) hZ adA (fun H locs hZ => ?_)
    refine lv_iinc (v := (nI (j + 1))) (lv' := [(5, .int (nI (j + 1))), (0, .ref a), (1, .int t), (2, .int (livF lv n)), (3, .int (allF lv n)), (4, .int ((allF lv n) - (allF ((bnF kd pt lv kp (livF lv n) t n n).1) n)))]) hx hb dX1_burn_211 hl (k := 5) rfl (nI_1 _) (by decide) rfl (fun ls hl => ?_)
    refine lv_goto (tgt := 160) hx hb dX1_burn_214 (by decide) ?_
    exact ihj (j + 1) _ _ _ ⟨by omega, hZ.cast (by first | (rw [spA, if_neg (by simp_all)]; done) | (rw [spA, if_pos (by simp_all)]; done)), lv_cast (lv_sub (l' := [(0, .ref a), (1, .int t), (2, .int (livF lv n)), (3, .int (allF lv n)), (4, .int ((allF lv n) - (allF ((bnF kd pt lv kp (livF lv n) t n n).1) n))), (5, .int (nI (j + 1)))]) hl [1, 2, 3, 4, 5, 0] rfl) (by rfl)⟩ (by omega)
  have c_1n : ¬ n ≤ i := fun zz_ => c_1 ((nI_leI (a := n) (b := i) (by omega) (by omega)).mpr zz_)
  refine lv_aload_n hx hb dX1_burn_28 rfl (lv_at hl 0 rfl) ?_
  refine gf_q123 (v := .ref al) hX hZ.1 2 rfl rfl dX1_burn_29 ?_
  refine lv_iload hx hb dX1_burn_32 (lv_at hl 4 rfl) ?_
  refine r_iald (f := ((bnF kd pt lv kp (livF lv n) t n i).1)) hX hZ.1 3 rfl i (by omega) (by omega) dX1_burn_34 ?_
  refine lv_iconst (v := 1) hx hb dX1_burn_35 (by decide) ?_
  refine lv_iload_n hx hb dX1_burn_36 rfl (lv_at hl 1 rfl) ?_
  refine lv_ishl hx hb dX1_burn_37 ?_
  refine lv_icmp_ne (tgt := 55) hx hb dX1_burn_38 (by decide) (fun c_10 => ?_) (fun c_10 => ?_)
  · refine lv_iconst (v := 0) hx hb dX1_burn_55 (by decide) ?_
    refine lv_istore (lv' := [(5, .int 0), (0, .ref a), (1, .int t), (2, .int (livF lv n)), (3, .int (allF lv n)), (4, .int (nI i))]) hx hb dX1_burn_56 hl (by decide) rfl (fun ls hl => ?_)
    refine lv_iload hx hb dX1_burn_58 (lv_at hl 0 rfl) ?_
    refine lv_if_eq (tgt := 105) hx hb dX1_burn_60 (by decide) (fun c_11 => ?_) (fun c_11 => ?_)
    · refine lv_aload_n hx hb dX1_burn_105 rfl (lv_at hl 1 rfl) ?_
      refine gf_q123 (v := .ref al) hX hZ.1 2 rfl rfl dX1_burn_106 ?_
      refine lv_iload hx hb dX1_burn_109 (lv_at hl 5 rfl) ?_
      refine lv_dup2_11 hx hb dX1_burn_111 rfl rfl ?_
      refine r_iald (f := ((bnF kd pt lv kp (livF lv n) t n i).1)) hX hZ.1 3 rfl i (by omega) (by omega) dX1_burn_112 ?_
      refine lv_aload_n hx hb dX1_burn_113 rfl (lv_at hl 1 rfl) ?_
      refine gf_q129 (v := .ref h) hX hZ.1 2 rfl rfl dX1_burn_114 ?_
      refine gf_q140 (v := .ref (R 0)) hX hZ.1 0 rfl rfl dX1_burn_117 ?_
      refine lv_iload hx hb dX1_burn_120 (lv_at hl 5 rfl) ?_
      obtain ⟨ea_12, pa_13, he_14, hk_15, hq_16⟩ := hZ.ro i (by omega)
      refine PM.cr (PM.runV (As := [.int (nI i)]) (rest := [.int (((bnF kd pt lv kp (livF lv n) t n i).1) i), .int (nI i), .ref al]) hX (K_J2_get l g (R 0) md ed n ea_12 i pa_13 (by omega) (by omega) he_14) (cv_q558 hX ⟨Nat.le_of_ble_eq_true rfl, Nat.le_of_ble_eq_true rfl⟩) ((hZ.1.sub (ws' := (wL g (R 0) md ed n)) [1] rfl).app (hq_16.sub (ws' := [(ed, aR g 10 ea_12)]) [0] rfl)) trivial (r_recv hX hZ.1 1 rfl rfl) rfl hl.1 rfl (Nat.le_of_ble_eq_true rfl) dX1_burn_122 ⟨Nat.zero_le _, Nat.zero_le _⟩) ?_
      have hk_15p : kd i < 5 ∧ va_P g.1 vwCl [(pa_13, .inr (6 + kd i, []))] _ := ⟨hk_15, hq_16.sub [1] rfl⟩
      refine r_castP hX q559 hk_15p.1 hk_15p.2 dX1_burn_125 ?_
      refine lv_aload_n hx hb dX1_burn_128 rfl (lv_at hl 1 rfl) ?_
      refine gf_q123 (v := .ref al) hX hZ.1 2 rfl rfl dX1_burn_129 ?_
      refine lv_iload hx hb dX1_burn_132 (lv_at hl 5 rfl) ?_
      refine r_iald (f := ((bnF kd pt lv kp (livF lv n) t n i).1)) hX hZ.1 3 rfl i (by omega) (by omega) dX1_burn_134 ?_
      refine lv_iload_n hx hb dX1_burn_135 rfl (lv_at hl 2 rfl) ?_
      refine rv_q610 (rest := [.int (((bnF kd pt lv kp (livF lv n) t n i).1) i), .int (nI i), .ref al]) hX hk_15p.1 hk_15p.2 hl.1 (Nat.le_of_ble_eq_true rfl) (Nat.le_of_ble_eq_true rfl) (Nat.le_of_ble_eq_true rfl) ⟨Nat.zero_le _, Nat.zero_le _⟩ dX1_burn_136 ?_
      refine lv_iconst (v := (-1)) hx hb dX1_burn_139 (by decide) ?_
      refine lv_ixor hx hb dX1_burn_140 ?_
      refine lv_iand hx hb dX1_burn_141 ?_
      refine r_iast (f := ((bnF kd pt lv kp (livF lv n) t n i).1)) (x := ((((bnF kd pt lv kp (livF lv n) t n i).1) i) &&& ((bbF (kd i) (((bnF kd pt lv kp (livF lv n) t n i).1) i) t) ^^^ (-1)))) (ws1 := (wA g h R I dr md ed n a al ap ak (upd ((bnF kd pt lv kp (livF lv n) t n i).1) i ((((bnF kd pt lv kp (livF lv n) t n i).1) i) &&& ((bbF (kd i) (((bnF kd pt lv kp (livF lv n) t n i).1) i) t) ^^^ (-1)))) pt ((bnF kd pt lv kp (livF lv n) t n i).2))) hX hZ 3 rfl i (by omega) (by omega) dX1_burn_142 rfl (fun H locs hZ => ?_)
      refine lv_iinc (v := (nI (i + 1))) (lv' := [(4, .int (nI (i + 1))), (5, .int 0), (0, .ref a), (1, .int t), (2, .int (livF lv n)), (3, .int (allF lv n))]) hx hb dX1_burn_143 hl (k := 5) rfl (nI_1 _) (by decide) rfl (fun ls hl => ?_)
      refine lv_goto (tgt := 13) hx hb dX1_burn_146 (by decide) ?_
      exact ihi (i + 1) _ _ _ ⟨by omega, hZ.cast (by first | (rw [bnF, bnS, if_neg (by simp_all)]; done) | (rw [bnF, bnS, if_pos (by simp_all)]; done)), lv_cast (lv_sub (l' := [(0, .ref a), (1, .int t), (2, .int (livF lv n)), (3, .int (allF lv n)), (4, .int (nI (i + 1)))]) hl [2, 3, 4, 5, 0] rfl) (by rfl)⟩ (by omega)
    exact absurd c_11 (by decide)
  refine lv_aload_n hx hb dX1_burn_41 rfl (lv_at hl 0 rfl) ?_
  refine lv_iload hx hb dX1_burn_42 (lv_at hl 4 rfl) ?_
  refine lv_iload_n hx hb dX1_burn_44 rfl (lv_at hl 2 rfl) ?_
  refine PM.ci (PM.runV (As := [.int (nI i), .int (livF lv n)]) (rest := []) hX (K_X1_isPointedTo l g h R I dr md ed n a al ap ak ((bnF kd pt lv kp (livF lv n) t n i).1) pt ((bnF kd pt lv kp (livF lv n) t n i).2) (nI i) (livF lv n) (by omega)) (cv_q594 hX ⟨Nat.le_of_ble_eq_true rfl, Nat.le_of_ble_eq_true rfl⟩) hZ.1 trivial (r_recv hX hZ.1 2 rfl rfl) rfl hl.1 rfl (Nat.le_of_ble_eq_true rfl) dX1_burn_45 ⟨Nat.zero_le _, Nat.zero_le _⟩) ?_
  refine lv_if_eq (tgt := 55) hx hb dX1_burn_48 (by decide) (fun c_17 => ?_) (fun c_17 => ?_)
  · refine lv_iconst (v := 0) hx hb dX1_burn_55 (by decide) ?_
    refine lv_istore (lv' := [(5, .int 0), (0, .ref a), (1, .int t), (2, .int (livF lv n)), (3, .int (allF lv n)), (4, .int (nI i))]) hx hb dX1_burn_56 hl (by decide) rfl (fun ls hl => ?_)
    refine lv_iload hx hb dX1_burn_58 (lv_at hl 0 rfl) ?_
    refine lv_if_eq (tgt := 105) hx hb dX1_burn_60 (by decide) (fun c_18 => ?_) (fun c_18 => ?_)
    · refine lv_aload_n hx hb dX1_burn_105 rfl (lv_at hl 1 rfl) ?_
      refine gf_q123 (v := .ref al) hX hZ.1 2 rfl rfl dX1_burn_106 ?_
      refine lv_iload hx hb dX1_burn_109 (lv_at hl 5 rfl) ?_
      refine lv_dup2_11 hx hb dX1_burn_111 rfl rfl ?_
      refine r_iald (f := ((bnF kd pt lv kp (livF lv n) t n i).1)) hX hZ.1 3 rfl i (by omega) (by omega) dX1_burn_112 ?_
      refine lv_aload_n hx hb dX1_burn_113 rfl (lv_at hl 1 rfl) ?_
      refine gf_q129 (v := .ref h) hX hZ.1 2 rfl rfl dX1_burn_114 ?_
      refine gf_q140 (v := .ref (R 0)) hX hZ.1 0 rfl rfl dX1_burn_117 ?_
      refine lv_iload hx hb dX1_burn_120 (lv_at hl 5 rfl) ?_
      obtain ⟨ea_19, pa_20, he_21, hk_22, hq_23⟩ := hZ.ro i (by omega)
      refine PM.cr (PM.runV (As := [.int (nI i)]) (rest := [.int (((bnF kd pt lv kp (livF lv n) t n i).1) i), .int (nI i), .ref al]) hX (K_J2_get l g (R 0) md ed n ea_19 i pa_20 (by omega) (by omega) he_21) (cv_q558 hX ⟨Nat.le_of_ble_eq_true rfl, Nat.le_of_ble_eq_true rfl⟩) ((hZ.1.sub (ws' := (wL g (R 0) md ed n)) [1] rfl).app (hq_23.sub (ws' := [(ed, aR g 10 ea_19)]) [0] rfl)) trivial (r_recv hX hZ.1 1 rfl rfl) rfl hl.1 rfl (Nat.le_of_ble_eq_true rfl) dX1_burn_122 ⟨Nat.zero_le _, Nat.zero_le _⟩) ?_
      have hk_22p : kd i < 5 ∧ va_P g.1 vwCl [(pa_20, .inr (6 + kd i, []))] _ := ⟨hk_22, hq_23.sub [1] rfl⟩
      refine r_castP hX q559 hk_22p.1 hk_22p.2 dX1_burn_125 ?_
      refine lv_aload_n hx hb dX1_burn_128 rfl (lv_at hl 1 rfl) ?_
      refine gf_q123 (v := .ref al) hX hZ.1 2 rfl rfl dX1_burn_129 ?_
      refine lv_iload hx hb dX1_burn_132 (lv_at hl 5 rfl) ?_
      refine r_iald (f := ((bnF kd pt lv kp (livF lv n) t n i).1)) hX hZ.1 3 rfl i (by omega) (by omega) dX1_burn_134 ?_
      refine lv_iload_n hx hb dX1_burn_135 rfl (lv_at hl 2 rfl) ?_
      refine rv_q610 (rest := [.int (((bnF kd pt lv kp (livF lv n) t n i).1) i), .int (nI i), .ref al]) hX hk_22p.1 hk_22p.2 hl.1 (Nat.le_of_ble_eq_true rfl) (Nat.le_of_ble_eq_true rfl) (Nat.le_of_ble_eq_true rfl) ⟨Nat.zero_le _, Nat.zero_le _⟩ dX1_burn_136 ?_
      refine lv_iconst (v := (-1)) hx hb dX1_burn_139 (by decide) ?_
      refine lv_ixor hx hb dX1_burn_140 ?_
      refine lv_iand hx hb dX1_burn_141 ?_
      refine r_iast (f := ((bnF kd pt lv kp (livF lv n) t n i).1)) (x := ((((bnF kd pt lv kp (livF lv n) t n i).1) i) &&& ((bbF (kd i) (((bnF kd pt lv kp (livF lv n) t n i).1) i) t) ^^^ (-1)))) (ws1 := (wA g h R I dr md ed n a al ap ak (upd ((bnF kd pt lv kp (livF lv n) t n i).1) i ((((bnF kd pt lv kp (livF lv n) t n i).1) i) &&& ((bbF (kd i) (((bnF kd pt lv kp (livF lv n) t n i).1) i) t) ^^^ (-1)))) pt ((bnF kd pt lv kp (livF lv n) t n i).2))) hX hZ 3 rfl i (by omega) (by omega) dX1_burn_142 rfl (fun H locs hZ => ?_)
      refine lv_iinc (v := (nI (i + 1))) (lv' := [(4, .int (nI (i + 1))), (5, .int 0), (0, .ref a), (1, .int t), (2, .int (livF lv n)), (3, .int (allF lv n))]) hx hb dX1_burn_143 hl (k := 5) rfl (nI_1 _) (by decide) rfl (fun ls hl => ?_)
      refine lv_goto (tgt := 13) hx hb dX1_burn_146 (by decide) ?_
      exact ihi (i + 1) _ _ _ ⟨by omega, hZ.cast (by first | (rw [bnF, bnS, if_neg (by simp_all)]; done) | (rw [bnF, bnS, if_pos (by simp_all)]; done)), lv_cast (lv_sub (l' := [(0, .ref a), (1, .int t), (2, .int (livF lv n)), (3, .int (allF lv n)), (4, .int (nI (i + 1)))]) hl [2, 3, 4, 5, 0] rfl) (by rfl)⟩ (by omega)
    exact absurd c_18 (by decide)
  refine lv_iconst (v := 1) hx hb dX1_burn_51 (by decide) ?_
  refine lv_goto (tgt := 56) hx hb dX1_burn_52 (by decide) ?_
  refine lv_istore (lv' := [(5, .int 1), (0, .ref a), (1, .int t), (2, .int (livF lv n)), (3, .int (allF lv n)), (4, .int (nI i))]) hx hb dX1_burn_56 hl (by decide) rfl (fun ls hl => ?_)
  refine lv_iload hx hb dX1_burn_58 (lv_at hl 0 rfl) ?_
  refine lv_if_eq (tgt := 105) hx hb dX1_burn_60 (by decide) (fun c_24 => ?_) (fun c_24 => ?_)
  · exact absurd c_24 (by decide)
  refine lv_aload_n hx hb dX1_burn_63 rfl (lv_at hl 1 rfl) ?_
  refine gf_q127 (v := .ref ak) hX hZ.1 2 rfl rfl dX1_burn_64 ?_
  refine lv_iload hx hb dX1_burn_67 (lv_at hl 5 rfl) ?_
  refine r_iald (f := ((bnF kd pt lv kp (livF lv n) t n i).2)) hX hZ.1 5 rfl i (by omega) (by omega) dX1_burn_69 ?_
  refine lv_aload_n hx hb dX1_burn_70 rfl (lv_at hl 1 rfl) ?_
  refine gf_q129 (v := .ref h) hX hZ.1 2 rfl rfl dX1_burn_71 ?_
  refine gf_q140 (v := .ref (R 0)) hX hZ.1 0 rfl rfl dX1_burn_74 ?_
  refine lv_iload hx hb dX1_burn_77 (lv_at hl 5 rfl) ?_
  obtain ⟨ea_25, pa_26, he_27, hk_28, hq_29⟩ := hZ.ro i (by omega)
  refine PM.cr (PM.runV (As := [.int (nI i)]) (rest := [.int (((bnF kd pt lv kp (livF lv n) t n i).2) i)]) hX (K_J2_get l g (R 0) md ed n ea_25 i pa_26 (by omega) (by omega) he_27) (cv_q558 hX ⟨Nat.le_of_ble_eq_true rfl, Nat.le_of_ble_eq_true rfl⟩) ((hZ.1.sub (ws' := (wL g (R 0) md ed n)) [1] rfl).app (hq_29.sub (ws' := [(ed, aR g 10 ea_25)]) [0] rfl)) trivial (r_recv hX hZ.1 1 rfl rfl) rfl hl.1 rfl (Nat.le_of_ble_eq_true rfl) dX1_burn_79 ⟨Nat.zero_le _, Nat.zero_le _⟩) ?_
  have hk_28p : kd i < 5 ∧ va_P g.1 vwCl [(pa_26, .inr (6 + kd i, []))] _ := ⟨hk_28, hq_29.sub [1] rfl⟩
  refine r_castP hX q559 hk_28p.1 hk_28p.2 dX1_burn_82 ?_
  refine rv_q598 (rest := [.int (((bnF kd pt lv kp (livF lv n) t n i).2) i)]) hX hk_28p.1 hk_28p.2 hl.1 (Nat.le_of_ble_eq_true rfl) (Nat.le_of_ble_eq_true rfl) (Nat.le_of_ble_eq_true rfl) ⟨Nat.zero_le _, Nat.zero_le _⟩ dX1_burn_85 ?_
  refine lv_icmp_ge (tgt := 105) hx hb dX1_burn_88 (by decide) (fun c_30 => ?_) (fun c_30 => ?_)
  · refine lv_aload_n hx hb dX1_burn_105 rfl (lv_at hl 1 rfl) ?_
    refine gf_q123 (v := .ref al) hX hZ.1 2 rfl rfl dX1_burn_106 ?_
    refine lv_iload hx hb dX1_burn_109 (lv_at hl 5 rfl) ?_
    refine lv_dup2_11 hx hb dX1_burn_111 rfl rfl ?_
    refine r_iald (f := ((bnF kd pt lv kp (livF lv n) t n i).1)) hX hZ.1 3 rfl i (by omega) (by omega) dX1_burn_112 ?_
    refine lv_aload_n hx hb dX1_burn_113 rfl (lv_at hl 1 rfl) ?_
    refine gf_q129 (v := .ref h) hX hZ.1 2 rfl rfl dX1_burn_114 ?_
    refine gf_q140 (v := .ref (R 0)) hX hZ.1 0 rfl rfl dX1_burn_117 ?_
    refine lv_iload hx hb dX1_burn_120 (lv_at hl 5 rfl) ?_
    obtain ⟨ea_31, pa_32, he_33, hk_34, hq_35⟩ := hZ.ro i (by omega)
    refine PM.cr (PM.runV (As := [.int (nI i)]) (rest := [.int (((bnF kd pt lv kp (livF lv n) t n i).1) i), .int (nI i), .ref al]) hX (K_J2_get l g (R 0) md ed n ea_31 i pa_32 (by omega) (by omega) he_33) (cv_q558 hX ⟨Nat.le_of_ble_eq_true rfl, Nat.le_of_ble_eq_true rfl⟩) ((hZ.1.sub (ws' := (wL g (R 0) md ed n)) [1] rfl).app (hq_35.sub (ws' := [(ed, aR g 10 ea_31)]) [0] rfl)) trivial (r_recv hX hZ.1 1 rfl rfl) rfl hl.1 rfl (Nat.le_of_ble_eq_true rfl) dX1_burn_122 ⟨Nat.zero_le _, Nat.zero_le _⟩) ?_
    have hk_34p : kd i < 5 ∧ va_P g.1 vwCl [(pa_32, .inr (6 + kd i, []))] _ := ⟨hk_34, hq_35.sub [1] rfl⟩
    refine r_castP hX q559 hk_34p.1 hk_34p.2 dX1_burn_125 ?_
    refine lv_aload_n hx hb dX1_burn_128 rfl (lv_at hl 1 rfl) ?_
    refine gf_q123 (v := .ref al) hX hZ.1 2 rfl rfl dX1_burn_129 ?_
    refine lv_iload hx hb dX1_burn_132 (lv_at hl 5 rfl) ?_
    refine r_iald (f := ((bnF kd pt lv kp (livF lv n) t n i).1)) hX hZ.1 3 rfl i (by omega) (by omega) dX1_burn_134 ?_
    refine lv_iload_n hx hb dX1_burn_135 rfl (lv_at hl 2 rfl) ?_
    refine rv_q610 (rest := [.int (((bnF kd pt lv kp (livF lv n) t n i).1) i), .int (nI i), .ref al]) hX hk_34p.1 hk_34p.2 hl.1 (Nat.le_of_ble_eq_true rfl) (Nat.le_of_ble_eq_true rfl) (Nat.le_of_ble_eq_true rfl) ⟨Nat.zero_le _, Nat.zero_le _⟩ dX1_burn_136 ?_
    refine lv_iconst (v := (-1)) hx hb dX1_burn_139 (by decide) ?_
    refine lv_ixor hx hb dX1_burn_140 ?_
    refine lv_iand hx hb dX1_burn_141 ?_
    refine r_iast (f := ((bnF kd pt lv kp (livF lv n) t n i).1)) (x := ((((bnF kd pt lv kp (livF lv n) t n i).1) i) &&& ((bbF (kd i) (((bnF kd pt lv kp (livF lv n) t n i).1) i) t) ^^^ (-1)))) (ws1 := (wA g h R I dr md ed n a al ap ak (upd ((bnF kd pt lv kp (livF lv n) t n i).1) i ((((bnF kd pt lv kp (livF lv n) t n i).1) i) &&& ((bbF (kd i) (((bnF kd pt lv kp (livF lv n) t n i).1) i) t) ^^^ (-1)))) pt ((bnF kd pt lv kp (livF lv n) t n i).2))) hX hZ 3 rfl i (by omega) (by omega) dX1_burn_142 rfl (fun H locs hZ => ?_)
    refine lv_iinc (v := (nI (i + 1))) (lv' := [(4, .int (nI (i + 1))), (5, .int 1), (0, .ref a), (1, .int t), (2, .int (livF lv n)), (3, .int (allF lv n))]) hx hb dX1_burn_143 hl (k := 5) rfl (nI_1 _) (by decide) rfl (fun ls hl => ?_)
    refine lv_goto (tgt := 13) hx hb dX1_burn_146 (by decide) ?_
    exact ihi (i + 1) _ _ _ ⟨by omega, hZ.cast (by first | (rw [bnF, bnS, if_neg (by simp_all)]; done) | (rw [bnF, bnS, if_pos (by simp_all)]; done)), lv_cast (lv_sub (l' := [(0, .ref a), (1, .int t), (2, .int (livF lv n)), (3, .int (allF lv n)), (4, .int (nI (i + 1)))]) hl [2, 3, 4, 5, 0] rfl) (by rfl)⟩ (by omega)
  refine lv_aload_n hx hb dX1_burn_91 rfl (lv_at hl 1 rfl) ?_
  refine gf_q127 (v := .ref ak) hX hZ.1 2 rfl rfl dX1_burn_92 ?_
  refine lv_iload hx hb dX1_burn_95 (lv_at hl 5 rfl) ?_
  refine lv_dup2_11 hx hb dX1_burn_97 rfl rfl ?_
  refine r_iald (f := ((bnF kd pt lv kp (livF lv n) t n i).2)) hX hZ.1 5 rfl i (by omega) (by omega) dX1_burn_98 ?_
  refine lv_iconst (v := 1) hx hb dX1_burn_99 (by decide) ?_
  refine lv_iadd hx hb dX1_burn_100 ?_
  refine r_iast (f := ((bnF kd pt lv kp (livF lv n) t n i).2)) (x := ((((bnF kd pt lv kp (livF lv n) t n i).2) i) + 1)) (ws1 := (wA g h R I dr md ed n a al ap ak ((bnF kd pt lv kp (livF lv n) t n i).1) pt (upd ((bnF kd pt lv kp (livF lv n) t n i).2) i ((((bnF kd pt lv kp (livF lv n) t n i).2) i) + 1)))) hX hZ 5 rfl i (by omega) (by omega) dX1_burn_101 rfl (fun H locs hZ => ?_)
  refine lv_goto (tgt := 143) hx hb dX1_burn_102 (by decide) ?_
  refine lv_iinc (v := (nI (i + 1))) (lv' := [(4, .int (nI (i + 1))), (5, .int 1), (0, .ref a), (1, .int t), (2, .int (livF lv n)), (3, .int (allF lv n))]) hx hb dX1_burn_143 hl (k := 5) rfl (nI_1 _) (by decide) rfl (fun ls hl => ?_)
  refine lv_goto (tgt := 13) hx hb dX1_burn_146 (by decide) ?_
  exact ihi (i + 1) _ _ _ ⟨by omega, hZ.cast (by first | (rw [bnF, bnS, if_neg (by simp_all)]; done) | (rw [bnF, bnS, if_pos (by simp_all)]; done)), lv_cast (lv_sub (l' := [(0, .ref a), (1, .int t), (2, .int (livF lv n)), (3, .int (allF lv n)), (4, .int (nI (i + 1)))]) hl [2, 3, 4, 5, 0] rfl) (by rfl)⟩ (by omega)
