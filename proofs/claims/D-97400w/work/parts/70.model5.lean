/-! THE MODEL, 5 (by program: gen/model5.py) -/
set_option maxHeartbeats 400000 in
set_option maxRecDepth 100000 in
theorem K_X2_burnt (l : Launch) (g : Gx) (h : Nat) (R : Nat → Nat) (J : Nat → Int32) (hs : Int64) (G : Nat → Nat → Int32) (x : Int32) (n_ : Nat) (kd : Nat → Nat) (pt : Nat → Int32) (am : Nat) (hn : n_ ≤ 5) (hJ6 : (J 6) = nI n_) (hrow : RowsOk G n_ kd pt) (hlv : LvOk (G 3) n_) (ham : (J 16) = nI am) (ham2 : am ≤ 5) (hrk : RoK roT (wM g h R J hs G)) : EM l g yX2_burnt cX2_burnt 4 (some .int) 5 [.ref h, .int x] roT (wM g h R J hs G) (fun u => (wM g h R J hs (va_up (va_up (va_up (va_up G 5 (u 5)) 6 (u 6)) 7 (u 7)) 10 (u 10)))) (some (.int (bntR kd (vI J) (vF G pt) n_ am x))) := by
  refine EM.of (own := "BurntLettersModel") (by decide) rfl (Nat.le_of_ble_eq_true rfl) hrk ?_
  intro p e s m below meth c A hX hr hlk hZ ls hl
  have hx := hX.1.1
  have hb := hX.1.2.1
  have hl : lv_has ls 4 [(0, .ref h), (1, .int x)] := hl
  refine lv_iload_n hx hb dX2_burnt_0 rfl (lv_at hl 1 rfl) ?_
  refine lv_i2l (v := x.toInt64) hx hb dX2_burnt_1 rfl ?_
  refine lv_lconst (v := 0) hx hb dX2_burnt_2 (by decide) ?_
  refine lv_aload_n hx hb dX2_burnt_3 rfl (lv_at hl 0 rfl) ?_
  refine gf_q823 (v := .int (J 16)) hX hZ.1 0 rfl rfl dX2_burnt_4 ?_
  refine lv_seti (v := (nI am)) (ham) ?_
  refine lv_iconst (v := 1) hx hb dX2_burnt_7 (by decide) ?_
  refine lv_isub hx hb dX2_burnt_8 ?_
  refine lv_i2l (v := ((nI am) - 1).toInt64) hx hb dX2_burnt_9 rfl ?_
  refine PM.ci (PM.runS (As := [.long x.toInt64, .long 0, .long (((nI am) - 1).toInt64)]) (rest := []) hX (K_X2_in l g x.toInt64 0 (((nI am) - 1).toInt64)) (cs_q900 hX ⟨Nat.le_of_ble_eq_true rfl, Nat.le_of_ble_eq_true rfl⟩) va_P_nil trivial rfl hl.1 rfl (Nat.le_of_ble_eq_true rfl) dX2_burnt_10 ⟨Nat.zero_le _, Nat.zero_le _⟩) ?_
  refine lv_seti (v := (b01 (inP x 0 ((nI am) - 1)))) (inL_c (a := 0) (b := ((nI am) - 1)) (by decide) (rfl)) ?_
  refine lv_bif_ne (tgt := 19) hx hb dX2_burnt_13 (by decide) (fun c_1 => ?_) (fun c_1 => ?_)
  · obtain ⟨xx, hxx, rfl⟩ := file_nat ham2 c_1
    refine lv_aload_n hx hb dX2_burnt_19 rfl (lv_at hl 0 rfl) ?_
    refine PM.ci (PM.runV (As := []) (rest := []) hX (K_X2_lacks l g h R J hs G) (cv_q944 hX ⟨Nat.le_of_ble_eq_true rfl, Nat.le_of_ble_eq_true rfl⟩) hZ.1 trivial (r_recv hX hZ.1 0 rfl rfl) rfl hl.1 rfl (Nat.le_of_ble_eq_true rfl) dX2_burnt_20 ⟨Nat.zero_le _, Nat.zero_le _⟩) ?_
    refine lv_bif_eq (tgt := 29) hx hb dX2_burnt_23 (by decide) (fun c_2 => ?_) (fun c_2 => ?_)
    · refine lv_aload_n hx hb dX2_burnt_29 rfl (lv_at hl 0 rfl) ?_
      refine EM.ciA (EM.runV (As := []) (rest := []) hX (K_X2_layFits l g h R J hs G n_ kd pt am (by omega) (hJ6) (hrow) (hlv) (ham) (by omega) (RoK.tt _)) (cv_q1086 hX ⟨Nat.le_of_ble_eq_true rfl, Nat.le_of_ble_eq_true rfl⟩) hZ.1 hZ.2.1 trivial (r_recv hX hZ.1 0 rfl rfl) rfl hl.1 rfl (Nat.le_of_ble_eq_true rfl) dX2_burnt_30 ⟨Nat.zero_le _, Nat.zero_le _⟩) hZ (fun _ => adM) (fun u_3 H locs hZ => ?_)
      refine lv_istore_n (lv' := [(2, .int (ftC kd (vI J) (vF G pt) n_ am (p6 am))), (0, .ref h), (1, .int (nI xx))]) hx hb dX2_burnt_33 rfl hl (by decide) rfl (fun ls hl => ?_)
      refine lv_iconst (v := 0) hx hb dX2_burnt_34 (by decide) ?_
      refine lv_istore_n (lv' := [(3, .int 0), (2, .int (ftC kd (vI J) (vF G pt) n_ am (p6 am))), (0, .ref h), (1, .int (nI xx))]) hx hb dX2_burnt_35 rfl hl (by decide) rfl (fun ls hl => ?_)
      refine W_loop (α := Nat) (P := fun (i : Nat) (H : Heap) (locs : List Loc) (ls : Array Slot) => i ≤ 6 ∧ sbF (ftB kd (vI J) (vF G pt) n_ am (p6 am) xx) 6 0 = sbF (ftB kd (vI J) (vF G pt) n_ am (p6 am) xx) (6 - i) i ∧ Zt g A s.heap roT (wM g h R J hs (va_up (va_up (va_up (va_up G 5 (u_3 5)) 6 (u_3 6)) 7 (u_3 7)) 10 (ftB kd (vI J) (vF G pt) n_ am (p6 am)))) H locs ∧ lv_has ls 4 [(0, .ref h), (1, .int (nI xx)), (2, .int (ftC kd (vI J) (vF G pt) n_ am (p6 am))), (3, .int (nI i))]) (fun i => 6 - i) 0 ⟨Nat.zero_le _, rfl, hZ.cast (rfl), lv_cast (lv_sub (l' := [(0, .ref h), (1, .int (nI xx)), (2, .int (ftC kd (vI J) (vF G pt) n_ am (p6 am))), (3, .int 0)]) hl [2, 3, 1, 0] rfl) (rfl)⟩ ?_
      rintro i H locs ls ⟨hi, hg, hZ, hl⟩ ihi
      refine lv_iload_n hx hb dX2_burnt_36 rfl (lv_at hl 3 rfl) ?_
      refine lv_bipush (v := 6) hx hb dX2_burnt_37 (by decide) ?_
      refine lv_icmp_ge (tgt := 62) hx hb dX2_burnt_39 (by decide) (fun c_4 => ?_) (fun c_4 => ?_)
      · have c_4n : 6 ≤ i := (nI_leI (a := 6) (b := i) (by omega) (by omega)).mp c_4
        refine lv_iconst (v := (-1)) hx hb dX2_burnt_62 (by decide) ?_
        exact EM.iret hX hr hlk hZ (ws1 := fun u => (wM g h R J hs (va_up (va_up (va_up (va_up G 5 (u 5)) 6 (u 6)) 7 (u 7)) 10 (u 10)))) (va_up (va_up (va_up (va_up G 5 (u_3 5)) 6 (u_3 6)) 7 (u_3 7)) 10 (ftB kd (vI J) (vF G pt) n_ am (p6 am))) (rfl) (by rw [bntR, if_pos c_1, if_neg (fun q => c_2 (vI1.mp q)), ix_nI (show xx < 2 ^ 31 by omega), ← sb_bo, hg, show 6 - i = 0 by omega, sbF]) dX2_burnt_63
      have c_4n : ¬ 6 ≤ i := fun zz_ => c_4 ((nI_leI (a := 6) (b := i) (by omega) (by omega)).mpr zz_)
      refine lv_aload_n hx hb dX2_burnt_42 rfl (lv_at hl 0 rfl) ?_
      refine gf_q825 (v := .ref (R 18)) hX hZ.1 0 rfl rfl dX2_burnt_43 ?_
      refine lv_iload_n hx hb dX2_burnt_46 rfl (lv_at hl 1 rfl) ?_
      refine r_iald (f := (ftB kd (vI J) (vF G pt) n_ am (p6 am))) hX hZ.1 11 rfl xx (by omega) (by omega) dX2_burnt_47 ?_
      refine lv_iconst (v := 1) hx hb dX2_burnt_48 (by decide) ?_
      refine lv_iload_n hx hb dX2_burnt_49 rfl (lv_at hl 3 rfl) ?_
      refine lv_ishl hx hb dX2_burnt_50 ?_
      refine lv_icmp_ne (tgt := 56) hx hb dX2_burnt_51 (by decide) (fun c_5 => ?_) (fun c_5 => ?_)
      · refine lv_iinc (v := (nI (i + 1))) (lv' := [(3, .int (nI (i + 1))), (0, .ref h), (1, .int (nI xx)), (2, .int (ftC kd (vI J) (vF G pt) n_ am (p6 am)))]) hx hb dX2_burnt_56 hl (k := 3) rfl (nI_1 _) (by decide) rfl (fun ls hl => ?_)
        refine lv_goto (tgt := 36) hx hb dX2_burnt_59 (by decide) ?_
        exact ihi (i + 1) _ _ _ ⟨by omega, by rw [hg, show 6 - i = (5 - i) + 1 by omega, sbF, if_neg c_5, show 6 - (i + 1) = 5 - i by omega], hZ.cast (rfl), lv_cast (lv_sub (l' := [(0, .ref h), (1, .int (nI xx)), (2, .int (ftC kd (vI J) (vF G pt) n_ am (p6 am))), (3, .int (nI (i + 1)))]) hl [1, 2, 3, 0] rfl) (by rfl)⟩ (by omega)
      refine lv_iload_n hx hb dX2_burnt_54 rfl (lv_at hl 3 rfl) ?_
      exact EM.iret hX hr hlk hZ (ws1 := fun u => (wM g h R J hs (va_up (va_up (va_up (va_up G 5 (u 5)) 6 (u 6)) 7 (u 7)) 10 (u 10)))) (va_up (va_up (va_up (va_up G 5 (u_3 5)) 6 (u_3 6)) 7 (u_3 7)) 10 (ftB kd (vI J) (vF G pt) n_ am (p6 am))) (rfl) (by rw [bntR, if_pos c_1, if_neg (fun q => c_2 (vI1.mp q)), ix_nI (show xx < 2 ^ 31 by omega), ← sb_bo, hg, show 6 - i = (5 - i) + 1 by omega, sbF, if_pos c_5]) dX2_burnt_55
    refine lv_bipush (v := (-103)) hx hb dX2_burnt_26 (by decide) ?_
    exact EM.iret hX hr hlk hZ (ws1 := fun u => (wM g h R J hs (va_up (va_up (va_up (va_up G 5 (u 5)) 6 (u 6)) 7 (u 7)) 10 (u 10)))) G (rfl) (by rw [bntR, if_pos c_1, if_pos (vI1.mpr c_2)]) dX2_burnt_28
  refine lv_bipush (v := (-101)) hx hb dX2_burnt_16 (by decide) ?_
  exact EM.iret hX hr hlk hZ (ws1 := fun u => (wM g h R J hs (va_up (va_up (va_up (va_up G 5 (u 5)) 6 (u 6)) 7 (u 7)) 10 (u 10)))) G (rfl) (by rw [bntR, if_neg c_1]) dX2_burnt_18

set_option maxHeartbeats 400000 in
set_option maxRecDepth 100000 in
theorem K_X2_file (l : Launch) (g : Gx) (h : Nat) (R : Nat → Nat) (J : Nat → Int32) (hs : Int64) (G : Nat → Nat → Int32) (k : Int32) (t : Int32) (n_ : Nat) (hn : n_ ≤ 5) (hJ6 : (J 6) = nI n_) (hrk : RoK roT (wM g h R J hs G)) : MM l g yX2_file cX2_file 3 (some .int) 2 [.ref h, .int k, .int t] roT (wM g h R J hs G) (wM g h R (mfiJ J G n_ k t) hs (mfiG J G n_ k t)) (some (.int (mfiR J G n_ k t))) := by
  refine MM.of (own := "BurntLettersModel") (by decide) rfl (Nat.le_of_ble_eq_true rfl) hrk ?_
  intro p e s m below meth c A hX hr hlk hZ ls hl
  have hx := hX.1.1
  have hb := hX.1.2.1
  have hl : lv_has ls 3 [(0, .ref h), (1, .int k), (2, .int t)] := hl
  refine lv_iload_n hx hb dX2_file_0 rfl (lv_at hl 1 rfl) ?_
  refine lv_i2l (v := k.toInt64) hx hb dX2_file_1 rfl ?_
  refine lv_lconst (v := 0) hx hb dX2_file_2 (by decide) ?_
  refine lv_ldc2 (v := 4) hx hb hX.1.2.2.2.1 (hX.w q943) dX2_file_3 ?_
  refine PM.ci (PM.runS (As := [.long k.toInt64, .long 0, .long 4]) (rest := []) hX (K_X2_in l g k.toInt64 0 4) (cs_q900 hX ⟨Nat.le_of_ble_eq_true rfl, Nat.le_of_ble_eq_true rfl⟩) va_P_nil trivial rfl hl.1 rfl (Nat.le_of_ble_eq_true rfl) dX2_file_6 ⟨Nat.zero_le _, Nat.zero_le _⟩) ?_
  refine lv_seti (v := (b01 (inP k 0 4))) (inL_c (a := 0) (b := 4) (by decide) (by decide)) ?_
  refine lv_bif_ne (tgt := 15) hx hb dX2_file_9 (by decide) (fun c_1 => ?_) (fun c_1 => ?_)
  · refine lv_iload_n hx hb dX2_file_15 rfl (lv_at hl 2 rfl) ?_
    refine PM.ci (PM.runS (As := [.int t]) (rest := []) hX (K_X2_isLetter l g t) (cs_q927 hX ⟨Nat.le_of_ble_eq_true rfl, Nat.le_of_ble_eq_true rfl⟩) va_P_nil trivial rfl hl.1 rfl (Nat.le_of_ble_eq_true rfl) dX2_file_16 ⟨Nat.zero_le _, Nat.zero_le _⟩) ?_
    refine lv_bif_ne (tgt := 25) hx hb dX2_file_19 (by decide) (fun c_2 => ?_) (fun c_2 => ?_)
    · refine lv_aload_n hx hb dX2_file_25 rfl (lv_at hl 0 rfl) ?_
      refine PM.ci (PM.runV (As := []) (rest := []) hX (K_X2_lacks l g h R J hs G) (cv_q944 hX ⟨Nat.le_of_ble_eq_true rfl, Nat.le_of_ble_eq_true rfl⟩) hZ.1 trivial (r_recv hX hZ.1 0 rfl rfl) rfl hl.1 rfl (Nat.le_of_ble_eq_true rfl) dX2_file_26 ⟨Nat.zero_le _, Nat.zero_le _⟩) ?_
      refine lv_bif_ne (tgt := 48) hx hb dX2_file_29 (by decide) (fun c_3 => ?_) (fun c_3 => ?_)
      · refine lv_bipush (v := (-103)) hx hb dX2_file_48 (by decide) ?_
        exact MM.iret hX hr hlk hZ (by first | (simp only [mfiJ, mfiG, if_pos c_1, if_pos c_2, if_pos c_3]; done) | (simp only [mfiJ, mfiG, if_pos c_1, if_pos c_2, if_pos c_3]; rfl)) (by first | (simp only [mfiR, if_pos c_1, if_pos c_2, if_pos c_3]; done)) dX2_file_50
      refine lv_aload_n hx hb dX2_file_32 rfl (lv_at hl 0 rfl) ?_
      refine lv_aload_n hx hb dX2_file_33 rfl (lv_at hl 0 rfl) ?_
      refine gf_q815 (v := .ref (R 8)) hX hZ.1 0 rfl rfl dX2_file_34 ?_
      refine lv_iload_n hx hb dX2_file_37 rfl (lv_at hl 2 rfl) ?_
      refine PM.ci (PM.runV (As := [.ref (R 8), .int t]) (rest := []) hX (K_X2_fullness l g h R J hs (R 8) (G 3) t n_ (by omega) (hJ6)) (cv_q935 hX ⟨Nat.le_of_ble_eq_true rfl, Nat.le_of_ble_eq_true rfl⟩) (hZ.1.sub (ws' := (wF g h R J hs (R 8) (G 3))) [0, 4] rfl) trivial (r_recv hX hZ.1 0 rfl rfl) rfl hl.1 rfl (Nat.le_of_ble_eq_true rfl) dX2_file_38 ⟨Nat.zero_le _, Nat.zero_le _⟩) ?_
      refine lv_aload_n hx hb dX2_file_41 rfl (lv_at hl 0 rfl) ?_
      refine gf_q809 (v := .int (J 2)) hX hZ.1 0 rfl rfl dX2_file_42 ?_
      refine lv_icmp_lt (tgt := 51) hx hb dX2_file_45 (by decide) (fun c_4 => ?_) (fun c_4 => ?_)
      · refine lv_aload_n hx hb dX2_file_51 rfl (lv_at hl 0 rfl) ?_
        refine gf_q813 (v := .int (J 6)) hX hZ.1 0 rfl rfl dX2_file_52 ?_
        refine lv_seti (v := (nI n_)) (hJ6) ?_
        refine lv_iconst (v := 5) hx hb dX2_file_55 (by decide) ?_
        refine lv_icmp_ne (tgt := 62) hx hb dX2_file_56 (by decide) (fun c_5 => ?_) (fun c_5 => ?_)
        · have c_5n : ¬ n_ = 5 := fun zz_ => c_5 ((nI_eq (a := n_) (b := 5) (by omega) (by omega)).mpr zz_)
          refine lv_aload_n hx hb dX2_file_62 rfl (lv_at hl 0 rfl) ?_
          refine gf_q814 (v := .ref (R 7)) hX hZ.1 0 rfl rfl dX2_file_63 ?_
          refine lv_iconst (v := 2) hx hb dX2_file_66 (by decide) ?_
          refine lv_aload_n hx hb dX2_file_67 rfl (lv_at hl 0 rfl) ?_
          refine gf_q813 (v := .int (J 6)) hX hZ.1 0 rfl rfl dX2_file_68 ?_
          refine lv_seti (v := (nI n_)) (hJ6) ?_
          refine lv_imul hx hb dX2_file_71 ?_
          refine lv_seti (v := (nI (2 * n_))) (pk_mul _ _) ?_
          refine lv_iload_n hx hb dX2_file_72 rfl (lv_at hl 1 rfl) ?_
          refine r_iast (f := (G 2)) (x := k) (ws1 := (wM g h R J hs (va_up G 2 (upd (G 2) (2 * n_) k)))) hX hZ 3 rfl (2 * n_) (by omega) (by omega) dX2_file_73 rfl (fun H locs hZ => ?_)
          refine lv_aload_n hx hb dX2_file_74 rfl (lv_at hl 0 rfl) ?_
          refine gf_q814 (v := .ref (R 7)) hX hZ.1 0 rfl rfl dX2_file_75 ?_
          refine lv_iconst (v := 2) hx hb dX2_file_78 (by decide) ?_
          refine lv_aload_n hx hb dX2_file_79 rfl (lv_at hl 0 rfl) ?_
          refine gf_q813 (v := .int (J 6)) hX hZ.1 0 rfl rfl dX2_file_80 ?_
          refine lv_seti (v := (nI n_)) (hJ6) ?_
          refine lv_imul hx hb dX2_file_83 ?_
          refine lv_seti (v := (nI (2 * n_))) (pk_mul _ _) ?_
          refine lv_iconst (v := 1) hx hb dX2_file_84 (by decide) ?_
          refine lv_iadd hx hb dX2_file_85 ?_
          refine lv_seti (v := (nI ((2 * n_) + 1))) (nI_add _ _) ?_
          refine lv_iconst (v := (-1)) hx hb dX2_file_86 (by decide) ?_
          refine r_iast (f := (upd (G 2) (2 * n_) k)) (x := (-1)) (ws1 := (wM g h R J hs (va_up G 2 (upd (upd (G 2) (2 * n_) k) ((2 * n_) + 1) (-1))))) hX hZ 3 rfl ((2 * n_) + 1) (by omega) (by omega) dX2_file_87 rfl (fun H locs hZ => ?_)
          refine lv_aload_n hx hb dX2_file_88 rfl (lv_at hl 0 rfl) ?_
          refine gf_q815 (v := .ref (R 8)) hX hZ.1 0 rfl rfl dX2_file_89 ?_
          refine lv_aload_n hx hb dX2_file_92 rfl (lv_at hl 0 rfl) ?_
          refine gf_q813 (v := .int (J 6)) hX hZ.1 0 rfl rfl dX2_file_93 ?_
          refine lv_seti (v := (nI n_)) (hJ6) ?_
          refine lv_iconst (v := 1) hx hb dX2_file_96 (by decide) ?_
          refine lv_iload_n hx hb dX2_file_97 rfl (lv_at hl 2 rfl) ?_
          refine lv_ishl hx hb dX2_file_98 ?_
          refine r_iast (f := (G 3)) (x := ((1 : Int32) <<< (t &&& 31))) (ws1 := (wM g h R J hs (va_up (va_up G 2 (upd (upd (G 2) (2 * n_) k) ((2 * n_) + 1) (-1))) 3 (upd (G 3) n_ ((1 : Int32) <<< (t &&& 31)))))) hX hZ 4 rfl n_ (by omega) (by omega) dX2_file_99 rfl (fun H locs hZ => ?_)
          refine lv_aload_n hx hb dX2_file_100 rfl (lv_at hl 0 rfl) ?_
          refine gf_q816 (v := .ref (R 9)) hX hZ.1 0 rfl rfl dX2_file_101 ?_
          refine lv_aload_n hx hb dX2_file_104 rfl (lv_at hl 0 rfl) ?_
          refine gf_q813 (v := .int (J 6)) hX hZ.1 0 rfl rfl dX2_file_105 ?_
          refine lv_seti (v := (nI n_)) (hJ6) ?_
          refine lv_iconst (v := 0) hx hb dX2_file_108 (by decide) ?_
          refine r_iast (f := (G 4)) (x := 0) (ws1 := (wM g h R J hs (va_up (va_up (va_up G 2 (upd (upd (G 2) (2 * n_) k) ((2 * n_) + 1) (-1))) 3 (upd (G 3) n_ ((1 : Int32) <<< (t &&& 31)))) 4 (upd (G 4) n_ 0)))) hX hZ 5 rfl n_ (by omega) (by omega) dX2_file_109 rfl (fun H locs hZ => ?_)
          refine lv_aload_n hx hb dX2_file_110 rfl (lv_at hl 0 rfl) ?_
          refine lv_dup hx hb dX2_file_111 rfl ?_
          refine gf_q813 (v := .int (J 6)) hX hZ.1 0 rfl rfl dX2_file_112 ?_
          refine lv_seti (v := (nI n_)) (hJ6) ?_
          refine lv_iconst (v := 1) hx hb dX2_file_115 (by decide) ?_
          refine lv_iadd hx hb dX2_file_116 ?_
          refine lv_seti (v := (nI (n_ + 1))) (nI_add _ _) ?_
          refine pf_q813 (ws1 := (wM g h R (upd J 6 (nI (n_ + 1))) hs (va_up (va_up (va_up G 2 (upd (upd (G 2) (2 * n_) k) ((2 * n_) + 1) (-1))) 3 (upd (G 3) n_ ((1 : Int32) <<< (t &&& 31)))) 4 (upd (G 4) n_ 0)))) hX hZ 0 rfl (Nat.le_of_ble_eq_true rfl) rfl dX2_file_117 (fun H locs hZ => ?_)
          refine lv_aload_n hx hb dX2_file_120 rfl (lv_at hl 0 rfl) ?_
          refine gf_q813 (v := .int (nI (n_ + 1))) hX hZ.1 0 rfl rfl dX2_file_121 ?_
          refine lv_iconst (v := 1) hx hb dX2_file_124 (by decide) ?_
          refine lv_isub hx hb dX2_file_125 ?_
          refine lv_seti (v := (nI n_)) (nI_pred n_) ?_
          exact MM.iret hX hr hlk hZ (by first | (simp only [mfiJ, mfiG, if_pos c_1, if_pos c_2, if_neg c_3, if_pos c_4, if_neg c_5]; done) | (simp only [mfiJ, mfiG, if_pos c_1, if_pos c_2, if_neg c_3, if_pos c_4, if_neg c_5]; rfl)) (by first | (simp only [mfiR, if_pos c_1, if_pos c_2, if_neg c_3, if_pos c_4, if_neg c_5]; done)) dX2_file_126
        have c_5n : n_ = 5 := (nI_eq (a := n_) (b := 5) (by omega) (by omega)).mp c_5
        refine lv_bipush (v := (-104)) hx hb dX2_file_59 (by decide) ?_
        exact MM.iret hX hr hlk hZ (by first | (simp only [mfiJ, mfiG, if_pos c_1, if_pos c_2, if_neg c_3, if_pos c_4, if_pos c_5]; done) | (simp only [mfiJ, mfiG, if_pos c_1, if_pos c_2, if_neg c_3, if_pos c_4, if_pos c_5]; rfl)) (by first | (simp only [mfiR, if_pos c_1, if_pos c_2, if_neg c_3, if_pos c_4, if_pos c_5]; done)) dX2_file_61
      refine lv_bipush (v := (-103)) hx hb dX2_file_48 (by decide) ?_
      exact MM.iret hX hr hlk hZ (by first | (simp only [mfiJ, mfiG, if_pos c_1, if_pos c_2, if_neg c_3, if_neg c_4]; done) | (simp only [mfiJ, mfiG, if_pos c_1, if_pos c_2, if_neg c_3, if_neg c_4]; rfl)) (by first | (simp only [mfiR, if_pos c_1, if_pos c_2, if_neg c_3, if_neg c_4]; done)) dX2_file_50
    refine lv_bipush (v := (-101)) hx hb dX2_file_22 (by decide) ?_
    exact MM.iret hX hr hlk hZ (by first | (simp only [mfiJ, mfiG, if_pos c_1, if_neg c_2]; done) | (simp only [mfiJ, mfiG, if_pos c_1, if_neg c_2]; rfl)) (by first | (simp only [mfiR, if_pos c_1, if_neg c_2]; done)) dX2_file_24
  refine lv_bipush (v := (-102)) hx hb dX2_file_12 (by decide) ?_
  exact MM.iret hX hr hlk hZ (by first | (simp only [mfiJ, mfiG, if_neg c_1]; done) | (simp only [mfiJ, mfiG, if_neg c_1]; rfl)) (by first | (simp only [mfiR, if_neg c_1]; done)) dX2_file_14

set_option maxHeartbeats 400000 in
set_option maxRecDepth 100000 in
theorem K_X2_above (l : Launch) (g : Gx) (h : Nat) (R : Nat → Nat) (J : Nat → Int32) (hs : Int64) (G : Nat → Nat → Int32) (x : Nat) (n_ : Nat) (hn : n_ ≤ 5) (hJ6 : (J 6) = nI n_) (hx : x ≤ 9) : PM l g yX2_above cX2_above 5 (some .int) 1 [.ref h, .int (nI x)] roT (wM g h R J hs G) (some (.int (nI (abN (G 5) n_ x 6)))) := by
  refine PM.of (own := "BurntLettersModel") (by decide) rfl (Nat.le_of_ble_eq_true rfl) ?_
  intro p e s m below meth c hX hr hlk hP hro ls hl
  have hx := hX.1.1
  have hb := hX.1.2.1
  have hl : lv_has ls 5 [(0, .ref h), (1, .int (nI x))] := hl
  refine lv_iconst (v := 0) hx hb dX2_above_0 (by decide) ?_
  refine lv_istore_n (lv' := [(2, .int 0), (0, .ref h), (1, .int (nI x))]) hx hb dX2_above_1 rfl hl (by decide) rfl (fun ls hl => ?_)
  refine lv_iconst (v := 0) hx hb dX2_above_2 (by decide) ?_
  refine lv_istore_n (lv' := [(3, .int 0), (2, .int 0), (0, .ref h), (1, .int (nI x))]) hx hb dX2_above_3 rfl hl (by decide) rfl (fun ls hl => ?_)
  refine W_loopP (α := Nat) (P := fun (i : Nat) (ls : Array Slot) => i ≤ 6 ∧ lv_has ls 5 [(0, .ref h), (1, .int (nI x)), (2, .int (nI (abN (G 5) n_ x i))), (3, .int (nI i))]) (fun i => 6 - i) 0 ⟨Nat.zero_le _, lv_cast (lv_sub (l' := [(0, .ref h), (1, .int (nI x)), (2, .int 0), (3, .int 0)]) hl [2, 3, 1, 0] rfl) (rfl)⟩ ?_
  rintro i ls ⟨hi, hl⟩ ihi
  refine lv_iload_n hx hb dX2_above_4 rfl (lv_at hl 3 rfl) ?_
  refine lv_bipush (v := 6) hx hb dX2_above_5 (by decide) ?_
  refine lv_icmp_ge (tgt := 44) hx hb dX2_above_7 (by decide) (fun c_1 => ?_) (fun c_1 => ?_)
  · have c_1n : 6 ≤ i := (nI_leI (a := 6) (b := i) (by omega) (by omega)).mp c_1
    have eii : i = 6 := by omega
    subst eii
    refine lv_iload_n hx hb dX2_above_44 rfl (lv_at hl 2 rfl) ?_
    exact PM.iret hX hr hlk (rfl) dX2_above_45
  have c_1n : ¬ 6 ≤ i := fun zz_ => c_1 ((nI_leI (a := 6) (b := i) (by omega) (by omega)).mpr zz_)
  refine lv_aload_n hx hb dX2_above_10 rfl (lv_at hl 0 rfl) ?_
  refine lv_aload_n hx hb dX2_above_11 rfl (lv_at hl 0 rfl) ?_
  refine gf_q817 (v := .ref (R 10)) hX hP 0 rfl rfl dX2_above_12 ?_
  refine lv_iload_n hx hb dX2_above_15 rfl (lv_at hl 3 rfl) ?_
  refine PM.ci (PM.runV (As := [.ref (R 10), .int (nI i)]) (rest := []) hX (K_X2_fullness l g h R J hs (R 10) (G 5) (nI i) n_ (by omega) (hJ6)) (cv_q935 hX ⟨Nat.le_of_ble_eq_true rfl, Nat.le_of_ble_eq_true rfl⟩) (hP.sub (ws' := (wF g h R J hs (R 10) (G 5))) [0, 6] rfl) trivial (r_recv hX hP 0 rfl rfl) rfl hl.1 rfl (Nat.le_of_ble_eq_true rfl) dX2_above_16 ⟨Nat.zero_le _, Nat.zero_le _⟩) ?_
  have hun := undF_nat (G 5) i n_
  refine lv_seti (v := (nI (undN (G 5) i n_))) (hun.1) ?_
  refine lv_istore (lv' := [(4, .int (nI (undN (G 5) i n_))), (0, .ref h), (1, .int (nI x)), (2, .int (nI (abN (G 5) n_ x i))), (3, .int (nI i))]) hx hb dX2_above_19 hl (by decide) rfl (fun ls hl => ?_)
  refine lv_iload_n hx hb dX2_above_21 rfl (lv_at hl 3 rfl) ?_
  refine lv_iload hx hb dX2_above_22 (lv_at hl 0 rfl) ?_
  refine lv_iload_n hx hb dX2_above_24 rfl (lv_at hl 2 rfl) ?_
  refine lv_icmp_le (tgt := 35) hx hb dX2_above_25 (by decide) (fun c_2 => ?_) (fun c_2 => ?_)
  · have c_2n : (undN (G 5) i n_) ≤ x := (nI_leI (a := (undN (G 5) i n_)) (b := x) (by omega) (by omega)).mp c_2
    refine lv_iconst (v := 0) hx hb dX2_above_35 (by decide) ?_
    refine lv_iadd hx hb dX2_above_36 ?_
    refine lv_seti (v := (nI ((abN (G 5) n_ x i) + 0))) (nI_add _ _) ?_
    refine lv_istore_n (lv' := [(2, .int (nI ((abN (G 5) n_ x i) + 0))), (4, .int (nI (undN (G 5) i n_))), (0, .ref h), (1, .int (nI x)), (3, .int (nI i))]) hx hb dX2_above_37 rfl hl (by decide) rfl (fun ls hl => ?_)
    refine lv_iinc (v := (nI (i + 1))) (lv' := [(3, .int (nI (i + 1))), (2, .int (nI ((abN (G 5) n_ x i) + 0))), (4, .int (nI (undN (G 5) i n_))), (0, .ref h), (1, .int (nI x))]) hx hb dX2_above_38 hl (k := 4) rfl (nI_1 _) (by decide) rfl (fun ls hl => ?_)
    refine lv_goto (tgt := 4) hx hb dX2_above_41 (by decide) ?_
    exact ihi (i + 1) _ ⟨by omega, lv_cast (lv_sub (l' := [(0, .ref h), (1, .int (nI x)), (2, .int (nI ((abN (G 5) n_ x i) + 0))), (3, .int (nI (i + 1)))]) hl [3, 4, 1, 0] rfl) (by first | rfl | (rw [abN, show undN (G 5) i n_ - x = 0 by omega]))⟩ (by omega)
  have c_2n : ¬ (undN (G 5) i n_) ≤ x := fun zz_ => c_2 ((nI_leI (a := (undN (G 5) i n_)) (b := x) (by omega) (by omega)).mpr zz_)
  refine lv_iload hx hb dX2_above_28 (lv_at hl 0 rfl) ?_
  refine lv_iload_n hx hb dX2_above_30 rfl (lv_at hl 2 rfl) ?_
  refine lv_isub hx hb dX2_above_31 ?_
  refine lv_seti (v := (nI (undN (G 5) i n_ - x))) (pk_sub (by omega)) ?_
  refine lv_goto (tgt := 36) hx hb dX2_above_32 (by decide) ?_
  refine lv_iadd hx hb dX2_above_36 ?_
  refine lv_seti (v := (nI ((abN (G 5) n_ x i) + (undN (G 5) i n_ - x)))) (nI_add _ _) ?_
  refine lv_istore_n (lv' := [(2, .int (nI ((abN (G 5) n_ x i) + (undN (G 5) i n_ - x)))), (4, .int (nI (undN (G 5) i n_))), (0, .ref h), (1, .int (nI x)), (3, .int (nI i))]) hx hb dX2_above_37 rfl hl (by decide) rfl (fun ls hl => ?_)
  refine lv_iinc (v := (nI (i + 1))) (lv' := [(3, .int (nI (i + 1))), (2, .int (nI ((abN (G 5) n_ x i) + (undN (G 5) i n_ - x)))), (4, .int (nI (undN (G 5) i n_))), (0, .ref h), (1, .int (nI x))]) hx hb dX2_above_38 hl (k := 4) rfl (nI_1 _) (by decide) rfl (fun ls hl => ?_)
  refine lv_goto (tgt := 4) hx hb dX2_above_41 (by decide) ?_
  exact ihi (i + 1) _ ⟨by omega, lv_cast (lv_sub (l' := [(0, .ref h), (1, .int (nI x)), (2, .int (nI ((abN (G 5) n_ x i) + (undN (G 5) i n_ - x)))), (3, .int (nI (i + 1)))]) hl [3, 4, 1, 0] rfl) (by first | rfl | (rw [abN, show undN (G 5) i n_ - x = 0 by omega]))⟩ (by omega)

set_option maxHeartbeats 400000 in
set_option maxRecDepth 100000 in
theorem K_X2_renameNow (l : Launch) (g : Gx) (h : Nat) (R : Nat → Nat) (J : Nat → Int32) (hs : Int64) (G : Nat → Nat → Int32) (fi : Nat) (u : Int32) (t : Int32) (hf : fi < 5) (hrk : RoK roT (wM g h R J hs G)) : MM l g yX2_renameNow cX2_renameNow 4 none 0 [.ref h, .int (nI fi), .int u, .int t] roT (wM g h R J hs G) (wM g h R J hs (va_up G 5 (rnF (G 5) fi u t))) none := by
  refine MM.of (own := "BurntLettersModel") (by decide) rfl (Nat.le_of_ble_eq_true rfl) hrk ?_
  intro p e s m below meth c A hX hr hlk hZ ls hl
  have hx := hX.1.1
  have hb := hX.1.2.1
  have hl : lv_has ls 4 [(0, .ref h), (1, .int (nI fi)), (2, .int u), (3, .int t)] := hl
  refine lv_aload_n hx hb dX2_renameNow_0 rfl (lv_at hl 0 rfl) ?_
  refine gf_q817 (v := .ref (R 10)) hX hZ.1 0 rfl rfl dX2_renameNow_1 ?_
  refine lv_iload_n hx hb dX2_renameNow_4 rfl (lv_at hl 1 rfl) ?_
  refine lv_aload_n hx hb dX2_renameNow_5 rfl (lv_at hl 0 rfl) ?_
  refine gf_q817 (v := .ref (R 10)) hX hZ.1 0 rfl rfl dX2_renameNow_6 ?_
  refine lv_iload_n hx hb dX2_renameNow_9 rfl (lv_at hl 1 rfl) ?_
  refine r_iald (f := (G 5)) hX hZ.1 6 rfl fi (by omega) (by omega) dX2_renameNow_10 ?_
  refine lv_iconst (v := 1) hx hb dX2_renameNow_11 (by decide) ?_
  refine lv_iload_n hx hb dX2_renameNow_12 rfl (lv_at hl 2 rfl) ?_
  refine lv_ishl hx hb dX2_renameNow_13 ?_
  refine lv_iconst (v := (-1)) hx hb dX2_renameNow_14 (by decide) ?_
  refine lv_ixor hx hb dX2_renameNow_15 ?_
  refine lv_iand hx hb dX2_renameNow_16 ?_
  refine lv_iconst (v := 1) hx hb dX2_renameNow_17 (by decide) ?_
  refine lv_iload_n hx hb dX2_renameNow_18 rfl (lv_at hl 3 rfl) ?_
  refine lv_ishl hx hb dX2_renameNow_19 ?_
  refine lv_ior hx hb dX2_renameNow_20 ?_
  refine r_iast (f := (G 5)) (x := ((((G 5) fi) &&& (((1 : Int32) <<< (u &&& 31)) ^^^ (-1))) ||| ((1 : Int32) <<< (t &&& 31)))) (ws1 := (wM g h R J hs (va_up G 5 (upd (G 5) fi ((((G 5) fi) &&& (((1 : Int32) <<< (u &&& 31)) ^^^ (-1))) ||| ((1 : Int32) <<< (t &&& 31))))))) hX hZ 6 rfl fi (by omega) (by omega) dX2_renameNow_21 rfl (fun H locs hZ => ?_)
  exact MM.vret hX hr hlk hZ (rfl) dX2_renameNow_22

set_option maxHeartbeats 400000 in
set_option maxRecDepth 100000 in
theorem K_X2_isGood (l : Launch) (g : Gx) (at_ : Nat) (cc_ : Int32) (sum : Int32) (hat : at_ ≤ 10) : PM l g yX2_isGood cX2_isGood 4 (some .boolean) 1 [.int (nI at_), .int cc_, .int sum] roT ([] : va_W) (some (.int (b01 (goodB at_ cc_ sum = true)))) := by
  refine PM.of (own := "BurntLettersModel") (by decide) rfl (Nat.le_of_ble_eq_true rfl) ?_
  intro p e s m below meth c hX hr hlk hP hro ls hl
  have hx := hX.1.1
  have hb := hX.1.2.1
  have hl : lv_has ls 4 [(0, .int (nI at_)), (1, .int cc_), (2, .int sum)] := hl
  refine lv_iload_n hx hb dX2_isGood_0 rfl (lv_at hl 1 rfl) ?_
  refine lv_bipush (v := 48) hx hb dX2_isGood_1 (by decide) ?_
  refine lv_isub hx hb dX2_isGood_3 ?_
  refine lv_istore_n (lv' := [(3, .int (cc_ - 48)), (0, .int (nI at_)), (1, .int cc_), (2, .int sum)]) hx hb dX2_isGood_4 rfl hl (by decide) rfl (fun ls hl => ?_)
  refine lv_iload_n hx hb dX2_isGood_5 rfl (lv_at hl 1 rfl) ?_
  refine lv_bipush (v := 6) hx hb dX2_isGood_6 (by decide) ?_
  refine lv_icmp_ge (tgt := 50) hx hb dX2_isGood_8 (by decide) (fun c_1 => ?_) (fun c_1 => ?_)
  · have c_1n : 6 ≤ at_ := (nI_leI (a := 6) (b := at_) (by omega) (by omega)).mp c_1
    refine lv_iload_n hx hb dX2_isGood_50 rfl (lv_at hl 1 rfl) ?_
    refine lv_bipush (v := 6) hx hb dX2_isGood_51 (by decide) ?_
    refine lv_icmp_ne (tgt := 70) hx hb dX2_isGood_53 (by decide) (fun c_2 => ?_) (fun c_2 => ?_)
    · have c_2n : ¬ at_ = 6 := fun zz_ => c_2 ((nI_eq (a := at_) (b := 6) (by omega) (by omega)).mpr zz_)
      refine lv_iload_n hx hb dX2_isGood_70 rfl (lv_at hl 1 rfl) ?_
      refine lv_bipush (v := 7) hx hb dX2_isGood_71 (by decide) ?_
      refine lv_icmp_ne (tgt := 92) hx hb dX2_isGood_73 (by decide) (fun c_3 => ?_) (fun c_3 => ?_)
      · have c_3n : ¬ at_ = 7 := fun zz_ => c_3 ((nI_eq (a := at_) (b := 7) (by omega) (by omega)).mpr zz_)
        refine lv_iconst (v := 0) hx hb dX2_isGood_92 (by decide) ?_
        exact PM.zret hX hr hlk (by first | (unfold goodB; simp [b01, c_1, c_2, c_3, c_1n, c_2n, c_3n]; done) | (rw [goodB, if_neg (show ¬ at_ < 6 by omega)]; simp [b01, c_1, c_2, c_3, c_1n, c_2n, c_3n]; done)) (Or.inl rfl) dX2_isGood_93
      have c_3n : at_ = 7 := (nI_eq (a := at_) (b := 7) (by omega) (by omega)).mp c_3
      refine lv_iload_n hx hb dX2_isGood_76 rfl (lv_at hl 0 rfl) ?_
      refine lv_i2l (v := (cc_ - 48).toInt64) hx hb dX2_isGood_77 rfl ?_
      refine lv_lconst (v := 1) hx hb dX2_isGood_78 (by decide) ?_
      refine lv_ldc2 (v := 9) hx hb hX.1.2.2.2.1 (hX.w q918) dX2_isGood_79 ?_
      refine PM.ci (PM.runS (As := [.long ((cc_ - 48).toInt64), .long 1, .long 9]) (rest := []) hX (K_X2_in l g ((cc_ - 48).toInt64) 1 9) (cs_q900 hX ⟨Nat.le_of_ble_eq_true rfl, Nat.le_of_ble_eq_true rfl⟩) va_P_nil trivial rfl hl.1 rfl (Nat.le_of_ble_eq_true rfl) dX2_isGood_82 ⟨Nat.zero_le _, Nat.zero_le _⟩) ?_
      refine lv_seti (v := (b01 (inP (cc_ - 48) 1 9))) (inL_c (a := 1) (b := 9) (by decide) (by decide)) ?_
      refine lv_bif_eq (tgt := 92) hx hb dX2_isGood_85 (by decide) (fun c_4 => ?_) (fun c_4 => ?_)
      · refine lv_iconst (v := 0) hx hb dX2_isGood_92 (by decide) ?_
        exact PM.zret hX hr hlk (by first | (unfold goodB; simp [b01, c_1, c_2, c_3, c_4, c_1n, c_2n, c_3n]; done) | (rw [goodB, if_neg (show ¬ at_ < 6 by omega)]; simp [b01, c_1, c_2, c_3, c_4, c_1n, c_2n, c_3n]; done)) (Or.inl rfl) dX2_isGood_93
      refine lv_iconst (v := 1) hx hb dX2_isGood_88 (by decide) ?_
      refine lv_goto (tgt := 93) hx hb dX2_isGood_89 (by decide) ?_
      exact PM.zret hX hr hlk (by first | (unfold goodB; simp [b01, c_1, c_2, c_3, c_4, c_1n, c_2n, c_3n]; done) | (rw [goodB, if_neg (show ¬ at_ < 6 by omega)]; simp [b01, c_1, c_2, c_3, c_4, c_1n, c_2n, c_3n]; done)) (Or.inr rfl) dX2_isGood_93
    have c_2n : at_ = 6 := (nI_eq (a := at_) (b := 6) (by omega) (by omega)).mp c_2
    refine lv_iload_n hx hb dX2_isGood_56 rfl (lv_at hl 2 rfl) ?_
    refine lv_bipush (v := 59) hx hb dX2_isGood_57 (by decide) ?_
    refine lv_icmp_ne (tgt := 66) hx hb dX2_isGood_59 (by decide) (fun c_5 => ?_) (fun c_5 => ?_)
    · refine lv_iconst (v := 0) hx hb dX2_isGood_66 (by decide) ?_
      refine lv_goto (tgt := 93) hx hb dX2_isGood_67 (by decide) ?_
      exact PM.zret hX hr hlk (by first | (unfold goodB; simp [b01, c_1, c_2, c_5, c_1n, c_2n]; done) | (rw [goodB, if_neg (show ¬ at_ < 6 by omega)]; simp [b01, c_1, c_2, c_5, c_1n, c_2n]; done)) (Or.inl rfl) dX2_isGood_93
    refine lv_iconst (v := 1) hx hb dX2_isGood_62 (by decide) ?_
    refine lv_goto (tgt := 93) hx hb dX2_isGood_63 (by decide) ?_
    exact PM.zret hX hr hlk (by first | (unfold goodB; simp [b01, c_1, c_2, c_5, c_1n, c_2n]; done) | (rw [goodB, if_neg (show ¬ at_ < 6 by omega)]; simp [b01, c_1, c_2, c_5, c_1n, c_2n]; done)) (Or.inr rfl) dX2_isGood_93
  have c_1n : ¬ 6 ≤ at_ := fun zz_ => c_1 ((nI_leI (a := 6) (b := at_) (by omega) (by omega)).mpr zz_)
  refine lv_iload_n hx hb dX2_isGood_11 rfl (lv_at hl 0 rfl) ?_
  refine lv_i2l (v := (cc_ - 48).toInt64) hx hb dX2_isGood_12 rfl ?_
  refine lv_lconst (v := 0) hx hb dX2_isGood_13 (by decide) ?_
  refine lv_ldc2 (v := 9) hx hb hX.1.2.2.2.1 (hX.w q918) dX2_isGood_14 ?_
  refine PM.ci (PM.runS (As := [.long ((cc_ - 48).toInt64), .long 0, .long 9]) (rest := []) hX (K_X2_in l g ((cc_ - 48).toInt64) 0 9) (cs_q900 hX ⟨Nat.le_of_ble_eq_true rfl, Nat.le_of_ble_eq_true rfl⟩) va_P_nil trivial rfl hl.1 rfl (Nat.le_of_ble_eq_true rfl) dX2_isGood_17 ⟨Nat.zero_le _, Nat.zero_le _⟩) ?_
  refine lv_seti (v := (b01 (inP (cc_ - 48) 0 9))) (inL_c (a := 0) (b := 9) (by decide) (by decide)) ?_
  refine lv_bif_eq (tgt := 48) hx hb dX2_isGood_20 (by decide) (fun c_6 => ?_) (fun c_6 => ?_)
  · refine lv_iconst (v := 0) hx hb dX2_isGood_48 (by decide) ?_
    exact PM.zret hX hr hlk (by first | (unfold goodB; simp [b01, c_1, c_6, c_1n]; done) | (rw [goodB, if_neg (show ¬ at_ < 6 by omega)]; simp [b01, c_1, c_6, c_1n]; done)) (Or.inl rfl) dX2_isGood_49
  refine lv_iload_n hx hb dX2_isGood_23 rfl (lv_at hl 3 rfl) ?_
  refine lv_iload_n hx hb dX2_isGood_24 rfl (lv_at hl 0 rfl) ?_
  refine lv_iadd hx hb dX2_isGood_25 ?_
  refine lv_bipush (v := 10) hx hb dX2_isGood_26 (by decide) ?_
  refine lv_icmp_gt (tgt := 48) hx hb dX2_isGood_28 (by decide) (fun c_7 => ?_) (fun c_7 => ?_)
  · refine lv_iconst (v := 0) hx hb dX2_isGood_48 (by decide) ?_
    exact PM.zret hX hr hlk (by first | (unfold goodB; simp [b01, c_1, c_6, c_7, c_1n]; done) | (rw [goodB, if_neg (show ¬ at_ < 6 by omega)]; simp [b01, c_1, c_6, c_7, c_1n]; done)) (Or.inl rfl) dX2_isGood_49
  refine lv_iload_n hx hb dX2_isGood_31 rfl (lv_at hl 1 rfl) ?_
  refine lv_iconst (v := 5) hx hb dX2_isGood_32 (by decide) ?_
  refine lv_icmp_lt (tgt := 44) hx hb dX2_isGood_33 (by decide) (fun c_8 => ?_) (fun c_8 => ?_)
  · have c_8n : at_ < 5 := (nI_ltI (a := at_) (b := 5) (by omega) (by omega)).mp c_8
    refine lv_iconst (v := 1) hx hb dX2_isGood_44 (by decide) ?_
    refine lv_goto (tgt := 49) hx hb dX2_isGood_45 (by decide) ?_
    exact PM.zret hX hr hlk (by first | (unfold goodB; simp [b01, c_1, c_6, c_7, c_8, c_1n, c_8n]; done) | (rw [goodB, if_neg (show ¬ at_ < 6 by omega)]; simp [b01, c_1, c_6, c_7, c_8, c_1n, c_8n]; done)) (Or.inr rfl) dX2_isGood_49
  have c_8n : ¬ at_ < 5 := fun zz_ => c_8 ((nI_ltI (a := at_) (b := 5) (by omega) (by omega)).mpr zz_)
  refine lv_iload_n hx hb dX2_isGood_36 rfl (lv_at hl 3 rfl) ?_
  refine lv_iload_n hx hb dX2_isGood_37 rfl (lv_at hl 0 rfl) ?_
  refine lv_iadd hx hb dX2_isGood_38 ?_
  refine lv_bipush (v := 10) hx hb dX2_isGood_39 (by decide) ?_
  refine lv_icmp_ne (tgt := 48) hx hb dX2_isGood_41 (by decide) (fun c_9 => ?_) (fun c_9 => ?_)
  · refine lv_iconst (v := 0) hx hb dX2_isGood_48 (by decide) ?_
    exact PM.zret hX hr hlk (by first | (unfold goodB; simp [b01, c_1, c_6, c_7, c_8, c_9, c_1n, c_8n]; done) | (rw [goodB, if_neg (show ¬ at_ < 6 by omega)]; simp [b01, c_1, c_6, c_7, c_8, c_9, c_1n, c_8n]; done)) (Or.inl rfl) dX2_isGood_49
  refine lv_iconst (v := 1) hx hb dX2_isGood_44 (by decide) ?_
  refine lv_goto (tgt := 49) hx hb dX2_isGood_45 (by decide) ?_
  exact PM.zret hX hr hlk (by first | (unfold goodB; simp [b01, c_1, c_6, c_7, c_8, c_9, c_1n, c_8n]; done) | (rw [goodB, if_neg (show ¬ at_ < 6 by omega)]; simp [b01, c_1, c_6, c_7, c_8, c_9, c_1n, c_8n]; done)) (Or.inr rfl) dX2_isGood_49

set_option maxHeartbeats 400000 in
set_option maxRecDepth 100000 in
theorem K_X2_faultOf (l : Launch) (g : Gx) (h : Nat) (R : Nat → Nat) (J : Nat → Int32) (hs : Int64) (G : Nat → Nat → Int32) (pl : Nat) (hpl : (J 1) = nI pl) (hpl2 : pl ≤ 10) : PM l g yX2_faultOf cX2_faultOf 3 (some .int) 2 [.ref h] roT (wM g h R J hs G) (some (.int (nI (fauF (G 0) pl)))) := by
  refine PM.of (own := "BurntLettersModel") (by decide) rfl (Nat.le_of_ble_eq_true rfl) ?_
  intro p e s m below meth c hX hr hlk hP hro ls hl
  have hx := hX.1.1
  have hb := hX.1.2.1
  have hl : lv_has ls 3 [(0, .ref h)] := hl
  refine lv_iconst (v := 0) hx hb dX2_faultOf_0 (by decide) ?_
  refine lv_istore_n (lv' := [(1, .int 0), (0, .ref h)]) hx hb dX2_faultOf_1 rfl hl (by decide) rfl (fun ls hl => ?_)
  refine lv_iconst (v := 0) hx hb dX2_faultOf_2 (by decide) ?_
  refine lv_istore_n (lv' := [(2, .int 0), (1, .int 0), (0, .ref h)]) hx hb dX2_faultOf_3 rfl hl (by decide) rfl (fun ls hl => ?_)
  refine W_loopP (α := Nat) (P := fun (i : Nat) (ls : Array Slot) => i ≤ pl ∧ fauF (G 0) pl = fkF (G 0) pl (11 - i) i ∧ lv_has ls 3 [(0, .ref h), (1, .int (sumF (G 0) i)), (2, .int (nI i))]) (fun i => pl - i) 0 ⟨Nat.zero_le _, rfl, lv_cast (lv_sub (l' := [(0, .ref h), (1, .int 0), (2, .int 0)]) hl [2, 1, 0] rfl) (rfl)⟩ ?_
  rintro i ls ⟨hi, hg, hl⟩ ihi
  refine lv_iload_n hx hb dX2_faultOf_4 rfl (lv_at hl 2 rfl) ?_
  refine lv_aload_n hx hb dX2_faultOf_5 rfl (lv_at hl 0 rfl) ?_
  refine gf_q808 (v := .int (J 1)) hX hP 0 rfl rfl dX2_faultOf_6 ?_
  refine lv_seti (v := (nI pl)) (hpl) ?_
  refine lv_icmp_ge (tgt := 54) hx hb dX2_faultOf_9 (by decide) (fun c_1 => ?_) (fun c_1 => ?_)
  · have c_1n : pl ≤ i := (nI_leI (a := pl) (b := i) (by omega) (by omega)).mp c_1
    refine lv_iload_n hx hb dX2_faultOf_54 rfl (lv_at hl 2 rfl) ?_
    exact PM.iret hX hr hlk (by first | (rw [hg, show 11 - i = (10 - i) + 1 by omega, fkF, if_neg (fun q => absurd q.1 (by omega))]; done) | (rw [hg, show 11 - i = (10 - i) + 1 by omega, fkF, if_neg (fun q => c_none q.2)]; done)) dX2_faultOf_55
  have c_1n : ¬ pl ≤ i := fun zz_ => c_1 ((nI_leI (a := pl) (b := i) (by omega) (by omega)).mpr zz_)
  refine lv_iload_n hx hb dX2_faultOf_12 rfl (lv_at hl 2 rfl) ?_
  refine lv_aload_n hx hb dX2_faultOf_13 rfl (lv_at hl 0 rfl) ?_
  refine gf_q807 (v := .ref (R 0)) hX hP 0 rfl rfl dX2_faultOf_14 ?_
  refine lv_iload_n hx hb dX2_faultOf_17 rfl (lv_at hl 2 rfl) ?_
  refine r_iald (f := (G 0)) hX hP 1 rfl i (by omega) (by omega) dX2_faultOf_18 ?_
  refine lv_iload_n hx hb dX2_faultOf_19 rfl (lv_at hl 1 rfl) ?_
  refine PM.ci (PM.runS (As := [.int (nI i), .int ((G 0) i), .int (sumF (G 0) i)]) (rest := []) hX (K_X2_isGood l g i ((G 0) i) (sumF (G 0) i) (by omega)) (cs_q915 hX ⟨Nat.le_of_ble_eq_true rfl, Nat.le_of_ble_eq_true rfl⟩) va_P_nil trivial rfl hl.1 rfl (Nat.le_of_ble_eq_true rfl) dX2_faultOf_20 ⟨Nat.zero_le _, Nat.zero_le _⟩) ?_
  refine lv_bif_eq (tgt := 54) hx hb dX2_faultOf_23 (by decide) (fun c_2 => ?_) (fun c_2 => ?_)
  · refine lv_iload_n hx hb dX2_faultOf_54 rfl (lv_at hl 2 rfl) ?_
    exact PM.iret hX hr hlk (by first | (rw [hg, show 11 - i = (10 - i) + 1 by omega, fkF, if_neg (fun q => absurd q.1 (by omega))]; done) | (rw [hg, show 11 - i = (10 - i) + 1 by omega, fkF, if_neg (fun q => c_2 q.2)]; done)) dX2_faultOf_55
  refine lv_iload_n hx hb dX2_faultOf_26 rfl (lv_at hl 1 rfl) ?_
  refine lv_iload_n hx hb dX2_faultOf_27 rfl (lv_at hl 2 rfl) ?_
  refine lv_bipush (v := 6) hx hb dX2_faultOf_28 (by decide) ?_
  refine lv_icmp_ge (tgt := 45) hx hb dX2_faultOf_30 (by decide) (fun c_3 => ?_) (fun c_3 => ?_)
  · have c_3n : 6 ≤ i := (nI_leI (a := 6) (b := i) (by omega) (by omega)).mp c_3
    refine lv_iconst (v := 0) hx hb dX2_faultOf_45 (by decide) ?_
    refine lv_iadd hx hb dX2_faultOf_46 ?_
    refine lv_istore_n (lv' := [(1, .int ((sumF (G 0) i) + 0)), (0, .ref h), (2, .int (nI i))]) hx hb dX2_faultOf_47 rfl hl (by decide) rfl (fun ls hl => ?_)
    refine lv_iinc (v := (nI (i + 1))) (lv' := [(2, .int (nI (i + 1))), (1, .int ((sumF (G 0) i) + 0)), (0, .ref h)]) hx hb dX2_faultOf_48 hl (k := 2) rfl (nI_1 _) (by decide) rfl (fun ls hl => ?_)
    refine lv_goto (tgt := 4) hx hb dX2_faultOf_51 (by decide) ?_
    exact ihi (i + 1) _ ⟨by omega, by rw [hg, show 11 - i = (10 - i) + 1 by omega, fkF, if_pos ⟨by omega, c_2⟩, show 11 - (i + 1) = 10 - i by omega], lv_cast (lv_sub (l' := [(0, .ref h), (1, .int ((sumF (G 0) i) + 0)), (2, .int (nI (i + 1)))]) hl [2, 1, 0] rfl) (by first | (rw [sumF, if_pos (by omega)]; done) | (rw [sumF, if_neg (by omega)]; done))⟩ (by omega)
  have c_3n : ¬ 6 ≤ i := fun zz_ => c_3 ((nI_leI (a := 6) (b := i) (by omega) (by omega)).mpr zz_)
  refine lv_aload_n hx hb dX2_faultOf_33 rfl (lv_at hl 0 rfl) ?_
  refine gf_q807 (v := .ref (R 0)) hX hP 0 rfl rfl dX2_faultOf_34 ?_
  refine lv_iload_n hx hb dX2_faultOf_37 rfl (lv_at hl 2 rfl) ?_
  refine r_iald (f := (G 0)) hX hP 1 rfl i (by omega) (by omega) dX2_faultOf_38 ?_
  refine lv_bipush (v := 48) hx hb dX2_faultOf_39 (by decide) ?_
  refine lv_isub hx hb dX2_faultOf_41 ?_
  refine lv_goto (tgt := 46) hx hb dX2_faultOf_42 (by decide) ?_
  refine lv_iadd hx hb dX2_faultOf_46 ?_
  refine lv_istore_n (lv' := [(1, .int ((sumF (G 0) i) + (((G 0) i) - 48))), (0, .ref h), (2, .int (nI i))]) hx hb dX2_faultOf_47 rfl hl (by decide) rfl (fun ls hl => ?_)
  refine lv_iinc (v := (nI (i + 1))) (lv' := [(2, .int (nI (i + 1))), (1, .int ((sumF (G 0) i) + (((G 0) i) - 48))), (0, .ref h)]) hx hb dX2_faultOf_48 hl (k := 2) rfl (nI_1 _) (by decide) rfl (fun ls hl => ?_)
  refine lv_goto (tgt := 4) hx hb dX2_faultOf_51 (by decide) ?_
  exact ihi (i + 1) _ ⟨by omega, by rw [hg, show 11 - i = (10 - i) + 1 by omega, fkF, if_pos ⟨by omega, c_2⟩, show 11 - (i + 1) = 10 - i by omega], lv_cast (lv_sub (l' := [(0, .ref h), (1, .int ((sumF (G 0) i) + (((G 0) i) - 48))), (2, .int (nI (i + 1)))]) hl [2, 1, 0] rfl) (by first | (rw [sumF, if_pos (by omega)]; done) | (rw [sumF, if_neg (by omega)]; done))⟩ (by omega)

set_option maxHeartbeats 400000 in
set_option maxRecDepth 100000 in
theorem K_X2_fault (l : Launch) (g : Gx) (h : Nat) (R : Nat → Nat) (J : Nat → Int32) (hs : Int64) (G : Nat → Nat → Int32) (pl : Nat) (hpl : (J 1) = nI pl) (hpl2 : pl ≤ 10) : PM l g yX2_fault cX2_fault 1 (some .int) 3 [.ref h] roT (wM g h R J hs G) (some (.int (nI (fauF (G 0) pl)))) := by
  refine PM.of (own := "BurntLettersModel") (by decide) rfl (Nat.le_of_ble_eq_true rfl) ?_
  intro p e s m below meth c hX hr hlk hP hro ls hl
  have hx := hX.1.1
  have hb := hX.1.2.1
  have hl : lv_has ls 1 [(0, .ref h)] := hl
  refine lv_aload_n hx hb dX2_fault_0 rfl (lv_at hl 0 rfl) ?_
  refine PM.ci (PM.runV (As := []) (rest := []) hX (K_X2_faultOf l g h R J hs G pl (hpl) (by omega)) (cv_q911 hX ⟨Nat.le_of_ble_eq_true rfl, Nat.le_of_ble_eq_true rfl⟩) hP trivial (r_recv hX hP 0 rfl rfl) rfl hl.1 rfl (Nat.le_of_ble_eq_true rfl) dX2_fault_1 ⟨Nat.zero_le _, Nat.zero_le _⟩) ?_
  exact PM.iret hX hr hlk (rfl) dX2_fault_4

set_option maxHeartbeats 400000 in
set_option maxRecDepth 100000 in
theorem K_X2_law (l : Launch) (g : Gx) (h : Nat) (R : Nat → Nat) (J : Nat → Int32) (hs : Int64) (G : Nat → Nat → Int32) (pl : Nat) (hpl : (J 1) = nI pl) (hpl2 : pl ≤ 10) (hrk : RoK roT (wM g h R J hs G)) : MM l g yX2_law cX2_law 2 (some .int) 3 [.ref h] roT (wM g h R J hs G) (wM g h R (mlaJ J (G 0) pl) hs (mlaG G pl)) (some (.int (mlaR (G 0) pl))) := by
  refine MM.of (own := "BurntLettersModel") (by decide) rfl (Nat.le_of_ble_eq_true rfl) hrk ?_
  intro p e s m below meth c A hX hr hlk hZ ls hl
  have hx := hX.1.1
  have hb := hX.1.2.1
  have hl : lv_has ls 2 [(0, .ref h)] := hl
  refine lv_aload_n hx hb dX2_law_0 rfl (lv_at hl 0 rfl) ?_
  refine gf_q808 (v := .int (J 1)) hX hZ.1 0 rfl rfl dX2_law_1 ?_
  refine lv_seti (v := (nI pl)) (hpl) ?_
  refine lv_bipush (v := 8) hx hb dX2_law_4 (by decide) ?_
  refine lv_icmp_ne (tgt := 18) hx hb dX2_law_6 (by decide) (fun c_1 => ?_) (fun c_1 => ?_)
  · have c_1n : ¬ pl = 8 := fun zz_ => c_1 ((nI_eq (a := pl) (b := 8) (by omega) (by omega)).mpr zz_)
    refine lv_bipush (v := (-103)) hx hb dX2_law_18 (by decide) ?_
    exact MM.iret hX hr hlk hZ (by first | (rw [mlaJ, mlaG, if_neg (fun q => c_1n q.1), if_neg (fun q => c_1n q.1)]; done) | (rw [mlaJ, mlaG, if_neg (fun q => c_nonen q.2), if_neg (fun q => c_nonen q.2)]; done) | (rw [mlaJ, mlaG, if_pos ⟨c_1n, c_nonen⟩, if_pos ⟨c_1n, c_nonen⟩]; done) | (rw [mlaJ, mlaG, if_pos ⟨c_1n, c_nonen⟩, if_pos ⟨c_1n, c_nonen⟩]; rfl)) (by first | (rw [mlaR, if_neg (fun q => c_1n q.1)]; done) | (rw [mlaR, if_neg (fun q => c_nonen q.2)]; done) | (rw [mlaR, if_pos ⟨c_1n, c_nonen⟩]; done)) dX2_law_20
  have c_1n : pl = 8 := (nI_eq (a := pl) (b := 8) (by omega) (by omega)).mp c_1
  refine lv_aload_n hx hb dX2_law_9 rfl (lv_at hl 0 rfl) ?_
  refine PM.ci (PM.runV (As := []) (rest := []) hX (K_X2_faultOf l g h R J hs G pl (hpl) (by omega)) (cv_q911 hX ⟨Nat.le_of_ble_eq_true rfl, Nat.le_of_ble_eq_true rfl⟩) hZ.1 trivial (r_recv hX hZ.1 0 rfl rfl) rfl hl.1 rfl (Nat.le_of_ble_eq_true rfl) dX2_law_10 ⟨Nat.zero_le _, Nat.zero_le _⟩) ?_
  have hfl := fau_le (G 0) pl
  refine lv_bipush (v := 8) hx hb dX2_law_13 (by decide) ?_
  refine lv_icmp_ge (tgt := 21) hx hb dX2_law_15 (by decide) (fun c_2 => ?_) (fun c_2 => ?_)
  · have c_2n : 8 ≤ (fauF (G 0) pl) := (nI_leI (a := 8) (b := (fauF (G 0) pl)) (by omega) (by omega)).mp c_2
    refine lv_iconst (v := 0) hx hb dX2_law_21 (by decide) ?_
    refine lv_istore_n (lv' := [(1, .int 0), (0, .ref h)]) hx hb dX2_law_22 rfl hl (by decide) rfl (fun ls hl => ?_)
    refine W_loop (α := Nat) (P := fun (i : Nat) (H : Heap) (locs : List Loc) (ls : Array Slot) => i ≤ 6 ∧ Zt g A s.heap roT (wM g h R J hs (va_up G 1 (ltF (G 0) (G 1) i))) H locs ∧ lv_has ls 2 [(0, .ref h), (1, .int (nI i))]) (fun i => 6 - i) 0 ⟨Nat.zero_le _, hZ.cast (rfl), lv_cast (lv_sub (l' := [(0, .ref h), (1, .int 0)]) hl [1, 0] rfl) (rfl)⟩ ?_
    rintro i H locs ls ⟨hi, hZ, hl⟩ ihi
    refine lv_iload_n hx hb dX2_law_23 rfl (lv_at hl 1 rfl) ?_
    refine lv_bipush (v := 6) hx hb dX2_law_24 (by decide) ?_
    refine lv_icmp_ge (tgt := 50) hx hb dX2_law_26 (by decide) (fun c_3 => ?_) (fun c_3 => ?_)
    · have c_3n : 6 ≤ i := (nI_leI (a := 6) (b := i) (by omega) (by omega)).mp c_3
      have eii : i = 6 := by omega
      subst eii
      have hZ := hZ.arr 2 (fun k => G 0 k - 48) rfl (ltF_in (G 0) (G 1) 6)
      have hZ : Zt g A s.heap roT (wM g h R J hs (va_up G 1 (fun k => G 0 k - 48))) H locs := hZ
      refine lv_aload_n hx hb dX2_law_50 rfl (lv_at hl 0 rfl) ?_
      refine lv_aload_n hx hb dX2_law_51 rfl (lv_at hl 0 rfl) ?_
      refine gf_q807 (v := .ref (R 0)) hX hZ.1 0 rfl rfl dX2_law_52 ?_
      refine lv_bipush (v := 7) hx hb dX2_law_55 (by decide) ?_
      refine r_iald (f := (G 0)) hX hZ.1 1 rfl 7 (by omega) (by omega) dX2_law_57 ?_
      refine lv_bipush (v := 48) hx hb dX2_law_58 (by decide) ?_
      refine lv_isub hx hb dX2_law_60 ?_
      refine pf_q809 (ws1 := (wM g h R (upd J 2 (((G 0) 7) - 48)) hs (va_up G 1 (fun k => G 0 k - 48)))) hX hZ 0 rfl (Nat.le_of_ble_eq_true rfl) rfl dX2_law_61 (fun H locs hZ => ?_)
      refine lv_aload_n hx hb dX2_law_64 rfl (lv_at hl 0 rfl) ?_
      refine lv_iconst (v := 0) hx hb dX2_law_65 (by decide) ?_
      refine pf_q813 (ws1 := (wM g h R (upd (upd J 2 (((G 0) 7) - 48)) 6 0) hs (va_up G 1 (fun k => G 0 k - 48)))) hX hZ 0 rfl (Nat.le_of_ble_eq_true rfl) rfl dX2_law_66 (fun H locs hZ => ?_)
      refine lv_aload_n hx hb dX2_law_69 rfl (lv_at hl 0 rfl) ?_
      refine lv_iconst (v := 0) hx hb dX2_law_70 (by decide) ?_
      refine pf_q810 (ws1 := (wM g h R (upd (upd (upd J 2 (((G 0) 7) - 48)) 6 0) 3 0) hs (va_up G 1 (fun k => G 0 k - 48)))) hX hZ 0 rfl (Nat.le_of_ble_eq_true rfl) rfl dX2_law_71 (fun H locs hZ => ?_)
      refine lv_aload_n hx hb dX2_law_74 rfl (lv_at hl 0 rfl) ?_
      refine lv_iconst (v := 0) hx hb dX2_law_75 (by decide) ?_
      refine pf_q823 (ws1 := (wM g h R (upd (upd (upd (upd J 2 (((G 0) 7) - 48)) 6 0) 3 0) 16 0) hs (va_up G 1 (fun k => G 0 k - 48)))) hX hZ 0 rfl (Nat.le_of_ble_eq_true rfl) rfl dX2_law_76 (fun H locs hZ => ?_)
      refine lv_aload_n hx hb dX2_law_79 rfl (lv_at hl 0 rfl) ?_
      refine lv_dup hx hb dX2_law_80 rfl ?_
      refine gf_q811 (v := .int (J 4)) hX hZ.1 0 rfl rfl dX2_law_81 ?_
      refine lv_iconst (v := 1) hx hb dX2_law_84 (by decide) ?_
      refine lv_iadd hx hb dX2_law_85 ?_
      refine pf_q811 (ws1 := (wM g h R (upd (upd (upd (upd (upd J 2 (((G 0) 7) - 48)) 6 0) 3 0) 16 0) 4 ((J 4) + 1)) hs (va_up G 1 (fun k => G 0 k - 48)))) hX hZ 0 rfl (Nat.le_of_ble_eq_true rfl) rfl dX2_law_86 (fun H locs hZ => ?_)
      refine lv_aload_n hx hb dX2_law_89 rfl (lv_at hl 0 rfl) ?_
      refine lv_iconst (v := 0) hx hb dX2_law_90 (by decide) ?_
      refine pf_q808 (ws1 := (wM g h R (upd (upd (upd (upd (upd (upd J 2 (((G 0) 7) - 48)) 6 0) 3 0) 16 0) 4 ((J 4) + 1)) 1 0) hs (va_up G 1 (fun k => G 0 k - 48)))) hX hZ 0 rfl (Nat.le_of_ble_eq_true rfl) rfl dX2_law_91 (fun H locs hZ => ?_)
      refine lv_aload_n hx hb dX2_law_94 rfl (lv_at hl 0 rfl) ?_
      refine gf_q809 (v := .int (((G 0) 7) - 48)) hX hZ.1 0 rfl rfl dX2_law_95 ?_
      exact MM.iret hX hr hlk hZ (by first | (rw [mlaJ, mlaG, if_neg (fun q => c_1n q.1), if_neg (fun q => c_1n q.1)]; done) | (rw [mlaJ, mlaG, if_neg (fun q => c_2n q.2), if_neg (fun q => c_2n q.2)]; done) | (rw [mlaJ, mlaG, if_pos ⟨c_1n, c_2n⟩, if_pos ⟨c_1n, c_2n⟩]; done) | (rw [mlaJ, mlaG, if_pos ⟨c_1n, c_2n⟩, if_pos ⟨c_1n, c_2n⟩]; rfl)) (by first | (rw [mlaR, if_neg (fun q => c_1n q.1)]; done) | (rw [mlaR, if_neg (fun q => c_2n q.2)]; done) | (rw [mlaR, if_pos ⟨c_1n, c_2n⟩]; done)) dX2_law_98
    have c_3n : ¬ 6 ≤ i := fun zz_ => c_3 ((nI_leI (a := 6) (b := i) (by omega) (by omega)).mpr zz_)
    refine lv_aload_n hx hb dX2_law_29 rfl (lv_at hl 0 rfl) ?_
    refine gf_q812 (v := .ref (R 5)) hX hZ.1 0 rfl rfl dX2_law_30 ?_
    refine lv_iload_n hx hb dX2_law_33 rfl (lv_at hl 1 rfl) ?_
    refine lv_aload_n hx hb dX2_law_34 rfl (lv_at hl 0 rfl) ?_
    refine gf_q807 (v := .ref (R 0)) hX hZ.1 0 rfl rfl dX2_law_35 ?_
    refine lv_iload_n hx hb dX2_law_38 rfl (lv_at hl 1 rfl) ?_
    refine r_iald (f := (G 0)) hX hZ.1 1 rfl i (by omega) (by omega) dX2_law_39 ?_
    refine lv_bipush (v := 48) hx hb dX2_law_40 (by decide) ?_
    refine lv_isub hx hb dX2_law_42 ?_
    refine r_iast (f := (ltF (G 0) (G 1) i)) (x := (((G 0) i) - 48)) (ws1 := (wM g h R J hs (va_up G 1 (upd (ltF (G 0) (G 1) i) i (((G 0) i) - 48))))) hX hZ 2 rfl i (by omega) (by omega) dX2_law_43 rfl (fun H locs hZ => ?_)
    refine lv_iinc (v := (nI (i + 1))) (lv' := [(1, .int (nI (i + 1))), (0, .ref h)]) hx hb dX2_law_44 hl (k := 1) rfl (nI_1 _) (by decide) rfl (fun ls hl => ?_)
    refine lv_goto (tgt := 23) hx hb dX2_law_47 (by decide) ?_
    exact ihi (i + 1) _ _ _ ⟨by omega, hZ.cast (rfl), lv_cast (lv_sub (l' := [(0, .ref h), (1, .int (nI (i + 1)))]) hl [1, 0] rfl) (by rfl)⟩ (by omega)
  have c_2n : ¬ 8 ≤ (fauF (G 0) pl) := fun zz_ => c_2 ((nI_leI (a := 8) (b := (fauF (G 0) pl)) (by omega) (by omega)).mpr zz_)
  refine lv_bipush (v := (-103)) hx hb dX2_law_18 (by decide) ?_
  exact MM.iret hX hr hlk hZ (by first | (rw [mlaJ, mlaG, if_neg (fun q => c_1n q.1), if_neg (fun q => c_1n q.1)]; done) | (rw [mlaJ, mlaG, if_neg (fun q => c_2n q.2), if_neg (fun q => c_2n q.2)]; done) | (rw [mlaJ, mlaG, if_pos ⟨c_1n, c_2n⟩, if_pos ⟨c_1n, c_2n⟩]; done) | (rw [mlaJ, mlaG, if_pos ⟨c_1n, c_2n⟩, if_pos ⟨c_1n, c_2n⟩]; rfl)) (by first | (rw [mlaR, if_neg (fun q => c_1n q.1)]; done) | (rw [mlaR, if_neg (fun q => c_2n q.2)]; done) | (rw [mlaR, if_pos ⟨c_1n, c_2n⟩]; done)) dX2_law_20
