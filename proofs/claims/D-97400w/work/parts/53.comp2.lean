/-! THE COMPONENT, 2 (by program: gen/comp2.py) -/
set_option maxHeartbeats 400000 in
set_option maxRecDepth 100000 in
theorem K_X0_lowest (l : Launch) (g : Gx) (a : Nat) (b : Nat) (part : Int32) (ha : a < 2 ^ 31) (hb2 : b < 2 ^ 31) (hb0 : 0 < b) : PM l g yX0_lowest cX0_lowest 6 (some .int) 0 [.int (nI a), .int (nI b), .int part] roT ([] : va_W) (some (.int (lwF a b part))) := by
  refine PM.of (own := "BurntLetters") (by decide) rfl (Nat.le_of_ble_eq_true rfl) ?_
  intro p e s m below meth c hX hr hlk hP hro ls hl
  have hx := hX.1.1
  have hb := hX.1.2.1
  have hl : lv_has ls 6 [(0, .int (nI a)), (1, .int (nI b)), (2, .int part)] := hl
  refine lv_iload_n hx hb dX0_lowest_0 rfl (lv_at hl 0 rfl) ?_
  refine lv_istore_n (lv' := [(3, .int (nI a)), (0, .int (nI a)), (1, .int (nI b)), (2, .int part)]) hx hb dX0_lowest_1 rfl hl (by decide) rfl (fun ls hl => ?_)
  refine lv_iload_n hx hb dX0_lowest_2 rfl (lv_at hl 2 rfl) ?_
  refine lv_istore (lv' := [(4, .int (nI b)), (3, .int (nI a)), (0, .int (nI a)), (1, .int (nI b)), (2, .int part)]) hx hb dX0_lowest_3 hl (by decide) rfl (fun ls hl => ?_)
  refine W_loopP (α := Nat × Nat) (P := fun (x : Nat × Nat) (ls : Array Slot) => Nat.gcd x.1 x.2 = Nat.gcd a b ∧ x.1 < 2 ^ 31 ∧ x.2 < 2 ^ 31 ∧ lv_has ls 6 [(0, .int (nI a)), (1, .int (nI b)), (2, .int part), (3, .int (nI x.1)), (4, .int (nI x.2))]) (fun x => x.2) (a, b) ⟨rfl, ha, hb2, lv_cast (lv_sub (l' := [(0, .int (nI a)), (1, .int (nI b)), (2, .int part), (3, .int (nI a)), (4, .int (nI b))]) hl [2, 3, 4, 1, 0] rfl) (rfl)⟩ ?_
  rintro x ls ⟨hg, h1, h2, hl⟩ ihx
  refine lv_iload hx hb dX0_lowest_5 (lv_at hl 4 rfl) ?_
  refine lv_if_eq (tgt := 26) hx hb dX0_lowest_7 (by decide) (fun c_1 => ?_) (fun c_1 => ?_)
  · have c_1n : x.2 = 0 := (nI_eq (a := x.2) (b := 0) (by omega) (by omega)).mp c_1
    have hg1 : x.1 = Nat.gcd a b := by rw [← hg, c_1n, Nat.gcd_zero_right]
    have hgp : 0 < Nat.gcd a b := Nat.gcd_pos_of_pos_right a hb0
    have hgl : 0 < x.1 := by rw [hg1]; exact hgp
    refine lv_iload_n hx hb dX0_lowest_26 rfl (lv_at hl 2 rfl) ?_
    refine lv_if_ne (tgt := 36) hx hb dX0_lowest_27 (by decide) (fun c_2 => ?_) (fun c_2 => ?_)
    · refine lv_iload_n hx hb dX0_lowest_36 rfl (lv_at hl 1 rfl) ?_
      refine lv_iload_n hx hb dX0_lowest_37 rfl (lv_at hl 3 rfl) ?_
      refine lv_idiv hx hb dX0_lowest_38 (nI_ne0 hgl h1) ?_
      refine lv_seti (v := (nI (b / x.1))) (pk_div (a := b) (d := x.1) (by omega) (by omega) (by omega)) ?_
      exact PM.iret hX hr hlk (by simp only [lwF, if_pos c_1, if_neg c_2, hg1]) dX0_lowest_39
    refine lv_iload_n hx hb dX0_lowest_30 rfl (lv_at hl 0 rfl) ?_
    refine lv_iload_n hx hb dX0_lowest_31 rfl (lv_at hl 3 rfl) ?_
    refine lv_idiv hx hb dX0_lowest_32 (nI_ne0 hgl h1) ?_
    refine lv_seti (v := (nI (a / x.1))) (pk_div (a := a) (d := x.1) (by omega) (by omega) (by omega)) ?_
    refine lv_goto (tgt := 39) hx hb dX0_lowest_33 (by decide) ?_
    exact PM.iret hX hr hlk (by simp only [lwF, if_pos c_1, if_pos c_2, hg1]) dX0_lowest_39
  have c_1n : ¬ x.2 = 0 := fun zz_ => c_1 ((nI_eq (a := x.2) (b := 0) (by omega) (by omega)).mpr zz_)
  refine lv_iload_n hx hb dX0_lowest_10 rfl (lv_at hl 3 rfl) ?_
  refine lv_iload hx hb dX0_lowest_11 (lv_at hl 4 rfl) ?_
  refine lv_irem hx hb dX0_lowest_13 (c_1) ?_
  refine lv_seti (v := (nI (x.1 % x.2))) (pk_rem (a := x.1) (d := x.2) (by omega) (by omega) (by omega)) ?_
  refine lv_istore (lv' := [(5, .int (nI (x.1 % x.2))), (0, .int (nI a)), (1, .int (nI b)), (2, .int part), (3, .int (nI x.1)), (4, .int (nI x.2))]) hx hb dX0_lowest_14 hl (by decide) rfl (fun ls hl => ?_)
  refine lv_iload hx hb dX0_lowest_16 (lv_at hl 5 rfl) ?_
  refine lv_istore_n (lv' := [(3, .int (nI x.2)), (5, .int (nI (x.1 % x.2))), (0, .int (nI a)), (1, .int (nI b)), (2, .int part), (4, .int (nI x.2))]) hx hb dX0_lowest_18 rfl hl (by decide) rfl (fun ls hl => ?_)
  refine lv_iload hx hb dX0_lowest_19 (lv_at hl 1 rfl) ?_
  refine lv_istore (lv' := [(4, .int (nI (x.1 % x.2))), (3, .int (nI x.2)), (5, .int (nI (x.1 % x.2))), (0, .int (nI a)), (1, .int (nI b)), (2, .int part)]) hx hb dX0_lowest_21 hl (by decide) rfl (fun ls hl => ?_)
  refine lv_goto (tgt := 5) hx hb dX0_lowest_23 (by decide) ?_
  exact ihx (x.2, x.1 % x.2) _ ⟨by rw [← hg, Nat.gcd_comm x.1 x.2, Nat.gcd_rec x.2 x.1, Nat.gcd_comm], h2, Nat.lt_trans (Nat.mod_lt _ (by omega)) h2, lv_cast (lv_sub (l' := [(0, .int (nI a)), (1, .int (nI b)), (2, .int part), (3, .int (nI x.2)), (4, .int (nI (x.1 % x.2)))]) hl [3, 4, 5, 1, 0] rfl) (by rfl)⟩ (Nat.mod_lt _ (by omega))

set_option maxHeartbeats 400000 in
set_option maxRecDepth 100000 in
theorem K_X0_livesIn (l : Launch) (g : Gx) (h : Nat) (R : Nat → Nat) (V : Nat → Nat) (I : Nat → Int32) (dr : Int64) (md : Int32) (ed : Nat) (n : Nat) (F : Nat → Nat → Int32) (f : Nat) (c_ : Int32) (y : Nat) (kd : Nat → Nat) (hn : n ≤ 5) (hf : f < n) (hy : y ≤ 4) (hrk : RoK (roP g ed n kd) (wC g h R V I dr md ed n F)) : EM l g yX0_livesIn cX0_livesIn 9 (some .int) 6 [.ref h, .int (nI f), .int c_, .int (nI y)] (roP g ed n kd) (wC g h R V I dr md ed n F) (fun u => (wC g h R V I dr md ed n (va_up (va_up (va_up F 4 (u 4)) 5 (u 5)) 6 (u 6)))) (some (.int (liF kd I F n f c_ y))) := by
  refine EM.of (own := "BurntLetters") (by decide) rfl (Nat.le_of_ble_eq_true rfl) hrk ?_
  intro p e s m below meth c A hX hr hlk hZ ls hl
  have hx := hX.1.1
  have hb := hX.1.2.1
  have hl : lv_has ls 9 [(0, .ref h), (1, .int (nI f)), (2, .int c_), (3, .int (nI y))] := hl
  have hp6 := p6_le (show y ≤ 5 by omega)
  refine lv_iconst (v := 0) hx hb dX0_livesIn_0 (by decide) ?_
  refine lv_istore (lv' := [(4, .int 0), (0, .ref h), (1, .int (nI f)), (2, .int c_), (3, .int (nI y))]) hx hb dX0_livesIn_1 hl (by decide) rfl (fun ls hl => ?_)
  refine lv_iconst (v := 0) hx hb dX0_livesIn_3 (by decide) ?_
  refine lv_istore (lv' := [(5, .int 0), (4, .int 0), (0, .ref h), (1, .int (nI f)), (2, .int c_), (3, .int (nI y))]) hx hb dX0_livesIn_4 hl (by decide) rfl (fun ls hl => ?_)
  refine W_loopU (α := Nat) (P := fun (i : Nat) (u : Nat → Nat → Int32) (H : Heap) (locs : List Loc) (ls : Array Slot) => i ≤ p6 y ∧ Zt g A s.heap (roP g ed n kd) (wC g h R V I dr md ed n (va_up (va_up (va_up F 4 (u 4)) 5 (u 5)) 6 (u 6))) H locs ∧ lv_has ls 9 [(0, .ref h), (1, .int (nI f)), (2, .int c_), (3, .int (nI y)), (4, .int (lvF kd (I 3) (F 2) n (F 0) (cpl (F 1) f c_, F 3) f y i)), (5, .int (nI i))]) (fun i => p6 y - i) 0 F ⟨Nat.zero_le _, hZ.cast (rfl), lv_cast (lv_sub (l' := [(0, .ref h), (1, .int (nI f)), (2, .int c_), (3, .int (nI y)), (4, .int 0), (5, .int 0)]) hl [2, 3, 4, 5, 1, 0] rfl) (rfl)⟩ ?_
  rintro i u H locs ls ⟨hi, hZ, hl⟩ ihi
  refine lv_iload hx hb dX0_livesIn_6 (lv_at hl 5 rfl) ?_
  refine lv_bipush (v := 6) hx hb dX0_livesIn_8 (by decide) ?_
  refine lv_iload_n hx hb dX0_livesIn_10 rfl (lv_at hl 3 rfl) ?_
  refine PM.ci (PM.runS (As := [.int 6, .int (nI y)]) (rest := [.int (nI i)]) hX (K_X0_power l g 6 y (by omega)) (cs_q653 hX ⟨Nat.le_of_ble_eq_true rfl, Nat.le_of_ble_eq_true rfl⟩) va_P_nil trivial rfl hl.1 rfl (Nat.le_of_ble_eq_true rfl) dX0_livesIn_11 ⟨Nat.zero_le _, Nat.zero_le _⟩) ?_
  refine lv_seti (v := (nI (p6 y))) (hp6.1) ?_
  refine lv_icmp_ge (tgt := 137) hx hb dX0_livesIn_14 (by decide) (fun c_1 => ?_) (fun c_1 => ?_)
  · have c_1n : (p6 y) ≤ i := (nI_leI (a := (p6 y)) (b := i) (by omega) (by omega)).mp c_1
    have ei : p6 y = i := by omega
    subst ei
    refine lv_iload hx hb dX0_livesIn_137 (lv_at hl 4 rfl) ?_
    exact EM.iret hX hr hlk hZ (ws1 := fun u => (wC g h R V I dr md ed n (va_up (va_up (va_up F 4 (u 4)) 5 (u 5)) 6 (u 6)))) (va_up (va_up (va_up F 4 (u 4)) 5 (u 5)) 6 (u 6)) (rfl) (rfl) dX0_livesIn_139
  have c_1n : ¬ (p6 y) ≤ i := fun zz_ => c_1 ((nI_leI (a := (p6 y)) (b := i) (by omega) (by omega)).mpr zz_)
  refine lv_iconst (v := 1) hx hb dX0_livesIn_17 (by decide) ?_
  refine lv_istore (lv' := [(6, .int 1), (0, .ref h), (1, .int (nI f)), (2, .int c_), (3, .int (nI y)), (4, .int (lvF kd (I 3) (F 2) n (F 0) (cpl (F 1) f c_, F 3) f y i)), (5, .int (nI i))]) hx hb dX0_livesIn_18 hl (by decide) rfl (fun ls hl => ?_)
  refine lv_iload hx hb dX0_livesIn_20 (lv_at hl 6 rfl) ?_
  refine lv_istore (lv' := [(7, .int (nI i)), (6, .int 1), (0, .ref h), (1, .int (nI f)), (2, .int c_), (3, .int (nI y)), (4, .int (lvF kd (I 3) (F 2) n (F 0) (cpl (F 1) f c_, F 3) f y i)), (5, .int (nI i))]) hx hb dX0_livesIn_22 hl (by decide) rfl (fun ls hl => ?_)
  refine lv_aload_n hx hb dX0_livesIn_24 rfl (lv_at hl 2 rfl) ?_
  refine gf_q149 (v := .ref (R 7)) hX hZ.1 0 rfl rfl dX0_livesIn_25 ?_
  refine lv_aload_n hx hb dX0_livesIn_28 rfl (lv_at hl 2 rfl) ?_
  refine gf_q148 (v := .ref (R 6)) hX hZ.1 0 rfl rfl dX0_livesIn_29 ?_
  refine MM.cv (MM.runV (As := [.ref (R 6)]) (rest := []) hX (K_X1_become l g h (R 7) (V 3) (V 4) (V 5) (u 4) (u 5) (u 6) (R 6) (V 0) (V 1) (V 2) (F 1) (F 2) (F 3) (RoK.tt _)) (cv_q656 hX ⟨Nat.le_of_ble_eq_true rfl, Nat.le_of_ble_eq_true rfl⟩) (hZ.1.sub (ws' := (wB g h (R 7) (V 3) (V 4) (V 5) (u 4) (u 5) (u 6) (R 6) (V 0) (V 1) (V 2) (F 1) (F 2) (F 3))) [7, 8, 9, 10, 3, 4, 5, 6] rfl) (hZ.2.1.sub (ws' := (wB g h (R 7) (V 3) (V 4) (V 5) (u 4) (u 5) (u 6) (R 6) (V 0) (V 1) (V 2) (F 1) (F 2) (F 3))) [7, 8, 9, 10, 3, 4, 5, 6] (by decide) rfl) trivial (r_recv hX hZ.1 7 rfl rfl) rfl hl.1 rfl (Nat.le_of_ble_eq_true rfl) dX0_livesIn_32 ⟨Nat.zero_le _, Nat.zero_le _⟩) hZ (ws1 := (wC g h R V I dr md ed n (va_up (va_up (va_up F 4 (F 1)) 5 (F 2)) 6 (F 3)))) [7, 8, 9, 10, 3, 4, 5, 6] rfl rfl rfl rfl (fun H locs hZ => ?_)
  refine lv_aload_n hx hb dX0_livesIn_35 rfl (lv_at hl 2 rfl) ?_
  refine gf_q149 (v := .ref (R 7)) hX hZ.1 0 rfl rfl dX0_livesIn_36 ?_
  refine gf_q124 (v := .ref (V 3)) hX hZ.1 7 rfl rfl dX0_livesIn_39 ?_
  refine lv_iload_n hx hb dX0_livesIn_42 rfl (lv_at hl 3 rfl) ?_
  refine lv_dup2_11 hx hb dX0_livesIn_43 rfl rfl ?_
  refine r_iald (f := (F 1)) hX hZ.1 8 rfl f (by omega) (by omega) dX0_livesIn_44 ?_
  refine W_cut (st := [.int (if c_ = -1 then 0 else (1 : Int32) <<< (c_ &&& 31)), .int ((F 1) f), .int (nI f), .ref (V 3)]) (P := fun (H : Heap) (locs : List Loc) (ls : Array Slot) => Zt g A s.heap (roP g ed n kd) (wC g h R V I dr md ed n (va_up (va_up (va_up F 4 (F 1)) 5 (F 2)) 6 (F 3))) H locs ∧ lv_has ls 9 [(0, .ref h), (1, .int (nI f)), (2, .int c_), (3, .int (nI y)), (4, .int (lvF kd (I 3) (F 2) n (F 0) (cpl (F 1) f c_, F 3) f y i)), (5, .int (nI i)), (6, .int 1), (7, .int (nI i))]) 57 ?_ ?_
  · rintro H locs ls ⟨hZ, hl⟩
    refine lv_ior hx hb dX0_livesIn_57 ?_
    refine r_iast (f := (F 1)) (x := (((F 1) f) ||| (if c_ = -1 then 0 else (1 : Int32) <<< (c_ &&& 31)))) (ws1 := (wC g h R V I dr md ed n (va_up (va_up (va_up F 5 (F 2)) 6 (F 3)) 4 (upd (F 1) f (((F 1) f) ||| (if c_ = -1 then 0 else (1 : Int32) <<< (c_ &&& 31))))))) hX hZ 8 rfl f (by omega) (by omega) dX0_livesIn_58 rfl (fun H locs hZ => ?_)
    refine lv_iconst (v := 0) hx hb dX0_livesIn_59 (by decide) ?_
    refine lv_istore (lv' := [(8, .int 0), (0, .ref h), (1, .int (nI f)), (2, .int c_), (3, .int (nI y)), (4, .int (lvF kd (I 3) (F 2) n (F 0) (cpl (F 1) f c_, F 3) f y i)), (5, .int (nI i)), (6, .int 1), (7, .int (nI i))]) hx hb dX0_livesIn_60 hl (by decide) rfl (fun ls hl => ?_)
    refine W_loop (α := Nat) (P := fun (j : Nat) (H : Heap) (locs : List Loc) (ls : Array Slot) => j ≤ y ∧ Zt g A s.heap (roP g ed n kd) (wC g h R V I dr md ed n (va_up (va_up (va_up F 5 (F 2)) 4 ((rnS kd (I 3) (F 2) n (cpl (F 1) f c_, F 3) i j).1)) 6 ((rnS kd (I 3) (F 2) n (cpl (F 1) f c_, F 3) i j).2))) H locs ∧ lv_has ls 9 [(0, .ref h), (1, .int (nI f)), (2, .int c_), (3, .int (nI y)), (4, .int (lvF kd (I 3) (F 2) n (F 0) (cpl (F 1) f c_, F 3) f y i)), (5, .int (nI i)), (6, .int (shF (F 0) i j)), (7, .int (nI (lft i j))), (8, .int (nI j))]) (fun j => y - j) 0 ⟨Nat.zero_le _, hZ.cast (rfl), lv_cast (lv_sub (l' := [(0, .ref h), (1, .int (nI f)), (2, .int c_), (3, .int (nI y)), (4, .int (lvF kd (I 3) (F 2) n (F 0) (cpl (F 1) f c_, F 3) f y i)), (5, .int (nI i)), (6, .int 1), (7, .int (nI i)), (8, .int 0)]) hl [1, 2, 3, 4, 5, 6, 7, 8, 0] rfl) (rfl)⟩ ?_
    rintro j H locs ls ⟨hj, hZ, hl⟩ ihj
    have hlf := lft_le i j
    refine lv_iload hx hb dX0_livesIn_62 (lv_at hl 8 rfl) ?_
    refine lv_iload_n hx hb dX0_livesIn_64 rfl (lv_at hl 3 rfl) ?_
    refine lv_icmp_ge (tgt := 109) hx hb dX0_livesIn_65 (by decide) (fun c_2 => ?_) (fun c_2 => ?_)
    · have c_2n : y ≤ j := (nI_leI (a := y) (b := j) (by omega) (by omega)).mp c_2
      have ej : y = j := by omega
      subst ej
      refine lv_iload hx hb dX0_livesIn_109 (lv_at hl 4 rfl) ?_
      refine lv_aload_n hx hb dX0_livesIn_111 rfl (lv_at hl 0 rfl) ?_
      refine gf_q149 (v := .ref (R 7)) hX hZ.1 0 rfl rfl dX0_livesIn_112 ?_
      refine lv_iload_n hx hb dX0_livesIn_115 rfl (lv_at hl 1 rfl) ?_
      refine PM.ci (PM.runV (As := [.int (nI f)]) (rest := [.int (lvF kd (I 3) (F 2) n (F 0) (cpl (F 1) f c_, F 3) f y i)]) hX (K_X1_lives l g h R I dr md ed n (R 7) (V 3) (V 4) (V 5) ((rnS kd (I 3) (F 2) n (cpl (F 1) f c_, F 3) i y).1) (F 2) ((rnS kd (I 3) (F 2) n (cpl (F 1) f c_, F 3) i y).2) f (by omega)) (cv_q501 hX ⟨Nat.le_of_ble_eq_true rfl, Nat.le_of_ble_eq_true rfl⟩) (hZ.1.sub (ws' := (wA g h R I dr md ed n (R 7) (V 3) (V 4) (V 5) ((rnS kd (I 3) (F 2) n (cpl (F 1) f c_, F 3) i y).1) (F 2) ((rnS kd (I 3) (F 2) n (cpl (F 1) f c_, F 3) i y).2))) [0, 1, 7, 8, 9, 10] rfl) trivial (r_recv hX hZ.1 7 rfl rfl) rfl hl.1 rfl (Nat.le_of_ble_eq_true rfl) dX0_livesIn_116 ⟨Nat.zero_le _, Nat.zero_le _⟩) ?_
      refine lv_bif_eq (tgt := 127) hx hb dX0_livesIn_119 (by decide) (fun c_3 => ?_) (fun c_3 => ?_)
      · have c_3 := Decidable.of_not_not c_3
        refine lv_iconst (v := 0) hx hb dX0_livesIn_127 (by decide) ?_
        refine lv_iadd hx hb dX0_livesIn_128 ?_
        refine lv_istore (lv' := [(4, .int ((lvF kd (I 3) (F 2) n (F 0) (cpl (F 1) f c_, F 3) f y i) + 0)), (0, .ref h), (1, .int (nI f)), (2, .int c_), (3, .int (nI y)), (5, .int (nI i)), (6, .int (shF (F 0) i y)), (7, .int (nI (lft i y))), (8, .int (nI y))]) hx hb dX0_livesIn_129 hl (by decide) rfl (fun ls hl => ?_)
        refine lv_iinc (v := (nI (i + 1))) (lv' := [(5, .int (nI (i + 1))), (4, .int ((lvF kd (I 3) (F 2) n (F 0) (cpl (F 1) f c_, F 3) f y i) + 0)), (0, .ref h), (1, .int (nI f)), (2, .int c_), (3, .int (nI y)), (6, .int (shF (F 0) i y)), (7, .int (nI (lft i y))), (8, .int (nI y))]) hx hb dX0_livesIn_131 hl (k := 5) rfl (nI_1 _) (by decide) rfl (fun ls hl => ?_)
        refine lv_goto (tgt := 6) hx hb dX0_livesIn_134 (by decide) ?_
        exact ihi (i + 1) (va_up (va_up (va_up F 5 (F 2)) 4 ((rnS kd (I 3) (F 2) n (cpl (F 1) f c_, F 3) i y).1)) 6 ((rnS kd (I 3) (F 2) n (cpl (F 1) f c_, F 3) i y).2)) _ _ _ ⟨by omega, hZ.cast (rfl), lv_cast (lv_sub (l' := [(0, .ref h), (1, .int (nI f)), (2, .int c_), (3, .int (nI y)), (4, .int ((lvF kd (I 3) (F 2) n (F 0) (cpl (F 1) f c_, F 3) f y i) + 0)), (5, .int (nI (i + 1)))]) hl [2, 3, 4, 5, 1, 0] rfl) (by simp only [lvF, if_pos c_3])⟩ (by omega)
      refine lv_iload hx hb dX0_livesIn_122 (lv_at hl 6 rfl) ?_
      refine lv_goto (tgt := 128) hx hb dX0_livesIn_124 (by decide) ?_
      refine lv_iadd hx hb dX0_livesIn_128 ?_
      refine lv_istore (lv' := [(4, .int ((lvF kd (I 3) (F 2) n (F 0) (cpl (F 1) f c_, F 3) f y i) + (shF (F 0) i y))), (0, .ref h), (1, .int (nI f)), (2, .int c_), (3, .int (nI y)), (5, .int (nI i)), (6, .int (shF (F 0) i y)), (7, .int (nI (lft i y))), (8, .int (nI y))]) hx hb dX0_livesIn_129 hl (by decide) rfl (fun ls hl => ?_)
      refine lv_iinc (v := (nI (i + 1))) (lv' := [(5, .int (nI (i + 1))), (4, .int ((lvF kd (I 3) (F 2) n (F 0) (cpl (F 1) f c_, F 3) f y i) + (shF (F 0) i y))), (0, .ref h), (1, .int (nI f)), (2, .int c_), (3, .int (nI y)), (6, .int (shF (F 0) i y)), (7, .int (nI (lft i y))), (8, .int (nI y))]) hx hb dX0_livesIn_131 hl (k := 5) rfl (nI_1 _) (by decide) rfl (fun ls hl => ?_)
      refine lv_goto (tgt := 6) hx hb dX0_livesIn_134 (by decide) ?_
      exact ihi (i + 1) (va_up (va_up (va_up F 5 (F 2)) 4 ((rnS kd (I 3) (F 2) n (cpl (F 1) f c_, F 3) i y).1)) 6 ((rnS kd (I 3) (F 2) n (cpl (F 1) f c_, F 3) i y).2)) _ _ _ ⟨by omega, hZ.cast (rfl), lv_cast (lv_sub (l' := [(0, .ref h), (1, .int (nI f)), (2, .int c_), (3, .int (nI y)), (4, .int ((lvF kd (I 3) (F 2) n (F 0) (cpl (F 1) f c_, F 3) f y i) + (shF (F 0) i y))), (5, .int (nI (i + 1)))]) hl [2, 3, 4, 5, 1, 0] rfl) (by simp only [lvF, if_neg c_3])⟩ (by omega)
    have c_2n : ¬ y ≤ j := fun zz_ => c_2 ((nI_leI (a := y) (b := j) (by omega) (by omega)).mpr zz_)
    refine lv_iload hx hb dX0_livesIn_68 (lv_at hl 6 rfl) ?_
    refine lv_aload_n hx hb dX0_livesIn_70 rfl (lv_at hl 0 rfl) ?_
    refine gf_q146 (v := .ref (R 4)) hX hZ.1 0 rfl rfl dX0_livesIn_71 ?_
    refine lv_iload hx hb dX0_livesIn_74 (lv_at hl 7 rfl) ?_
    refine lv_bipush (v := 6) hx hb dX0_livesIn_76 (by decide) ?_
    refine lv_irem hx hb dX0_livesIn_78 (by decide) ?_
    refine lv_seti (v := (nI ((lft i j) % 6))) (pk_rem (a := (lft i j)) (d := 6) (by omega) (by omega) (by omega)) ?_
    refine r_iald (f := (F 0)) hX hZ.1 2 rfl ((lft i j) % 6) (by omega) (by omega) dX0_livesIn_79 ?_
    refine lv_imul hx hb dX0_livesIn_80 ?_
    refine lv_istore (lv' := [(6, .int ((shF (F 0) i j) * ((F 0) ((lft i j) % 6)))), (0, .ref h), (1, .int (nI f)), (2, .int c_), (3, .int (nI y)), (4, .int (lvF kd (I 3) (F 2) n (F 0) (cpl (F 1) f c_, F 3) f y i)), (5, .int (nI i)), (7, .int (nI (lft i j))), (8, .int (nI j))]) hx hb dX0_livesIn_81 hl (by decide) rfl (fun ls hl => ?_)
    refine lv_aload_n hx hb dX0_livesIn_83 rfl (lv_at hl 1 rfl) ?_
    refine gf_q149 (v := .ref (R 7)) hX hZ.1 0 rfl rfl dX0_livesIn_84 ?_
    refine lv_iload hx hb dX0_livesIn_87 (lv_at hl 7 rfl) ?_
    refine lv_bipush (v := 6) hx hb dX0_livesIn_89 (by decide) ?_
    refine lv_irem hx hb dX0_livesIn_91 (by decide) ?_
    refine lv_seti (v := (nI ((lft i j) % 6))) (pk_rem (a := (lft i j)) (d := 6) (by omega) (by omega) (by omega)) ?_
    refine MM.ci (MM.runV (As := [.int (nI ((lft i j) % 6))]) (rest := []) hX (K_X1_burn l g h R I dr md ed n (R 7) (V 3) (V 4) (V 5) ((rnS kd (I 3) (F 2) n (cpl (F 1) f c_, F 3) i j).1) (F 2) ((rnS kd (I 3) (F 2) n (cpl (F 1) f c_, F 3) i j).2) (nI ((lft i j) % 6)) kd (by omega) (hrk.sub' [0, 1, 7, 8, 9, 10] rfl)) (cv_q582 hX ⟨Nat.le_of_ble_eq_true rfl, Nat.le_of_ble_eq_true rfl⟩) (hZ.1.sub (ws' := (wA g h R I dr md ed n (R 7) (V 3) (V 4) (V 5) ((rnS kd (I 3) (F 2) n (cpl (F 1) f c_, F 3) i j).1) (F 2) ((rnS kd (I 3) (F 2) n (cpl (F 1) f c_, F 3) i j).2))) [0, 1, 7, 8, 9, 10] rfl) (hZ.2.1.sub (ws' := (wA g h R I dr md ed n (R 7) (V 3) (V 4) (V 5) ((rnS kd (I 3) (F 2) n (cpl (F 1) f c_, F 3) i j).1) (F 2) ((rnS kd (I 3) (F 2) n (cpl (F 1) f c_, F 3) i j).2))) [0, 1, 7, 8, 9, 10] (by decide) rfl) hZ.ro (r_recv hX hZ.1 7 rfl rfl) rfl hl.1 rfl (Nat.le_of_ble_eq_true rfl) dX0_livesIn_92 ⟨Nat.zero_le _, Nat.zero_le _⟩) hZ (ws1 := (wC g h R V I dr md ed n (va_up (va_up (va_up F 5 (F 2)) 4 (brL kd (I 3) (F 2) ((rnS kd (I 3) (F 2) n (cpl (F 1) f c_, F 3) i j).1) ((rnS kd (I 3) (F 2) n (cpl (F 1) f c_, F 3) i j).2) (nI ((lft i j) % 6)) n)) 6 (brK kd (F 2) ((rnS kd (I 3) (F 2) n (cpl (F 1) f c_, F 3) i j).1) ((rnS kd (I 3) (F 2) n (cpl (F 1) f c_, F 3) i j).2) (nI ((lft i j) % 6)) n)))) [0, 1, 7, 8, 9, 10] rfl rfl rfl rfl (fun H locs hZ => ?_)
    refine lv_pop hx hb dX0_livesIn_95 rfl ?_
    refine lv_iload hx hb dX0_livesIn_96 (lv_at hl 7 rfl) ?_
    refine lv_bipush (v := 6) hx hb dX0_livesIn_98 (by decide) ?_
    refine lv_idiv hx hb dX0_livesIn_100 (by decide) ?_
    refine lv_seti (v := (nI ((lft i j) / 6))) (pk_div (a := (lft i j)) (d := 6) (by omega) (by omega) (by omega)) ?_
    refine lv_istore (lv' := [(7, .int (nI ((lft i j) / 6))), (6, .int ((shF (F 0) i j) * ((F 0) ((lft i j) % 6)))), (0, .ref h), (1, .int (nI f)), (2, .int c_), (3, .int (nI y)), (4, .int (lvF kd (I 3) (F 2) n (F 0) (cpl (F 1) f c_, F 3) f y i)), (5, .int (nI i)), (8, .int (nI j))]) hx hb dX0_livesIn_101 hl (by decide) rfl (fun ls hl => ?_)
    refine lv_iinc (v := (nI (j + 1))) (lv' := [(8, .int (nI (j + 1))), (7, .int (nI ((lft i j) / 6))), (6, .int ((shF (F 0) i j) * ((F 0) ((lft i j) % 6)))), (0, .ref h), (1, .int (nI f)), (2, .int c_), (3, .int (nI y)), (4, .int (lvF kd (I 3) (F 2) n (F 0) (cpl (F 1) f c_, F 3) f y i)), (5, .int (nI i))]) hx hb dX0_livesIn_103 hl (k := 8) rfl (nI_1 _) (by decide) rfl (fun ls hl => ?_)
    refine lv_goto (tgt := 62) hx hb dX0_livesIn_106 (by decide) ?_
    exact ihj (j + 1) _ _ _ ⟨by omega, hZ.cast (rfl), lv_cast (lv_sub (l' := [(0, .ref h), (1, .int (nI f)), (2, .int c_), (3, .int (nI y)), (4, .int (lvF kd (I 3) (F 2) n (F 0) (cpl (F 1) f c_, F 3) f y i)), (5, .int (nI i)), (6, .int ((shF (F 0) i j) * ((F 0) ((lft i j) % 6)))), (7, .int (nI ((lft i j) / 6))), (8, .int (nI (j + 1)))]) hl [3, 4, 5, 6, 7, 8, 2, 1, 0] rfl) (by rfl)⟩ (by omega)
  intro J_57
  refine lv_iload_n hx hb dX0_livesIn_45 rfl (lv_at hl 4 rfl) ?_
  refine lv_iconst (v := (-1)) hx hb dX0_livesIn_46 (by decide) ?_
  refine lv_icmp_ne (tgt := 54) hx hb dX0_livesIn_47 (by decide) (fun c_4 => ?_) (fun c_4 => ?_)
  · refine lv_iconst (v := 1) hx hb dX0_livesIn_54 (by decide) ?_
    refine lv_iload_n hx hb dX0_livesIn_55 rfl (lv_at hl 4 rfl) ?_
    refine lv_ishl hx hb dX0_livesIn_56 ?_
    refine lv_seti (v := (if c_ = -1 then 0 else (1 : Int32) <<< (c_ &&& 31))) (by simp only [if_neg c_4]) ?_
    exact J_57 _ _ _ ⟨hZ.cast (rfl), lv_cast (lv_sub (l' := [(0, .ref h), (1, .int (nI f)), (2, .int c_), (3, .int (nI y)), (4, .int (lvF kd (I 3) (F 2) n (F 0) (cpl (F 1) f c_, F 3) f y i)), (5, .int (nI i)), (6, .int 1), (7, .int (nI i))]) hl [2, 3, 4, 5, 6, 7, 1, 0] rfl) (rfl)⟩
  refine lv_iconst (v := 0) hx hb dX0_livesIn_50 (by decide) ?_
  refine lv_goto (tgt := 57) hx hb dX0_livesIn_51 (by decide) ?_
  refine lv_seti (v := (if c_ = -1 then 0 else (1 : Int32) <<< (c_ &&& 31))) (by simp only [if_pos c_4]) ?_
  exact J_57 _ _ _ ⟨hZ.cast (rfl), lv_cast (lv_sub (l' := [(0, .ref h), (1, .int (nI f)), (2, .int c_), (3, .int (nI y)), (4, .int (lvF kd (I 3) (F 2) n (F 0) (cpl (F 1) f c_, F 3) f y i)), (5, .int (nI i)), (6, .int 1), (7, .int (nI i))]) hl [2, 3, 4, 5, 6, 7, 1, 0] rfl) (rfl)⟩

set_option maxHeartbeats 400000 in
set_option maxRecDepth 100000 in
theorem K_X0_oddsOf (l : Launch) (g : Gx) (h : Nat) (R : Nat → Nat) (V : Nat → Nat) (I : Nat → Int32) (dr : Int64) (md : Int32) (ed : Nat) (n : Nat) (F : Nat → Nat → Int32) (f : Nat) (y : Nat) (part : Int32) (kd : Nat → Nat) (hn : n ≤ 5) (hf : f < n) (hy : y ≤ 4) (hlo : LotsOk (F 0)) (hrk : RoK (roP g ed n kd) (wC g h R V I dr md ed n F)) : EM l g yX0_oddsOf cX0_oddsOf 4 (some .int) 7 [.ref h, .int (nI f), .int (nI y), .int part] (roP g ed n kd) (wC g h R V I dr md ed n F) (fun u => (wC g h R V I dr md ed n (va_up (va_up (va_up F 4 (u 4)) 5 (u 5)) 6 (u 6)))) (some (.int (odF kd I F n f y part))) := by
  refine EM.of (own := "BurntLetters") (by decide) rfl (Nat.le_of_ble_eq_true rfl) hrk ?_
  intro p e s m below meth c A hX hr hlk hZ ls hl
  have hx := hX.1.1
  have hb := hX.1.2.1
  have hl : lv_has ls 4 [(0, .ref h), (1, .int (nI f)), (2, .int (nI y)), (3, .int part)] := hl
  have hp10 := p10_le hy
  have hnn := liF_nat (kd := kd) (I := I) (F := F) (n := n) (f := f) (c := -1) hlo hy
  refine lv_aload_n hx hb dX0_oddsOf_0 rfl (lv_at hl 0 rfl) ?_
  refine lv_iload_n hx hb dX0_oddsOf_1 rfl (lv_at hl 1 rfl) ?_
  refine lv_iconst (v := (-1)) hx hb dX0_oddsOf_2 (by decide) ?_
  refine lv_iload_n hx hb dX0_oddsOf_3 rfl (lv_at hl 2 rfl) ?_
  refine EM.ciA (EM.runV (As := [.int (nI f), .int (-1), .int (nI y)]) (rest := []) hX (K_X0_livesIn l g h R V I dr md ed n F f (-1) y kd (by omega) (by omega) (by omega) (hrk.addr adC)) (cv_q649 hX ⟨Nat.le_of_ble_eq_true rfl, Nat.le_of_ble_eq_true rfl⟩) hZ.1 hZ.2.1 hZ.ro (r_recv hX hZ.1 0 rfl rfl) rfl hl.1 rfl (Nat.le_of_ble_eq_true rfl) dX0_oddsOf_4 ⟨Nat.zero_le _, Nat.zero_le _⟩) hZ (fun _ => adC) (fun u_1 H locs hZ => ?_)
  refine lv_seti (v := (nI (ix (liF kd I F n f (-1) y)))) (hnn.1) ?_
  refine lv_bipush (v := 10) hx hb dX0_oddsOf_7 (by decide) ?_
  refine lv_iload_n hx hb dX0_oddsOf_9 rfl (lv_at hl 2 rfl) ?_
  refine PM.ci (PM.runS (As := [.int 10, .int (nI y)]) (rest := [.int (nI (ix (liF kd I F n f (-1) y)))]) hX (K_X0_power l g 10 y (by omega)) (cs_q653 hX ⟨Nat.le_of_ble_eq_true rfl, Nat.le_of_ble_eq_true rfl⟩) va_P_nil trivial rfl hl.1 rfl (Nat.le_of_ble_eq_true rfl) dX0_oddsOf_10 ⟨Nat.zero_le _, Nat.zero_le _⟩) ?_
  refine lv_seti (v := (nI (p10 y))) (hp10.1) ?_
  refine lv_iload_n hx hb dX0_oddsOf_13 rfl (lv_at hl 3 rfl) ?_
  refine PM.ci (PM.runS (As := [.int (nI (ix (liF kd I F n f (-1) y))), .int (nI (p10 y)), .int part]) (rest := []) hX (K_X0_lowest l g (ix (liF kd I F n f (-1) y)) (p10 y) part (hnn.2) (by omega) (by omega)) (cs_q660 hX ⟨Nat.le_of_ble_eq_true rfl, Nat.le_of_ble_eq_true rfl⟩) va_P_nil trivial rfl hl.1 rfl (Nat.le_of_ble_eq_true rfl) dX0_oddsOf_14 ⟨Nat.zero_le _, Nat.zero_le _⟩) ?_
  exact EM.iret hX hr hlk hZ (ws1 := fun u => (wC g h R V I dr md ed n (va_up (va_up (va_up F 4 (u 4)) 5 (u 5)) 6 (u 6)))) (va_up (va_up (va_up F 4 (u_1 4)) 5 (u_1 5)) 6 (u_1 6)) (rfl) (rfl) dX0_oddsOf_17

set_option maxHeartbeats 400000 in
set_option maxRecDepth 100000 in
theorem K_X0_odds (l : Launch) (g : Gx) (h : Nat) (R : Nat → Nat) (V : Nat → Nat) (I : Nat → Int32) (dr : Int64) (md : Int32) (ed : Nat) (n : Nat) (F : Nat → Nat → Int32) (x : Int32) (y : Int32) (part : Int32) (kd : Nat → Nat) (hn : n ≤ 5) (hlo : LotsOk (F 0)) (hrk : RoK (roP g ed n kd) (wC g h R V I dr md ed n F)) : EM l g yX0_odds cX0_odds 4 (some .int) 8 [.ref h, .int x, .int y, .int part] (roP g ed n kd) (wC g h R V I dr md ed n F) (fun u => (wC g h R V I dr md ed n (va_up (va_up (va_up F 4 (u 4)) 5 (u 5)) 6 (u 6)))) (some (.int (oddR kd I F n x y part))) := by
  refine EM.of (own := "BurntLetters") (by decide) rfl (Nat.le_of_ble_eq_true rfl) hrk ?_
  intro p e s m below meth c A hX hr hlk hZ ls hl
  have hx := hX.1.1
  have hb := hX.1.2.1
  have hl : lv_has ls 4 [(0, .ref h), (1, .int x), (2, .int y), (3, .int part)] := hl
  refine lv_aload_n hx hb dX0_odds_0 rfl (lv_at hl 0 rfl) ?_
  refine lv_iload_n hx hb dX0_odds_1 rfl (lv_at hl 1 rfl) ?_
  refine PM.ci (PM.runV (As := [.int x]) (rest := []) hX (K_X0_isFile l g h R V I dr md ed n F x) (cv_q462 hX ⟨Nat.le_of_ble_eq_true rfl, Nat.le_of_ble_eq_true rfl⟩) hZ.1 trivial (r_recv hX hZ.1 0 rfl rfl) rfl hl.1 rfl (Nat.le_of_ble_eq_true rfl) dX0_odds_2 ⟨Nat.zero_le _, Nat.zero_le _⟩) ?_
  refine lv_bif_ne (tgt := 11) hx hb dX0_odds_5 (by decide) (fun c_1 => ?_) (fun c_1 => ?_)
  · obtain ⟨f, hf, rfl⟩ := file_nat hn c_1
    refine lv_iload_n hx hb dX0_odds_11 rfl (lv_at hl 2 rfl) ?_
    refine lv_iconst (v := 0) hx hb dX0_odds_12 (by decide) ?_
    refine lv_iconst (v := 4) hx hb dX0_odds_13 (by decide) ?_
    refine PM.ci (PM.runS (As := [.int y, .int 0, .int 4]) (rest := []) hX (K_X0_in l g y 0 4) (cs_q216 hX ⟨Nat.le_of_ble_eq_true rfl, Nat.le_of_ble_eq_true rfl⟩) va_P_nil trivial rfl hl.1 rfl (Nat.le_of_ble_eq_true rfl) dX0_odds_14 ⟨Nat.zero_le _, Nat.zero_le _⟩) ?_
    refine lv_bif_eq (tgt := 39) hx hb dX0_odds_17 (by decide) (fun c_2 => ?_) (fun c_2 => ?_)
    · refine lv_bipush (v := (-102)) hx hb dX0_odds_39 (by decide) ?_
      exact EM.iret hX hr hlk hZ (ws1 := fun u => (wC g h R V I dr md ed n (va_up (va_up (va_up F 4 (u 4)) 5 (u 5)) 6 (u 6)))) F (rfl) (by first | (simp only [oddR, if_pos c_1, if_neg c_2]; done) | (simp only [oddR, if_pos c_1, if_neg c_2, ix_nI (show f < 2 ^ 31 by omega), ix_nI (show yy < 2 ^ 31 by omega)]; done)) dX0_odds_41
    obtain ⟨yy, hyy, rfl⟩ := inP_nat (b := 4) (by omega) c_2
    refine lv_iload_n hx hb dX0_odds_20 rfl (lv_at hl 3 rfl) ?_
    refine lv_iconst (v := 0) hx hb dX0_odds_21 (by decide) ?_
    refine lv_iconst (v := 1) hx hb dX0_odds_22 (by decide) ?_
    refine PM.ci (PM.runS (As := [.int part, .int 0, .int 1]) (rest := []) hX (K_X0_in l g part 0 1) (cs_q216 hX ⟨Nat.le_of_ble_eq_true rfl, Nat.le_of_ble_eq_true rfl⟩) va_P_nil trivial rfl hl.1 rfl (Nat.le_of_ble_eq_true rfl) dX0_odds_23 ⟨Nat.zero_le _, Nat.zero_le _⟩) ?_
    refine lv_bif_eq (tgt := 39) hx hb dX0_odds_26 (by decide) (fun c_3 => ?_) (fun c_3 => ?_)
    · refine lv_bipush (v := (-102)) hx hb dX0_odds_39 (by decide) ?_
      exact EM.iret hX hr hlk hZ (ws1 := fun u => (wC g h R V I dr md ed n (va_up (va_up (va_up F 4 (u 4)) 5 (u 5)) 6 (u 6)))) F (rfl) (by first | (simp only [oddR, if_pos c_1, if_pos c_2, if_neg c_3]; done) | (simp only [oddR, if_pos c_1, if_pos c_2, if_neg c_3, ix_nI (show f < 2 ^ 31 by omega), ix_nI (show yy < 2 ^ 31 by omega)]; done)) dX0_odds_41
    refine lv_aload_n hx hb dX0_odds_29 rfl (lv_at hl 0 rfl) ?_
    refine lv_iload_n hx hb dX0_odds_30 rfl (lv_at hl 1 rfl) ?_
    refine lv_iload_n hx hb dX0_odds_31 rfl (lv_at hl 2 rfl) ?_
    refine lv_iload_n hx hb dX0_odds_32 rfl (lv_at hl 3 rfl) ?_
    refine EM.ciA (EM.runV (As := [.int (nI f), .int (nI yy), .int part]) (rest := []) hX (K_X0_oddsOf l g h R V I dr md ed n F f yy part kd (by omega) (by omega) (by omega) (hlo) (hrk.addr adC)) (cv_q645 hX ⟨Nat.le_of_ble_eq_true rfl, Nat.le_of_ble_eq_true rfl⟩) hZ.1 hZ.2.1 hZ.ro (r_recv hX hZ.1 0 rfl rfl) rfl hl.1 rfl (Nat.le_of_ble_eq_true rfl) dX0_odds_33 ⟨Nat.zero_le _, Nat.zero_le _⟩) hZ (fun _ => adC) (fun u_4 H locs hZ => ?_)
    refine lv_goto (tgt := 41) hx hb dX0_odds_36 (by decide) ?_
    exact EM.iret hX hr hlk hZ (ws1 := fun u => (wC g h R V I dr md ed n (va_up (va_up (va_up F 4 (u 4)) 5 (u 5)) 6 (u 6)))) (va_up (va_up (va_up F 4 (u_4 4)) 5 (u_4 5)) 6 (u_4 6)) (rfl) (by first | (simp only [oddR, if_pos c_1, if_pos c_2, if_pos c_3]; done) | (simp only [oddR, if_pos c_1, if_pos c_2, if_pos c_3, ix_nI (show f < 2 ^ 31 by omega), ix_nI (show yy < 2 ^ 31 by omega)]; done)) dX0_odds_41
  refine lv_bipush (v := (-101)) hx hb dX0_odds_8 (by decide) ?_
  exact EM.iret hX hr hlk hZ (ws1 := fun u => (wC g h R V I dr md ed n (va_up (va_up (va_up F 4 (u 4)) 5 (u 5)) 6 (u 6)))) F (rfl) (by first | (simp only [oddR, if_neg c_1]; done) | (simp only [oddR, if_neg c_1, ix_nI (show f < 2 ^ 31 by omega), ix_nI (show yy < 2 ^ 31 by omega)]; done)) dX0_odds_10

set_option maxHeartbeats 400000 in
set_option maxRecDepth 100000 in
theorem K_X0_whereOf (l : Launch) (g : Gx) (h : Nat) (R : Nat → Nat) (V : Nat → Nat) (I : Nat → Int32) (dr : Int64) (md : Int32) (ed : Nat) (n : Nat) (F : Nat → Nat → Int32) (f : Nat) (y : Nat) (kd : Nat → Nat) (hn : n ≤ 5) (hf : f < n) (hy : y ≤ 4) (hrk : RoK (roP g ed n kd) (wC g h R V I dr md ed n F)) : EM l g yX0_whereOf cX0_whereOf 7 (some .int) 7 [.ref h, .int (nI f), .int (nI y)] (roP g ed n kd) (wC g h R V I dr md ed n F) (fun u => (wC g h R V I dr md ed n (va_up (va_up (va_up F 4 (u 4)) 5 (u 5)) 6 (u 6)))) (some (.int ((whF kd I F n f y 6).1))) := by
  refine EM.of (own := "BurntLetters") (by decide) rfl (Nat.le_of_ble_eq_true rfl) hrk ?_
  intro p e s m below meth c A hX hr hlk hZ ls hl
  have hx := hX.1.1
  have hb := hX.1.2.1
  have hl : lv_has ls 7 [(0, .ref h), (1, .int (nI f)), (2, .int (nI y))] := hl
  refine lv_iconst (v := (-1)) hx hb dX0_whereOf_0 (by decide) ?_
  refine lv_istore_n (lv' := [(3, .int (-1)), (0, .ref h), (1, .int (nI f)), (2, .int (nI y))]) hx hb dX0_whereOf_1 rfl hl (by decide) rfl (fun ls hl => ?_)
  refine lv_aload_n hx hb dX0_whereOf_2 rfl (lv_at hl 1 rfl) ?_
  refine lv_iload_n hx hb dX0_whereOf_3 rfl (lv_at hl 2 rfl) ?_
  refine lv_iconst (v := (-1)) hx hb dX0_whereOf_4 (by decide) ?_
  refine lv_iload_n hx hb dX0_whereOf_5 rfl (lv_at hl 3 rfl) ?_
  refine EM.ciA (EM.runV (As := [.int (nI f), .int (-1), .int (nI y)]) (rest := []) hX (K_X0_livesIn l g h R V I dr md ed n F f (-1) y kd (by omega) (by omega) (by omega) (hrk.addr adC)) (cv_q649 hX ⟨Nat.le_of_ble_eq_true rfl, Nat.le_of_ble_eq_true rfl⟩) hZ.1 hZ.2.1 hZ.ro (r_recv hX hZ.1 0 rfl rfl) rfl hl.1 rfl (Nat.le_of_ble_eq_true rfl) dX0_whereOf_6 ⟨Nat.zero_le _, Nat.zero_le _⟩) hZ (fun _ => adC) (fun u_1 H locs hZ => ?_)
  refine lv_istore (lv' := [(4, .int (liF kd I F n f (-1) y)), (3, .int (-1)), (0, .ref h), (1, .int (nI f)), (2, .int (nI y))]) hx hb dX0_whereOf_9 hl (by decide) rfl (fun ls hl => ?_)
  refine lv_iconst (v := 0) hx hb dX0_whereOf_11 (by decide) ?_
  refine lv_istore (lv' := [(5, .int 0), (4, .int (liF kd I F n f (-1) y)), (3, .int (-1)), (0, .ref h), (1, .int (nI f)), (2, .int (nI y))]) hx hb dX0_whereOf_12 hl (by decide) rfl (fun ls hl => ?_)
  refine W_loopU (α := Nat) (P := fun (i : Nat) (u : Nat → Nat → Int32) (H : Heap) (locs : List Loc) (ls : Array Slot) => i ≤ 6 ∧ Zt g A s.heap (roP g ed n kd) (wC g h R V I dr md ed n (va_up (va_up (va_up F 4 (u 4)) 5 (u 5)) 6 (u 6))) H locs ∧ lv_has ls 7 [(0, .ref h), (1, .int (nI f)), (2, .int (nI y)), (3, .int ((whF kd I F n f y i).1)), (4, .int ((whF kd I F n f y i).2)), (5, .int (nI i))]) (fun i => 6 - i) 0 (va_up (va_up (va_up F 4 (u_1 4)) 5 (u_1 5)) 6 (u_1 6)) ⟨Nat.zero_le _, hZ.cast (rfl), lv_cast (lv_sub (l' := [(0, .ref h), (1, .int (nI f)), (2, .int (nI y)), (3, .int (-1)), (4, .int (liF kd I F n f (-1) y)), (5, .int 0)]) hl [3, 4, 5, 2, 1, 0] rfl) (rfl)⟩ ?_
  rintro i u H locs ls ⟨hi, hZ, hl⟩ ihi
  refine lv_iload hx hb dX0_whereOf_14 (lv_at hl 5 rfl) ?_
  refine lv_bipush (v := 6) hx hb dX0_whereOf_16 (by decide) ?_
  refine lv_icmp_ge (tgt := 73) hx hb dX0_whereOf_18 (by decide) (fun c_2 => ?_) (fun c_2 => ?_)
  · have c_2n : 6 ≤ i := (nI_leI (a := 6) (b := i) (by omega) (by omega)).mp c_2
    have ei : i = 6 := by omega
    subst ei
    refine lv_iload_n hx hb dX0_whereOf_73 rfl (lv_at hl 3 rfl) ?_
    exact EM.iret hX hr hlk hZ (ws1 := fun u => (wC g h R V I dr md ed n (va_up (va_up (va_up F 4 (u 4)) 5 (u 5)) 6 (u 6)))) (va_up (va_up (va_up F 4 (u 4)) 5 (u 5)) 6 (u 6)) (rfl) (rfl) dX0_whereOf_74
  have c_2n : ¬ 6 ≤ i := fun zz_ => c_2 ((nI_leI (a := 6) (b := i) (by omega) (by omega)).mpr zz_)
  refine lv_aload_n hx hb dX0_whereOf_21 rfl (lv_at hl 0 rfl) ?_
  refine gf_q148 (v := .ref (R 6)) hX hZ.1 0 rfl rfl dX0_whereOf_22 ?_
  refine lv_iload_n hx hb dX0_whereOf_25 rfl (lv_at hl 1 rfl) ?_
  refine lv_iload hx hb dX0_whereOf_26 (lv_at hl 5 rfl) ?_
  refine PM.ci (PM.runV (As := [.int (nI f), .int (nI i)]) (rest := []) hX (K_X1_mayCopy l g h R I dr md ed n (R 6) (V 0) (V 1) (V 2) (F 1) (F 2) (F 3) f (nI i) kd (by omega) (by omega)) (cv_q543 hX ⟨Nat.le_of_ble_eq_true rfl, Nat.le_of_ble_eq_true rfl⟩) (hZ.1.sub (ws' := (wA g h R I dr md ed n (R 6) (V 0) (V 1) (V 2) (F 1) (F 2) (F 3))) [0, 1, 3, 4, 5, 6] rfl) hZ.ro (r_recv hX hZ.1 3 rfl rfl) rfl hl.1 rfl (Nat.le_of_ble_eq_true rfl) dX0_whereOf_28 ⟨Nat.zero_le _, Nat.zero_le _⟩) ?_
  refine lv_bif_eq (tgt := 67) hx hb dX0_whereOf_31 (by decide) (fun c_3 => ?_) (fun c_3 => ?_)
  · refine lv_iinc (v := (nI (i + 1))) (lv' := [(5, .int (nI (i + 1))), (0, .ref h), (1, .int (nI f)), (2, .int (nI y)), (3, .int ((whF kd I F n f y i).1)), (4, .int ((whF kd I F n f y i).2))]) hx hb dX0_whereOf_67 hl (k := 5) rfl (nI_1 _) (by decide) rfl (fun ls hl => ?_)
    refine lv_goto (tgt := 14) hx hb dX0_whereOf_70 (by decide) ?_
    exact ihi (i + 1) (va_up (va_up (va_up F 4 (u 4)) 5 (u 5)) 6 (u 6)) _ _ _ ⟨by omega, hZ.cast (rfl), lv_cast (lv_sub (l' := [(0, .ref h), (1, .int (nI f)), (2, .int (nI y)), (3, .int ((whF kd I F n f y i).1)), (4, .int ((whF kd I F n f y i).2)), (5, .int (nI (i + 1)))]) hl [1, 2, 3, 4, 5, 0] rfl) (by simp only [whF, if_neg c_2, if_neg c_3])⟩ (by omega)
  refine lv_aload_n hx hb dX0_whereOf_34 rfl (lv_at hl 0 rfl) ?_
  refine lv_iload_n hx hb dX0_whereOf_35 rfl (lv_at hl 1 rfl) ?_
  refine lv_iload hx hb dX0_whereOf_36 (lv_at hl 5 rfl) ?_
  refine lv_iload_n hx hb dX0_whereOf_38 rfl (lv_at hl 2 rfl) ?_
  refine EM.ciA (EM.runV (As := [.int (nI f), .int (nI i), .int (nI y)]) (rest := []) hX (K_X0_livesIn l g h R V I dr md ed n (va_up (va_up (va_up F 4 (u 4)) 5 (u 5)) 6 (u 6)) f (nI i) y kd (by omega) (by omega) (by omega) (hrk.addr adC)) (cv_q649 hX ⟨Nat.le_of_ble_eq_true rfl, Nat.le_of_ble_eq_true rfl⟩) hZ.1 hZ.2.1 hZ.ro (r_recv hX hZ.1 0 rfl rfl) rfl hl.1 rfl (Nat.le_of_ble_eq_true rfl) dX0_whereOf_39 ⟨Nat.zero_le _, Nat.zero_le _⟩) hZ (fun _ => adC) (fun u_4 H locs hZ => ?_)
  refine lv_seti (v := (liF kd I F n f (nI i) y)) (rfl) ?_
  refine lv_istore (lv' := [(6, .int (liF kd I F n f (nI i) y)), (0, .ref h), (1, .int (nI f)), (2, .int (nI y)), (3, .int ((whF kd I F n f y i).1)), (4, .int ((whF kd I F n f y i).2)), (5, .int (nI i))]) hx hb dX0_whereOf_42 hl (by decide) rfl (fun ls hl => ?_)
  refine lv_iload hx hb dX0_whereOf_44 (lv_at hl 0 rfl) ?_
  refine lv_iload hx hb dX0_whereOf_46 (lv_at hl 5 rfl) ?_
  refine lv_icmp_le (tgt := 56) hx hb dX0_whereOf_48 (by decide) (fun c_5 => ?_) (fun c_5 => ?_)
  · refine lv_iload_n hx hb dX0_whereOf_56 rfl (lv_at hl 4 rfl) ?_
    refine lv_istore_n (lv' := [(3, .int ((whF kd I F n f y i).1)), (6, .int (liF kd I F n f (nI i) y)), (0, .ref h), (1, .int (nI f)), (2, .int (nI y)), (4, .int ((whF kd I F n f y i).2)), (5, .int (nI i))]) hx hb dX0_whereOf_57 rfl hl (by decide) rfl (fun ls hl => ?_)
    refine lv_iload hx hb dX0_whereOf_58 (lv_at hl 5 rfl) ?_
    refine lv_iload hx hb dX0_whereOf_60 (lv_at hl 1 rfl) ?_
    refine va_mmax (x := ((whF kd I F n f y i).2)) (y := (liF kd I F n f (nI i) y)) hx hb (by rw [hX.1.2.2.1]; exact hl.1.symm) hX.1.2.2.2.1 (hX.w q671) (hX.w q422) (hX.w q68) (hX.w q423) (Nat.le_of_ble_eq_true rfl) (Nat.le_of_ble_eq_true rfl) (Nat.zero_le _) (Nat.zero_le _) dX0_whereOf_62 ?_
    refine lv_istore (lv' := [(4, .int (if ((whF kd I F n f y i).2) < (liF kd I F n f (nI i) y) then (liF kd I F n f (nI i) y) else ((whF kd I F n f y i).2))), (3, .int ((whF kd I F n f y i).1)), (6, .int (liF kd I F n f (nI i) y)), (0, .ref h), (1, .int (nI f)), (2, .int (nI y)), (5, .int (nI i))]) hx hb dX0_whereOf_65 hl (by decide) rfl (fun ls hl => ?_)
    refine lv_iinc (v := (nI (i + 1))) (lv' := [(5, .int (nI (i + 1))), (4, .int (if ((whF kd I F n f y i).2) < (liF kd I F n f (nI i) y) then (liF kd I F n f (nI i) y) else ((whF kd I F n f y i).2))), (3, .int ((whF kd I F n f y i).1)), (6, .int (liF kd I F n f (nI i) y)), (0, .ref h), (1, .int (nI f)), (2, .int (nI y))]) hx hb dX0_whereOf_67 hl (k := 6) rfl (nI_1 _) (by decide) rfl (fun ls hl => ?_)
    refine lv_goto (tgt := 14) hx hb dX0_whereOf_70 (by decide) ?_
    exact ihi (i + 1) (va_up (va_up (va_up F 4 (u_4 4)) 5 (u_4 5)) 6 (u_4 6)) _ _ _ ⟨by omega, hZ.cast (rfl), lv_cast (lv_sub (l' := [(0, .ref h), (1, .int (nI f)), (2, .int (nI y)), (3, .int ((whF kd I F n f y i).1)), (4, .int (if ((whF kd I F n f y i).2) < (liF kd I F n f (nI i) y) then (liF kd I F n f (nI i) y) else ((whF kd I F n f y i).2))), (5, .int (nI (i + 1)))]) hl [4, 5, 6, 2, 1, 0] rfl) (by simp only [whF, if_neg c_2, if_pos c_3, if_pos c_5])⟩ (by omega)
  refine lv_iload hx hb dX0_whereOf_51 (lv_at hl 6 rfl) ?_
  refine lv_goto (tgt := 57) hx hb dX0_whereOf_53 (by decide) ?_
  refine lv_istore_n (lv' := [(3, .int (nI i)), (6, .int (liF kd I F n f (nI i) y)), (0, .ref h), (1, .int (nI f)), (2, .int (nI y)), (4, .int ((whF kd I F n f y i).2)), (5, .int (nI i))]) hx hb dX0_whereOf_57 rfl hl (by decide) rfl (fun ls hl => ?_)
  refine lv_iload hx hb dX0_whereOf_58 (lv_at hl 5 rfl) ?_
  refine lv_iload hx hb dX0_whereOf_60 (lv_at hl 1 rfl) ?_
  refine va_mmax (x := ((whF kd I F n f y i).2)) (y := (liF kd I F n f (nI i) y)) hx hb (by rw [hX.1.2.2.1]; exact hl.1.symm) hX.1.2.2.2.1 (hX.w q671) (hX.w q422) (hX.w q68) (hX.w q423) (Nat.le_of_ble_eq_true rfl) (Nat.le_of_ble_eq_true rfl) (Nat.zero_le _) (Nat.zero_le _) dX0_whereOf_62 ?_
  refine lv_istore (lv' := [(4, .int (if ((whF kd I F n f y i).2) < (liF kd I F n f (nI i) y) then (liF kd I F n f (nI i) y) else ((whF kd I F n f y i).2))), (3, .int (nI i)), (6, .int (liF kd I F n f (nI i) y)), (0, .ref h), (1, .int (nI f)), (2, .int (nI y)), (5, .int (nI i))]) hx hb dX0_whereOf_65 hl (by decide) rfl (fun ls hl => ?_)
  refine lv_iinc (v := (nI (i + 1))) (lv' := [(5, .int (nI (i + 1))), (4, .int (if ((whF kd I F n f y i).2) < (liF kd I F n f (nI i) y) then (liF kd I F n f (nI i) y) else ((whF kd I F n f y i).2))), (3, .int (nI i)), (6, .int (liF kd I F n f (nI i) y)), (0, .ref h), (1, .int (nI f)), (2, .int (nI y))]) hx hb dX0_whereOf_67 hl (k := 6) rfl (nI_1 _) (by decide) rfl (fun ls hl => ?_)
  refine lv_goto (tgt := 14) hx hb dX0_whereOf_70 (by decide) ?_
  exact ihi (i + 1) (va_up (va_up (va_up F 4 (u_4 4)) 5 (u_4 5)) 6 (u_4 6)) _ _ _ ⟨by omega, hZ.cast (rfl), lv_cast (lv_sub (l' := [(0, .ref h), (1, .int (nI f)), (2, .int (nI y)), (3, .int (nI i)), (4, .int (if ((whF kd I F n f y i).2) < (liF kd I F n f (nI i) y) then (liF kd I F n f (nI i) y) else ((whF kd I F n f y i).2))), (5, .int (nI (i + 1)))]) hl [4, 5, 6, 2, 1, 0] rfl) (by simp only [whF, if_neg c_2, if_pos c_3, if_neg c_5])⟩ (by omega)

set_option maxHeartbeats 400000 in
set_option maxRecDepth 100000 in
theorem K_X0_where (l : Launch) (g : Gx) (h : Nat) (R : Nat → Nat) (V : Nat → Nat) (I : Nat → Int32) (dr : Int64) (md : Int32) (ed : Nat) (n : Nat) (F : Nat → Nat → Int32) (x : Int32) (y : Int32) (kd : Nat → Nat) (hn : n ≤ 5) (hrk : RoK (roP g ed n kd) (wC g h R V I dr md ed n F)) : EM l g yX0_where cX0_where 3 (some .int) 8 [.ref h, .int x, .int y] (roP g ed n kd) (wC g h R V I dr md ed n F) (fun u => (wC g h R V I dr md ed n (va_up (va_up (va_up F 4 (u 4)) 5 (u 5)) 6 (u 6)))) (some (.int (wheR kd I F n x y))) := by
  refine EM.of (own := "BurntLetters") (by decide) rfl (Nat.le_of_ble_eq_true rfl) hrk ?_
  intro p e s m below meth c A hX hr hlk hZ ls hl
  have hx := hX.1.1
  have hb := hX.1.2.1
  have hl : lv_has ls 3 [(0, .ref h), (1, .int x), (2, .int y)] := hl
  refine lv_aload_n hx hb dX0_where_0 rfl (lv_at hl 0 rfl) ?_
  refine lv_iload_n hx hb dX0_where_1 rfl (lv_at hl 1 rfl) ?_
  refine PM.ci (PM.runV (As := [.int x]) (rest := []) hX (K_X0_isFile l g h R V I dr md ed n F x) (cv_q462 hX ⟨Nat.le_of_ble_eq_true rfl, Nat.le_of_ble_eq_true rfl⟩) hZ.1 trivial (r_recv hX hZ.1 0 rfl rfl) rfl hl.1 rfl (Nat.le_of_ble_eq_true rfl) dX0_where_2 ⟨Nat.zero_le _, Nat.zero_le _⟩) ?_
  refine lv_bif_ne (tgt := 11) hx hb dX0_where_5 (by decide) (fun c_1 => ?_) (fun c_1 => ?_)
  · obtain ⟨f, hf, rfl⟩ := file_nat hn c_1
    refine lv_iload_n hx hb dX0_where_11 rfl (lv_at hl 2 rfl) ?_
    refine lv_iconst (v := 0) hx hb dX0_where_12 (by decide) ?_
    refine lv_iconst (v := 4) hx hb dX0_where_13 (by decide) ?_
    refine PM.ci (PM.runS (As := [.int y, .int 0, .int 4]) (rest := []) hX (K_X0_in l g y 0 4) (cs_q216 hX ⟨Nat.le_of_ble_eq_true rfl, Nat.le_of_ble_eq_true rfl⟩) va_P_nil trivial rfl hl.1 rfl (Nat.le_of_ble_eq_true rfl) dX0_where_14 ⟨Nat.zero_le _, Nat.zero_le _⟩) ?_
    refine lv_bif_eq (tgt := 29) hx hb dX0_where_17 (by decide) (fun c_2 => ?_) (fun c_2 => ?_)
    · refine lv_bipush (v := (-102)) hx hb dX0_where_29 (by decide) ?_
      exact EM.iret hX hr hlk hZ (ws1 := fun u => (wC g h R V I dr md ed n (va_up (va_up (va_up F 4 (u 4)) 5 (u 5)) 6 (u 6)))) F (rfl) (by first | (simp only [wheR, if_pos c_1, if_neg c_2]; done) | (simp only [wheR, if_pos c_1, if_neg c_2, ix_nI (show f < 2 ^ 31 by omega), ix_nI (show yy < 2 ^ 31 by omega)]; done)) dX0_where_31
    obtain ⟨yy, hyy, rfl⟩ := inP_nat (b := 4) (by omega) c_2
    refine lv_aload_n hx hb dX0_where_20 rfl (lv_at hl 0 rfl) ?_
    refine lv_iload_n hx hb dX0_where_21 rfl (lv_at hl 1 rfl) ?_
    refine lv_iload_n hx hb dX0_where_22 rfl (lv_at hl 2 rfl) ?_
    refine EM.ciA (EM.runV (As := [.int (nI f), .int (nI yy)]) (rest := []) hX (K_X0_whereOf l g h R V I dr md ed n F f yy kd (by omega) (by omega) (by omega) (hrk.addr adC)) (cv_q667 hX ⟨Nat.le_of_ble_eq_true rfl, Nat.le_of_ble_eq_true rfl⟩) hZ.1 hZ.2.1 hZ.ro (r_recv hX hZ.1 0 rfl rfl) rfl hl.1 rfl (Nat.le_of_ble_eq_true rfl) dX0_where_23 ⟨Nat.zero_le _, Nat.zero_le _⟩) hZ (fun _ => adC) (fun u_3 H locs hZ => ?_)
    refine lv_goto (tgt := 31) hx hb dX0_where_26 (by decide) ?_
    exact EM.iret hX hr hlk hZ (ws1 := fun u => (wC g h R V I dr md ed n (va_up (va_up (va_up F 4 (u 4)) 5 (u 5)) 6 (u 6)))) (va_up (va_up (va_up F 4 (u_3 4)) 5 (u_3 5)) 6 (u_3 6)) (rfl) (by first | (simp only [wheR, if_pos c_1, if_pos c_2]; done) | (simp only [wheR, if_pos c_1, if_pos c_2, ix_nI (show f < 2 ^ 31 by omega), ix_nI (show yy < 2 ^ 31 by omega)]; done)) dX0_where_31
  refine lv_bipush (v := (-101)) hx hb dX0_where_8 (by decide) ?_
  exact EM.iret hX hr hlk hZ (ws1 := fun u => (wC g h R V I dr md ed n (va_up (va_up (va_up F 4 (u 4)) 5 (u 5)) 6 (u 6)))) F (rfl) (by first | (simp only [wheR, if_neg c_1]; done) | (simp only [wheR, if_neg c_1, ix_nI (show f < 2 ^ 31 by omega), ix_nI (show yy < 2 ^ 31 by omega)]; done)) dX0_where_10
