/-! THE COMPONENT, 3 (by program: gen/comp3.py) -/
set_option maxHeartbeats 400000 in
set_option maxRecDepth 100000 in
theorem K_X0_above (l : Launch) (g : Gx) (h : Nat) (R : Nat → Nat) (V : Nat → Nat) (I : Nat → Int32) (dr : Int64) (md : Int32) (ed : Nat) (n : Nat) (F : Nat → Nat → Int32) (x : Nat) (hn : n ≤ 5) (hx : x ≤ 9) : PM l g yX0_above cX0_above 4 (some .int) 2 [.ref h, .int (nI x)] roT (wC g h R V I dr md ed n F) (some (.int (nI (abN (F 4) n x 6)))) := by
  refine PM.of (own := "BurntLetters") (by decide) rfl (Nat.le_of_ble_eq_true rfl) ?_
  intro p e s m below meth c hX hr hlk hP hro ls hl
  have hx := hX.1.1
  have hb := hX.1.2.1
  have hl : lv_has ls 4 [(0, .ref h), (1, .int (nI x))] := hl
  refine lv_iconst (v := 0) hx hb dX0_above_0 (by decide) ?_
  refine lv_istore_n (lv' := [(2, .int 0), (0, .ref h), (1, .int (nI x))]) hx hb dX0_above_1 rfl hl (by decide) rfl (fun ls hl => ?_)
  refine lv_iconst (v := 0) hx hb dX0_above_2 (by decide) ?_
  refine lv_istore_n (lv' := [(3, .int 0), (2, .int 0), (0, .ref h), (1, .int (nI x))]) hx hb dX0_above_3 rfl hl (by decide) rfl (fun ls hl => ?_)
  refine W_loopP (α := Nat) (P := fun (i : Nat) (ls : Array Slot) => i ≤ 6 ∧ lv_has ls 4 [(0, .ref h), (1, .int (nI x)), (2, .int (nI (abN (F 4) n x i))), (3, .int (nI i))]) (fun i => 6 - i) 0 ⟨Nat.zero_le _, lv_cast (lv_sub (l' := [(0, .ref h), (1, .int (nI x)), (2, .int 0), (3, .int 0)]) hl [2, 3, 1, 0] rfl) (rfl)⟩ ?_
  rintro i ls ⟨hi, hl⟩ ihi
  refine lv_iload_n hx hb dX0_above_4 rfl (lv_at hl 3 rfl) ?_
  refine lv_bipush (v := 6) hx hb dX0_above_5 (by decide) ?_
  refine lv_icmp_ge (tgt := 33) hx hb dX0_above_7 (by decide) (fun c_1 => ?_) (fun c_1 => ?_)
  · have c_1n : 6 ≤ i := (nI_leI (a := 6) (b := i) (by omega) (by omega)).mp c_1
    have ei : i = 6 := by omega
    subst ei
    refine lv_iload_n hx hb dX0_above_33 rfl (lv_at hl 2 rfl) ?_
    exact PM.iret hX hr hlk (rfl) dX0_above_34
  have c_1n : ¬ 6 ≤ i := fun zz_ => c_1 ((nI_leI (a := 6) (b := i) (by omega) (by omega)).mpr zz_)
  refine lv_iload_n hx hb dX0_above_10 rfl (lv_at hl 2 rfl) ?_
  refine lv_iconst (v := 0) hx hb dX0_above_11 (by decide) ?_
  refine lv_aload_n hx hb dX0_above_12 rfl (lv_at hl 0 rfl) ?_
  refine gf_q149 (v := .ref (R 7)) hX hP 0 rfl rfl dX0_above_13 ?_
  refine lv_iload_n hx hb dX0_above_16 rfl (lv_at hl 3 rfl) ?_
  refine PM.ci (PM.runV (As := [.int (nI i)]) (rest := [.int 0, .int (nI (abN (F 4) n x i))]) hX (K_X1_under l g h R I dr md ed n (R 7) (V 3) (V 4) (V 5) (F 4) (F 5) (F 6) (nI i) (by omega)) (cv_q351 hX ⟨Nat.le_of_ble_eq_true rfl, Nat.le_of_ble_eq_true rfl⟩) (hP.sub (ws' := (wA g h R I dr md ed n (R 7) (V 3) (V 4) (V 5) (F 4) (F 5) (F 6))) [0, 1, 7, 8, 9, 10] rfl) trivial (r_recv hX hP 7 rfl rfl) rfl hl.1 rfl (Nat.le_of_ble_eq_true rfl) dX0_above_17 ⟨Nat.zero_le _, Nat.zero_le _⟩) ?_
  have hun := undF_nat (F 4) i n
  refine lv_seti (v := (nI (undN (F 4) i n))) (hun.1) ?_
  refine lv_iload_n hx hb dX0_above_20 rfl (lv_at hl 1 rfl) ?_
  refine lv_isub hx hb dX0_above_21 ?_
  refine va_mmax (x := 0) (y := ((nI (undN (F 4) i n)) - (nI x))) hx hb (by rw [hX.1.2.2.1]; exact hl.1.symm) hX.1.2.2.2.1 (hX.w q671) (hX.w q422) (hX.w q68) (hX.w q423) (Nat.le_of_ble_eq_true rfl) (Nat.le_of_ble_eq_true rfl) (Nat.zero_le _) (Nat.zero_le _) dX0_above_22 ?_
  refine lv_seti (v := (nI (undN (F 4) i n - x))) (mx0 (by omega) (by omega)) ?_
  refine lv_iadd hx hb dX0_above_25 ?_
  refine lv_seti (v := (nI ((abN (F 4) n x i) + (undN (F 4) i n - x)))) (nI_add _ _) ?_
  refine lv_istore_n (lv' := [(2, .int (nI ((abN (F 4) n x i) + (undN (F 4) i n - x)))), (0, .ref h), (1, .int (nI x)), (3, .int (nI i))]) hx hb dX0_above_26 rfl hl (by decide) rfl (fun ls hl => ?_)
  refine lv_iinc (v := (nI (i + 1))) (lv' := [(3, .int (nI (i + 1))), (2, .int (nI ((abN (F 4) n x i) + (undN (F 4) i n - x)))), (0, .ref h), (1, .int (nI x))]) hx hb dX0_above_27 hl (k := 3) rfl (nI_1 _) (by decide) rfl (fun ls hl => ?_)
  refine lv_goto (tgt := 4) hx hb dX0_above_30 (by decide) ?_
  exact ihi (i + 1) _ ⟨by omega, lv_cast (lv_sub (l' := [(0, .ref h), (1, .int (nI x)), (2, .int (nI ((abN (F 4) n x i) + (undN (F 4) i n - x)))), (3, .int (nI (i + 1)))]) hl [2, 3, 1, 0] rfl) (by rfl)⟩ (by omega)

set_option maxHeartbeats 400000 in
set_option maxRecDepth 100000 in
theorem K_X0_isEnough (l : Launch) (g : Gx) (h : Nat) (R : Nat → Nat) (V : Nat → Nat) (I : Nat → Int32) (dr : Int64) (md : Int32) (ed : Nat) (n : Nat) (F : Nat → Nat → Int32) (x : Nat) (mv : Nat) (hn : n ≤ 5) (hx : x ≤ 9) (hmv : mv ≤ 3) (hlv : LvOk (F 4) n) (hrk : RoK roT (wC g h R V I dr md ed n F)) : MM l g yX0_isEnough cX0_isEnough 8 (some .boolean) (3 + mv) [.ref h, .int (nI x), .int (nI mv)] roT (wC g h R V I dr md ed n F) (wC g h R V I dr md ed n F) (some (.int (b01 (enB (I 3) n x mv (F 4) = true)))) := by
  induction mv using Nat.strongRecOn generalizing F with
  | _ mv IH =>
    refine MM.of (own := "BurntLetters") (by decide) rfl (Nat.le_of_ble_eq_true rfl) hrk ?_
    intro p e s m below meth c A hX hr hlk hZ ls hl
    have hx := hX.1.1
    have hb := hX.1.2.1
    have hl : lv_has ls 8 [(0, .ref h), (1, .int (nI x)), (2, .int (nI mv))] := hl
    have hab := abN_le (F 4) n x 6
    refine lv_aload_n hx hb dX0_isEnough_0 rfl (lv_at hl 0 rfl) ?_
    refine lv_iload_n hx hb dX0_isEnough_1 rfl (lv_at hl 1 rfl) ?_
    refine PM.ci (PM.runV (As := [.int (nI x)]) (rest := []) hX (K_X0_above l g h R V I dr md ed n F x (by omega) (by omega)) (cv_q706 hX ⟨by show 2 + 1 ≤ 3 + _; omega, by show 8 + (4 + 11) + 40 * 2 ≤ 40 * (3 + _); omega⟩) hZ.1 trivial (r_recv hX hZ.1 0 rfl rfl) rfl hl.1 rfl (Nat.le_of_ble_eq_true rfl) dX0_isEnough_2 ⟨Nat.zero_le _, Nat.zero_le _⟩) ?_
    refine lv_if_ne (tgt := 10) hx hb dX0_isEnough_5 (by decide) (fun c_1 => ?_) (fun c_1 => ?_)
    · have c_1n : ¬ (abN (F 4) n x 6) = 0 := fun zz_ => c_1 ((nI_eq (a := (abN (F 4) n x 6)) (b := 0) (by omega) (by omega)).mpr zz_)
      refine lv_aload_n hx hb dX0_isEnough_10 rfl (lv_at hl 0 rfl) ?_
      refine lv_iload_n hx hb dX0_isEnough_11 rfl (lv_at hl 1 rfl) ?_
      refine PM.ci (PM.runV (As := [.int (nI x)]) (rest := []) hX (K_X0_above l g h R V I dr md ed n F x (by omega) (by omega)) (cv_q706 hX ⟨by show 2 + 1 ≤ 3 + _; omega, by show 8 + (4 + 11) + 40 * 2 ≤ 40 * (3 + _); omega⟩) hZ.1 trivial (r_recv hX hZ.1 0 rfl rfl) rfl hl.1 rfl (Nat.le_of_ble_eq_true rfl) dX0_isEnough_12 ⟨Nat.zero_le _, Nat.zero_le _⟩) ?_
      refine lv_iload_n hx hb dX0_isEnough_15 rfl (lv_at hl 2 rfl) ?_
      refine lv_icmp_le (tgt := 21) hx hb dX0_isEnough_16 (by decide) (fun c_2 => ?_) (fun c_2 => ?_)
      · have c_2n : (abN (F 4) n x 6) ≤ mv := (nI_leI (a := (abN (F 4) n x 6)) (b := mv) (by omega) (by omega)).mp c_2
        obtain ⟨m, rfl⟩ : ∃ m, mv = m + 1 := ⟨mv - 1, by omega⟩
        refine lv_iconst (v := 0) hx hb dX0_isEnough_21 (by decide) ?_
        refine lv_istore_n (lv' := [(3, .int 0), (0, .ref h), (1, .int (nI x)), (2, .int (nI (m + 1)))]) hx hb dX0_isEnough_22 rfl hl (by decide) rfl (fun ls hl => ?_)
        refine W_loop (α := Nat) (P := fun (i : Nat) (H : Heap) (locs : List Loc) (ls : Array Slot) => i ≤ n * 6 * 6 ∧ anyK (fun k => okK (I 3) n (F 4) k && enB (I 3) n x m (rnK (F 4) k)) i = false ∧ Zt g A s.heap roT (wC g h R V I dr md ed n F) H locs ∧ lv_has ls 8 [(0, .ref h), (1, .int (nI x)), (2, .int (nI (m + 1))), (3, .int (nI i))]) (fun i => n * 6 * 6 - i) 0 ⟨Nat.zero_le _, rfl, hZ.cast (rfl), lv_cast (lv_sub (l' := [(0, .ref h), (1, .int (nI x)), (2, .int (nI (m + 1))), (3, .int 0)]) hl [1, 2, 3, 0] rfl) (rfl)⟩ ?_
        rintro i H locs ls ⟨hi, hno, hZ, hl⟩ ihi
        refine lv_iload_n hx hb dX0_isEnough_23 rfl (lv_at hl 3 rfl) ?_
        refine lv_aload_n hx hb dX0_isEnough_24 rfl (lv_at hl 0 rfl) ?_
        refine gf_q141 (v := .ref (R 0)) hX hZ.1 0 rfl rfl dX0_isEnough_25 ?_
        refine PM.ci (PM.runV (As := []) (rest := [.int (nI i)]) hX (K_J2_size l g (R 0) md ed n) (cv_q363 hX ⟨by show 0 + 1 ≤ 3 + _; omega, by show 8 + (1 + 11) + 40 * 0 ≤ 40 * (3 + _); omega⟩) (hZ.1.sub (ws' := (wL g (R 0) md ed n)) [1] rfl) trivial (r_recv hX hZ.1 1 rfl rfl) rfl hl.1 rfl (Nat.le_of_ble_eq_true rfl) dX0_isEnough_28 ⟨Nat.zero_le _, Nat.zero_le _⟩) ?_
        refine lv_bipush (v := 6) hx hb dX0_isEnough_31 (by decide) ?_
        refine lv_imul hx hb dX0_isEnough_33 ?_
        refine lv_seti (v := (nI (n * 6))) (pk_mul _ _) ?_
        refine lv_bipush (v := 6) hx hb dX0_isEnough_34 (by decide) ?_
        refine lv_imul hx hb dX0_isEnough_36 ?_
        refine lv_seti (v := (nI ((n * 6) * 6))) (pk_mul _ _) ?_
        refine lv_icmp_ge (tgt := 133) hx hb dX0_isEnough_37 (by decide) (fun c_3 => ?_) (fun c_3 => ?_)
        · have c_3n : ((n * 6) * 6) ≤ i := (nI_leI (a := ((n * 6) * 6)) (b := i) (by omega) (by omega)).mp c_3
          have ei : n * 6 * 6 = i := by omega
          subst ei
          refine lv_iconst (v := 0) hx hb dX0_isEnough_133 (by decide) ?_
          exact MM.zret hX hr hlk hZ (by first | (rw [hbk]; rfl) | rfl) (b01_f (enB_no c_1n hno)) (Or.inl rfl) dX0_isEnough_134
        have c_3n : ¬ ((n * 6) * 6) ≤ i := fun zz_ => c_3 ((nI_leI (a := ((n * 6) * 6)) (b := i) (by omega) (by omega)).mpr zz_)
        refine lv_iload_n hx hb dX0_isEnough_40 rfl (lv_at hl 3 rfl) ?_
        refine lv_bipush (v := 36) hx hb dX0_isEnough_41 (by decide) ?_
        refine lv_idiv hx hb dX0_isEnough_43 (by decide) ?_
        refine lv_seti (v := (nI (i / 36))) (pk_div (a := i) (d := 36) (by omega) (by omega) (by omega)) ?_
        refine lv_istore (lv' := [(4, .int (nI (i / 36))), (0, .ref h), (1, .int (nI x)), (2, .int (nI (m + 1))), (3, .int (nI i))]) hx hb dX0_isEnough_44 hl (by decide) rfl (fun ls hl => ?_)
        refine lv_iload_n hx hb dX0_isEnough_46 rfl (lv_at hl 4 rfl) ?_
        refine lv_bipush (v := 6) hx hb dX0_isEnough_47 (by decide) ?_
        refine lv_idiv hx hb dX0_isEnough_49 (by decide) ?_
        refine lv_seti (v := (nI (i / 6))) (pk_div (a := i) (d := 6) (by omega) (by omega) (by omega)) ?_
        refine lv_bipush (v := 6) hx hb dX0_isEnough_50 (by decide) ?_
        refine lv_irem hx hb dX0_isEnough_52 (by decide) ?_
        refine lv_seti (v := (nI ((i / 6) % 6))) (pk_rem (a := (i / 6)) (d := 6) (by omega) (by omega) (by omega)) ?_
        refine lv_istore (lv' := [(5, .int (nI ((i / 6) % 6))), (4, .int (nI (i / 36))), (0, .ref h), (1, .int (nI x)), (2, .int (nI (m + 1))), (3, .int (nI i))]) hx hb dX0_isEnough_53 hl (by decide) rfl (fun ls hl => ?_)
        refine lv_iload_n hx hb dX0_isEnough_55 rfl (lv_at hl 5 rfl) ?_
        refine lv_bipush (v := 6) hx hb dX0_isEnough_56 (by decide) ?_
        refine lv_irem hx hb dX0_isEnough_58 (by decide) ?_
        refine lv_seti (v := (nI (i % 6))) (pk_rem (a := i) (d := 6) (by omega) (by omega) (by omega)) ?_
        refine lv_istore (lv' := [(6, .int (nI (i % 6))), (5, .int (nI ((i / 6) % 6))), (4, .int (nI (i / 36))), (0, .ref h), (1, .int (nI x)), (2, .int (nI (m + 1))), (3, .int (nI i))]) hx hb dX0_isEnough_59 hl (by decide) rfl (fun ls hl => ?_)
        refine lv_iload hx hb dX0_isEnough_61 (lv_at hl 1 rfl) ?_
        refine lv_iload hx hb dX0_isEnough_63 (lv_at hl 0 rfl) ?_
        refine lv_icmp_eq (tgt := 127) hx hb dX0_isEnough_65 (by decide) (fun c_4 => ?_) (fun c_4 => ?_)
        · have c_4n : ((i / 6) % 6) = (i % 6) := (nI_eq (a := ((i / 6) % 6)) (b := (i % 6)) (by omega) (by omega)).mp c_4
          refine lv_iinc (v := (nI (i + 1))) (lv' := [(3, .int (nI (i + 1))), (6, .int (nI (i % 6))), (5, .int (nI ((i / 6) % 6))), (4, .int (nI (i / 36))), (0, .ref h), (1, .int (nI x)), (2, .int (nI (m + 1)))]) hx hb dX0_isEnough_127 hl (k := 6) rfl (nI_1 _) (by decide) rfl (fun ls hl => ?_)
          refine lv_goto (tgt := 23) hx hb dX0_isEnough_130 (by decide) ?_
          exact ihi (i + 1) _ _ _ ⟨by omega, by first | exact any_1 hno c_4n | exact any_2 hno c_5 | exact any_3 hno c_6, hZ.cast (by first | (rw [hbk]; rfl) | rfl), lv_cast (lv_sub (l' := [(0, .ref h), (1, .int (nI x)), (2, .int (nI (m + 1))), (3, .int (nI (i + 1)))]) hl [4, 5, 6, 0] rfl) (by rfl)⟩ (by omega)
        have c_4n : ¬ ((i / 6) % 6) = (i % 6) := fun zz_ => c_4 ((nI_eq (a := ((i / 6) % 6)) (b := (i % 6)) (by omega) (by omega)).mpr zz_)
        refine lv_aload_n hx hb dX0_isEnough_68 rfl (lv_at hl 3 rfl) ?_
        refine gf_q149 (v := .ref (R 7)) hX hZ.1 0 rfl rfl dX0_isEnough_69 ?_
        refine lv_iload hx hb dX0_isEnough_72 (lv_at hl 2 rfl) ?_
        refine lv_iload hx hb dX0_isEnough_74 (lv_at hl 1 rfl) ?_
        refine lv_iload hx hb dX0_isEnough_76 (lv_at hl 0 rfl) ?_
        refine PM.ci (PM.runV (As := [.int (nI (i / 36)), .int (nI ((i / 6) % 6)), .int (nI (i % 6))]) (rest := []) hX (K_X1_mayRename l g h R I dr md ed n (R 7) (V 3) (V 4) (V 5) (F 4) (F 5) (F 6) (i / 36) (nI ((i / 6) % 6)) (nI (i % 6)) (by omega) (by omega)) (cv_q566 hX ⟨by show 2 + 1 ≤ 3 + _; omega, by show 8 + (4 + 11) + 40 * 2 ≤ 40 * (3 + _); omega⟩) (hZ.1.sub (ws' := (wA g h R I dr md ed n (R 7) (V 3) (V 4) (V 5) (F 4) (F 5) (F 6))) [0, 1, 7, 8, 9, 10] rfl) trivial (r_recv hX hZ.1 7 rfl rfl) rfl hl.1 rfl (Nat.le_of_ble_eq_true rfl) dX0_isEnough_78 ⟨Nat.zero_le _, Nat.zero_le _⟩) ?_
        refine lv_bif_eq (tgt := 127) hx hb dX0_isEnough_81 (by decide) (fun c_5 => ?_) (fun c_5 => ?_)
        · refine lv_iinc (v := (nI (i + 1))) (lv' := [(3, .int (nI (i + 1))), (6, .int (nI (i % 6))), (5, .int (nI ((i / 6) % 6))), (4, .int (nI (i / 36))), (0, .ref h), (1, .int (nI x)), (2, .int (nI (m + 1)))]) hx hb dX0_isEnough_127 hl (k := 6) rfl (nI_1 _) (by decide) rfl (fun ls hl => ?_)
          refine lv_goto (tgt := 23) hx hb dX0_isEnough_130 (by decide) ?_
          exact ihi (i + 1) _ _ _ ⟨by omega, by first | exact any_1 hno c_4n | exact any_2 hno c_5 | exact any_3 hno c_6, hZ.cast (by first | (rw [hbk]; rfl) | rfl), lv_cast (lv_sub (l' := [(0, .ref h), (1, .int (nI x)), (2, .int (nI (m + 1))), (3, .int (nI (i + 1)))]) hl [4, 5, 6, 0] rfl) (by rfl)⟩ (by omega)
        have hbk := rn_back (f := i / 36) (a := i / 6 % 6) (b := i % 6) hlv (by omega) (by omega) (by omega) c_5.1 c_5.2.1
        have hlv2 : LvOk (rnK (F 4) i) n := rn_ok hlv (by omega) (by omega)
        refine lv_aload_n hx hb dX0_isEnough_84 rfl (lv_at hl 3 rfl) ?_
        refine gf_q149 (v := .ref (R 7)) hX hZ.1 0 rfl rfl dX0_isEnough_85 ?_
        refine lv_iload hx hb dX0_isEnough_88 (lv_at hl 2 rfl) ?_
        refine lv_iload hx hb dX0_isEnough_90 (lv_at hl 1 rfl) ?_
        refine lv_iload hx hb dX0_isEnough_92 (lv_at hl 0 rfl) ?_
        refine MM.cv (MM.runV (As := [.int (nI (i / 36)), .int (nI ((i / 6) % 6)), .int (nI (i % 6))]) (rest := []) hX (K_X1_rename l g h R I dr md ed n (R 7) (V 3) (V 4) (V 5) (F 4) (F 5) (F 6) (i / 36) (nI ((i / 6) % 6)) (nI (i % 6)) (by omega) (RoK.tt _)) (cv_q570 hX ⟨by show 0 + 1 ≤ 3 + _; omega, by show 8 + (4 + 11) + 40 * 0 ≤ 40 * (3 + _); omega⟩) (hZ.1.sub (ws' := (wA g h R I dr md ed n (R 7) (V 3) (V 4) (V 5) (F 4) (F 5) (F 6))) [0, 1, 7, 8, 9, 10] rfl) (hZ.2.1.sub (ws' := (wA g h R I dr md ed n (R 7) (V 3) (V 4) (V 5) (F 4) (F 5) (F 6))) [0, 1, 7, 8, 9, 10] (by decide) rfl) trivial (r_recv hX hZ.1 7 rfl rfl) rfl hl.1 rfl (Nat.le_of_ble_eq_true rfl) dX0_isEnough_94 ⟨Nat.zero_le _, Nat.zero_le _⟩) hZ (ws1 := (wC g h R V I dr md ed n (va_up F 4 (rnF (F 4) (i / 36) (nI ((i / 6) % 6)) (nI (i % 6)))))) [0, 1, 7, 8, 9, 10] rfl rfl rfl rfl (fun H locs hZ => ?_)
        refine lv_aload_n hx hb dX0_isEnough_97 rfl (lv_at hl 3 rfl) ?_
        refine lv_iload_n hx hb dX0_isEnough_98 rfl (lv_at hl 4 rfl) ?_
        refine lv_iload_n hx hb dX0_isEnough_99 rfl (lv_at hl 5 rfl) ?_
        refine lv_iconst (v := 1) hx hb dX0_isEnough_100 (by decide) ?_
        refine lv_isub hx hb dX0_isEnough_101 ?_
        refine lv_seti (v := (nI m)) (nI_pred m) ?_
        refine MM.ciA (MM.runV (As := [.int (nI x), .int (nI m)]) (rest := []) hX (IH m (by omega) (va_up F 4 (rnF (F 4) (i / 36) (nI ((i / 6) % 6)) (nI (i % 6)))) (by omega) hlv2 (RoK.tt _)) (cv_q702 hX ⟨by show 3 + m + 1 ≤ 3 + (m + 1); omega, by show 8 + (8 + 11) + 40 * (3 + m) ≤ 40 * (3 + (m + 1)); omega⟩) hZ.1 hZ.2.1 trivial (r_recv hX hZ.1 0 rfl rfl) rfl hl.1 rfl (Nat.le_of_ble_eq_true rfl) dX0_isEnough_102 ⟨Nat.zero_le _, Nat.zero_le _⟩) hZ adC (fun H locs hZ => ?_)
        refine lv_istore (lv' := [(7, .int (b01 (enB (I 3) n x m (rnK (F 4) i) = true))), (6, .int (nI (i % 6))), (5, .int (nI ((i / 6) % 6))), (4, .int (nI (i / 36))), (0, .ref h), (1, .int (nI x)), (2, .int (nI (m + 1))), (3, .int (nI i))]) hx hb dX0_isEnough_105 hl (by decide) rfl (fun ls hl => ?_)
        refine lv_aload_n hx hb dX0_isEnough_107 rfl (lv_at hl 4 rfl) ?_
        refine gf_q149 (v := .ref (R 7)) hX hZ.1 0 rfl rfl dX0_isEnough_108 ?_
        refine lv_iload hx hb dX0_isEnough_111 (lv_at hl 3 rfl) ?_
        refine lv_iload hx hb dX0_isEnough_113 (lv_at hl 1 rfl) ?_
        refine lv_iload hx hb dX0_isEnough_115 (lv_at hl 2 rfl) ?_
        refine MM.cv (MM.runV (As := [.int (nI (i / 36)), .int (nI (i % 6)), .int (nI ((i / 6) % 6))]) (rest := []) hX (K_X1_rename l g h R I dr md ed n (R 7) (V 3) (V 4) (V 5) (rnF (F 4) (i / 36) (nI ((i / 6) % 6)) (nI (i % 6))) (F 5) (F 6) (i / 36) (nI (i % 6)) (nI ((i / 6) % 6)) (by omega) (RoK.tt _)) (cv_q570 hX ⟨by show 0 + 1 ≤ 3 + _; omega, by show 8 + (4 + 11) + 40 * 0 ≤ 40 * (3 + _); omega⟩) (hZ.1.sub (ws' := (wA g h R I dr md ed n (R 7) (V 3) (V 4) (V 5) (rnF (F 4) (i / 36) (nI ((i / 6) % 6)) (nI (i % 6))) (F 5) (F 6))) [0, 1, 7, 8, 9, 10] rfl) (hZ.2.1.sub (ws' := (wA g h R I dr md ed n (R 7) (V 3) (V 4) (V 5) (rnF (F 4) (i / 36) (nI ((i / 6) % 6)) (nI (i % 6))) (F 5) (F 6))) [0, 1, 7, 8, 9, 10] (by decide) rfl) trivial (r_recv hX hZ.1 7 rfl rfl) rfl hl.1 rfl (Nat.le_of_ble_eq_true rfl) dX0_isEnough_117 ⟨Nat.zero_le _, Nat.zero_le _⟩) hZ (ws1 := (wC g h R V I dr md ed n (va_up F 4 (rnF (rnF (F 4) (i / 36) (nI ((i / 6) % 6)) (nI (i % 6))) (i / 36) (nI (i % 6)) (nI ((i / 6) % 6)))))) [0, 1, 7, 8, 9, 10] rfl rfl rfl rfl (fun H locs hZ => ?_)
        refine lv_iload hx hb dX0_isEnough_120 (lv_at hl 0 rfl) ?_
        refine lv_bif_eq (tgt := 127) hx hb dX0_isEnough_122 (by decide) (fun c_6 => ?_) (fun c_6 => ?_)
        · refine lv_iinc (v := (nI (i + 1))) (lv' := [(3, .int (nI (i + 1))), (7, .int (b01 (enB (I 3) n x m (rnK (F 4) i) = true))), (6, .int (nI (i % 6))), (5, .int (nI ((i / 6) % 6))), (4, .int (nI (i / 36))), (0, .ref h), (1, .int (nI x)), (2, .int (nI (m + 1)))]) hx hb dX0_isEnough_127 hl (k := 7) rfl (nI_1 _) (by decide) rfl (fun ls hl => ?_)
          refine lv_goto (tgt := 23) hx hb dX0_isEnough_130 (by decide) ?_
          exact ihi (i + 1) _ _ _ ⟨by omega, by first | exact any_1 hno c_4n | exact any_2 hno c_5 | exact any_3 hno c_6, hZ.cast (by first | (rw [hbk]; rfl) | rfl), lv_cast (lv_sub (l' := [(0, .ref h), (1, .int (nI x)), (2, .int (nI (m + 1))), (3, .int (nI (i + 1)))]) hl [5, 6, 7, 0] rfl) (by rfl)⟩ (by omega)
        refine lv_iconst (v := 1) hx hb dX0_isEnough_125 (by decide) ?_
        exact MM.zret hX hr hlk hZ (by first | (rw [hbk]; rfl) | rfl) (b01_t (enB_yes (by omega) (by omega) (okK_t c_4n c_5) c_6)) (Or.inr rfl) dX0_isEnough_126
      have c_2n : ¬ (abN (F 4) n x 6) ≤ mv := fun zz_ => c_2 ((nI_leI (a := (abN (F 4) n x 6)) (b := mv) (by omega) (by omega)).mpr zz_)
      refine lv_iconst (v := 0) hx hb dX0_isEnough_19 (by decide) ?_
      exact MM.zret hX hr hlk hZ (by first | (rw [hbk]; rfl) | rfl) (b01_f (enB_big c_1n _ (by omega))) (Or.inl rfl) dX0_isEnough_20
    have c_1n : (abN (F 4) n x 6) = 0 := (nI_eq (a := (abN (F 4) n x 6)) (b := 0) (by omega) (by omega)).mp c_1
    refine lv_iconst (v := 1) hx hb dX0_isEnough_8 (by decide) ?_
    exact MM.zret hX hr hlk hZ (by first | (rw [hbk]; rfl) | rfl) (b01_t (enB_z c_1n _)) (Or.inr rfl) dX0_isEnough_9

set_option maxHeartbeats 400000 in
set_option maxRecDepth 100000 in
theorem K_X0_movingTold (l : Launch) (g : Gx) (h : Nat) (R : Nat → Nat) (V : Nat → Nat) (I : Nat → Int32) (dr : Int64) (md : Int32) (ed : Nat) (n : Nat) (F : Nat → Nat → Int32) (x : Nat) (hn : n ≤ 5) (hx : x ≤ 9) (hlv : LvOk (F 1) n) (hrk : RoK roT (wC g h R V I dr md ed n F)) : EM l g yX0_movingTold cX0_movingTold 3 (some .int) 7 [.ref h, .int (nI x)] roT (wC g h R V I dr md ed n F) (fun u => (wC g h R V I dr md ed n (va_up (va_up (va_up F 4 (u 4)) 5 (u 5)) 6 (u 6)))) (some (.int (mvF (I 3) n x (F 1)))) := by
  refine EM.of (own := "BurntLetters") (by decide) rfl (Nat.le_of_ble_eq_true rfl) hrk ?_
  intro p e s m below meth c A hX hr hlk hZ ls hl
  have hx := hX.1.1
  have hb := hX.1.2.1
  have hl : lv_has ls 3 [(0, .ref h), (1, .int (nI x))] := hl
  refine lv_aload_n hx hb dX0_movingTold_0 rfl (lv_at hl 0 rfl) ?_
  refine gf_q149 (v := .ref (R 7)) hX hZ.1 0 rfl rfl dX0_movingTold_1 ?_
  refine lv_aload_n hx hb dX0_movingTold_4 rfl (lv_at hl 0 rfl) ?_
  refine gf_q148 (v := .ref (R 6)) hX hZ.1 0 rfl rfl dX0_movingTold_5 ?_
  refine MM.cv (MM.runV (As := [.ref (R 6)]) (rest := []) hX (K_X1_become l g h (R 7) (V 3) (V 4) (V 5) (F 4) (F 5) (F 6) (R 6) (V 0) (V 1) (V 2) (F 1) (F 2) (F 3) (RoK.tt _)) (cv_q656 hX ⟨Nat.le_of_ble_eq_true rfl, Nat.le_of_ble_eq_true rfl⟩) (hZ.1.sub (ws' := (wB g h (R 7) (V 3) (V 4) (V 5) (F 4) (F 5) (F 6) (R 6) (V 0) (V 1) (V 2) (F 1) (F 2) (F 3))) [7, 8, 9, 10, 3, 4, 5, 6] rfl) (hZ.2.1.sub (ws' := (wB g h (R 7) (V 3) (V 4) (V 5) (F 4) (F 5) (F 6) (R 6) (V 0) (V 1) (V 2) (F 1) (F 2) (F 3))) [7, 8, 9, 10, 3, 4, 5, 6] (by decide) rfl) trivial (r_recv hX hZ.1 7 rfl rfl) rfl hl.1 rfl (Nat.le_of_ble_eq_true rfl) dX0_movingTold_8 ⟨Nat.zero_le _, Nat.zero_le _⟩) hZ (ws1 := (wC g h R V I dr md ed n (va_up (va_up (va_up F 4 (F 1)) 5 (F 2)) 6 (F 3)))) [7, 8, 9, 10, 3, 4, 5, 6] rfl rfl rfl rfl (fun H locs hZ => ?_)
  refine lv_aload_n hx hb dX0_movingTold_11 rfl (lv_at hl 0 rfl) ?_
  refine gf_q148 (v := .ref (R 6)) hX hZ.1 0 rfl rfl dX0_movingTold_12 ?_
  refine PM.ci (PM.runV (As := []) (rest := []) hX (K_X1_leavesAll l g h R I dr md ed n (R 6) (V 0) (V 1) (V 2) (F 1) (F 2) (F 3) (by omega)) (cv_q701 hX ⟨Nat.le_of_ble_eq_true rfl, Nat.le_of_ble_eq_true rfl⟩) (hZ.1.sub (ws' := (wA g h R I dr md ed n (R 6) (V 0) (V 1) (V 2) (F 1) (F 2) (F 3))) [0, 1, 3, 4, 5, 6] rfl) trivial (r_recv hX hZ.1 3 rfl rfl) rfl hl.1 rfl (Nat.le_of_ble_eq_true rfl) dX0_movingTold_15 ⟨Nat.zero_le _, Nat.zero_le _⟩) ?_
  refine lv_bipush (v := 6) hx hb dX0_movingTold_18 (by decide) ?_
  refine lv_iload_n hx hb dX0_movingTold_20 rfl (lv_at hl 1 rfl) ?_
  refine lv_imul hx hb dX0_movingTold_21 ?_
  refine lv_icmp_le (tgt := 27) hx hb dX0_movingTold_22 (by decide) (fun c_1 => ?_) (fun c_1 => ?_)
  · refine lv_iconst (v := 0) hx hb dX0_movingTold_27 (by decide) ?_
    refine lv_istore_n (lv' := [(2, .int 0), (0, .ref h), (1, .int (nI x))]) hx hb dX0_movingTold_28 rfl hl (by decide) rfl (fun ls hl => ?_)
    refine W_loop (α := Nat) (P := fun (i : Nat) (H : Heap) (locs : List Loc) (ls : Array Slot) => i ≤ 4 ∧ mvF (I 3) n x (F 1) = mvG (I 3) n x (F 1) (4 - i) i ∧ Zt g A s.heap roT (wC g h R V I dr md ed n (va_up (va_up (va_up F 4 (F 1)) 5 (F 2)) 6 (F 3))) H locs ∧ lv_has ls 3 [(0, .ref h), (1, .int (nI x)), (2, .int (nI i))]) (fun i => 4 - i) 0 ⟨Nat.zero_le _, by rw [mvF, if_pos c_1], hZ.cast (rfl), lv_cast (lv_sub (l' := [(0, .ref h), (1, .int (nI x)), (2, .int 0)]) hl [1, 2, 0] rfl) (rfl)⟩ ?_
    rintro i H locs ls ⟨hi, hg, hZ, hl⟩ ihi
    refine lv_iload_n hx hb dX0_movingTold_29 rfl (lv_at hl 2 rfl) ?_
    refine lv_iconst (v := 3) hx hb dX0_movingTold_30 (by decide) ?_
    refine lv_icmp_gt (tgt := 51) hx hb dX0_movingTold_31 (by decide) (fun c_2 => ?_) (fun c_2 => ?_)
    · have c_2n : 3 < i := (nI_ltI (a := 3) (b := i) (by omega) (by omega)).mp c_2
      refine lv_iconst (v := (-1)) hx hb dX0_movingTold_51 (by decide) ?_
      exact EM.iret hX hr hlk hZ (ws1 := fun u => (wC g h R V I dr md ed n (va_up (va_up (va_up F 4 (u 4)) 5 (u 5)) 6 (u 6)))) (va_up (va_up (va_up F 4 (F 1)) 5 (F 2)) 6 (F 3)) (rfl) (by rw [hg, show 4 - i = 0 by omega, mvG]) dX0_movingTold_52
    have c_2n : ¬ 3 < i := fun zz_ => c_2 ((nI_ltI (a := 3) (b := i) (by omega) (by omega)).mpr zz_)
    refine lv_aload_n hx hb dX0_movingTold_34 rfl (lv_at hl 0 rfl) ?_
    refine lv_iload_n hx hb dX0_movingTold_35 rfl (lv_at hl 1 rfl) ?_
    refine lv_iload_n hx hb dX0_movingTold_36 rfl (lv_at hl 2 rfl) ?_
    refine MM.ciA (MM.runV (As := [.int (nI x), .int (nI i)]) (rest := []) hX (K_X0_isEnough l g h R V I dr md ed n (va_up (va_up (va_up F 4 (F 1)) 5 (F 2)) 6 (F 3)) x i (by omega) (by omega) (by omega) (hlv) (RoK.tt _)) (cv_q702 hX ⟨by show 3 + i + 1 ≤ 7; omega, by show 8 + (8 + 11) + 40 * (3 + i) ≤ 40 * 7; omega⟩) hZ.1 hZ.2.1 trivial (r_recv hX hZ.1 0 rfl rfl) rfl hl.1 rfl (Nat.le_of_ble_eq_true rfl) dX0_movingTold_37 ⟨Nat.zero_le _, Nat.zero_le _⟩) hZ adC (fun H locs hZ => ?_)
    refine lv_seti (v := (b01 (enB (I 3) n x i (F 1) = true))) (rfl) ?_
    refine lv_seti (v := (b01 (enB (I 3) n x i (F 1) = true))) (rfl) ?_
    refine lv_bif_eq (tgt := 45) hx hb dX0_movingTold_40 (by decide) (fun c_3 => ?_) (fun c_3 => ?_)
    · refine lv_iinc (v := (nI (i + 1))) (lv' := [(2, .int (nI (i + 1))), (0, .ref h), (1, .int (nI x))]) hx hb dX0_movingTold_45 hl (k := 2) rfl (nI_1 _) (by decide) rfl (fun ls hl => ?_)
      refine lv_goto (tgt := 29) hx hb dX0_movingTold_48 (by decide) ?_
      exact ihi (i + 1) _ _ _ ⟨by omega, by rw [hg, show 4 - i = (3 - i) + 1 by omega, mvG, if_neg c_3, show 4 - (i + 1) = 3 - i by omega], hZ.cast (rfl), lv_cast (lv_sub (l' := [(0, .ref h), (1, .int (nI x)), (2, .int (nI (i + 1)))]) hl [1, 2, 0] rfl) (by rfl)⟩ (by omega)
    refine lv_iload_n hx hb dX0_movingTold_43 rfl (lv_at hl 2 rfl) ?_
    exact EM.iret hX hr hlk hZ (ws1 := fun u => (wC g h R V I dr md ed n (va_up (va_up (va_up F 4 (u 4)) 5 (u 5)) 6 (u 6)))) (va_up (va_up (va_up F 4 (F 1)) 5 (F 2)) 6 (F 3)) (rfl) (by rw [hg, show 4 - i = (3 - i) + 1 by omega, mvG, if_pos c_3]) dX0_movingTold_44
  refine lv_iconst (v := (-1)) hx hb dX0_movingTold_25 (by decide) ?_
  exact EM.iret hX hr hlk hZ (ws1 := fun u => (wC g h R V I dr md ed n (va_up (va_up (va_up F 4 (u 4)) 5 (u 5)) 6 (u 6)))) (va_up (va_up (va_up F 4 (F 1)) 5 (F 2)) 6 (F 3)) (rfl) (by rw [mvF, if_neg c_1]) dX0_movingTold_26

set_option maxHeartbeats 400000 in
set_option maxRecDepth 100000 in
theorem K_X0_moving (l : Launch) (g : Gx) (h : Nat) (R : Nat → Nat) (V : Nat → Nat) (I : Nat → Int32) (dr : Int64) (md : Int32) (ed : Nat) (n : Nat) (F : Nat → Nat → Int32) (x : Int32) (hn : n ≤ 5) (hlv : LvOk (F 1) n) (hrk : RoK roT (wC g h R V I dr md ed n F)) : EM l g yX0_moving cX0_moving 2 (some .int) 8 [.ref h, .int x] roT (wC g h R V I dr md ed n F) (fun u => (wC g h R V (movI I x) dr md ed n (va_up (va_up (va_up F 4 (u 4)) 5 (u 5)) 6 (u 6)))) (some (.int (movR I F n x))) := by
  refine EM.of (own := "BurntLetters") (by decide) rfl (Nat.le_of_ble_eq_true rfl) hrk ?_
  intro p e s m below meth c A hX hr hlk hZ ls hl
  have hx := hX.1.1
  have hb := hX.1.2.1
  have hl : lv_has ls 2 [(0, .ref h), (1, .int x)] := hl
  refine lv_iload_n hx hb dX0_moving_0 rfl (lv_at hl 1 rfl) ?_
  refine lv_iconst (v := 1) hx hb dX0_moving_1 (by decide) ?_
  refine lv_bipush (v := 9) hx hb dX0_moving_2 (by decide) ?_
  refine PM.ci (PM.runS (As := [.int x, .int 1, .int 9]) (rest := []) hX (K_X0_in l g x 1 9) (cs_q216 hX ⟨Nat.le_of_ble_eq_true rfl, Nat.le_of_ble_eq_true rfl⟩) va_P_nil trivial rfl hl.1 rfl (Nat.le_of_ble_eq_true rfl) dX0_moving_4 ⟨Nat.zero_le _, Nat.zero_le _⟩) ?_
  refine lv_bif_ne (tgt := 13) hx hb dX0_moving_7 (by decide) (fun c_1 => ?_) (fun c_1 => ?_)
  · obtain ⟨xx, hxx, rfl⟩ := inP_nat1 (b := 9) (by omega) c_1
    refine lv_aload_n hx hb dX0_moving_13 rfl (lv_at hl 0 rfl) ?_
    refine gf_q142 (v := .int (I 1)) hX hZ.1 0 rfl rfl dX0_moving_14 ?_
    refine lv_if_eq (tgt := 29) hx hb dX0_moving_17 (by decide) (fun c_2 => ?_) (fun c_2 => ?_)
    · refine lv_bipush (v := (-103)) hx hb dX0_moving_29 (by decide) ?_
      exact EM.iret hX hr hlk hZ (ws1 := fun u => (wC g h R V (movI I (nI xx)) dr md ed n (va_up (va_up (va_up F 4 (u 4)) 5 (u 5)) 6 (u 6)))) F (by first | (simp only [movI, if_pos c_1, if_pos c_2]; done) | (simp only [movI, if_pos c_1, if_pos c_2]; rfl)) (by first | (simp only [movR, if_pos c_1, if_pos c_2]; done) | (simp only [movR, if_pos c_1, if_pos c_2, ix_nI (show xx < 2 ^ 31 by omega)]; done) | (simp only [movR, if_pos c_1, if_pos c_2, ix_nI (show xx < 2 ^ 31 by omega)]; rfl)) dX0_moving_31
    refine lv_aload_n hx hb dX0_moving_20 rfl (lv_at hl 0 rfl) ?_
    refine gf_q156 (v := .int (I 12)) hX hZ.1 0 rfl rfl dX0_moving_21 ?_
    refine lv_bipush (v := 10) hx hb dX0_moving_24 (by decide) ?_
    refine lv_icmp_ne (tgt := 32) hx hb dX0_moving_26 (by decide) (fun c_3 => ?_) (fun c_3 => ?_)
    · refine lv_aload_n hx hb dX0_moving_32 rfl (lv_at hl 0 rfl) ?_
      refine lv_dup hx hb dX0_moving_33 rfl ?_
      refine gf_q156 (v := .int (I 12)) hX hZ.1 0 rfl rfl dX0_moving_34 ?_
      refine lv_iconst (v := 1) hx hb dX0_moving_37 (by decide) ?_
      refine lv_iadd hx hb dX0_moving_38 ?_
      refine pf_q156 (ws1 := (wC g h R V (upd I 12 ((I 12) + 1)) dr md ed n F)) hX hZ 0 rfl (Nat.le_of_ble_eq_true rfl) rfl dX0_moving_39 (fun H locs hZ => ?_)
      refine lv_aload_n hx hb dX0_moving_42 rfl (lv_at hl 0 rfl) ?_
      refine lv_iload_n hx hb dX0_moving_43 rfl (lv_at hl 1 rfl) ?_
      refine EM.ciA (EM.runV (As := [.int (nI xx)]) (rest := []) hX (K_X0_movingTold l g h R V (upd I 12 ((I 12) + 1)) dr md ed n F xx (by omega) (by omega) (hlv) (RoK.tt _)) (cv_q697 hX ⟨Nat.le_of_ble_eq_true rfl, Nat.le_of_ble_eq_true rfl⟩) hZ.1 hZ.2.1 trivial (r_recv hX hZ.1 0 rfl rfl) rfl hl.1 rfl (Nat.le_of_ble_eq_true rfl) dX0_moving_44 ⟨Nat.zero_le _, Nat.zero_le _⟩) hZ (fun _ => adC) (fun u_4 H locs hZ => ?_)
      refine lv_seti (v := (mvF (I 3) n xx (F 1))) (rfl) ?_
      exact EM.iret hX hr hlk hZ (ws1 := fun u => (wC g h R V (movI I (nI xx)) dr md ed n (va_up (va_up (va_up F 4 (u 4)) 5 (u 5)) 6 (u 6)))) (va_up (va_up (va_up F 4 (u_4 4)) 5 (u_4 5)) 6 (u_4 6)) (by first | (simp only [movI, if_pos c_1, if_neg c_2, if_neg c_3]; done) | (simp only [movI, if_pos c_1, if_neg c_2, if_neg c_3]; rfl)) (by first | (simp only [movR, if_pos c_1, if_neg c_2, if_neg c_3]; done) | (simp only [movR, if_pos c_1, if_neg c_2, if_neg c_3, ix_nI (show xx < 2 ^ 31 by omega)]; done) | (simp only [movR, if_pos c_1, if_neg c_2, if_neg c_3, ix_nI (show xx < 2 ^ 31 by omega)]; rfl)) dX0_moving_47
    refine lv_bipush (v := (-103)) hx hb dX0_moving_29 (by decide) ?_
    exact EM.iret hX hr hlk hZ (ws1 := fun u => (wC g h R V (movI I (nI xx)) dr md ed n (va_up (va_up (va_up F 4 (u 4)) 5 (u 5)) 6 (u 6)))) F (by first | (simp only [movI, if_pos c_1, if_neg c_2, if_pos c_3]; done) | (simp only [movI, if_pos c_1, if_neg c_2, if_pos c_3]; rfl)) (by first | (simp only [movR, if_pos c_1, if_neg c_2, if_pos c_3]; done) | (simp only [movR, if_pos c_1, if_neg c_2, if_pos c_3, ix_nI (show xx < 2 ^ 31 by omega)]; done) | (simp only [movR, if_pos c_1, if_neg c_2, if_pos c_3, ix_nI (show xx < 2 ^ 31 by omega)]; rfl)) dX0_moving_31
  refine lv_bipush (v := (-102)) hx hb dX0_moving_10 (by decide) ?_
  exact EM.iret hX hr hlk hZ (ws1 := fun u => (wC g h R V (movI I x) dr md ed n (va_up (va_up (va_up F 4 (u 4)) 5 (u 5)) 6 (u 6)))) F (by first | (simp only [movI, if_neg c_1]; done) | (simp only [movI, if_neg c_1]; rfl)) (by first | (simp only [movR, if_neg c_1]; done) | (simp only [movR, if_neg c_1, ix_nI (show xx < 2 ^ 31 by omega)]; done) | (simp only [movR, if_neg c_1, ix_nI (show xx < 2 ^ 31 by omega)]; rfl)) dX0_moving_12

set_option maxHeartbeats 400000 in
set_option maxRecDepth 100000 in
theorem K_X0_isSo (l : Launch) (g : Gx) (h : Nat) (R : Nat → Nat) (V : Nat → Nat) (I : Nat → Int32) (dr : Int64) (md : Int32) (ed : Nat) (n : Nat) (F : Nat → Nat → Int32) (code : Nat) (kd : Nat → Nat) (am : Nat) (hn : n ≤ 5) (ham : (I 13) = nI am) (ham2 : am ≤ 5) (hc : code ≤ 7776) (hrk : RoK (roP g ed n kd) (wC g h R V I dr md ed n F)) : EM l g yX0_isSo cX0_isSo 5 (some .boolean) 6 [.ref h, .int (nI code)] (roP g ed n kd) (wC g h R V I dr md ed n F) (fun u => (wC g h R V I dr md ed n (va_up (va_up (va_up F 4 (u 4)) 5 (u 5)) 6 (u 6)))) (some (.int (b01 (soB kd (I 3) (F 2) n (F 0) (F 11) ((F 1), (F 3)) code am = true)))) := by
  refine EM.of (own := "BurntLetters") (by decide) rfl (Nat.le_of_ble_eq_true rfl) hrk ?_
  intro p e s m below meth c A hX hr hlk hZ ls hl
  have hx := hX.1.1
  have hb := hX.1.2.1
  have hl : lv_has ls 5 [(0, .ref h), (1, .int (nI code))] := hl
  refine lv_aload_n hx hb dX0_isSo_0 rfl (lv_at hl 0 rfl) ?_
  refine gf_q149 (v := .ref (R 7)) hX hZ.1 0 rfl rfl dX0_isSo_1 ?_
  refine lv_aload_n hx hb dX0_isSo_4 rfl (lv_at hl 0 rfl) ?_
  refine gf_q148 (v := .ref (R 6)) hX hZ.1 0 rfl rfl dX0_isSo_5 ?_
  refine MM.cv (MM.runV (As := [.ref (R 6)]) (rest := []) hX (K_X1_become l g h (R 7) (V 3) (V 4) (V 5) (F 4) (F 5) (F 6) (R 6) (V 0) (V 1) (V 2) (F 1) (F 2) (F 3) (RoK.tt _)) (cv_q656 hX ⟨Nat.le_of_ble_eq_true rfl, Nat.le_of_ble_eq_true rfl⟩) (hZ.1.sub (ws' := (wB g h (R 7) (V 3) (V 4) (V 5) (F 4) (F 5) (F 6) (R 6) (V 0) (V 1) (V 2) (F 1) (F 2) (F 3))) [7, 8, 9, 10, 3, 4, 5, 6] rfl) (hZ.2.1.sub (ws' := (wB g h (R 7) (V 3) (V 4) (V 5) (F 4) (F 5) (F 6) (R 6) (V 0) (V 1) (V 2) (F 1) (F 2) (F 3))) [7, 8, 9, 10, 3, 4, 5, 6] (by decide) rfl) trivial (r_recv hX hZ.1 7 rfl rfl) rfl hl.1 rfl (Nat.le_of_ble_eq_true rfl) dX0_isSo_8 ⟨Nat.zero_le _, Nat.zero_le _⟩) hZ (ws1 := (wC g h R V I dr md ed n (va_up (va_up (va_up F 4 (F 1)) 5 (F 2)) 6 (F 3)))) [7, 8, 9, 10, 3, 4, 5, 6] rfl rfl rfl rfl (fun H locs hZ => ?_)
  refine lv_iload_n hx hb dX0_isSo_11 rfl (lv_at hl 1 rfl) ?_
  refine lv_istore_n (lv' := [(2, .int (nI code)), (0, .ref h), (1, .int (nI code))]) hx hb dX0_isSo_12 rfl hl (by decide) rfl (fun ls hl => ?_)
  refine lv_iconst (v := 1) hx hb dX0_isSo_13 (by decide) ?_
  refine lv_istore_n (lv' := [(3, .int 1), (2, .int (nI code)), (0, .ref h), (1, .int (nI code))]) hx hb dX0_isSo_14 rfl hl (by decide) rfl (fun ls hl => ?_)
  refine lv_iconst (v := 0) hx hb dX0_isSo_15 (by decide) ?_
  refine lv_istore (lv' := [(4, .int 0), (3, .int 1), (2, .int (nI code)), (0, .ref h), (1, .int (nI code))]) hx hb dX0_isSo_16 hl (by decide) rfl (fun ls hl => ?_)
  refine W_loop (α := Nat) (P := fun (j : Nat) (H : Heap) (locs : List Loc) (ls : Array Slot) => j ≤ am ∧ Zt g A s.heap (roP g ed n kd) (wC g h R V I dr md ed n (va_up (va_up (va_up F 5 (F 2)) 4 ((rnS kd (I 3) (F 2) n (F 1, F 3) code j).1)) 6 ((rnS kd (I 3) (F 2) n (F 1, F 3) code j).2))) H locs ∧ lv_has ls 5 [(0, .ref h), (1, .int (nI code)), (2, .int (nI (lft code j))), (3, .int (b01 (soB kd (I 3) (F 2) n (F 0) (F 11) (F 1, F 3) code j = true))), (4, .int (nI j))]) (fun j => am - j) 0 ⟨Nat.zero_le _, hZ.cast (rfl), lv_cast (lv_sub (l' := [(0, .ref h), (1, .int (nI code)), (2, .int (nI code)), (3, .int 1), (4, .int 0)]) hl [3, 4, 2, 1, 0] rfl) (by simp [b01, soB, nI, lft])⟩ ?_
  rintro j H locs ls ⟨hj, hZ, hl⟩ ihj
  have hlf := lft_le code j
  refine lv_iload hx hb dX0_isSo_18 (lv_at hl 4 rfl) ?_
  refine lv_aload_n hx hb dX0_isSo_20 rfl (lv_at hl 0 rfl) ?_
  refine gf_q157 (v := .int (I 13)) hX hZ.1 0 rfl rfl dX0_isSo_21 ?_
  refine lv_seti (v := (nI am)) (ham) ?_
  refine lv_icmp_ge (tgt := 100) hx hb dX0_isSo_24 (by decide) (fun c_1 => ?_) (fun c_1 => ?_)
  · have c_1n : am ≤ j := (nI_leI (a := am) (b := j) (by omega) (by omega)).mp c_1
    have ej : am = j := by omega
    subst ej
    refine lv_iload_n hx hb dX0_isSo_100 rfl (lv_at hl 3 rfl) ?_
    exact EM.zret hX hr hlk hZ (ws1 := fun u => (wC g h R V I dr md ed n (va_up (va_up (va_up F 4 (u 4)) 5 (u 5)) 6 (u 6)))) (va_up (va_up (va_up F 5 (F 2)) 4 ((rnS kd (I 3) (F 2) n (F 1, F 3) code am).1)) 6 ((rnS kd (I 3) (F 2) n (F 1, F 3) code am).2)) (rfl) (by first | rfl | exact b01_congr ⟨fun q => absurd q c_2, fun q => absurd (soB_mono _ hj q) c_2⟩) (b01_or _) dX0_isSo_101
  have c_1n : ¬ am ≤ j := fun zz_ => c_1 ((nI_leI (a := am) (b := j) (by omega) (by omega)).mpr zz_)
  refine lv_iload_n hx hb dX0_isSo_27 rfl (lv_at hl 3 rfl) ?_
  refine lv_bif_eq (tgt := 100) hx hb dX0_isSo_28 (by decide) (fun c_2 => ?_) (fun c_2 => ?_)
  · refine lv_iload_n hx hb dX0_isSo_100 rfl (lv_at hl 3 rfl) ?_
    exact EM.zret hX hr hlk hZ (ws1 := fun u => (wC g h R V I dr md ed n (va_up (va_up (va_up F 4 (u 4)) 5 (u 5)) 6 (u 6)))) (va_up (va_up (va_up F 5 (F 2)) 4 ((rnS kd (I 3) (F 2) n (F 1, F 3) code j).1)) 6 ((rnS kd (I 3) (F 2) n (F 1, F 3) code j).2)) (rfl) (by first | rfl | exact b01_congr ⟨fun q => absurd q c_2, fun q => absurd (soB_mono _ hj q) c_2⟩) (b01_or _) dX0_isSo_101
  refine lv_aload_n hx hb dX0_isSo_31 rfl (lv_at hl 0 rfl) ?_
  refine gf_q149 (v := .ref (R 7)) hX hZ.1 0 rfl rfl dX0_isSo_32 ?_
  refine lv_iload_n hx hb dX0_isSo_35 rfl (lv_at hl 2 rfl) ?_
  refine lv_bipush (v := 6) hx hb dX0_isSo_36 (by decide) ?_
  refine lv_irem hx hb dX0_isSo_38 (by decide) ?_
  refine lv_seti (v := (nI ((lft code j) % 6))) (pk_rem (a := (lft code j)) (d := 6) (by omega) (by omega) (by omega)) ?_
  refine MM.ci (MM.runV (As := [.int (nI ((lft code j) % 6))]) (rest := []) hX (K_X1_burn l g h R I dr md ed n (R 7) (V 3) (V 4) (V 5) ((rnS kd (I 3) (F 2) n (F 1, F 3) code j).1) (F 2) ((rnS kd (I 3) (F 2) n (F 1, F 3) code j).2) (nI ((lft code j) % 6)) kd (by omega) (hrk.sub' [0, 1, 7, 8, 9, 10] rfl)) (cv_q582 hX ⟨Nat.le_of_ble_eq_true rfl, Nat.le_of_ble_eq_true rfl⟩) (hZ.1.sub (ws' := (wA g h R I dr md ed n (R 7) (V 3) (V 4) (V 5) ((rnS kd (I 3) (F 2) n (F 1, F 3) code j).1) (F 2) ((rnS kd (I 3) (F 2) n (F 1, F 3) code j).2))) [0, 1, 7, 8, 9, 10] rfl) (hZ.2.1.sub (ws' := (wA g h R I dr md ed n (R 7) (V 3) (V 4) (V 5) ((rnS kd (I 3) (F 2) n (F 1, F 3) code j).1) (F 2) ((rnS kd (I 3) (F 2) n (F 1, F 3) code j).2))) [0, 1, 7, 8, 9, 10] (by decide) rfl) hZ.ro (r_recv hX hZ.1 7 rfl rfl) rfl hl.1 rfl (Nat.le_of_ble_eq_true rfl) dX0_isSo_39 ⟨Nat.zero_le _, Nat.zero_le _⟩) hZ (ws1 := (wC g h R V I dr md ed n (va_up (va_up (va_up F 5 (F 2)) 4 (brL kd (I 3) (F 2) ((rnS kd (I 3) (F 2) n (F 1, F 3) code j).1) ((rnS kd (I 3) (F 2) n (F 1, F 3) code j).2) (nI ((lft code j) % 6)) n)) 6 (brK kd (F 2) ((rnS kd (I 3) (F 2) n (F 1, F 3) code j).1) ((rnS kd (I 3) (F 2) n (F 1, F 3) code j).2) (nI ((lft code j) % 6)) n)))) [0, 1, 7, 8, 9, 10] rfl rfl rfl rfl (fun H locs hZ => ?_)
  refine lv_pop hx hb dX0_isSo_42 rfl ?_
  refine lv_aload_n hx hb dX0_isSo_43 rfl (lv_at hl 0 rfl) ?_
  refine gf_q146 (v := .ref (R 4)) hX hZ.1 0 rfl rfl dX0_isSo_44 ?_
  refine lv_iload_n hx hb dX0_isSo_47 rfl (lv_at hl 2 rfl) ?_
  refine lv_bipush (v := 6) hx hb dX0_isSo_48 (by decide) ?_
  refine lv_irem hx hb dX0_isSo_50 (by decide) ?_
  refine lv_seti (v := (nI ((lft code j) % 6))) (pk_rem (a := (lft code j)) (d := 6) (by omega) (by omega) (by omega)) ?_
  refine r_iald (f := (F 0)) hX hZ.1 2 rfl ((lft code j) % 6) (by omega) (by omega) dX0_isSo_51 ?_
  refine lv_if_le (tgt := 87) hx hb dX0_isSo_52 (by decide) (fun c_3 => ?_) (fun c_3 => ?_)
  · refine lv_iconst (v := 0) hx hb dX0_isSo_87 (by decide) ?_
    refine lv_istore_n (lv' := [(3, .int 0), (0, .ref h), (1, .int (nI code)), (2, .int (nI (lft code j))), (4, .int (nI j))]) hx hb dX0_isSo_88 rfl hl (by decide) rfl (fun ls hl => ?_)
    refine lv_iload_n hx hb dX0_isSo_89 rfl (lv_at hl 3 rfl) ?_
    refine lv_bipush (v := 6) hx hb dX0_isSo_90 (by decide) ?_
    refine lv_idiv hx hb dX0_isSo_92 (by decide) ?_
    refine lv_seti (v := (nI ((lft code j) / 6))) (pk_div (a := (lft code j)) (d := 6) (by omega) (by omega) (by omega)) ?_
    refine lv_istore_n (lv' := [(2, .int (nI ((lft code j) / 6))), (3, .int 0), (0, .ref h), (1, .int (nI code)), (4, .int (nI j))]) hx hb dX0_isSo_93 rfl hl (by decide) rfl (fun ls hl => ?_)
    refine lv_iinc (v := (nI (j + 1))) (lv' := [(4, .int (nI (j + 1))), (2, .int (nI ((lft code j) / 6))), (3, .int 0), (0, .ref h), (1, .int (nI code))]) hx hb dX0_isSo_94 hl (k := 4) rfl (nI_1 _) (by decide) rfl (fun ls hl => ?_)
    refine lv_goto (tgt := 18) hx hb dX0_isSo_97 (by decide) ?_
    exact ihj (j + 1) _ _ _ ⟨by omega, hZ.cast (rfl), lv_cast (lv_sub (l' := [(0, .ref h), (1, .int (nI code)), (2, .int (nI ((lft code j) / 6))), (3, .int 0), (4, .int (nI (j + 1)))]) hl [3, 4, 1, 2, 0] rfl) (by simp [b01, soB, lft, c_1, c_2, c_3])⟩ (by omega)
  refine lv_aload_n hx hb dX0_isSo_55 rfl (lv_at hl 0 rfl) ?_
  refine gf_q158 (v := .ref (R 14)) hX hZ.1 0 rfl rfl dX0_isSo_56 ?_
  refine lv_iload hx hb dX0_isSo_59 (lv_at hl 4 rfl) ?_
  refine r_iald (f := (F 11)) hX hZ.1 16 rfl j (by omega) (by omega) dX0_isSo_61 ?_
  refine lv_iconst (v := (-1)) hx hb dX0_isSo_62 (by decide) ?_
  refine lv_icmp_eq (tgt := 83) hx hb dX0_isSo_63 (by decide) (fun c_4 => ?_) (fun c_4 => ?_)
  · refine lv_iconst (v := 1) hx hb dX0_isSo_83 (by decide) ?_
    refine lv_goto (tgt := 88) hx hb dX0_isSo_84 (by decide) ?_
    refine lv_istore_n (lv' := [(3, .int 1), (0, .ref h), (1, .int (nI code)), (2, .int (nI (lft code j))), (4, .int (nI j))]) hx hb dX0_isSo_88 rfl hl (by decide) rfl (fun ls hl => ?_)
    refine lv_iload_n hx hb dX0_isSo_89 rfl (lv_at hl 3 rfl) ?_
    refine lv_bipush (v := 6) hx hb dX0_isSo_90 (by decide) ?_
    refine lv_idiv hx hb dX0_isSo_92 (by decide) ?_
    refine lv_seti (v := (nI ((lft code j) / 6))) (pk_div (a := (lft code j)) (d := 6) (by omega) (by omega) (by omega)) ?_
    refine lv_istore_n (lv' := [(2, .int (nI ((lft code j) / 6))), (3, .int 1), (0, .ref h), (1, .int (nI code)), (4, .int (nI j))]) hx hb dX0_isSo_93 rfl hl (by decide) rfl (fun ls hl => ?_)
    refine lv_iinc (v := (nI (j + 1))) (lv' := [(4, .int (nI (j + 1))), (2, .int (nI ((lft code j) / 6))), (3, .int 1), (0, .ref h), (1, .int (nI code))]) hx hb dX0_isSo_94 hl (k := 4) rfl (nI_1 _) (by decide) rfl (fun ls hl => ?_)
    refine lv_goto (tgt := 18) hx hb dX0_isSo_97 (by decide) ?_
    exact ihj (j + 1) _ _ _ ⟨by omega, hZ.cast (rfl), lv_cast (lv_sub (l' := [(0, .ref h), (1, .int (nI code)), (2, .int (nI ((lft code j) / 6))), (3, .int 1), (4, .int (nI (j + 1)))]) hl [3, 4, 1, 2, 0] rfl) (by simp [b01, soB, lft, c_1, c_2, c_3, c_4])⟩ (by omega)
  refine lv_aload_n hx hb dX0_isSo_66 rfl (lv_at hl 0 rfl) ?_
  refine gf_q158 (v := .ref (R 14)) hX hZ.1 0 rfl rfl dX0_isSo_67 ?_
  refine lv_iload hx hb dX0_isSo_70 (lv_at hl 4 rfl) ?_
  refine r_iald (f := (F 11)) hX hZ.1 16 rfl j (by omega) (by omega) dX0_isSo_72 ?_
  refine lv_aload_n hx hb dX0_isSo_73 rfl (lv_at hl 0 rfl) ?_
  refine gf_q149 (v := .ref (R 7)) hX hZ.1 0 rfl rfl dX0_isSo_74 ?_
  refine PM.ci (PM.runV (As := []) (rest := [.int ((F 11) j)]) hX (K_X1_living l g h R I dr md ed n (R 7) (V 3) (V 4) (V 5) (brL kd (I 3) (F 2) ((rnS kd (I 3) (F 2) n (F 1, F 3) code j).1) ((rnS kd (I 3) (F 2) n (F 1, F 3) code j).2) (nI ((lft code j) % 6)) n) (F 2) (brK kd (F 2) ((rnS kd (I 3) (F 2) n (F 1, F 3) code j).1) ((rnS kd (I 3) (F 2) n (F 1, F 3) code j).2) (nI ((lft code j) % 6)) n) (by omega)) (cv_q730 hX ⟨Nat.le_of_ble_eq_true rfl, Nat.le_of_ble_eq_true rfl⟩) (hZ.1.sub (ws' := (wA g h R I dr md ed n (R 7) (V 3) (V 4) (V 5) (brL kd (I 3) (F 2) ((rnS kd (I 3) (F 2) n (F 1, F 3) code j).1) ((rnS kd (I 3) (F 2) n (F 1, F 3) code j).2) (nI ((lft code j) % 6)) n) (F 2) (brK kd (F 2) ((rnS kd (I 3) (F 2) n (F 1, F 3) code j).1) ((rnS kd (I 3) (F 2) n (F 1, F 3) code j).2) (nI ((lft code j) % 6)) n))) [0, 1, 7, 8, 9, 10] rfl) trivial (r_recv hX hZ.1 7 rfl rfl) rfl hl.1 rfl (Nat.le_of_ble_eq_true rfl) dX0_isSo_77 ⟨Nat.zero_le _, Nat.zero_le _⟩) ?_
  refine lv_seti (v := (livF (rnS kd (I 3) (F 2) n (F 1, F 3) code (j + 1)).1 n)) (rfl) ?_
  refine lv_icmp_ne (tgt := 87) hx hb dX0_isSo_80 (by decide) (fun c_5 => ?_) (fun c_5 => ?_)
  · refine lv_iconst (v := 0) hx hb dX0_isSo_87 (by decide) ?_
    refine lv_istore_n (lv' := [(3, .int 0), (0, .ref h), (1, .int (nI code)), (2, .int (nI (lft code j))), (4, .int (nI j))]) hx hb dX0_isSo_88 rfl hl (by decide) rfl (fun ls hl => ?_)
    refine lv_iload_n hx hb dX0_isSo_89 rfl (lv_at hl 3 rfl) ?_
    refine lv_bipush (v := 6) hx hb dX0_isSo_90 (by decide) ?_
    refine lv_idiv hx hb dX0_isSo_92 (by decide) ?_
    refine lv_seti (v := (nI ((lft code j) / 6))) (pk_div (a := (lft code j)) (d := 6) (by omega) (by omega) (by omega)) ?_
    refine lv_istore_n (lv' := [(2, .int (nI ((lft code j) / 6))), (3, .int 0), (0, .ref h), (1, .int (nI code)), (4, .int (nI j))]) hx hb dX0_isSo_93 rfl hl (by decide) rfl (fun ls hl => ?_)
    refine lv_iinc (v := (nI (j + 1))) (lv' := [(4, .int (nI (j + 1))), (2, .int (nI ((lft code j) / 6))), (3, .int 0), (0, .ref h), (1, .int (nI code))]) hx hb dX0_isSo_94 hl (k := 4) rfl (nI_1 _) (by decide) rfl (fun ls hl => ?_)
    refine lv_goto (tgt := 18) hx hb dX0_isSo_97 (by decide) ?_
    exact ihj (j + 1) _ _ _ ⟨by omega, hZ.cast (rfl), lv_cast (lv_sub (l' := [(0, .ref h), (1, .int (nI code)), (2, .int (nI ((lft code j) / 6))), (3, .int 0), (4, .int (nI (j + 1)))]) hl [3, 4, 1, 2, 0] rfl) (by simp [b01, soB, lft, c_1, c_2, c_3, c_4, c_5])⟩ (by omega)
  refine lv_iconst (v := 1) hx hb dX0_isSo_83 (by decide) ?_
  refine lv_goto (tgt := 88) hx hb dX0_isSo_84 (by decide) ?_
  refine lv_istore_n (lv' := [(3, .int 1), (0, .ref h), (1, .int (nI code)), (2, .int (nI (lft code j))), (4, .int (nI j))]) hx hb dX0_isSo_88 rfl hl (by decide) rfl (fun ls hl => ?_)
  refine lv_iload_n hx hb dX0_isSo_89 rfl (lv_at hl 3 rfl) ?_
  refine lv_bipush (v := 6) hx hb dX0_isSo_90 (by decide) ?_
  refine lv_idiv hx hb dX0_isSo_92 (by decide) ?_
  refine lv_seti (v := (nI ((lft code j) / 6))) (pk_div (a := (lft code j)) (d := 6) (by omega) (by omega) (by omega)) ?_
  refine lv_istore_n (lv' := [(2, .int (nI ((lft code j) / 6))), (3, .int 1), (0, .ref h), (1, .int (nI code)), (4, .int (nI j))]) hx hb dX0_isSo_93 rfl hl (by decide) rfl (fun ls hl => ?_)
  refine lv_iinc (v := (nI (j + 1))) (lv' := [(4, .int (nI (j + 1))), (2, .int (nI ((lft code j) / 6))), (3, .int 1), (0, .ref h), (1, .int (nI code))]) hx hb dX0_isSo_94 hl (k := 4) rfl (nI_1 _) (by decide) rfl (fun ls hl => ?_)
  refine lv_goto (tgt := 18) hx hb dX0_isSo_97 (by decide) ?_
  exact ihj (j + 1) _ _ _ ⟨by omega, hZ.cast (rfl), lv_cast (lv_sub (l' := [(0, .ref h), (1, .int (nI code)), (2, .int (nI ((lft code j) / 6))), (3, .int 1), (4, .int (nI (j + 1)))]) hl [3, 4, 1, 2, 0] rfl) (by simp [b01, soB, lft, c_1, c_2, c_3, c_4, c_5])⟩ (by omega)

set_option maxHeartbeats 400000 in
set_option maxRecDepth 100000 in
theorem K_X0_layFits (l : Launch) (g : Gx) (h : Nat) (R : Nat → Nat) (V : Nat → Nat) (I : Nat → Int32) (dr : Int64) (md : Int32) (ed : Nat) (n : Nat) (F : Nat → Nat → Int32) (kd : Nat → Nat) (am : Nat) (hn : n ≤ 5) (ham : (I 13) = nI am) (ham2 : am ≤ 5) (hrk : RoK (roP g ed n kd) (wC g h R V I dr md ed n F)) : EM l g yX0_layFits cX0_layFits 5 (some .int) 7 [.ref h] (roP g ed n kd) (wC g h R V I dr md ed n F) (fun u => (wC g h R V I dr md ed n (va_up (va_up (va_up (va_up F 4 (u 4)) 5 (u 5)) 6 (u 6)) 12 (ftB kd I F n am (p6 am))))) (some (.int (ftC kd I F n am (p6 am)))) := by
  refine EM.of (own := "BurntLetters") (by decide) rfl (Nat.le_of_ble_eq_true rfl) hrk ?_
  intro p e s m below meth c A hX hr hlk hZ ls hl
  have hx := hX.1.1
  have hb := hX.1.2.1
  have hl : lv_has ls 5 [(0, .ref h)] := hl
  have hp6 := p6_le ham2
  refine lv_iconst (v := 0) hx hb dX0_layFits_0 (by decide) ?_
  refine lv_istore_n (lv' := [(1, .int 0), (0, .ref h)]) hx hb dX0_layFits_1 rfl hl (by decide) rfl (fun ls hl => ?_)
  refine lv_iconst (v := 0) hx hb dX0_layFits_2 (by decide) ?_
  refine lv_istore_n (lv' := [(2, .int 0), (1, .int 0), (0, .ref h)]) hx hb dX0_layFits_3 rfl hl (by decide) rfl (fun ls hl => ?_)
  refine W_loop (α := Nat) (P := fun (z : Nat) (H : Heap) (locs : List Loc) (ls : Array Slot) => z ≤ 5 ∧ Zt g A s.heap (roP g ed n kd) (wC g h R V I dr md ed n (va_up F 12 (zrF (F 12) z))) H locs ∧ lv_has ls 5 [(0, .ref h), (1, .int 0), (2, .int (nI z))]) (fun z => 5 - z) 0 ⟨Nat.zero_le _, hZ.cast (rfl), lv_cast (lv_sub (l' := [(0, .ref h), (1, .int 0), (2, .int 0)]) hl [2, 1, 0] rfl) (rfl)⟩ ?_
  rintro z H locs ls ⟨hz, hZ, hl⟩ ihz
  refine lv_iload_n hx hb dX0_layFits_4 rfl (lv_at hl 2 rfl) ?_
  refine lv_iconst (v := 5) hx hb dX0_layFits_5 (by decide) ?_
  refine lv_icmp_ge (tgt := 22) hx hb dX0_layFits_6 (by decide) (fun c_1 => ?_) (fun c_1 => ?_)
  · have c_1n : 5 ≤ z := (nI_leI (a := 5) (b := z) (by omega) (by omega)).mp c_1
    have ei : z = 5 := by omega
    subst ei
    have hZ := hZ.arr 17 (fun _ => 0) rfl (fun j hj => zrF_in (F 12) 5 j hj)
    have hZ : Zt g A s.heap (roP g ed n kd) (wC g h R V I dr md ed n (va_up F 12 (fun _ => 0))) H locs := hZ
    refine lv_iconst (v := 0) hx hb dX0_layFits_22 (by decide) ?_
    refine lv_istore_n (lv' := [(2, .int 0), (0, .ref h), (1, .int 0)]) hx hb dX0_layFits_23 rfl hl (by decide) rfl (fun ls hl => ?_)
    refine W_loopU (α := Nat) (P := fun (i : Nat) (u : Nat → Nat → Int32) (H : Heap) (locs : List Loc) (ls : Array Slot) => i ≤ p6 am ∧ Zt g A s.heap (roP g ed n kd) (wC g h R V I dr md ed n (va_up (va_up (va_up (va_up F 4 (u 4)) 5 (u 5)) 6 (u 6)) 12 (ftB kd I F n am i))) H locs ∧ lv_has ls 5 [(0, .ref h), (1, .int (ftC kd I F n am i)), (2, .int (nI i))]) (fun i => p6 am - i) 0 (va_up F 12 (fun _ => 0)) ⟨Nat.zero_le _, hZ.cast (rfl), lv_cast (lv_sub (l' := [(0, .ref h), (1, .int 0), (2, .int 0)]) hl [1, 2, 0] rfl) (rfl)⟩ ?_
    rintro i u H locs ls ⟨hi, hZ, hl⟩ ihi
    refine lv_iload_n hx hb dX0_layFits_24 rfl (lv_at hl 2 rfl) ?_
    refine lv_bipush (v := 6) hx hb dX0_layFits_25 (by decide) ?_
    refine lv_aload_n hx hb dX0_layFits_27 rfl (lv_at hl 0 rfl) ?_
    refine gf_q157 (v := .int (I 13)) hX hZ.1 0 rfl rfl dX0_layFits_28 ?_
    refine lv_seti (v := (nI am)) (ham) ?_
    refine PM.ci (PM.runS (As := [.int 6, .int (nI am)]) (rest := [.int (nI i)]) hX (K_X0_power l g 6 am (by omega)) (cs_q653 hX ⟨Nat.le_of_ble_eq_true rfl, Nat.le_of_ble_eq_true rfl⟩) va_P_nil trivial rfl hl.1 rfl (Nat.le_of_ble_eq_true rfl) dX0_layFits_31 ⟨Nat.zero_le _, Nat.zero_le _⟩) ?_
    refine lv_seti (v := (nI (p6 am))) (hp6.1) ?_
    refine lv_icmp_ge (tgt := 95) hx hb dX0_layFits_34 (by decide) (fun c_2 => ?_) (fun c_2 => ?_)
    · have c_2n : (p6 am) ≤ i := (nI_leI (a := (p6 am)) (b := i) (by omega) (by omega)).mp c_2
      have ei : p6 am = i := by omega
      subst ei
      refine lv_iload_n hx hb dX0_layFits_95 rfl (lv_at hl 1 rfl) ?_
      exact EM.iret hX hr hlk hZ (ws1 := fun u => (wC g h R V I dr md ed n (va_up (va_up (va_up (va_up F 4 (u 4)) 5 (u 5)) 6 (u 6)) 12 (ftB kd I F n am (p6 am))))) (va_up (va_up (va_up (va_up F 4 (u 4)) 5 (u 5)) 6 (u 6)) 12 (ftB kd I F n am (p6 am))) (rfl) (rfl) dX0_layFits_96
    have c_2n : ¬ (p6 am) ≤ i := fun zz_ => c_2 ((nI_leI (a := (p6 am)) (b := i) (by omega) (by omega)).mpr zz_)
    refine lv_aload_n hx hb dX0_layFits_37 rfl (lv_at hl 0 rfl) ?_
    refine lv_iload_n hx hb dX0_layFits_38 rfl (lv_at hl 2 rfl) ?_
    refine EM.ciA (EM.runV (As := [.int (nI i)]) (rest := []) hX (K_X0_isSo l g h R V I dr md ed n (va_up (va_up (va_up (va_up F 4 (u 4)) 5 (u 5)) 6 (u 6)) 12 (ftB kd I F n am i)) i kd am (by omega) (ham) (by omega) (by omega) (hrk.addr adC)) (cv_q726 hX ⟨Nat.le_of_ble_eq_true rfl, Nat.le_of_ble_eq_true rfl⟩) hZ.1 hZ.2.1 hZ.ro (r_recv hX hZ.1 0 rfl rfl) rfl hl.1 rfl (Nat.le_of_ble_eq_true rfl) dX0_layFits_39 ⟨Nat.zero_le _, Nat.zero_le _⟩) hZ (fun _ => adC) (fun u_3 H locs hZ => ?_)
    refine lv_seti (v := (b01 (soB kd (I 3) (F 2) n (F 0) (F 11) ((F 1), (F 3)) i am = true))) (rfl) ?_
    refine lv_bif_eq (tgt := 89) hx hb dX0_layFits_42 (by decide) (fun c_4 => ?_) (fun c_4 => ?_)
    · refine lv_iinc (v := (nI (i + 1))) (lv' := [(2, .int (nI (i + 1))), (0, .ref h), (1, .int (ftC kd I F n am i))]) hx hb dX0_layFits_89 hl (k := 2) rfl (nI_1 _) (by decide) rfl (fun ls hl => ?_)
      refine lv_goto (tgt := 24) hx hb dX0_layFits_92 (by decide) ?_
      exact ihi (i + 1) (va_up (va_up (va_up (va_up F 12 (ftB kd I F n am i)) 4 (u_3 4)) 5 (u_3 5)) 6 (u_3 6)) _ _ _ ⟨by omega, hZ.cast (by first | (simp only [ftB, if_pos c_1, if_neg c_2, if_neg c_4]; done) | (simp only [ftB, if_pos c_1, if_neg c_2, if_neg c_4]; rfl)), lv_cast (lv_sub (l' := [(0, .ref h), (1, .int (ftC kd I F n am i)), (2, .int (nI (i + 1)))]) hl [1, 2, 0] rfl) (by simp only [ftC, if_pos c_1, if_neg c_2, if_neg c_4])⟩ (by omega)
    refine lv_iinc (v := ((ftC kd I F n am i) + 1)) (lv' := [(1, .int ((ftC kd I F n am i) + 1)), (0, .ref h), (2, .int (nI i))]) hx hb dX0_layFits_45 hl (k := 1) rfl (rfl) (by decide) rfl (fun ls hl => ?_)
    refine lv_iload_n hx hb dX0_layFits_48 rfl (lv_at hl 2 rfl) ?_
    refine lv_istore_n (lv' := [(3, .int (nI i)), (1, .int ((ftC kd I F n am i) + 1)), (0, .ref h), (2, .int (nI i))]) hx hb dX0_layFits_49 rfl hl (by decide) rfl (fun ls hl => ?_)
    refine lv_iconst (v := 0) hx hb dX0_layFits_50 (by decide) ?_
    refine lv_istore (lv' := [(4, .int 0), (3, .int (nI i)), (1, .int ((ftC kd I F n am i) + 1)), (0, .ref h), (2, .int (nI i))]) hx hb dX0_layFits_51 hl (by decide) rfl (fun ls hl => ?_)
    refine W_loop (α := Nat) (P := fun (j : Nat) (H : Heap) (locs : List Loc) (ls : Array Slot) => j ≤ am ∧ Zt g A s.heap (roP g ed n kd) (wC g h R V I dr md ed n (va_up (va_up (va_up (va_up F 4 (u_3 4)) 5 (u_3 5)) 6 (u_3 6)) 12 (oneB (ftB kd I F n am i) i j))) H locs ∧ lv_has ls 5 [(0, .ref h), (1, .int ((ftC kd I F n am i) + 1)), (2, .int (nI i)), (3, .int (nI (lft i j))), (4, .int (nI j))]) (fun j => am - j) 0 ⟨Nat.zero_le _, hZ.cast (rfl), lv_cast (lv_sub (l' := [(0, .ref h), (1, .int ((ftC kd I F n am i) + 1)), (2, .int (nI i)), (3, .int (nI i)), (4, .int 0)]) hl [3, 2, 4, 1, 0] rfl) (rfl)⟩ ?_
    rintro j H locs ls ⟨hj, hZ, hl⟩ ihj
    have hlf := lft_le i j
    refine lv_iload hx hb dX0_layFits_53 (lv_at hl 4 rfl) ?_
    refine lv_aload_n hx hb dX0_layFits_55 rfl (lv_at hl 0 rfl) ?_
    refine gf_q157 (v := .int (I 13)) hX hZ.1 0 rfl rfl dX0_layFits_56 ?_
    refine lv_seti (v := (nI am)) (ham) ?_
    refine lv_icmp_ge (tgt := 89) hx hb dX0_layFits_59 (by decide) (fun c_5 => ?_) (fun c_5 => ?_)
    · have c_5n : am ≤ j := (nI_leI (a := am) (b := j) (by omega) (by omega)).mp c_5
      have ej : am = j := by omega
      subst ej
      refine lv_iinc (v := (nI (i + 1))) (lv' := [(2, .int (nI (i + 1))), (0, .ref h), (1, .int ((ftC kd I F n am i) + 1)), (3, .int (nI (lft i am))), (4, .int (nI am))]) hx hb dX0_layFits_89 hl (k := 2) rfl (nI_1 _) (by decide) rfl (fun ls hl => ?_)
      refine lv_goto (tgt := 24) hx hb dX0_layFits_92 (by decide) ?_
      exact ihi (i + 1) (va_up (va_up (va_up (va_up F 4 (u_3 4)) 5 (u_3 5)) 6 (u_3 6)) 12 (oneB (ftB kd I F n am i) i am)) _ _ _ ⟨by omega, hZ.cast (by first | (simp only [ftB, if_pos c_1, if_neg c_2, if_pos c_4, if_pos c_5]; done) | (simp only [ftB, if_pos c_1, if_neg c_2, if_pos c_4, if_pos c_5]; rfl)), lv_cast (lv_sub (l' := [(0, .ref h), (1, .int ((ftC kd I F n am i) + 1)), (2, .int (nI (i + 1)))]) hl [1, 2, 0] rfl) (by simp only [ftC, if_pos c_1, if_neg c_2, if_pos c_4, if_pos c_5])⟩ (by omega)
    have c_5n : ¬ am ≤ j := fun zz_ => c_5 ((nI_leI (a := am) (b := j) (by omega) (by omega)).mpr zz_)
    refine lv_aload_n hx hb dX0_layFits_62 rfl (lv_at hl 0 rfl) ?_
    refine gf_q159 (v := .ref (R 15)) hX hZ.1 0 rfl rfl dX0_layFits_63 ?_
    refine lv_iload hx hb dX0_layFits_66 (lv_at hl 4 rfl) ?_
    refine lv_dup2_11 hx hb dX0_layFits_68 rfl rfl ?_
    refine r_iald (f := (oneB (ftB kd I F n am i) i j)) hX hZ.1 17 rfl j (by omega) (by omega) dX0_layFits_69 ?_
    refine lv_iconst (v := 1) hx hb dX0_layFits_70 (by decide) ?_
    refine lv_iload_n hx hb dX0_layFits_71 rfl (lv_at hl 3 rfl) ?_
    refine lv_bipush (v := 6) hx hb dX0_layFits_72 (by decide) ?_
    refine lv_irem hx hb dX0_layFits_74 (by decide) ?_
    refine lv_seti (v := (nI ((lft i j) % 6))) (pk_rem (a := (lft i j)) (d := 6) (by omega) (by omega) (by omega)) ?_
    refine lv_ishl hx hb dX0_layFits_75 ?_
    refine lv_ior hx hb dX0_layFits_76 ?_
    refine r_iast (f := (oneB (ftB kd I F n am i) i j)) (x := (((oneB (ftB kd I F n am i) i j) j) ||| ((1 : Int32) <<< ((nI ((lft i j) % 6)) &&& 31)))) (ws1 := (wC g h R V I dr md ed n (va_up (va_up (va_up (va_up F 4 (u_3 4)) 5 (u_3 5)) 6 (u_3 6)) 12 (upd (oneB (ftB kd I F n am i) i j) j (((oneB (ftB kd I F n am i) i j) j) ||| ((1 : Int32) <<< ((nI ((lft i j) % 6)) &&& 31))))))) hX hZ 17 rfl j (by omega) (by omega) dX0_layFits_77 rfl (fun H locs hZ => ?_)
    refine lv_iload_n hx hb dX0_layFits_78 rfl (lv_at hl 3 rfl) ?_
    refine lv_bipush (v := 6) hx hb dX0_layFits_79 (by decide) ?_
    refine lv_idiv hx hb dX0_layFits_81 (by decide) ?_
    refine lv_seti (v := (nI ((lft i j) / 6))) (pk_div (a := (lft i j)) (d := 6) (by omega) (by omega) (by omega)) ?_
    refine lv_istore_n (lv' := [(3, .int (nI ((lft i j) / 6))), (0, .ref h), (1, .int ((ftC kd I F n am i) + 1)), (2, .int (nI i)), (4, .int (nI j))]) hx hb dX0_layFits_82 rfl hl (by decide) rfl (fun ls hl => ?_)
    refine lv_iinc (v := (nI (j + 1))) (lv' := [(4, .int (nI (j + 1))), (3, .int (nI ((lft i j) / 6))), (0, .ref h), (1, .int ((ftC kd I F n am i) + 1)), (2, .int (nI i))]) hx hb dX0_layFits_83 hl (k := 4) rfl (nI_1 _) (by decide) rfl (fun ls hl => ?_)
    refine lv_goto (tgt := 53) hx hb dX0_layFits_86 (by decide) ?_
    exact ihj (j + 1) _ _ _ ⟨by omega, hZ.cast (rfl), lv_cast (lv_sub (l' := [(0, .ref h), (1, .int ((ftC kd I F n am i) + 1)), (2, .int (nI i)), (3, .int (nI ((lft i j) / 6))), (4, .int (nI (j + 1)))]) hl [2, 3, 4, 1, 0] rfl) (by rfl)⟩ (by omega)
  have c_1n : ¬ 5 ≤ z := fun zz_ => c_1 ((nI_leI (a := 5) (b := z) (by omega) (by omega)).mpr zz_)
  refine lv_aload_n hx hb dX0_layFits_9 rfl (lv_at hl 0 rfl) ?_
  refine gf_q159 (v := .ref (R 15)) hX hZ.1 0 rfl rfl dX0_layFits_10 ?_
  refine lv_iload_n hx hb dX0_layFits_13 rfl (lv_at hl 2 rfl) ?_
  refine lv_iconst (v := 0) hx hb dX0_layFits_14 (by decide) ?_
  refine r_iast (f := (zrF (F 12) z)) (x := 0) (ws1 := (wC g h R V I dr md ed n (va_up F 12 (upd (zrF (F 12) z) z 0)))) hX hZ 17 rfl z (by omega) (by omega) dX0_layFits_15 rfl (fun H locs hZ => ?_)
  refine lv_iinc (v := (nI (z + 1))) (lv' := [(2, .int (nI (z + 1))), (0, .ref h), (1, .int 0)]) hx hb dX0_layFits_16 hl (k := 2) rfl (nI_1 _) (by decide) rfl (fun ls hl => ?_)
  refine lv_goto (tgt := 4) hx hb dX0_layFits_19 (by decide) ?_
  exact ihz (z + 1) _ _ _ ⟨by omega, hZ.cast (rfl), lv_cast (lv_sub (l' := [(0, .ref h), (1, .int 0), (2, .int (nI (z + 1)))]) hl [1, 2, 0] rfl) (by rfl)⟩ (by omega)

set_option maxHeartbeats 400000 in
set_option maxRecDepth 100000 in
theorem K_X0_fits (l : Launch) (g : Gx) (h : Nat) (R : Nat → Nat) (V : Nat → Nat) (I : Nat → Int32) (dr : Int64) (md : Int32) (ed : Nat) (n : Nat) (F : Nat → Nat → Int32) (kd : Nat → Nat) (am : Nat) (hn : n ≤ 5) (ham : (I 13) = nI am) (ham2 : am ≤ 5) (hrk : RoK (roP g ed n kd) (wC g h R V I dr md ed n F)) : EM l g yX0_fits cX0_fits 1 (some .int) 8 [.ref h] (roP g ed n kd) (wC g h R V I dr md ed n F) (fun u => (wC g h R V I dr md ed n (va_up (va_up (va_up (va_up F 4 (u 4)) 5 (u 5)) 6 (u 6)) 12 (u 12)))) (some (.int (fitR kd I F n am))) := by
  refine EM.of (own := "BurntLetters") (by decide) rfl (Nat.le_of_ble_eq_true rfl) hrk ?_
  intro p e s m below meth c A hX hr hlk hZ ls hl
  have hx := hX.1.1
  have hb := hX.1.2.1
  have hl : lv_has ls 1 [(0, .ref h)] := hl
  refine lv_aload_n hx hb dX0_fits_0 rfl (lv_at hl 0 rfl) ?_
  refine gf_q142 (v := .int (I 1)) hX hZ.1 0 rfl rfl dX0_fits_1 ?_
  refine lv_if_eq (tgt := 14) hx hb dX0_fits_4 (by decide) (fun c_1 => ?_) (fun c_1 => ?_)
  · refine lv_bipush (v := (-103)) hx hb dX0_fits_14 (by decide) ?_
    exact EM.iret hX hr hlk hZ (ws1 := fun u => (wC g h R V I dr md ed n (va_up (va_up (va_up (va_up F 4 (u 4)) 5 (u 5)) 6 (u 6)) 12 (u 12)))) F (rfl) (by simp only [fitR, if_pos c_1]) dX0_fits_16
  refine lv_aload_n hx hb dX0_fits_7 rfl (lv_at hl 0 rfl) ?_
  refine EM.ciA (EM.runV (As := []) (rest := []) hX (K_X0_layFits l g h R V I dr md ed n F kd am (by omega) (ham) (by omega) (hrk.addr adC)) (cv_q722 hX ⟨Nat.le_of_ble_eq_true rfl, Nat.le_of_ble_eq_true rfl⟩) hZ.1 hZ.2.1 hZ.ro (r_recv hX hZ.1 0 rfl rfl) rfl hl.1 rfl (Nat.le_of_ble_eq_true rfl) dX0_fits_8 ⟨Nat.zero_le _, Nat.zero_le _⟩) hZ (fun _ => adC) (fun u_2 H locs hZ => ?_)
  refine lv_goto (tgt := 16) hx hb dX0_fits_11 (by decide) ?_
  exact EM.iret hX hr hlk hZ (ws1 := fun u => (wC g h R V I dr md ed n (va_up (va_up (va_up (va_up F 4 (u 4)) 5 (u 5)) 6 (u 6)) 12 (u 12)))) (va_up (va_up (va_up (va_up F 4 (u_2 4)) 5 (u_2 5)) 6 (u_2 6)) 12 (ftB kd I F n am (p6 am))) (rfl) (by simp only [fitR, if_neg c_1]) dX0_fits_16

set_option maxHeartbeats 400000 in
set_option maxRecDepth 100000 in
theorem K_J10_numberOfTrailingZeros (l : Launch) (g : Gx) (x : Int32) : PM l g yJ10_numberOfTrailingZeros cJ10_numberOfTrailingZeros 2 (some .int) 0 [.int x] roT ([] : va_W) (some (.int (ntF x))) := by
  refine PM.of (own := "java/lang/Integer") (by decide) rfl (Nat.le_of_ble_eq_true rfl) ?_
  intro p e s m below meth c hX hr hlk hP hro ls hl
  have hx := hX.1.1
  have hb := hX.1.2.1
  have hl : lv_has ls 2 [(0, .int x)] := hl
  refine lv_iload_n hx hb dJ10_numberOfTrailingZeros_0 rfl (lv_at hl 0 rfl) ?_
  refine lv_iconst (v := (-1)) hx hb dJ10_numberOfTrailingZeros_1 (by decide) ?_
  refine lv_ixor hx hb dJ10_numberOfTrailingZeros_2 ?_
  refine lv_iload_n hx hb dJ10_numberOfTrailingZeros_3 rfl (lv_at hl 0 rfl) ?_
  refine lv_iconst (v := 1) hx hb dJ10_numberOfTrailingZeros_4 (by decide) ?_
  refine lv_isub hx hb dJ10_numberOfTrailingZeros_5 ?_
  refine lv_iand hx hb dJ10_numberOfTrailingZeros_6 ?_
  refine lv_seti (v := (nt0 x)) (rfl) ?_
  refine lv_istore_n (lv' := [(0, .int (nt0 x))]) hx hb dJ10_numberOfTrailingZeros_7 rfl hl (by decide) rfl (fun ls hl => ?_)
  refine lv_iload_n hx hb dJ10_numberOfTrailingZeros_8 rfl (lv_at hl 0 rfl) ?_
  refine lv_if_gt (tgt := 17) hx hb dJ10_numberOfTrailingZeros_9 (by decide) (fun c_1 => ?_) (fun c_1 => ?_)
  · refine lv_iconst (v := 1) hx hb dJ10_numberOfTrailingZeros_17 (by decide) ?_
    refine lv_istore_n (lv' := [(1, .int 1), (0, .int (nt0 x))]) hx hb dJ10_numberOfTrailingZeros_18 rfl hl (by decide) rfl (fun ls hl => ?_)
    refine lv_iload_n hx hb dJ10_numberOfTrailingZeros_19 rfl (lv_at hl 1 rfl) ?_
    refine lv_ldcw (v := 65536) hx hb hX.1.2.2.2.1 (hX.w q742) dJ10_numberOfTrailingZeros_20 ?_
    refine lv_icmp_le (tgt := 34) hx hb dJ10_numberOfTrailingZeros_23 (by decide) (fun c_2 => ?_) (fun c_2 => ?_)
    · refine lv_iload_n hx hb dJ10_numberOfTrailingZeros_34 rfl (lv_at hl 1 rfl) ?_
      refine lv_sipush (v := 256) hx hb dJ10_numberOfTrailingZeros_35 (by decide) ?_
      refine lv_icmp_le (tgt := 49) hx hb dJ10_numberOfTrailingZeros_38 (by decide) (fun c_3 => ?_) (fun c_3 => ?_)
      · refine lv_iload_n hx hb dJ10_numberOfTrailingZeros_49 rfl (lv_at hl 1 rfl) ?_
        refine lv_bipush (v := 16) hx hb dJ10_numberOfTrailingZeros_50 (by decide) ?_
        refine lv_icmp_le (tgt := 62) hx hb dJ10_numberOfTrailingZeros_52 (by decide) (fun c_4 => ?_) (fun c_4 => ?_)
        · refine lv_iload_n hx hb dJ10_numberOfTrailingZeros_62 rfl (lv_at hl 1 rfl) ?_
          refine lv_iconst (v := 4) hx hb dJ10_numberOfTrailingZeros_63 (by decide) ?_
          refine lv_icmp_le (tgt := 74) hx hb dJ10_numberOfTrailingZeros_64 (by decide) (fun c_5 => ?_) (fun c_5 => ?_)
          · refine lv_iload_n hx hb dJ10_numberOfTrailingZeros_74 rfl (lv_at hl 0 rfl) ?_
            refine lv_iload_n hx hb dJ10_numberOfTrailingZeros_75 rfl (lv_at hl 1 rfl) ?_
            refine lv_iconst (v := 1) hx hb dJ10_numberOfTrailingZeros_76 (by decide) ?_
            refine lv_iushr (v := (ush (nt0 x) 1)) hx hb dJ10_numberOfTrailingZeros_77 rfl ?_
            refine lv_iadd hx hb dJ10_numberOfTrailingZeros_78 ?_
            exact PM.iret hX hr hlk (by first | (simp only [ntF, nt1, nt2, nt3, nt4, if_pos c_1, if_pos c_2, if_pos c_3, if_pos c_4, if_pos c_5]; done) | (simp only [ntF, nt1, nt2, nt3, nt4, if_pos c_1, if_pos c_2, if_pos c_3, if_pos c_4, if_pos c_5]; rfl)) dJ10_numberOfTrailingZeros_79
          refine lv_iinc (v := (1 + 2)) (lv' := [(1, .int (1 + 2)), (0, .int (nt0 x))]) hx hb dJ10_numberOfTrailingZeros_67 hl (k := 0) rfl (rfl) (by decide) rfl (fun ls hl => ?_)
          refine lv_iload_n hx hb dJ10_numberOfTrailingZeros_70 rfl (lv_at hl 1 rfl) ?_
          refine lv_iconst (v := 2) hx hb dJ10_numberOfTrailingZeros_71 (by decide) ?_
          refine lv_iushr (v := (ush (nt0 x) 2)) hx hb dJ10_numberOfTrailingZeros_72 rfl ?_
          refine lv_istore_n (lv' := [(0, .int (ush (nt0 x) 2)), (1, .int (1 + 2))]) hx hb dJ10_numberOfTrailingZeros_73 rfl hl (by decide) rfl (fun ls hl => ?_)
          refine lv_iload_n hx hb dJ10_numberOfTrailingZeros_74 rfl (lv_at hl 1 rfl) ?_
          refine lv_iload_n hx hb dJ10_numberOfTrailingZeros_75 rfl (lv_at hl 0 rfl) ?_
          refine lv_iconst (v := 1) hx hb dJ10_numberOfTrailingZeros_76 (by decide) ?_
          refine lv_iushr (v := (ush (ush (nt0 x) 2) 1)) hx hb dJ10_numberOfTrailingZeros_77 rfl ?_
          refine lv_iadd hx hb dJ10_numberOfTrailingZeros_78 ?_
          exact PM.iret hX hr hlk (by first | (simp only [ntF, nt1, nt2, nt3, nt4, if_pos c_1, if_pos c_2, if_pos c_3, if_pos c_4, if_neg c_5]; done) | (simp only [ntF, nt1, nt2, nt3, nt4, if_pos c_1, if_pos c_2, if_pos c_3, if_pos c_4, if_neg c_5]; rfl)) dJ10_numberOfTrailingZeros_79
        refine lv_iinc (v := (1 + 4)) (lv' := [(1, .int (1 + 4)), (0, .int (nt0 x))]) hx hb dJ10_numberOfTrailingZeros_55 hl (k := 0) rfl (rfl) (by decide) rfl (fun ls hl => ?_)
        refine lv_iload_n hx hb dJ10_numberOfTrailingZeros_58 rfl (lv_at hl 1 rfl) ?_
        refine lv_iconst (v := 4) hx hb dJ10_numberOfTrailingZeros_59 (by decide) ?_
        refine lv_iushr (v := (ush (nt0 x) 4)) hx hb dJ10_numberOfTrailingZeros_60 rfl ?_
        refine lv_istore_n (lv' := [(0, .int (ush (nt0 x) 4)), (1, .int (1 + 4))]) hx hb dJ10_numberOfTrailingZeros_61 rfl hl (by decide) rfl (fun ls hl => ?_)
        refine lv_iload_n hx hb dJ10_numberOfTrailingZeros_62 rfl (lv_at hl 0 rfl) ?_
        refine lv_iconst (v := 4) hx hb dJ10_numberOfTrailingZeros_63 (by decide) ?_
        refine lv_icmp_le (tgt := 74) hx hb dJ10_numberOfTrailingZeros_64 (by decide) (fun c_6 => ?_) (fun c_6 => ?_)
        · refine lv_iload_n hx hb dJ10_numberOfTrailingZeros_74 rfl (lv_at hl 1 rfl) ?_
          refine lv_iload_n hx hb dJ10_numberOfTrailingZeros_75 rfl (lv_at hl 0 rfl) ?_
          refine lv_iconst (v := 1) hx hb dJ10_numberOfTrailingZeros_76 (by decide) ?_
          refine lv_iushr (v := (ush (ush (nt0 x) 4) 1)) hx hb dJ10_numberOfTrailingZeros_77 rfl ?_
          refine lv_iadd hx hb dJ10_numberOfTrailingZeros_78 ?_
          exact PM.iret hX hr hlk (by first | (simp only [ntF, nt1, nt2, nt3, nt4, if_pos c_1, if_pos c_2, if_pos c_3, if_neg c_4, if_pos c_6]; done) | (simp only [ntF, nt1, nt2, nt3, nt4, if_pos c_1, if_pos c_2, if_pos c_3, if_neg c_4, if_pos c_6]; rfl)) dJ10_numberOfTrailingZeros_79
        refine lv_iinc (v := ((1 + 4) + 2)) (lv' := [(1, .int ((1 + 4) + 2)), (0, .int (ush (nt0 x) 4))]) hx hb dJ10_numberOfTrailingZeros_67 hl (k := 1) rfl (rfl) (by decide) rfl (fun ls hl => ?_)
        refine lv_iload_n hx hb dJ10_numberOfTrailingZeros_70 rfl (lv_at hl 1 rfl) ?_
        refine lv_iconst (v := 2) hx hb dJ10_numberOfTrailingZeros_71 (by decide) ?_
        refine lv_iushr (v := (ush (ush (nt0 x) 4) 2)) hx hb dJ10_numberOfTrailingZeros_72 rfl ?_
        refine lv_istore_n (lv' := [(0, .int (ush (ush (nt0 x) 4) 2)), (1, .int ((1 + 4) + 2))]) hx hb dJ10_numberOfTrailingZeros_73 rfl hl (by decide) rfl (fun ls hl => ?_)
        refine lv_iload_n hx hb dJ10_numberOfTrailingZeros_74 rfl (lv_at hl 1 rfl) ?_
        refine lv_iload_n hx hb dJ10_numberOfTrailingZeros_75 rfl (lv_at hl 0 rfl) ?_
        refine lv_iconst (v := 1) hx hb dJ10_numberOfTrailingZeros_76 (by decide) ?_
        refine lv_iushr (v := (ush (ush (ush (nt0 x) 4) 2) 1)) hx hb dJ10_numberOfTrailingZeros_77 rfl ?_
        refine lv_iadd hx hb dJ10_numberOfTrailingZeros_78 ?_
        exact PM.iret hX hr hlk (by first | (simp only [ntF, nt1, nt2, nt3, nt4, if_pos c_1, if_pos c_2, if_pos c_3, if_neg c_4, if_neg c_6]; done) | (simp only [ntF, nt1, nt2, nt3, nt4, if_pos c_1, if_pos c_2, if_pos c_3, if_neg c_4, if_neg c_6]; rfl)) dJ10_numberOfTrailingZeros_79
      refine lv_iinc (v := (1 + 8)) (lv' := [(1, .int (1 + 8)), (0, .int (nt0 x))]) hx hb dJ10_numberOfTrailingZeros_41 hl (k := 0) rfl (rfl) (by decide) rfl (fun ls hl => ?_)
      refine lv_iload_n hx hb dJ10_numberOfTrailingZeros_44 rfl (lv_at hl 1 rfl) ?_
      refine lv_bipush (v := 8) hx hb dJ10_numberOfTrailingZeros_45 (by decide) ?_
      refine lv_iushr (v := (ush (nt0 x) 8)) hx hb dJ10_numberOfTrailingZeros_47 rfl ?_
      refine lv_istore_n (lv' := [(0, .int (ush (nt0 x) 8)), (1, .int (1 + 8))]) hx hb dJ10_numberOfTrailingZeros_48 rfl hl (by decide) rfl (fun ls hl => ?_)
      refine lv_iload_n hx hb dJ10_numberOfTrailingZeros_49 rfl (lv_at hl 0 rfl) ?_
      refine lv_bipush (v := 16) hx hb dJ10_numberOfTrailingZeros_50 (by decide) ?_
      refine lv_icmp_le (tgt := 62) hx hb dJ10_numberOfTrailingZeros_52 (by decide) (fun c_7 => ?_) (fun c_7 => ?_)
      · refine lv_iload_n hx hb dJ10_numberOfTrailingZeros_62 rfl (lv_at hl 0 rfl) ?_
        refine lv_iconst (v := 4) hx hb dJ10_numberOfTrailingZeros_63 (by decide) ?_
        refine lv_icmp_le (tgt := 74) hx hb dJ10_numberOfTrailingZeros_64 (by decide) (fun c_8 => ?_) (fun c_8 => ?_)
        · refine lv_iload_n hx hb dJ10_numberOfTrailingZeros_74 rfl (lv_at hl 1 rfl) ?_
          refine lv_iload_n hx hb dJ10_numberOfTrailingZeros_75 rfl (lv_at hl 0 rfl) ?_
          refine lv_iconst (v := 1) hx hb dJ10_numberOfTrailingZeros_76 (by decide) ?_
          refine lv_iushr (v := (ush (ush (nt0 x) 8) 1)) hx hb dJ10_numberOfTrailingZeros_77 rfl ?_
          refine lv_iadd hx hb dJ10_numberOfTrailingZeros_78 ?_
          exact PM.iret hX hr hlk (by first | (simp only [ntF, nt1, nt2, nt3, nt4, if_pos c_1, if_pos c_2, if_neg c_3, if_pos c_7, if_pos c_8]; done) | (simp only [ntF, nt1, nt2, nt3, nt4, if_pos c_1, if_pos c_2, if_neg c_3, if_pos c_7, if_pos c_8]; rfl)) dJ10_numberOfTrailingZeros_79
        refine lv_iinc (v := ((1 + 8) + 2)) (lv' := [(1, .int ((1 + 8) + 2)), (0, .int (ush (nt0 x) 8))]) hx hb dJ10_numberOfTrailingZeros_67 hl (k := 1) rfl (rfl) (by decide) rfl (fun ls hl => ?_)
        refine lv_iload_n hx hb dJ10_numberOfTrailingZeros_70 rfl (lv_at hl 1 rfl) ?_
        refine lv_iconst (v := 2) hx hb dJ10_numberOfTrailingZeros_71 (by decide) ?_
        refine lv_iushr (v := (ush (ush (nt0 x) 8) 2)) hx hb dJ10_numberOfTrailingZeros_72 rfl ?_
        refine lv_istore_n (lv' := [(0, .int (ush (ush (nt0 x) 8) 2)), (1, .int ((1 + 8) + 2))]) hx hb dJ10_numberOfTrailingZeros_73 rfl hl (by decide) rfl (fun ls hl => ?_)
        refine lv_iload_n hx hb dJ10_numberOfTrailingZeros_74 rfl (lv_at hl 1 rfl) ?_
        refine lv_iload_n hx hb dJ10_numberOfTrailingZeros_75 rfl (lv_at hl 0 rfl) ?_
        refine lv_iconst (v := 1) hx hb dJ10_numberOfTrailingZeros_76 (by decide) ?_
        refine lv_iushr (v := (ush (ush (ush (nt0 x) 8) 2) 1)) hx hb dJ10_numberOfTrailingZeros_77 rfl ?_
        refine lv_iadd hx hb dJ10_numberOfTrailingZeros_78 ?_
        exact PM.iret hX hr hlk (by first | (simp only [ntF, nt1, nt2, nt3, nt4, if_pos c_1, if_pos c_2, if_neg c_3, if_pos c_7, if_neg c_8]; done) | (simp only [ntF, nt1, nt2, nt3, nt4, if_pos c_1, if_pos c_2, if_neg c_3, if_pos c_7, if_neg c_8]; rfl)) dJ10_numberOfTrailingZeros_79
      refine lv_iinc (v := ((1 + 8) + 4)) (lv' := [(1, .int ((1 + 8) + 4)), (0, .int (ush (nt0 x) 8))]) hx hb dJ10_numberOfTrailingZeros_55 hl (k := 1) rfl (rfl) (by decide) rfl (fun ls hl => ?_)
      refine lv_iload_n hx hb dJ10_numberOfTrailingZeros_58 rfl (lv_at hl 1 rfl) ?_
      refine lv_iconst (v := 4) hx hb dJ10_numberOfTrailingZeros_59 (by decide) ?_
      refine lv_iushr (v := (ush (ush (nt0 x) 8) 4)) hx hb dJ10_numberOfTrailingZeros_60 rfl ?_
      refine lv_istore_n (lv' := [(0, .int (ush (ush (nt0 x) 8) 4)), (1, .int ((1 + 8) + 4))]) hx hb dJ10_numberOfTrailingZeros_61 rfl hl (by decide) rfl (fun ls hl => ?_)
      refine lv_iload_n hx hb dJ10_numberOfTrailingZeros_62 rfl (lv_at hl 0 rfl) ?_
      refine lv_iconst (v := 4) hx hb dJ10_numberOfTrailingZeros_63 (by decide) ?_
      refine lv_icmp_le (tgt := 74) hx hb dJ10_numberOfTrailingZeros_64 (by decide) (fun c_9 => ?_) (fun c_9 => ?_)
      · refine lv_iload_n hx hb dJ10_numberOfTrailingZeros_74 rfl (lv_at hl 1 rfl) ?_
        refine lv_iload_n hx hb dJ10_numberOfTrailingZeros_75 rfl (lv_at hl 0 rfl) ?_
        refine lv_iconst (v := 1) hx hb dJ10_numberOfTrailingZeros_76 (by decide) ?_
        refine lv_iushr (v := (ush (ush (ush (nt0 x) 8) 4) 1)) hx hb dJ10_numberOfTrailingZeros_77 rfl ?_
        refine lv_iadd hx hb dJ10_numberOfTrailingZeros_78 ?_
        exact PM.iret hX hr hlk (by first | (simp only [ntF, nt1, nt2, nt3, nt4, if_pos c_1, if_pos c_2, if_neg c_3, if_neg c_7, if_pos c_9]; done) | (simp only [ntF, nt1, nt2, nt3, nt4, if_pos c_1, if_pos c_2, if_neg c_3, if_neg c_7, if_pos c_9]; rfl)) dJ10_numberOfTrailingZeros_79
      refine lv_iinc (v := (((1 + 8) + 4) + 2)) (lv' := [(1, .int (((1 + 8) + 4) + 2)), (0, .int (ush (ush (nt0 x) 8) 4))]) hx hb dJ10_numberOfTrailingZeros_67 hl (k := 1) rfl (rfl) (by decide) rfl (fun ls hl => ?_)
      refine lv_iload_n hx hb dJ10_numberOfTrailingZeros_70 rfl (lv_at hl 1 rfl) ?_
      refine lv_iconst (v := 2) hx hb dJ10_numberOfTrailingZeros_71 (by decide) ?_
      refine lv_iushr (v := (ush (ush (ush (nt0 x) 8) 4) 2)) hx hb dJ10_numberOfTrailingZeros_72 rfl ?_
      refine lv_istore_n (lv' := [(0, .int (ush (ush (ush (nt0 x) 8) 4) 2)), (1, .int (((1 + 8) + 4) + 2))]) hx hb dJ10_numberOfTrailingZeros_73 rfl hl (by decide) rfl (fun ls hl => ?_)
      refine lv_iload_n hx hb dJ10_numberOfTrailingZeros_74 rfl (lv_at hl 1 rfl) ?_
      refine lv_iload_n hx hb dJ10_numberOfTrailingZeros_75 rfl (lv_at hl 0 rfl) ?_
      refine lv_iconst (v := 1) hx hb dJ10_numberOfTrailingZeros_76 (by decide) ?_
      refine lv_iushr (v := (ush (ush (ush (ush (nt0 x) 8) 4) 2) 1)) hx hb dJ10_numberOfTrailingZeros_77 rfl ?_
      refine lv_iadd hx hb dJ10_numberOfTrailingZeros_78 ?_
      exact PM.iret hX hr hlk (by first | (simp only [ntF, nt1, nt2, nt3, nt4, if_pos c_1, if_pos c_2, if_neg c_3, if_neg c_7, if_neg c_9]; done) | (simp only [ntF, nt1, nt2, nt3, nt4, if_pos c_1, if_pos c_2, if_neg c_3, if_neg c_7, if_neg c_9]; rfl)) dJ10_numberOfTrailingZeros_79
    refine lv_iinc (v := (1 + 16)) (lv' := [(1, .int (1 + 16)), (0, .int (nt0 x))]) hx hb dJ10_numberOfTrailingZeros_26 hl (k := 0) rfl (rfl) (by decide) rfl (fun ls hl => ?_)
    refine lv_iload_n hx hb dJ10_numberOfTrailingZeros_29 rfl (lv_at hl 1 rfl) ?_
    refine lv_bipush (v := 16) hx hb dJ10_numberOfTrailingZeros_30 (by decide) ?_
    refine lv_iushr (v := (ush (nt0 x) 16)) hx hb dJ10_numberOfTrailingZeros_32 rfl ?_
    refine lv_istore_n (lv' := [(0, .int (ush (nt0 x) 16)), (1, .int (1 + 16))]) hx hb dJ10_numberOfTrailingZeros_33 rfl hl (by decide) rfl (fun ls hl => ?_)
    refine lv_iload_n hx hb dJ10_numberOfTrailingZeros_34 rfl (lv_at hl 0 rfl) ?_
    refine lv_sipush (v := 256) hx hb dJ10_numberOfTrailingZeros_35 (by decide) ?_
    refine lv_icmp_le (tgt := 49) hx hb dJ10_numberOfTrailingZeros_38 (by decide) (fun c_10 => ?_) (fun c_10 => ?_)
    · refine lv_iload_n hx hb dJ10_numberOfTrailingZeros_49 rfl (lv_at hl 0 rfl) ?_
      refine lv_bipush (v := 16) hx hb dJ10_numberOfTrailingZeros_50 (by decide) ?_
      refine lv_icmp_le (tgt := 62) hx hb dJ10_numberOfTrailingZeros_52 (by decide) (fun c_11 => ?_) (fun c_11 => ?_)
      · refine lv_iload_n hx hb dJ10_numberOfTrailingZeros_62 rfl (lv_at hl 0 rfl) ?_
        refine lv_iconst (v := 4) hx hb dJ10_numberOfTrailingZeros_63 (by decide) ?_
        refine lv_icmp_le (tgt := 74) hx hb dJ10_numberOfTrailingZeros_64 (by decide) (fun c_12 => ?_) (fun c_12 => ?_)
        · refine lv_iload_n hx hb dJ10_numberOfTrailingZeros_74 rfl (lv_at hl 1 rfl) ?_
          refine lv_iload_n hx hb dJ10_numberOfTrailingZeros_75 rfl (lv_at hl 0 rfl) ?_
          refine lv_iconst (v := 1) hx hb dJ10_numberOfTrailingZeros_76 (by decide) ?_
          refine lv_iushr (v := (ush (ush (nt0 x) 16) 1)) hx hb dJ10_numberOfTrailingZeros_77 rfl ?_
          refine lv_iadd hx hb dJ10_numberOfTrailingZeros_78 ?_
          exact PM.iret hX hr hlk (by first | (simp only [ntF, nt1, nt2, nt3, nt4, if_pos c_1, if_neg c_2, if_pos c_10, if_pos c_11, if_pos c_12]; done) | (simp only [ntF, nt1, nt2, nt3, nt4, if_pos c_1, if_neg c_2, if_pos c_10, if_pos c_11, if_pos c_12]; rfl)) dJ10_numberOfTrailingZeros_79
        refine lv_iinc (v := ((1 + 16) + 2)) (lv' := [(1, .int ((1 + 16) + 2)), (0, .int (ush (nt0 x) 16))]) hx hb dJ10_numberOfTrailingZeros_67 hl (k := 1) rfl (rfl) (by decide) rfl (fun ls hl => ?_)
        refine lv_iload_n hx hb dJ10_numberOfTrailingZeros_70 rfl (lv_at hl 1 rfl) ?_
        refine lv_iconst (v := 2) hx hb dJ10_numberOfTrailingZeros_71 (by decide) ?_
        refine lv_iushr (v := (ush (ush (nt0 x) 16) 2)) hx hb dJ10_numberOfTrailingZeros_72 rfl ?_
        refine lv_istore_n (lv' := [(0, .int (ush (ush (nt0 x) 16) 2)), (1, .int ((1 + 16) + 2))]) hx hb dJ10_numberOfTrailingZeros_73 rfl hl (by decide) rfl (fun ls hl => ?_)
        refine lv_iload_n hx hb dJ10_numberOfTrailingZeros_74 rfl (lv_at hl 1 rfl) ?_
        refine lv_iload_n hx hb dJ10_numberOfTrailingZeros_75 rfl (lv_at hl 0 rfl) ?_
        refine lv_iconst (v := 1) hx hb dJ10_numberOfTrailingZeros_76 (by decide) ?_
        refine lv_iushr (v := (ush (ush (ush (nt0 x) 16) 2) 1)) hx hb dJ10_numberOfTrailingZeros_77 rfl ?_
        refine lv_iadd hx hb dJ10_numberOfTrailingZeros_78 ?_
        exact PM.iret hX hr hlk (by first | (simp only [ntF, nt1, nt2, nt3, nt4, if_pos c_1, if_neg c_2, if_pos c_10, if_pos c_11, if_neg c_12]; done) | (simp only [ntF, nt1, nt2, nt3, nt4, if_pos c_1, if_neg c_2, if_pos c_10, if_pos c_11, if_neg c_12]; rfl)) dJ10_numberOfTrailingZeros_79
      refine lv_iinc (v := ((1 + 16) + 4)) (lv' := [(1, .int ((1 + 16) + 4)), (0, .int (ush (nt0 x) 16))]) hx hb dJ10_numberOfTrailingZeros_55 hl (k := 1) rfl (rfl) (by decide) rfl (fun ls hl => ?_)
      refine lv_iload_n hx hb dJ10_numberOfTrailingZeros_58 rfl (lv_at hl 1 rfl) ?_
      refine lv_iconst (v := 4) hx hb dJ10_numberOfTrailingZeros_59 (by decide) ?_
      refine lv_iushr (v := (ush (ush (nt0 x) 16) 4)) hx hb dJ10_numberOfTrailingZeros_60 rfl ?_
      refine lv_istore_n (lv' := [(0, .int (ush (ush (nt0 x) 16) 4)), (1, .int ((1 + 16) + 4))]) hx hb dJ10_numberOfTrailingZeros_61 rfl hl (by decide) rfl (fun ls hl => ?_)
      refine lv_iload_n hx hb dJ10_numberOfTrailingZeros_62 rfl (lv_at hl 0 rfl) ?_
      refine lv_iconst (v := 4) hx hb dJ10_numberOfTrailingZeros_63 (by decide) ?_
      refine lv_icmp_le (tgt := 74) hx hb dJ10_numberOfTrailingZeros_64 (by decide) (fun c_13 => ?_) (fun c_13 => ?_)
      · refine lv_iload_n hx hb dJ10_numberOfTrailingZeros_74 rfl (lv_at hl 1 rfl) ?_
        refine lv_iload_n hx hb dJ10_numberOfTrailingZeros_75 rfl (lv_at hl 0 rfl) ?_
        refine lv_iconst (v := 1) hx hb dJ10_numberOfTrailingZeros_76 (by decide) ?_
        refine lv_iushr (v := (ush (ush (ush (nt0 x) 16) 4) 1)) hx hb dJ10_numberOfTrailingZeros_77 rfl ?_
        refine lv_iadd hx hb dJ10_numberOfTrailingZeros_78 ?_
        exact PM.iret hX hr hlk (by first | (simp only [ntF, nt1, nt2, nt3, nt4, if_pos c_1, if_neg c_2, if_pos c_10, if_neg c_11, if_pos c_13]; done) | (simp only [ntF, nt1, nt2, nt3, nt4, if_pos c_1, if_neg c_2, if_pos c_10, if_neg c_11, if_pos c_13]; rfl)) dJ10_numberOfTrailingZeros_79
      refine lv_iinc (v := (((1 + 16) + 4) + 2)) (lv' := [(1, .int (((1 + 16) + 4) + 2)), (0, .int (ush (ush (nt0 x) 16) 4))]) hx hb dJ10_numberOfTrailingZeros_67 hl (k := 1) rfl (rfl) (by decide) rfl (fun ls hl => ?_)
      refine lv_iload_n hx hb dJ10_numberOfTrailingZeros_70 rfl (lv_at hl 1 rfl) ?_
      refine lv_iconst (v := 2) hx hb dJ10_numberOfTrailingZeros_71 (by decide) ?_
      refine lv_iushr (v := (ush (ush (ush (nt0 x) 16) 4) 2)) hx hb dJ10_numberOfTrailingZeros_72 rfl ?_
      refine lv_istore_n (lv' := [(0, .int (ush (ush (ush (nt0 x) 16) 4) 2)), (1, .int (((1 + 16) + 4) + 2))]) hx hb dJ10_numberOfTrailingZeros_73 rfl hl (by decide) rfl (fun ls hl => ?_)
      refine lv_iload_n hx hb dJ10_numberOfTrailingZeros_74 rfl (lv_at hl 1 rfl) ?_
      refine lv_iload_n hx hb dJ10_numberOfTrailingZeros_75 rfl (lv_at hl 0 rfl) ?_
      refine lv_iconst (v := 1) hx hb dJ10_numberOfTrailingZeros_76 (by decide) ?_
      refine lv_iushr (v := (ush (ush (ush (ush (nt0 x) 16) 4) 2) 1)) hx hb dJ10_numberOfTrailingZeros_77 rfl ?_
      refine lv_iadd hx hb dJ10_numberOfTrailingZeros_78 ?_
      exact PM.iret hX hr hlk (by first | (simp only [ntF, nt1, nt2, nt3, nt4, if_pos c_1, if_neg c_2, if_pos c_10, if_neg c_11, if_neg c_13]; done) | (simp only [ntF, nt1, nt2, nt3, nt4, if_pos c_1, if_neg c_2, if_pos c_10, if_neg c_11, if_neg c_13]; rfl)) dJ10_numberOfTrailingZeros_79
    refine lv_iinc (v := ((1 + 16) + 8)) (lv' := [(1, .int ((1 + 16) + 8)), (0, .int (ush (nt0 x) 16))]) hx hb dJ10_numberOfTrailingZeros_41 hl (k := 1) rfl (rfl) (by decide) rfl (fun ls hl => ?_)
    refine lv_iload_n hx hb dJ10_numberOfTrailingZeros_44 rfl (lv_at hl 1 rfl) ?_
    refine lv_bipush (v := 8) hx hb dJ10_numberOfTrailingZeros_45 (by decide) ?_
    refine lv_iushr (v := (ush (ush (nt0 x) 16) 8)) hx hb dJ10_numberOfTrailingZeros_47 rfl ?_
    refine lv_istore_n (lv' := [(0, .int (ush (ush (nt0 x) 16) 8)), (1, .int ((1 + 16) + 8))]) hx hb dJ10_numberOfTrailingZeros_48 rfl hl (by decide) rfl (fun ls hl => ?_)
    refine lv_iload_n hx hb dJ10_numberOfTrailingZeros_49 rfl (lv_at hl 0 rfl) ?_
    refine lv_bipush (v := 16) hx hb dJ10_numberOfTrailingZeros_50 (by decide) ?_
    refine lv_icmp_le (tgt := 62) hx hb dJ10_numberOfTrailingZeros_52 (by decide) (fun c_14 => ?_) (fun c_14 => ?_)
    · refine lv_iload_n hx hb dJ10_numberOfTrailingZeros_62 rfl (lv_at hl 0 rfl) ?_
      refine lv_iconst (v := 4) hx hb dJ10_numberOfTrailingZeros_63 (by decide) ?_
      refine lv_icmp_le (tgt := 74) hx hb dJ10_numberOfTrailingZeros_64 (by decide) (fun c_15 => ?_) (fun c_15 => ?_)
      · refine lv_iload_n hx hb dJ10_numberOfTrailingZeros_74 rfl (lv_at hl 1 rfl) ?_
        refine lv_iload_n hx hb dJ10_numberOfTrailingZeros_75 rfl (lv_at hl 0 rfl) ?_
        refine lv_iconst (v := 1) hx hb dJ10_numberOfTrailingZeros_76 (by decide) ?_
        refine lv_iushr (v := (ush (ush (ush (nt0 x) 16) 8) 1)) hx hb dJ10_numberOfTrailingZeros_77 rfl ?_
        refine lv_iadd hx hb dJ10_numberOfTrailingZeros_78 ?_
        exact PM.iret hX hr hlk (by first | (simp only [ntF, nt1, nt2, nt3, nt4, if_pos c_1, if_neg c_2, if_neg c_10, if_pos c_14, if_pos c_15]; done) | (simp only [ntF, nt1, nt2, nt3, nt4, if_pos c_1, if_neg c_2, if_neg c_10, if_pos c_14, if_pos c_15]; rfl)) dJ10_numberOfTrailingZeros_79
      refine lv_iinc (v := (((1 + 16) + 8) + 2)) (lv' := [(1, .int (((1 + 16) + 8) + 2)), (0, .int (ush (ush (nt0 x) 16) 8))]) hx hb dJ10_numberOfTrailingZeros_67 hl (k := 1) rfl (rfl) (by decide) rfl (fun ls hl => ?_)
      refine lv_iload_n hx hb dJ10_numberOfTrailingZeros_70 rfl (lv_at hl 1 rfl) ?_
      refine lv_iconst (v := 2) hx hb dJ10_numberOfTrailingZeros_71 (by decide) ?_
      refine lv_iushr (v := (ush (ush (ush (nt0 x) 16) 8) 2)) hx hb dJ10_numberOfTrailingZeros_72 rfl ?_
      refine lv_istore_n (lv' := [(0, .int (ush (ush (ush (nt0 x) 16) 8) 2)), (1, .int (((1 + 16) + 8) + 2))]) hx hb dJ10_numberOfTrailingZeros_73 rfl hl (by decide) rfl (fun ls hl => ?_)
      refine lv_iload_n hx hb dJ10_numberOfTrailingZeros_74 rfl (lv_at hl 1 rfl) ?_
      refine lv_iload_n hx hb dJ10_numberOfTrailingZeros_75 rfl (lv_at hl 0 rfl) ?_
      refine lv_iconst (v := 1) hx hb dJ10_numberOfTrailingZeros_76 (by decide) ?_
      refine lv_iushr (v := (ush (ush (ush (ush (nt0 x) 16) 8) 2) 1)) hx hb dJ10_numberOfTrailingZeros_77 rfl ?_
      refine lv_iadd hx hb dJ10_numberOfTrailingZeros_78 ?_
      exact PM.iret hX hr hlk (by first | (simp only [ntF, nt1, nt2, nt3, nt4, if_pos c_1, if_neg c_2, if_neg c_10, if_pos c_14, if_neg c_15]; done) | (simp only [ntF, nt1, nt2, nt3, nt4, if_pos c_1, if_neg c_2, if_neg c_10, if_pos c_14, if_neg c_15]; rfl)) dJ10_numberOfTrailingZeros_79
    refine lv_iinc (v := (((1 + 16) + 8) + 4)) (lv' := [(1, .int (((1 + 16) + 8) + 4)), (0, .int (ush (ush (nt0 x) 16) 8))]) hx hb dJ10_numberOfTrailingZeros_55 hl (k := 1) rfl (rfl) (by decide) rfl (fun ls hl => ?_)
    refine lv_iload_n hx hb dJ10_numberOfTrailingZeros_58 rfl (lv_at hl 1 rfl) ?_
    refine lv_iconst (v := 4) hx hb dJ10_numberOfTrailingZeros_59 (by decide) ?_
    refine lv_iushr (v := (ush (ush (ush (nt0 x) 16) 8) 4)) hx hb dJ10_numberOfTrailingZeros_60 rfl ?_
    refine lv_istore_n (lv' := [(0, .int (ush (ush (ush (nt0 x) 16) 8) 4)), (1, .int (((1 + 16) + 8) + 4))]) hx hb dJ10_numberOfTrailingZeros_61 rfl hl (by decide) rfl (fun ls hl => ?_)
    refine lv_iload_n hx hb dJ10_numberOfTrailingZeros_62 rfl (lv_at hl 0 rfl) ?_
    refine lv_iconst (v := 4) hx hb dJ10_numberOfTrailingZeros_63 (by decide) ?_
    refine lv_icmp_le (tgt := 74) hx hb dJ10_numberOfTrailingZeros_64 (by decide) (fun c_16 => ?_) (fun c_16 => ?_)
    · refine lv_iload_n hx hb dJ10_numberOfTrailingZeros_74 rfl (lv_at hl 1 rfl) ?_
      refine lv_iload_n hx hb dJ10_numberOfTrailingZeros_75 rfl (lv_at hl 0 rfl) ?_
      refine lv_iconst (v := 1) hx hb dJ10_numberOfTrailingZeros_76 (by decide) ?_
      refine lv_iushr (v := (ush (ush (ush (ush (nt0 x) 16) 8) 4) 1)) hx hb dJ10_numberOfTrailingZeros_77 rfl ?_
      refine lv_iadd hx hb dJ10_numberOfTrailingZeros_78 ?_
      exact PM.iret hX hr hlk (by first | (simp only [ntF, nt1, nt2, nt3, nt4, if_pos c_1, if_neg c_2, if_neg c_10, if_neg c_14, if_pos c_16]; done) | (simp only [ntF, nt1, nt2, nt3, nt4, if_pos c_1, if_neg c_2, if_neg c_10, if_neg c_14, if_pos c_16]; rfl)) dJ10_numberOfTrailingZeros_79
    refine lv_iinc (v := ((((1 + 16) + 8) + 4) + 2)) (lv' := [(1, .int ((((1 + 16) + 8) + 4) + 2)), (0, .int (ush (ush (ush (nt0 x) 16) 8) 4))]) hx hb dJ10_numberOfTrailingZeros_67 hl (k := 1) rfl (rfl) (by decide) rfl (fun ls hl => ?_)
    refine lv_iload_n hx hb dJ10_numberOfTrailingZeros_70 rfl (lv_at hl 1 rfl) ?_
    refine lv_iconst (v := 2) hx hb dJ10_numberOfTrailingZeros_71 (by decide) ?_
    refine lv_iushr (v := (ush (ush (ush (ush (nt0 x) 16) 8) 4) 2)) hx hb dJ10_numberOfTrailingZeros_72 rfl ?_
    refine lv_istore_n (lv' := [(0, .int (ush (ush (ush (ush (nt0 x) 16) 8) 4) 2)), (1, .int ((((1 + 16) + 8) + 4) + 2))]) hx hb dJ10_numberOfTrailingZeros_73 rfl hl (by decide) rfl (fun ls hl => ?_)
    refine lv_iload_n hx hb dJ10_numberOfTrailingZeros_74 rfl (lv_at hl 1 rfl) ?_
    refine lv_iload_n hx hb dJ10_numberOfTrailingZeros_75 rfl (lv_at hl 0 rfl) ?_
    refine lv_iconst (v := 1) hx hb dJ10_numberOfTrailingZeros_76 (by decide) ?_
    refine lv_iushr (v := (ush (ush (ush (ush (ush (nt0 x) 16) 8) 4) 2) 1)) hx hb dJ10_numberOfTrailingZeros_77 rfl ?_
    refine lv_iadd hx hb dJ10_numberOfTrailingZeros_78 ?_
    exact PM.iret hX hr hlk (by first | (simp only [ntF, nt1, nt2, nt3, nt4, if_pos c_1, if_neg c_2, if_neg c_10, if_neg c_14, if_neg c_16]; done) | (simp only [ntF, nt1, nt2, nt3, nt4, if_pos c_1, if_neg c_2, if_neg c_10, if_neg c_14, if_neg c_16]; rfl)) dJ10_numberOfTrailingZeros_79
  refine lv_iload_n hx hb dJ10_numberOfTrailingZeros_12 rfl (lv_at hl 0 rfl) ?_
  refine lv_bipush (v := 32) hx hb dJ10_numberOfTrailingZeros_13 (by decide) ?_
  refine lv_iand hx hb dJ10_numberOfTrailingZeros_15 ?_
  exact PM.iret hX hr hlk (by first | (simp only [ntF, nt1, nt2, nt3, nt4, if_neg c_1]; done) | (simp only [ntF, nt1, nt2, nt3, nt4, if_neg c_1]; rfl)) dJ10_numberOfTrailingZeros_16

set_option maxHeartbeats 400000 in
set_option maxRecDepth 100000 in
theorem K_X0_burntOf (l : Launch) (g : Gx) (h : Nat) (R : Nat → Nat) (V : Nat → Nat) (I : Nat → Int32) (dr : Int64) (md : Int32) (ed : Nat) (n : Nat) (F : Nat → Nat → Int32) (y : Nat) (kd : Nat → Nat) (am : Nat) (hn : n ≤ 5) (ham : (I 13) = nI am) (ham2 : am ≤ 5) (hy : y < 5) (hrk : RoK (roP g ed n kd) (wC g h R V I dr md ed n F)) : EM l g yX0_burntOf cX0_burntOf 3 (some .int) 8 [.ref h, .int (nI y)] (roP g ed n kd) (wC g h R V I dr md ed n F) (fun u => (wC g h R V I dr md ed n (va_up (va_up (va_up (va_up F 4 (u 4)) 5 (u 5)) 6 (u 6)) 12 (u 12)))) (some (.int (boF kd I F n am y))) := by
  refine EM.of (own := "BurntLetters") (by decide) rfl (Nat.le_of_ble_eq_true rfl) hrk ?_
  intro p e s m below meth c A hX hr hlk hZ ls hl
  have hx := hX.1.1
  have hb := hX.1.2.1
  have hl : lv_has ls 3 [(0, .ref h), (1, .int (nI y))] := hl
  refine lv_aload_n hx hb dX0_burntOf_0 rfl (lv_at hl 0 rfl) ?_
  refine EM.ciA (EM.runV (As := []) (rest := []) hX (K_X0_layFits l g h R V I dr md ed n F kd am (by omega) (ham) (by omega) (hrk.addr adC)) (cv_q722 hX ⟨Nat.le_of_ble_eq_true rfl, Nat.le_of_ble_eq_true rfl⟩) hZ.1 hZ.2.1 hZ.ro (r_recv hX hZ.1 0 rfl rfl) rfl hl.1 rfl (Nat.le_of_ble_eq_true rfl) dX0_burntOf_1 ⟨Nat.zero_le _, Nat.zero_le _⟩) hZ (fun _ => adC) (fun u_1 H locs hZ => ?_)
  refine lv_pop hx hb dX0_burntOf_4 rfl ?_
  refine lv_aload_n hx hb dX0_burntOf_5 rfl (lv_at hl 0 rfl) ?_
  refine gf_q159 (v := .ref (R 15)) hX hZ.1 0 rfl rfl dX0_burntOf_6 ?_
  refine lv_iload_n hx hb dX0_burntOf_9 rfl (lv_at hl 1 rfl) ?_
  refine r_iald (f := (ftB kd I F n am (p6 am))) hX hZ.1 17 rfl y (by omega) (by omega) dX0_burntOf_10 ?_
  refine lv_istore_n (lv' := [(2, .int ((ftB kd I F n am (p6 am)) y)), (0, .ref h), (1, .int (nI y))]) hx hb dX0_burntOf_11 rfl hl (by decide) rfl (fun ls hl => ?_)
  refine lv_iload_n hx hb dX0_burntOf_12 rfl (lv_at hl 0 rfl) ?_
  refine PM.ci (PM.runS (As := [.int ((ftB kd I F n am (p6 am)) y)]) (rest := []) hX (K_J10_bitCount l g ((ftB kd I F n am (p6 am)) y)) (cs_q561 hX ⟨Nat.le_of_ble_eq_true rfl, Nat.le_of_ble_eq_true rfl⟩) va_P_nil trivial rfl hl.1 rfl (Nat.le_of_ble_eq_true rfl) dX0_burntOf_13 ⟨Nat.zero_le _, Nat.zero_le _⟩) ?_
  refine lv_iconst (v := 1) hx hb dX0_burntOf_16 (by decide) ?_
  refine lv_icmp_ne (tgt := 27) hx hb dX0_burntOf_17 (by decide) (fun c_2 => ?_) (fun c_2 => ?_)
  · refine lv_iconst (v := (-1)) hx hb dX0_burntOf_27 (by decide) ?_
    exact EM.iret hX hr hlk hZ (ws1 := fun u => (wC g h R V I dr md ed n (va_up (va_up (va_up (va_up F 4 (u 4)) 5 (u 5)) 6 (u 6)) 12 (u 12)))) (va_up (va_up (va_up (va_up F 4 (u_1 4)) 5 (u_1 5)) 6 (u_1 6)) 12 (ftB kd I F n am (p6 am))) (rfl) (by simp only [boF, if_neg c_2]) dX0_burntOf_28
  refine lv_iload_n hx hb dX0_burntOf_20 rfl (lv_at hl 0 rfl) ?_
  refine PM.ci (PM.runS (As := [.int ((ftB kd I F n am (p6 am)) y)]) (rest := []) hX (K_J10_numberOfTrailingZeros l g ((ftB kd I F n am (p6 am)) y)) (cs_q739 hX ⟨Nat.le_of_ble_eq_true rfl, Nat.le_of_ble_eq_true rfl⟩) va_P_nil trivial rfl hl.1 rfl (Nat.le_of_ble_eq_true rfl) dX0_burntOf_21 ⟨Nat.zero_le _, Nat.zero_le _⟩) ?_
  refine lv_goto (tgt := 28) hx hb dX0_burntOf_24 (by decide) ?_
  exact EM.iret hX hr hlk hZ (ws1 := fun u => (wC g h R V I dr md ed n (va_up (va_up (va_up (va_up F 4 (u 4)) 5 (u 5)) 6 (u 6)) 12 (u 12)))) (va_up (va_up (va_up (va_up F 4 (u_1 4)) 5 (u_1 5)) 6 (u_1 6)) 12 (ftB kd I F n am (p6 am))) (rfl) (by simp only [boF, if_pos c_2]) dX0_burntOf_28

set_option maxHeartbeats 400000 in
set_option maxRecDepth 100000 in
theorem K_X0_burnt (l : Launch) (g : Gx) (h : Nat) (R : Nat → Nat) (V : Nat → Nat) (I : Nat → Int32) (dr : Int64) (md : Int32) (ed : Nat) (n : Nat) (F : Nat → Nat → Int32) (x : Int32) (kd : Nat → Nat) (am : Nat) (hn : n ≤ 5) (ham : (I 13) = nI am) (ham2 : am ≤ 5) (hrk : RoK (roP g ed n kd) (wC g h R V I dr md ed n F)) : EM l g yX0_burnt cX0_burnt 2 (some .int) 9 [.ref h, .int x] (roP g ed n kd) (wC g h R V I dr md ed n F) (fun u => (wC g h R V I dr md ed n (va_up (va_up (va_up (va_up F 4 (u 4)) 5 (u 5)) 6 (u 6)) 12 (u 12)))) (some (.int (bntR kd I F n am x))) := by
  refine EM.of (own := "BurntLetters") (by decide) rfl (Nat.le_of_ble_eq_true rfl) hrk ?_
  intro p e s m below meth c A hX hr hlk hZ ls hl
  have hx := hX.1.1
  have hb := hX.1.2.1
  have hl : lv_has ls 2 [(0, .ref h), (1, .int x)] := hl
  refine lv_iload_n hx hb dX0_burnt_0 rfl (lv_at hl 1 rfl) ?_
  refine lv_iconst (v := 0) hx hb dX0_burnt_1 (by decide) ?_
  refine lv_aload_n hx hb dX0_burnt_2 rfl (lv_at hl 0 rfl) ?_
  refine gf_q157 (v := .int (I 13)) hX hZ.1 0 rfl rfl dX0_burnt_3 ?_
  refine lv_seti (v := (nI am)) (ham) ?_
  refine lv_iconst (v := 1) hx hb dX0_burnt_6 (by decide) ?_
  refine lv_isub hx hb dX0_burnt_7 ?_
  refine PM.ci (PM.runS (As := [.int x, .int 0, .int ((nI am) - 1)]) (rest := []) hX (K_X0_in l g x 0 ((nI am) - 1)) (cs_q216 hX ⟨Nat.le_of_ble_eq_true rfl, Nat.le_of_ble_eq_true rfl⟩) va_P_nil trivial rfl hl.1 rfl (Nat.le_of_ble_eq_true rfl) dX0_burnt_8 ⟨Nat.zero_le _, Nat.zero_le _⟩) ?_
  refine lv_bif_ne (tgt := 17) hx hb dX0_burnt_11 (by decide) (fun c_1 => ?_) (fun c_1 => ?_)
  · obtain ⟨xx, hxx, rfl⟩ := file_nat ham2 c_1
    refine lv_aload_n hx hb dX0_burnt_17 rfl (lv_at hl 0 rfl) ?_
    refine gf_q142 (v := .int (I 1)) hX hZ.1 0 rfl rfl dX0_burnt_18 ?_
    refine lv_if_eq (tgt := 32) hx hb dX0_burnt_21 (by decide) (fun c_2 => ?_) (fun c_2 => ?_)
    · refine lv_bipush (v := (-103)) hx hb dX0_burnt_32 (by decide) ?_
      exact EM.iret hX hr hlk hZ (ws1 := fun u => (wC g h R V I dr md ed n (va_up (va_up (va_up (va_up F 4 (u 4)) 5 (u 5)) 6 (u 6)) 12 (u 12)))) F (rfl) (by first | (simp only [bntR, if_pos c_1, if_pos c_2]; done) | (simp only [bntR, if_pos c_1, if_pos c_2, ix_nI (show xx < 2 ^ 31 by omega)]; done)) dX0_burnt_34
    refine lv_aload_n hx hb dX0_burnt_24 rfl (lv_at hl 0 rfl) ?_
    refine lv_iload_n hx hb dX0_burnt_25 rfl (lv_at hl 1 rfl) ?_
    refine EM.ciA (EM.runV (As := [.int (nI xx)]) (rest := []) hX (K_X0_burntOf l g h R V I dr md ed n F xx kd am (by omega) (ham) (by omega) (by omega) (hrk.addr adC)) (cv_q735 hX ⟨Nat.le_of_ble_eq_true rfl, Nat.le_of_ble_eq_true rfl⟩) hZ.1 hZ.2.1 hZ.ro (r_recv hX hZ.1 0 rfl rfl) rfl hl.1 rfl (Nat.le_of_ble_eq_true rfl) dX0_burnt_26 ⟨Nat.zero_le _, Nat.zero_le _⟩) hZ (fun _ => adC) (fun u_3 H locs hZ => ?_)
    refine lv_goto (tgt := 34) hx hb dX0_burnt_29 (by decide) ?_
    exact EM.iret hX hr hlk hZ (ws1 := fun u => (wC g h R V I dr md ed n (va_up (va_up (va_up (va_up F 4 (u 4)) 5 (u 5)) 6 (u 6)) 12 (u 12)))) (va_up (va_up (va_up (va_up F 4 (u_3 4)) 5 (u_3 5)) 6 (u_3 6)) 12 (u_3 12)) (rfl) (by first | (simp only [bntR, if_pos c_1, if_neg c_2]; done) | (simp only [bntR, if_pos c_1, if_neg c_2, ix_nI (show xx < 2 ^ 31 by omega)]; done)) dX0_burnt_34
  refine lv_bipush (v := (-101)) hx hb dX0_burnt_14 (by decide) ?_
  exact EM.iret hX hr hlk hZ (ws1 := fun u => (wC g h R V I dr md ed n (va_up (va_up (va_up (va_up F 4 (u 4)) 5 (u 5)) 6 (u 6)) 12 (u 12)))) F (rfl) (by first | (simp only [bntR, if_neg c_1]; done) | (simp only [bntR, if_neg c_1, ix_nI (show xx < 2 ^ 31 by omega)]; done)) dX0_burnt_16

set_option maxHeartbeats 400000 in
set_option maxRecDepth 100000 in
theorem K_X0_yearsTold (l : Launch) (g : Gx) (h : Nat) (R : Nat → Nat) (V : Nat → Nat) (I : Nat → Int32) (dr : Int64) (md : Int32) (ed : Nat) (n : Nat) (F : Nat → Nat → Int32) (y : Nat) (seed : Int32) (w : Int32) (kd : Nat → Nat) (lo : Nat → Nat) (hn : n ≤ 5) (hy : y ≤ 60) (hlo : ∀ i, i < 6 → (F 0) i = nI (lo i)) (hsum : psN lo 6 = 10) (hrk : RoK (roP g ed n kd) (wC g h R V I dr md ed n F)) : EM l g yX0_yearsTold cX0_yearsTold 5 (some .int) 6 [.ref h, .int (nI y), .int seed, .int w] (roP g ed n kd) (wC g h R V I dr md ed n F) (fun u => (wC g h R V I (drI seed.toInt64 y) md ed n (va_up (va_up (va_up F 4 (u 4)) 5 (u 5)) 6 (u 6)))) (some (.int (ytR kd I F n lo y seed w))) := by
  refine EM.of (own := "BurntLetters") (by decide) rfl (Nat.le_of_ble_eq_true rfl) hrk ?_
  intro p e s m below meth c A hX hr hlk hZ ls hl
  have hx := hX.1.1
  have hb := hX.1.2.1
  have hl : lv_has ls 5 [(0, .ref h), (1, .int (nI y)), (2, .int seed), (3, .int w)] := hl
  refine lv_aload_n hx hb dX0_yearsTold_0 rfl (lv_at hl 0 rfl) ?_
  refine gf_q149 (v := .ref (R 7)) hX hZ.1 0 rfl rfl dX0_yearsTold_1 ?_
  refine lv_aload_n hx hb dX0_yearsTold_4 rfl (lv_at hl 0 rfl) ?_
  refine gf_q148 (v := .ref (R 6)) hX hZ.1 0 rfl rfl dX0_yearsTold_5 ?_
  refine MM.cv (MM.runV (As := [.ref (R 6)]) (rest := []) hX (K_X1_become l g h (R 7) (V 3) (V 4) (V 5) (F 4) (F 5) (F 6) (R 6) (V 0) (V 1) (V 2) (F 1) (F 2) (F 3) (RoK.tt _)) (cv_q656 hX ⟨Nat.le_of_ble_eq_true rfl, Nat.le_of_ble_eq_true rfl⟩) (hZ.1.sub (ws' := (wB g h (R 7) (V 3) (V 4) (V 5) (F 4) (F 5) (F 6) (R 6) (V 0) (V 1) (V 2) (F 1) (F 2) (F 3))) [7, 8, 9, 10, 3, 4, 5, 6] rfl) (hZ.2.1.sub (ws' := (wB g h (R 7) (V 3) (V 4) (V 5) (F 4) (F 5) (F 6) (R 6) (V 0) (V 1) (V 2) (F 1) (F 2) (F 3))) [7, 8, 9, 10, 3, 4, 5, 6] (by decide) rfl) trivial (r_recv hX hZ.1 7 rfl rfl) rfl hl.1 rfl (Nat.le_of_ble_eq_true rfl) dX0_yearsTold_8 ⟨Nat.zero_le _, Nat.zero_le _⟩) hZ (ws1 := (wC g h R V I dr md ed n (va_up (va_up (va_up F 4 (F 1)) 5 (F 2)) 6 (F 3)))) [7, 8, 9, 10, 3, 4, 5, 6] rfl rfl rfl rfl (fun H locs hZ => ?_)
  refine lv_aload_n hx hb dX0_yearsTold_11 rfl (lv_at hl 0 rfl) ?_
  refine lv_iload_n hx hb dX0_yearsTold_12 rfl (lv_at hl 2 rfl) ?_
  refine lv_i2l (v := seed.toInt64) hx hb dX0_yearsTold_13 rfl ?_
  refine pf_q160 (ws1 := (wC g h R V I seed.toInt64 md ed n (va_up (va_up (va_up F 4 (F 1)) 5 (F 2)) 6 (F 3)))) hX hZ 0 rfl (Nat.le_of_ble_eq_true rfl) rfl dX0_yearsTold_14 (fun H locs hZ => ?_)
  refine lv_iconst (v := 0) hx hb dX0_yearsTold_17 (by decide) ?_
  refine lv_istore (lv' := [(4, .int 0), (0, .ref h), (1, .int (nI y)), (2, .int seed), (3, .int w)]) hx hb dX0_yearsTold_18 hl (by decide) rfl (fun ls hl => ?_)
  refine W_loop (α := Nat) (P := fun (j : Nat) (H : Heap) (locs : List Loc) (ls : Array Slot) => j ≤ y ∧ Zt g A s.heap (roP g ed n kd) (wC g h R V I (drI seed.toInt64 j) md ed n (va_up (va_up (va_up F 5 (F 2)) 4 ((ysF kd (I 3) (F 2) n lo (F 1, F 3) seed.toInt64 j).1)) 6 ((ysF kd (I 3) (F 2) n lo (F 1, F 3) seed.toInt64 j).2))) H locs ∧ lv_has ls 5 [(0, .ref h), (1, .int (nI y)), (2, .int seed), (3, .int w), (4, .int (nI j))]) (fun j => y - j) 0 ⟨Nat.zero_le _, hZ.cast (rfl), lv_cast (lv_sub (l' := [(0, .ref h), (1, .int (nI y)), (2, .int seed), (3, .int w), (4, .int 0)]) hl [1, 2, 3, 4, 0] rfl) (rfl)⟩ ?_
  rintro j H locs ls ⟨hj, hZ, hl⟩ ihj
  refine lv_iload hx hb dX0_yearsTold_20 (lv_at hl 4 rfl) ?_
  refine lv_iload_n hx hb dX0_yearsTold_22 rfl (lv_at hl 1 rfl) ?_
  refine lv_icmp_ge (tgt := 50) hx hb dX0_yearsTold_23 (by decide) (fun c_1 => ?_) (fun c_1 => ?_)
  · have c_1n : y ≤ j := (nI_leI (a := y) (b := j) (by omega) (by omega)).mp c_1
    have ej : y = j := by omega
    subst ej
    refine lv_iload_n hx hb dX0_yearsTold_50 rfl (lv_at hl 3 rfl) ?_
    refine lv_if_ne (tgt := 64) hx hb dX0_yearsTold_51 (by decide) (fun c_2 => ?_) (fun c_2 => ?_)
    · refine lv_iload_n hx hb dX0_yearsTold_64 rfl (lv_at hl 3 rfl) ?_
      refine lv_iconst (v := 1) hx hb dX0_yearsTold_65 (by decide) ?_
      refine lv_icmp_ne (tgt := 79) hx hb dX0_yearsTold_66 (by decide) (fun c_3 => ?_) (fun c_3 => ?_)
      · refine lv_aload_n hx hb dX0_yearsTold_79 rfl (lv_at hl 0 rfl) ?_
        refine gf_q160 (v := .long (drI seed.toInt64 y)) hX hZ.1 0 rfl rfl dX0_yearsTold_80 ?_
        refine lv_l2i (v := (drI seed.toInt64 y).toInt32) hx hb dX0_yearsTold_83 rfl ?_
        exact EM.iret hX hr hlk hZ (ws1 := fun u => (wC g h R V I (drI seed.toInt64 y) md ed n (va_up (va_up (va_up F 4 (u 4)) 5 (u 5)) 6 (u 6)))) (va_up (va_up (va_up F 5 (F 2)) 4 ((ysF kd (I 3) (F 2) n lo (F 1, F 3) seed.toInt64 y).1)) 6 ((ysF kd (I 3) (F 2) n lo (F 1, F 3) seed.toInt64 y).2)) (rfl) (by simp only [ytR, if_pos c_1, if_neg c_2, if_neg c_3]) dX0_yearsTold_84
      refine lv_aload_n hx hb dX0_yearsTold_69 rfl (lv_at hl 0 rfl) ?_
      refine gf_q149 (v := .ref (R 7)) hX hZ.1 0 rfl rfl dX0_yearsTold_70 ?_
      refine PM.ci (PM.runV (As := []) (rest := []) hX (K_X1_leavesAll l g h R I (drI seed.toInt64 y) md ed n (R 7) (V 3) (V 4) (V 5) ((ysF kd (I 3) (F 2) n lo (F 1, F 3) seed.toInt64 y).1) (F 2) ((ysF kd (I 3) (F 2) n lo (F 1, F 3) seed.toInt64 y).2) (by omega)) (cv_q701 hX ⟨Nat.le_of_ble_eq_true rfl, Nat.le_of_ble_eq_true rfl⟩) (hZ.1.sub (ws' := (wA g h R I (drI seed.toInt64 y) md ed n (R 7) (V 3) (V 4) (V 5) ((ysF kd (I 3) (F 2) n lo (F 1, F 3) seed.toInt64 y).1) (F 2) ((ysF kd (I 3) (F 2) n lo (F 1, F 3) seed.toInt64 y).2))) [0, 1, 7, 8, 9, 10] rfl) trivial (r_recv hX hZ.1 7 rfl rfl) rfl hl.1 rfl (Nat.le_of_ble_eq_true rfl) dX0_yearsTold_73 ⟨Nat.zero_le _, Nat.zero_le _⟩) ?_
      refine lv_goto (tgt := 84) hx hb dX0_yearsTold_76 (by decide) ?_
      exact EM.iret hX hr hlk hZ (ws1 := fun u => (wC g h R V I (drI seed.toInt64 y) md ed n (va_up (va_up (va_up F 4 (u 4)) 5 (u 5)) 6 (u 6)))) (va_up (va_up (va_up F 5 (F 2)) 4 ((ysF kd (I 3) (F 2) n lo (F 1, F 3) seed.toInt64 y).1)) 6 ((ysF kd (I 3) (F 2) n lo (F 1, F 3) seed.toInt64 y).2)) (rfl) (by simp only [ytR, if_pos c_1, if_neg c_2, if_pos c_3]) dX0_yearsTold_84
    refine lv_aload_n hx hb dX0_yearsTold_54 rfl (lv_at hl 0 rfl) ?_
    refine gf_q149 (v := .ref (R 7)) hX hZ.1 0 rfl rfl dX0_yearsTold_55 ?_
    refine PM.ci (PM.runV (As := []) (rest := []) hX (K_X1_living l g h R I (drI seed.toInt64 y) md ed n (R 7) (V 3) (V 4) (V 5) ((ysF kd (I 3) (F 2) n lo (F 1, F 3) seed.toInt64 y).1) (F 2) ((ysF kd (I 3) (F 2) n lo (F 1, F 3) seed.toInt64 y).2) (by omega)) (cv_q730 hX ⟨Nat.le_of_ble_eq_true rfl, Nat.le_of_ble_eq_true rfl⟩) (hZ.1.sub (ws' := (wA g h R I (drI seed.toInt64 y) md ed n (R 7) (V 3) (V 4) (V 5) ((ysF kd (I 3) (F 2) n lo (F 1, F 3) seed.toInt64 y).1) (F 2) ((ysF kd (I 3) (F 2) n lo (F 1, F 3) seed.toInt64 y).2))) [0, 1, 7, 8, 9, 10] rfl) trivial (r_recv hX hZ.1 7 rfl rfl) rfl hl.1 rfl (Nat.le_of_ble_eq_true rfl) dX0_yearsTold_58 ⟨Nat.zero_le _, Nat.zero_le _⟩) ?_
    refine lv_goto (tgt := 84) hx hb dX0_yearsTold_61 (by decide) ?_
    exact EM.iret hX hr hlk hZ (ws1 := fun u => (wC g h R V I (drI seed.toInt64 y) md ed n (va_up (va_up (va_up F 4 (u 4)) 5 (u 5)) 6 (u 6)))) (va_up (va_up (va_up F 5 (F 2)) 4 ((ysF kd (I 3) (F 2) n lo (F 1, F 3) seed.toInt64 y).1)) 6 ((ysF kd (I 3) (F 2) n lo (F 1, F 3) seed.toInt64 y).2)) (rfl) (by simp only [ytR, if_pos c_1, if_pos c_2]) dX0_yearsTold_84
  have c_1n : ¬ y ≤ j := fun zz_ => c_1 ((nI_leI (a := y) (b := j) (by omega) (by omega)).mpr zz_)
  refine lv_aload_n hx hb dX0_yearsTold_26 rfl (lv_at hl 0 rfl) ?_
  refine gf_q149 (v := .ref (R 7)) hX hZ.1 0 rfl rfl dX0_yearsTold_27 ?_
  refine lv_aload_n hx hb dX0_yearsTold_30 rfl (lv_at hl 0 rfl) ?_
  refine lv_aload_n hx hb dX0_yearsTold_31 rfl (lv_at hl 0 rfl) ?_
  refine lv_bipush (v := 10) hx hb dX0_yearsTold_32 (by decide) ?_
  refine MM.ciA (MM.runV (As := [.int 10]) (rest := [.ref h, .ref (R 7)]) hX (K_X0_draw l g h R V I (drI seed.toInt64 j) md ed n (va_up (va_up (va_up F 5 (F 2)) 4 ((ysF kd (I 3) (F 2) n lo (F 1, F 3) seed.toInt64 j).1)) 6 ((ysF kd (I 3) (F 2) n lo (F 1, F 3) seed.toInt64 j).2)) 10 (by decide) (RoK.tt _)) (cv_q751 hX ⟨Nat.le_of_ble_eq_true rfl, Nat.le_of_ble_eq_true rfl⟩) hZ.1 hZ.2.1 trivial (r_recv hX hZ.1 0 rfl rfl) rfl hl.1 rfl (Nat.le_of_ble_eq_true rfl) dX0_yearsTold_34 ⟨Nat.zero_le _, Nat.zero_le _⟩) hZ adC (fun H locs hZ => ?_)
  have hdr := drR_nat (drI seed.toInt64 j)
  refine lv_seti (v := (nI (ix (drR (drI seed.toInt64 j) 10)))) (hdr.1) ?_
  refine PM.ci (PM.runV (As := [.int (nI (ix (drR (drI seed.toInt64 j) 10)))]) (rest := [.ref (R 7)]) hX (K_X0_letterBy l g h R V I (drF (drI seed.toInt64 j)) md ed n (va_up (va_up (va_up F 5 (F 2)) 4 ((ysF kd (I 3) (F 2) n lo (F 1, F 3) seed.toInt64 j).1)) 6 ((ysF kd (I 3) (F 2) n lo (F 1, F 3) seed.toInt64 j).2)) (ix (drR (drI seed.toInt64 j) 10)) lo (hdr.2) (hlo) (hsum)) (cv_q759 hX ⟨Nat.le_of_ble_eq_true rfl, Nat.le_of_ble_eq_true rfl⟩) hZ.1 trivial (r_recv hX hZ.1 0 rfl rfl) rfl hl.1 rfl (Nat.le_of_ble_eq_true rfl) dX0_yearsTold_37 ⟨Nat.zero_le _, Nat.zero_le _⟩) ?_
  refine MM.ci (MM.runV (As := [.int (nI (lbG lo (ix (drR (drI seed.toInt64 j) 10)) 6 0))]) (rest := []) hX (K_X1_burn l g h R I (drF (drI seed.toInt64 j)) md ed n (R 7) (V 3) (V 4) (V 5) ((ysF kd (I 3) (F 2) n lo (F 1, F 3) seed.toInt64 j).1) (F 2) ((ysF kd (I 3) (F 2) n lo (F 1, F 3) seed.toInt64 j).2) (nI (lbG lo (ix (drR (drI seed.toInt64 j) 10)) 6 0)) kd (by omega) (hrk.sub' [0, 1, 7, 8, 9, 10] rfl)) (cv_q582 hX ⟨Nat.le_of_ble_eq_true rfl, Nat.le_of_ble_eq_true rfl⟩) (hZ.1.sub (ws' := (wA g h R I (drF (drI seed.toInt64 j)) md ed n (R 7) (V 3) (V 4) (V 5) ((ysF kd (I 3) (F 2) n lo (F 1, F 3) seed.toInt64 j).1) (F 2) ((ysF kd (I 3) (F 2) n lo (F 1, F 3) seed.toInt64 j).2))) [0, 1, 7, 8, 9, 10] rfl) (hZ.2.1.sub (ws' := (wA g h R I (drF (drI seed.toInt64 j)) md ed n (R 7) (V 3) (V 4) (V 5) ((ysF kd (I 3) (F 2) n lo (F 1, F 3) seed.toInt64 j).1) (F 2) ((ysF kd (I 3) (F 2) n lo (F 1, F 3) seed.toInt64 j).2))) [0, 1, 7, 8, 9, 10] (by decide) rfl) hZ.ro (r_recv hX hZ.1 7 rfl rfl) rfl hl.1 rfl (Nat.le_of_ble_eq_true rfl) dX0_yearsTold_40 ⟨Nat.zero_le _, Nat.zero_le _⟩) hZ (ws1 := (wC g h R V I (drF (drI seed.toInt64 j)) md ed n (va_up (va_up (va_up F 5 (F 2)) 4 (brL kd (I 3) (F 2) ((ysF kd (I 3) (F 2) n lo (F 1, F 3) seed.toInt64 j).1) ((ysF kd (I 3) (F 2) n lo (F 1, F 3) seed.toInt64 j).2) (nI (lbG lo (ix (drR (drI seed.toInt64 j) 10)) 6 0)) n)) 6 (brK kd (F 2) ((ysF kd (I 3) (F 2) n lo (F 1, F 3) seed.toInt64 j).1) ((ysF kd (I 3) (F 2) n lo (F 1, F 3) seed.toInt64 j).2) (nI (lbG lo (ix (drR (drI seed.toInt64 j) 10)) 6 0)) n)))) [0, 1, 7, 8, 9, 10] rfl rfl rfl rfl (fun H locs hZ => ?_)
  refine lv_pop hx hb dX0_yearsTold_43 rfl ?_
  refine lv_iinc (v := (nI (j + 1))) (lv' := [(4, .int (nI (j + 1))), (0, .ref h), (1, .int (nI y)), (2, .int seed), (3, .int w)]) hx hb dX0_yearsTold_44 hl (k := 4) rfl (nI_1 _) (by decide) rfl (fun ls hl => ?_)
  refine lv_goto (tgt := 20) hx hb dX0_yearsTold_47 (by decide) ?_
  exact ihj (j + 1) _ _ _ ⟨by omega, hZ.cast (rfl), lv_cast (lv_sub (l' := [(0, .ref h), (1, .int (nI y)), (2, .int seed), (3, .int w), (4, .int (nI (j + 1)))]) hl [1, 2, 3, 4, 0] rfl) (by rfl)⟩ (by omega)

set_option maxHeartbeats 400000 in
set_option maxRecDepth 100000 in
theorem K_X0_years (l : Launch) (g : Gx) (h : Nat) (R : Nat → Nat) (V : Nat → Nat) (I : Nat → Int32) (dr : Int64) (md : Int32) (ed : Nat) (n : Nat) (F : Nat → Nat → Int32) (x : Int32) (seed : Int32) (w : Int32) (kd : Nat → Nat) (lo : Nat → Nat) (hn : n ≤ 5) (hlo : ¬ (I 1) = 0 → ∀ i, i < 6 → (F 0) i = nI (lo i)) (hsum : ¬ (I 1) = 0 → psN lo 6 = 10) (hrk : RoK (roP g ed n kd) (wC g h R V I dr md ed n F)) : EM l g yX0_years cX0_years 4 (some .int) 7 [.ref h, .int x, .int seed, .int w] (roP g ed n kd) (wC g h R V I dr md ed n F) (fun u => (wC g h R V I (yrsD I dr x seed w) md ed n (va_up (va_up (va_up F 4 (u 4)) 5 (u 5)) 6 (u 6)))) (some (.int (yrsR kd I F n lo x seed w))) := by
  refine EM.of (own := "BurntLetters") (by decide) rfl (Nat.le_of_ble_eq_true rfl) hrk ?_
  intro p e s m below meth c A hX hr hlk hZ ls hl
  have hx := hX.1.1
  have hb := hX.1.2.1
  have hl : lv_has ls 4 [(0, .ref h), (1, .int x), (2, .int seed), (3, .int w)] := hl
  refine lv_iload_n hx hb dX0_years_0 rfl (lv_at hl 1 rfl) ?_
  refine lv_iconst (v := 1) hx hb dX0_years_1 (by decide) ?_
  refine lv_bipush (v := 60) hx hb dX0_years_2 (by decide) ?_
  refine PM.ci (PM.runS (As := [.int x, .int 1, .int 60]) (rest := []) hX (K_X0_in l g x 1 60) (cs_q216 hX ⟨Nat.le_of_ble_eq_true rfl, Nat.le_of_ble_eq_true rfl⟩) va_P_nil trivial rfl hl.1 rfl (Nat.le_of_ble_eq_true rfl) dX0_years_4 ⟨Nat.zero_le _, Nat.zero_le _⟩) ?_
  refine lv_bif_eq (tgt := 23) hx hb dX0_years_7 (by decide) (fun c_1 => ?_) (fun c_1 => ?_)
  · refine lv_bipush (v := (-102)) hx hb dX0_years_23 (by decide) ?_
    exact EM.iret hX hr hlk hZ (ws1 := fun u => (wC g h R V I (yrsD I dr x seed w) md ed n (va_up (va_up (va_up F 4 (u 4)) 5 (u 5)) 6 (u 6)))) F (by first | (simp only [yrsD, if_neg c_1]; done) | (simp only [yrsD, if_neg c_1]; rfl) | (simp only [yrsD, if_neg c_1, ix_nI (show xx < 2 ^ 31 by omega)]; done) | (simp only [yrsD, if_neg c_1, ix_nI (show xx < 2 ^ 31 by omega)]; rfl)) (by first | (simp only [yrsR, if_neg c_1]; done) | (simp only [yrsR, if_neg c_1, ix_nI (show xx < 2 ^ 31 by omega)]; done)) dX0_years_25
  obtain ⟨xx, hxx, rfl⟩ := inP_nat1 (b := 60) (by omega) c_1
  refine lv_iload_n hx hb dX0_years_10 rfl (lv_at hl 2 rfl) ?_
  refine lv_if_lt (tgt := 23) hx hb dX0_years_11 (by decide) (fun c_2 => ?_) (fun c_2 => ?_)
  · refine lv_bipush (v := (-102)) hx hb dX0_years_23 (by decide) ?_
    exact EM.iret hX hr hlk hZ (ws1 := fun u => (wC g h R V I (yrsD I dr (nI xx) seed w) md ed n (va_up (va_up (va_up F 4 (u 4)) 5 (u 5)) 6 (u 6)))) F (by first | (simp only [yrsD, if_pos c_1, if_pos c_2]; done) | (simp only [yrsD, if_pos c_1, if_pos c_2]; rfl) | (simp only [yrsD, if_pos c_1, if_pos c_2, ix_nI (show xx < 2 ^ 31 by omega)]; done) | (simp only [yrsD, if_pos c_1, if_pos c_2, ix_nI (show xx < 2 ^ 31 by omega)]; rfl)) (by first | (simp only [yrsR, if_pos c_1, if_pos c_2]; done) | (simp only [yrsR, if_pos c_1, if_pos c_2, ix_nI (show xx < 2 ^ 31 by omega)]; done)) dX0_years_25
  refine lv_iload_n hx hb dX0_years_14 rfl (lv_at hl 3 rfl) ?_
  refine lv_iconst (v := 0) hx hb dX0_years_15 (by decide) ?_
  refine lv_iconst (v := 2) hx hb dX0_years_16 (by decide) ?_
  refine PM.ci (PM.runS (As := [.int w, .int 0, .int 2]) (rest := []) hX (K_X0_in l g w 0 2) (cs_q216 hX ⟨Nat.le_of_ble_eq_true rfl, Nat.le_of_ble_eq_true rfl⟩) va_P_nil trivial rfl hl.1 rfl (Nat.le_of_ble_eq_true rfl) dX0_years_17 ⟨Nat.zero_le _, Nat.zero_le _⟩) ?_
  refine lv_bif_ne (tgt := 26) hx hb dX0_years_20 (by decide) (fun c_3 => ?_) (fun c_3 => ?_)
  · refine lv_aload_n hx hb dX0_years_26 rfl (lv_at hl 0 rfl) ?_
    refine gf_q142 (v := .int (I 1)) hX hZ.1 0 rfl rfl dX0_years_27 ?_
    refine lv_if_eq (tgt := 43) hx hb dX0_years_30 (by decide) (fun c_4 => ?_) (fun c_4 => ?_)
    · refine lv_bipush (v := (-103)) hx hb dX0_years_43 (by decide) ?_
      exact EM.iret hX hr hlk hZ (ws1 := fun u => (wC g h R V I (yrsD I dr (nI xx) seed w) md ed n (va_up (va_up (va_up F 4 (u 4)) 5 (u 5)) 6 (u 6)))) F (by first | (simp only [yrsD, if_pos c_1, if_neg c_2, if_pos c_3, if_pos c_4]; done) | (simp only [yrsD, if_pos c_1, if_neg c_2, if_pos c_3, if_pos c_4]; rfl) | (simp only [yrsD, if_pos c_1, if_neg c_2, if_pos c_3, if_pos c_4, ix_nI (show xx < 2 ^ 31 by omega)]; done) | (simp only [yrsD, if_pos c_1, if_neg c_2, if_pos c_3, if_pos c_4, ix_nI (show xx < 2 ^ 31 by omega)]; rfl)) (by first | (simp only [yrsR, if_pos c_1, if_neg c_2, if_pos c_3, if_pos c_4]; done) | (simp only [yrsR, if_pos c_1, if_neg c_2, if_pos c_3, if_pos c_4, ix_nI (show xx < 2 ^ 31 by omega)]; done)) dX0_years_45
    refine lv_aload_n hx hb dX0_years_33 rfl (lv_at hl 0 rfl) ?_
    refine lv_iload_n hx hb dX0_years_34 rfl (lv_at hl 1 rfl) ?_
    refine lv_iload_n hx hb dX0_years_35 rfl (lv_at hl 2 rfl) ?_
    refine lv_iload_n hx hb dX0_years_36 rfl (lv_at hl 3 rfl) ?_
    refine EM.ciA (EM.runV (As := [.int (nI xx), .int seed, .int w]) (rest := []) hX (K_X0_yearsTold l g h R V I dr md ed n F xx seed w kd lo (by omega) (by omega) (hlo c_4) (hsum c_4) (hrk.addr adC)) (cv_q747 hX ⟨Nat.le_of_ble_eq_true rfl, Nat.le_of_ble_eq_true rfl⟩) hZ.1 hZ.2.1 hZ.ro (r_recv hX hZ.1 0 rfl rfl) rfl hl.1 rfl (Nat.le_of_ble_eq_true rfl) dX0_years_37 ⟨Nat.zero_le _, Nat.zero_le _⟩) hZ (fun _ => adC) (fun u_5 H locs hZ => ?_)
    refine lv_goto (tgt := 45) hx hb dX0_years_40 (by decide) ?_
    exact EM.iret hX hr hlk hZ (ws1 := fun u => (wC g h R V I (yrsD I dr (nI xx) seed w) md ed n (va_up (va_up (va_up F 4 (u 4)) 5 (u 5)) 6 (u 6)))) (va_up (va_up (va_up F 4 (u_5 4)) 5 (u_5 5)) 6 (u_5 6)) (by first | (simp only [yrsD, if_pos c_1, if_neg c_2, if_pos c_3, if_neg c_4]; done) | (simp only [yrsD, if_pos c_1, if_neg c_2, if_pos c_3, if_neg c_4]; rfl) | (simp only [yrsD, if_pos c_1, if_neg c_2, if_pos c_3, if_neg c_4, ix_nI (show xx < 2 ^ 31 by omega)]; done) | (simp only [yrsD, if_pos c_1, if_neg c_2, if_pos c_3, if_neg c_4, ix_nI (show xx < 2 ^ 31 by omega)]; rfl)) (by first | (simp only [yrsR, if_pos c_1, if_neg c_2, if_pos c_3, if_neg c_4]; done) | (simp only [yrsR, if_pos c_1, if_neg c_2, if_pos c_3, if_neg c_4, ix_nI (show xx < 2 ^ 31 by omega)]; done)) dX0_years_45
  refine lv_bipush (v := (-102)) hx hb dX0_years_23 (by decide) ?_
  exact EM.iret hX hr hlk hZ (ws1 := fun u => (wC g h R V I (yrsD I dr (nI xx) seed w) md ed n (va_up (va_up (va_up F 4 (u 4)) 5 (u 5)) 6 (u 6)))) F (by first | (simp only [yrsD, if_pos c_1, if_neg c_2, if_neg c_3]; done) | (simp only [yrsD, if_pos c_1, if_neg c_2, if_neg c_3]; rfl) | (simp only [yrsD, if_pos c_1, if_neg c_2, if_neg c_3, ix_nI (show xx < 2 ^ 31 by omega)]; done) | (simp only [yrsD, if_pos c_1, if_neg c_2, if_neg c_3, ix_nI (show xx < 2 ^ 31 by omega)]; rfl)) (by first | (simp only [yrsR, if_pos c_1, if_neg c_2, if_neg c_3]; done) | (simp only [yrsR, if_pos c_1, if_neg c_2, if_neg c_3, ix_nI (show xx < 2 ^ 31 by omega)]; done)) dX0_years_25

set_option maxHeartbeats 400000 in
set_option maxRecDepth 100000 in
theorem K_X0_mixedFile (l : Launch) (g : Gx) (h : Nat) (R : Nat → Nat) (V : Nat → Nat) (I : Nat → Int32) (dr : Int64) (md : Int32) (ed : Nat) (n : Nat) (F : Nat → Nat → Int32) (hh : Int64) (f : Nat) (kd : Nat → Nat) (hn : n ≤ 5) (hf : f < n) (hlo : LotsOk (F 0)) (hrk : RoK (roP g ed n kd) (wC g h R V I dr md ed n F)) : EM l g yX0_mixedFile cX0_mixedFile 7 (some .long) 8 [.ref h, .long hh, .int (nI f)] (roP g ed n kd) (wC g h R V I dr md ed n F) (fun u => (wC g h R V I dr md ed n (va_up (va_up (va_up F 4 (u 4)) 5 (u 5)) 6 (u 6)))) (some (.long (mxF kd I F n f hh))) := by
  refine EM.of (own := "BurntLetters") (by decide) rfl (Nat.le_of_ble_eq_true rfl) hrk ?_
  intro p e s m below meth c A hX hr hlk hZ ls hl
  have hx := hX.1.1
  have hb := hX.1.2.1
  have hl : lv_has ls 7 [(0, .ref h), (1, .long hh), (3, .int (nI f))] := hl
  refine lv_lload_n hx hb dX0_mixedFile_0 rfl (lv_at hl 1 rfl) ?_
  refine lv_lstore (lv' := [(4, .long hh), (0, .ref h), (1, .long hh), (3, .int (nI f))]) hx hb dX0_mixedFile_1 hl (by decide) rfl (fun ls hl => ?_)
  refine lv_iconst (v := 0) hx hb dX0_mixedFile_3 (by decide) ?_
  refine lv_istore (lv' := [(6, .int 0), (4, .long hh), (0, .ref h), (1, .long hh), (3, .int (nI f))]) hx hb dX0_mixedFile_4 hl (by decide) rfl (fun ls hl => ?_)
  refine W_loop (α := Nat) (P := fun (i : Nat) (H : Heap) (locs : List Loc) (ls : Array Slot) => i ≤ 6 ∧ Zt g A s.heap (roP g ed n kd) (wC g h R V I dr md ed n F) H locs ∧ lv_has ls 7 [(0, .ref h), (1, .long hh), (3, .int (nI f)), (4, .long (mfF kd F f hh i)), (6, .int (nI i))]) (fun i => 6 - i) 0 ⟨Nat.zero_le _, hZ.cast (rfl), lv_cast (lv_sub (l' := [(0, .ref h), (1, .long hh), (3, .int (nI f)), (4, .long hh), (6, .int 0)]) hl [2, 3, 4, 1, 0] rfl) (rfl)⟩ ?_
  rintro i H locs ls ⟨hi, hZ, hl⟩ ihi
  refine lv_iload hx hb dX0_mixedFile_6 (lv_at hl 4 rfl) ?_
  refine lv_bipush (v := 6) hx hb dX0_mixedFile_8 (by decide) ?_
  refine lv_icmp_ge (tgt := 34) hx hb dX0_mixedFile_10 (by decide) (fun c_1 => ?_) (fun c_1 => ?_)
  · have c_1n : 6 ≤ i := (nI_leI (a := 6) (b := i) (by omega) (by omega)).mp c_1
    have ei : i = 6 := by omega
    subst ei
    refine lv_lload hx hb dX0_mixedFile_34 (lv_at hl 3 rfl) ?_
    refine lv_aload_n hx hb dX0_mixedFile_36 rfl (lv_at hl 0 rfl) ?_
    refine lv_iload_n hx hb dX0_mixedFile_37 rfl (lv_at hl 2 rfl) ?_
    refine lv_iconst (v := 2) hx hb dX0_mixedFile_38 (by decide) ?_
    refine lv_iconst (v := 0) hx hb dX0_mixedFile_39 (by decide) ?_
    refine EM.ciA (EM.runV (As := [.int (nI f), .int 2, .int 0]) (rest := [.long (mfF kd F f hh 6)]) hX (K_X0_oddsOf l g h R V I dr md ed n F f 2 0 kd (by omega) (by omega) (by omega) (hlo) (hrk.addr adC)) (cv_q645 hX ⟨Nat.le_of_ble_eq_true rfl, Nat.le_of_ble_eq_true rfl⟩) hZ.1 hZ.2.1 hZ.ro (r_recv hX hZ.1 0 rfl rfl) rfl hl.1 rfl (Nat.le_of_ble_eq_true rfl) dX0_mixedFile_40 ⟨Nat.zero_le _, Nat.zero_le _⟩) hZ (fun _ => adC) (fun u_2 H locs hZ => ?_)
    refine lv_i2l (v := (odF kd I F n f 2 0).toInt64) hx hb dX0_mixedFile_43 rfl ?_
    refine PM.cl (PM.runS (As := [.long (mfF kd F f hh 6), .long ((odF kd I F n f 2 0).toInt64)]) (rest := []) hX (K_X0_mixed l g (mfF kd F f hh 6) ((odF kd I F n f 2 0).toInt64)) (cs_q793 hX ⟨Nat.le_of_ble_eq_true rfl, Nat.le_of_ble_eq_true rfl⟩) va_P_nil trivial rfl hl.1 rfl (Nat.le_of_ble_eq_true rfl) dX0_mixedFile_44 ⟨Nat.zero_le _, Nat.zero_le _⟩) ?_
    refine lv_aload_n hx hb dX0_mixedFile_47 rfl (lv_at hl 0 rfl) ?_
    refine lv_iload_n hx hb dX0_mixedFile_48 rfl (lv_at hl 2 rfl) ?_
    refine lv_iconst (v := 2) hx hb dX0_mixedFile_49 (by decide) ?_
    refine lv_iconst (v := 1) hx hb dX0_mixedFile_50 (by decide) ?_
    refine EM.ciA (EM.runV (As := [.int (nI f), .int 2, .int 1]) (rest := [.long (31 * (mfF kd F f hh 6) + ((odF kd I F n f 2 0).toInt64))]) hX (K_X0_oddsOf l g h R V I dr md ed n (va_up (va_up (va_up F 4 (u_2 4)) 5 (u_2 5)) 6 (u_2 6)) f 2 1 kd (by omega) (by omega) (by omega) (hlo) (hrk.addr adC)) (cv_q645 hX ⟨Nat.le_of_ble_eq_true rfl, Nat.le_of_ble_eq_true rfl⟩) hZ.1 hZ.2.1 hZ.ro (r_recv hX hZ.1 0 rfl rfl) rfl hl.1 rfl (Nat.le_of_ble_eq_true rfl) dX0_mixedFile_51 ⟨Nat.zero_le _, Nat.zero_le _⟩) hZ (fun _ => adC) (fun u_3 H locs hZ => ?_)
    refine lv_seti (v := (odF kd I F n f 2 1)) (rfl) ?_
    refine lv_i2l (v := (odF kd I F n f 2 1).toInt64) hx hb dX0_mixedFile_54 rfl ?_
    refine PM.cl (PM.runS (As := [.long (31 * (mfF kd F f hh 6) + ((odF kd I F n f 2 0).toInt64)), .long ((odF kd I F n f 2 1).toInt64)]) (rest := []) hX (K_X0_mixed l g (31 * (mfF kd F f hh 6) + ((odF kd I F n f 2 0).toInt64)) ((odF kd I F n f 2 1).toInt64)) (cs_q793 hX ⟨Nat.le_of_ble_eq_true rfl, Nat.le_of_ble_eq_true rfl⟩) va_P_nil trivial rfl hl.1 rfl (Nat.le_of_ble_eq_true rfl) dX0_mixedFile_55 ⟨Nat.zero_le _, Nat.zero_le _⟩) ?_
    refine lv_aload_n hx hb dX0_mixedFile_58 rfl (lv_at hl 0 rfl) ?_
    refine lv_iload_n hx hb dX0_mixedFile_59 rfl (lv_at hl 2 rfl) ?_
    refine lv_iconst (v := 2) hx hb dX0_mixedFile_60 (by decide) ?_
    refine EM.ciA (EM.runV (As := [.int (nI f), .int 2]) (rest := [.long (31 * (31 * (mfF kd F f hh 6) + ((odF kd I F n f 2 0).toInt64)) + ((odF kd I F n f 2 1).toInt64))]) hX (K_X0_whereOf l g h R V I dr md ed n (va_up (va_up (va_up F 4 (u_3 4)) 5 (u_3 5)) 6 (u_3 6)) f 2 kd (by omega) (by omega) (by omega) (hrk.addr adC)) (cv_q667 hX ⟨Nat.le_of_ble_eq_true rfl, Nat.le_of_ble_eq_true rfl⟩) hZ.1 hZ.2.1 hZ.ro (r_recv hX hZ.1 0 rfl rfl) rfl hl.1 rfl (Nat.le_of_ble_eq_true rfl) dX0_mixedFile_61 ⟨Nat.zero_le _, Nat.zero_le _⟩) hZ (fun _ => adC) (fun u_4 H locs hZ => ?_)
    refine lv_seti (v := ((whF kd I F n f 2 6).1)) (rfl) ?_
    refine lv_i2l (v := ((whF kd I F n f 2 6).1).toInt64) hx hb dX0_mixedFile_64 rfl ?_
    refine PM.cl (PM.runS (As := [.long (31 * (31 * (mfF kd F f hh 6) + ((odF kd I F n f 2 0).toInt64)) + ((odF kd I F n f 2 1).toInt64)), .long (((whF kd I F n f 2 6).1).toInt64)]) (rest := []) hX (K_X0_mixed l g (31 * (31 * (mfF kd F f hh 6) + ((odF kd I F n f 2 0).toInt64)) + ((odF kd I F n f 2 1).toInt64)) (((whF kd I F n f 2 6).1).toInt64)) (cs_q793 hX ⟨Nat.le_of_ble_eq_true rfl, Nat.le_of_ble_eq_true rfl⟩) va_P_nil trivial rfl hl.1 rfl (Nat.le_of_ble_eq_true rfl) dX0_mixedFile_65 ⟨Nat.zero_le _, Nat.zero_le _⟩) ?_
    exact EM.lret hX hr hlk hZ (ws1 := fun u => (wC g h R V I dr md ed n (va_up (va_up (va_up F 4 (u 4)) 5 (u 5)) 6 (u 6)))) (va_up (va_up (va_up F 4 (u_4 4)) 5 (u_4 5)) 6 (u_4 6)) (rfl) (rfl) dX0_mixedFile_68
  have c_1n : ¬ 6 ≤ i := fun zz_ => c_1 ((nI_leI (a := 6) (b := i) (by omega) (by omega)).mpr zz_)
  refine lv_lload hx hb dX0_mixedFile_13 (lv_at hl 3 rfl) ?_
  refine lv_aload_n hx hb dX0_mixedFile_15 rfl (lv_at hl 0 rfl) ?_
  refine lv_iload_n hx hb dX0_mixedFile_16 rfl (lv_at hl 2 rfl) ?_
  refine lv_iload hx hb dX0_mixedFile_17 (lv_at hl 4 rfl) ?_
  refine PM.ci (PM.runV (As := [.int (nI f), .int (nI i)]) (rest := [.long (mfF kd F f hh i)]) hX (K_X0_told l g h R V I dr md ed n F f (nI i) kd (by omega) (by omega)) (cv_q466 hX ⟨Nat.le_of_ble_eq_true rfl, Nat.le_of_ble_eq_true rfl⟩) hZ.1 hZ.ro (r_recv hX hZ.1 0 rfl rfl) rfl hl.1 rfl (Nat.le_of_ble_eq_true rfl) dX0_mixedFile_19 ⟨Nat.zero_le _, Nat.zero_le _⟩) ?_
  refine lv_i2l (v := (toldF kd F f (nI i)).toInt64) hx hb dX0_mixedFile_22 rfl ?_
  refine PM.cl (PM.runS (As := [.long (mfF kd F f hh i), .long ((toldF kd F f (nI i)).toInt64)]) (rest := []) hX (K_X0_mixed l g (mfF kd F f hh i) ((toldF kd F f (nI i)).toInt64)) (cs_q793 hX ⟨Nat.le_of_ble_eq_true rfl, Nat.le_of_ble_eq_true rfl⟩) va_P_nil trivial rfl hl.1 rfl (Nat.le_of_ble_eq_true rfl) dX0_mixedFile_23 ⟨Nat.zero_le _, Nat.zero_le _⟩) ?_
  refine lv_lstore (lv' := [(4, .long (31 * (mfF kd F f hh i) + ((toldF kd F f (nI i)).toInt64))), (0, .ref h), (1, .long hh), (3, .int (nI f)), (6, .int (nI i))]) hx hb dX0_mixedFile_26 hl (by decide) rfl (fun ls hl => ?_)
  refine lv_iinc (v := (nI (i + 1))) (lv' := [(6, .int (nI (i + 1))), (4, .long (31 * (mfF kd F f hh i) + ((toldF kd F f (nI i)).toInt64))), (0, .ref h), (1, .long hh), (3, .int (nI f))]) hx hb dX0_mixedFile_28 hl (k := 4) rfl (nI_1 _) (by decide) rfl (fun ls hl => ?_)
  refine lv_goto (tgt := 6) hx hb dX0_mixedFile_31 (by decide) ?_
  exact ihi (i + 1) _ _ _ ⟨by omega, hZ.cast (rfl), lv_cast (lv_sub (l' := [(0, .ref h), (1, .long hh), (3, .int (nI f)), (4, .long (31 * (mfF kd F f hh i) + ((toldF kd F f (nI i)).toInt64))), (6, .int (nI (i + 1)))]) hl [2, 3, 4, 1, 0] rfl) (by rfl)⟩ (by omega)

set_option maxHeartbeats 400000 in
set_option maxRecDepth 100000 in
theorem K_X0_digest (l : Launch) (g : Gx) (h : Nat) (R : Nat → Nat) (V : Nat → Nat) (I : Nat → Int32) (dr : Int64) (md : Int32) (ed : Nat) (n : Nat) (F : Nat → Nat → Int32) (kd : Nat → Nat) (am : Nat) (pl : Nat) (hn : n ≤ 5) (hlo : LotsOk (F 0)) (ham : (I 13) = nI am) (ham2 : am ≤ 5) (hpl : (I 10) = nI pl) (hpl2 : pl ≤ 10) (hpt : ∀ k, k < n → (F 2) k = -1 ∨ ∃ j, j < 5 ∧ (F 2) k = nI j) (hrk : RoK (roP g ed n kd) (wC g h R V I dr md ed n F)) : EM l g yX0_digest cX0_digest 4 (some .long) 9 [.ref h] (roP g ed n kd) (wC g h R V I dr md ed n F) (fun u => (wC g h R V I dr md ed n (va_up (va_up (va_up (va_up F 4 (u 4)) 5 (u 5)) 6 (u 6)) 12 (u 12)))) (some (.long (dgR kd I F n pl am))) := by
  refine EM.of (own := "BurntLetters") (by decide) rfl (Nat.le_of_ble_eq_true rfl) hrk ?_
  intro p e s m below meth c A hX hr hlk hZ ls hl
  have hx := hX.1.1
  have hb := hX.1.2.1
  have hl : lv_has ls 4 [(0, .ref h)] := hl
  refine lv_ldc2 (v := 769) hx hb hX.1.2.2.2.1 (hX.w q792) dX0_digest_0 ?_
  refine lv_lstore_n (lv' := [(1, .long 769), (0, .ref h)]) hx hb dX0_digest_3 rfl hl (by decide) rfl (fun ls hl => ?_)
  refine lv_iconst (v := 0) hx hb dX0_digest_4 (by decide) ?_
  refine lv_istore_n (lv' := [(3, .int 0), (1, .long 769), (0, .ref h)]) hx hb dX0_digest_5 rfl hl (by decide) rfl (fun ls hl => ?_)
  refine W_loop (α := Nat) (P := fun (k1 : Nat) (H : Heap) (locs : List Loc) (ls : Array Slot) => k1 ≤ 6 ∧ Zt g A s.heap (roP g ed n kd) (wC g h R V I dr md ed n F) H locs ∧ lv_has ls 4 [(0, .ref h), (1, .long (dg1 F n k1)), (3, .int (nI k1))]) (fun k1 => 6 - k1) 0 ⟨Nat.zero_le _, hZ.cast (rfl), lv_cast (lv_sub (l' := [(0, .ref h), (1, .long 769), (3, .int 0)]) hl [2, 1, 0] rfl) (rfl)⟩ ?_
  rintro k1 H locs ls ⟨hk1, hZ, hl⟩ ihk1
  refine lv_iload_n hx hb dX0_digest_6 rfl (lv_at hl 2 rfl) ?_
  refine lv_bipush (v := 6) hx hb dX0_digest_7 (by decide) ?_
  refine lv_icmp_ge (tgt := 42) hx hb dX0_digest_9 (by decide) (fun c_1 => ?_) (fun c_1 => ?_)
  · have c_1n : 6 ≤ k1 := (nI_leI (a := 6) (b := k1) (by omega) (by omega)).mp c_1
    have eik1 : k1 = 6 := by omega
    subst eik1
    refine lv_iconst (v := 0) hx hb dX0_digest_42 (by decide) ?_
    refine lv_istore_n (lv' := [(3, .int 0), (0, .ref h), (1, .long (dg1 F n 6))]) hx hb dX0_digest_43 rfl hl (by decide) rfl (fun ls hl => ?_)
    refine W_loopU (α := Nat) (P := fun (k2 : Nat) (u : Nat → Nat → Int32) (H : Heap) (locs : List Loc) (ls : Array Slot) => k2 ≤ n ∧ Zt g A s.heap (roP g ed n kd) (wC g h R V I dr md ed n (va_up (va_up (va_up F 4 (u 4)) 5 (u 5)) 6 (u 6))) H locs ∧ lv_has ls 4 [(0, .ref h), (1, .long (dg2 kd I F n (dg1 F n 6) k2)), (3, .int (nI k2))]) (fun k2 => n - k2) 0 F ⟨Nat.zero_le _, hZ.cast (rfl), lv_cast (lv_sub (l' := [(0, .ref h), (1, .long (dg1 F n 6)), (3, .int 0)]) hl [1, 2, 0] rfl) (rfl)⟩ ?_
    rintro k2 u H locs ls ⟨hk2, hZ, hl⟩ ihk2
    refine lv_iload_n hx hb dX0_digest_44 rfl (lv_at hl 2 rfl) ?_
    refine lv_aload_n hx hb dX0_digest_45 rfl (lv_at hl 0 rfl) ?_
    refine gf_q141 (v := .ref (R 0)) hX hZ.1 0 rfl rfl dX0_digest_46 ?_
    refine PM.ci (PM.runV (As := []) (rest := [.int (nI k2)]) hX (K_J2_size l g (R 0) md ed n) (cv_q363 hX ⟨Nat.le_of_ble_eq_true rfl, Nat.le_of_ble_eq_true rfl⟩) (hZ.1.sub (ws' := (wL g (R 0) md ed n)) [1] rfl) trivial (r_recv hX hZ.1 1 rfl rfl) rfl hl.1 rfl (Nat.le_of_ble_eq_true rfl) dX0_digest_49 ⟨Nat.zero_le _, Nat.zero_le _⟩) ?_
    refine lv_icmp_ge (tgt := 68) hx hb dX0_digest_52 (by decide) (fun c_2 => ?_) (fun c_2 => ?_)
    · have c_2n : n ≤ k2 := (nI_leI (a := n) (b := k2) (by omega) (by omega)).mp c_2
      have ek2 : n = k2 := by omega
      subst ek2
      refine lv_lload_n hx hb dX0_digest_68 rfl (lv_at hl 1 rfl) ?_
      refine lv_aload_n hx hb dX0_digest_69 rfl (lv_at hl 0 rfl) ?_
      refine PM.ci (PM.runV (As := []) (rest := [.long (dg2 kd I F n (dg1 F n 6) n)]) hX (K_X0_nowhereNow l g h R V I dr md ed n (va_up (va_up (va_up F 4 (u 4)) 5 (u 5)) 6 (u 6)) (by omega) (hpt)) (cv_q689 hX ⟨Nat.le_of_ble_eq_true rfl, Nat.le_of_ble_eq_true rfl⟩) hZ.1 trivial (r_recv hX hZ.1 0 rfl rfl) rfl hl.1 rfl (Nat.le_of_ble_eq_true rfl) dX0_digest_70 ⟨Nat.zero_le _, Nat.zero_le _⟩) ?_
      refine lv_seti (v := (nowF F n)) (by refine nowF_congr ?_ ?_ n <;> rfl) ?_
      refine lv_i2l (v := (nowF F n).toInt64) hx hb dX0_digest_73 rfl ?_
      refine PM.cl (PM.runS (As := [.long (dg2 kd I F n (dg1 F n 6) n), .long ((nowF F n).toInt64)]) (rest := []) hX (K_X0_mixed l g (dg2 kd I F n (dg1 F n 6) n) ((nowF F n).toInt64)) (cs_q793 hX ⟨Nat.le_of_ble_eq_true rfl, Nat.le_of_ble_eq_true rfl⟩) va_P_nil trivial rfl hl.1 rfl (Nat.le_of_ble_eq_true rfl) dX0_digest_74 ⟨Nat.zero_le _, Nat.zero_le _⟩) ?_
      refine lv_lstore_n (lv' := [(1, .long (31 * (dg2 kd I F n (dg1 F n 6) n) + ((nowF F n).toInt64))), (0, .ref h), (3, .int (nI n))]) hx hb dX0_digest_77 rfl hl (by decide) rfl (fun ls hl => ?_)
      refine lv_aload_n hx hb dX0_digest_78 rfl (lv_at hl 1 rfl) ?_
      refine gf_q142 (v := .int (I 1)) hX hZ.1 0 rfl rfl dX0_digest_79 ?_
      refine lv_if_eq (tgt := 97) hx hb dX0_digest_82 (by decide) (fun c_3 => ?_) (fun c_3 => ?_)
      · refine lv_lload_n hx hb dX0_digest_97 rfl (lv_at hl 0 rfl) ?_
        refine lv_lstore_n (lv' := [(1, .long (31 * (dg2 kd I F n (dg1 F n 6) n) + ((nowF F n).toInt64))), (0, .ref h), (3, .int (nI n))]) hx hb dX0_digest_98 rfl hl (by decide) rfl (fun ls hl => ?_)
        refine lv_iconst (v := 0) hx hb dX0_digest_99 (by decide) ?_
        refine lv_istore_n (lv' := [(3, .int 0), (1, .long (31 * (dg2 kd I F n (dg1 F n 6) n) + ((nowF F n).toInt64))), (0, .ref h)]) hx hb dX0_digest_100 rfl hl (by decide) rfl (fun ls hl => ?_)
        refine W_loop (α := Nat) (P := fun (k3 : Nat) (H : Heap) (locs : List Loc) (ls : Array Slot) => k3 ≤ pl ∧ Zt g A s.heap (roP g ed n kd) (wC g h R V I dr md ed n (va_up (va_up (va_up F 4 (u 4)) 5 (u 5)) 6 (u 6))) H locs ∧ lv_has ls 4 [(0, .ref h), (1, .long (dg3 F (if I 1 = 0 then dgA kd I F n else 31 * dgA kd I F n + (ftC kd I F n am (p6 am)).toInt64) k3)), (3, .int (nI k3))]) (fun k3 => pl - k3) 0 ⟨Nat.zero_le _, hZ.cast (rfl), lv_cast (lv_sub (l' := [(0, .ref h), (1, .long (31 * (dg2 kd I F n (dg1 F n 6) n) + ((nowF F n).toInt64))), (3, .int 0)]) hl [2, 1, 0] rfl) (by simp only [if_pos c_1, if_pos c_2, if_pos c_3]; rfl)⟩ ?_
        rintro k3 H locs ls ⟨hk3, hZ, hl⟩ ihk3
        refine lv_iload_n hx hb dX0_digest_101 rfl (lv_at hl 2 rfl) ?_
        refine lv_aload_n hx hb dX0_digest_102 rfl (lv_at hl 0 rfl) ?_
        refine gf_q154 (v := .int (I 10)) hX hZ.1 0 rfl rfl dX0_digest_103 ?_
        refine lv_seti (v := (nI pl)) (hpl) ?_
        refine lv_icmp_ge (tgt := 127) hx hb dX0_digest_106 (by decide) (fun c_4 => ?_) (fun c_4 => ?_)
        · have c_4n : pl ≤ k3 := (nI_leI (a := pl) (b := k3) (by omega) (by omega)).mp c_4
          have ek3 : pl = k3 := by omega
          subst ek3
          refine lv_iconst (v := 0) hx hb dX0_digest_127 (by decide) ?_
          refine lv_istore_n (lv' := [(3, .int 0), (0, .ref h), (1, .long (dg3 F (if I 1 = 0 then dgA kd I F n else 31 * dgA kd I F n + (ftC kd I F n am (p6 am)).toInt64) pl))]) hx hb dX0_digest_128 rfl hl (by decide) rfl (fun ls hl => ?_)
          refine W_loop (α := Nat) (P := fun (k4 : Nat) (H : Heap) (locs : List Loc) (ls : Array Slot) => k4 ≤ 10 ∧ Zt g A s.heap (roP g ed n kd) (wC g h R V I dr md ed n (va_up (va_up (va_up F 4 (u 4)) 5 (u 5)) 6 (u 6))) H locs ∧ lv_has ls 4 [(0, .ref h), (1, .long (dg4 I F n (dg3 F (if I 1 = 0 then dgA kd I F n else 31 * dgA kd I F n + (ftC kd I F n am (p6 am)).toInt64) pl) k4)), (3, .int (nI k4))]) (fun k4 => 10 - k4) 0 ⟨Nat.zero_le _, hZ.cast (rfl), lv_cast (lv_sub (l' := [(0, .ref h), (1, .long (dg3 F (if I 1 = 0 then dgA kd I F n else 31 * dgA kd I F n + (ftC kd I F n am (p6 am)).toInt64) pl)), (3, .int 0)]) hl [1, 2, 0] rfl) (rfl)⟩ ?_
          rintro k4 H locs ls ⟨hk4, hZ, hl⟩ ihk4
          refine lv_iload_n hx hb dX0_digest_129 rfl (lv_at hl 2 rfl) ?_
          refine lv_bipush (v := 10) hx hb dX0_digest_130 (by decide) ?_
          refine lv_icmp_ge (tgt := 152) hx hb dX0_digest_132 (by decide) (fun c_5 => ?_) (fun c_5 => ?_)
          · have c_5n : 10 ≤ k4 := (nI_leI (a := 10) (b := k4) (by omega) (by omega)).mp c_5
            have eik4 : k4 = 10 := by omega
            subst eik4
            refine lv_lload_n hx hb dX0_digest_152 rfl (lv_at hl 1 rfl) ?_
            exact EM.lret hX hr hlk hZ (ws1 := fun u => (wC g h R V I dr md ed n (va_up (va_up (va_up (va_up F 4 (u 4)) 5 (u 5)) 6 (u 6)) 12 (u 12)))) (va_up (va_up (va_up F 4 (u 4)) 5 (u 5)) 6 (u 6)) (rfl) (rfl) dX0_digest_153
          have c_5n : ¬ 10 ≤ k4 := fun zz_ => c_5 ((nI_leI (a := 10) (b := k4) (by omega) (by omega)).mpr zz_)
          refine lv_lload_n hx hb dX0_digest_135 rfl (lv_at hl 1 rfl) ?_
          refine lv_aload_n hx hb dX0_digest_136 rfl (lv_at hl 0 rfl) ?_
          refine lv_iload_n hx hb dX0_digest_137 rfl (lv_at hl 2 rfl) ?_
          refine PM.ci (PM.runV (As := [.int (nI k4)]) (rest := [.long (dg4 I F n (dg3 F (if I 1 = 0 then dgA kd I F n else 31 * dgA kd I F n + (ftC kd I F n am (p6 am)).toInt64) pl) k4)]) hX (K_X0_countOf l g h R V I dr md ed n (va_up (va_up (va_up F 4 (u 4)) 5 (u 5)) 6 (u 6)) (nI k4) (by omega)) (cv_q784 hX ⟨Nat.le_of_ble_eq_true rfl, Nat.le_of_ble_eq_true rfl⟩) hZ.1 trivial (r_recv hX hZ.1 0 rfl rfl) rfl hl.1 rfl (Nat.le_of_ble_eq_true rfl) dX0_digest_138 ⟨Nat.zero_le _, Nat.zero_le _⟩) ?_
          refine lv_seti (v := (countF I F n (nI k4))) (rfl) ?_
          refine lv_i2l (v := (countF I F n (nI k4)).toInt64) hx hb dX0_digest_141 rfl ?_
          refine PM.cl (PM.runS (As := [.long (dg4 I F n (dg3 F (if I 1 = 0 then dgA kd I F n else 31 * dgA kd I F n + (ftC kd I F n am (p6 am)).toInt64) pl) k4), .long ((countF I F n (nI k4)).toInt64)]) (rest := []) hX (K_X0_mixed l g (dg4 I F n (dg3 F (if I 1 = 0 then dgA kd I F n else 31 * dgA kd I F n + (ftC kd I F n am (p6 am)).toInt64) pl) k4) ((countF I F n (nI k4)).toInt64)) (cs_q793 hX ⟨Nat.le_of_ble_eq_true rfl, Nat.le_of_ble_eq_true rfl⟩) va_P_nil trivial rfl hl.1 rfl (Nat.le_of_ble_eq_true rfl) dX0_digest_142 ⟨Nat.zero_le _, Nat.zero_le _⟩) ?_
          refine lv_lstore_n (lv' := [(1, .long (31 * (dg4 I F n (dg3 F (if I 1 = 0 then dgA kd I F n else 31 * dgA kd I F n + (ftC kd I F n am (p6 am)).toInt64) pl) k4) + ((countF I F n (nI k4)).toInt64))), (0, .ref h), (3, .int (nI k4))]) hx hb dX0_digest_145 rfl hl (by decide) rfl (fun ls hl => ?_)
          refine lv_iinc (v := (nI (k4 + 1))) (lv' := [(3, .int (nI (k4 + 1))), (1, .long (31 * (dg4 I F n (dg3 F (if I 1 = 0 then dgA kd I F n else 31 * dgA kd I F n + (ftC kd I F n am (p6 am)).toInt64) pl) k4) + ((countF I F n (nI k4)).toInt64))), (0, .ref h)]) hx hb dX0_digest_146 hl (k := 2) rfl (nI_1 _) (by decide) rfl (fun ls hl => ?_)
          refine lv_goto (tgt := 129) hx hb dX0_digest_149 (by decide) ?_
          exact ihk4 (k4 + 1) _ _ _ ⟨by omega, hZ.cast (rfl), lv_cast (lv_sub (l' := [(0, .ref h), (1, .long (31 * (dg4 I F n (dg3 F (if I 1 = 0 then dgA kd I F n else 31 * dgA kd I F n + (ftC kd I F n am (p6 am)).toInt64) pl) k4) + ((countF I F n (nI k4)).toInt64))), (3, .int (nI (k4 + 1)))]) hl [2, 1, 0] rfl) (by rfl)⟩ (by omega)
        have c_4n : ¬ pl ≤ k3 := fun zz_ => c_4 ((nI_leI (a := pl) (b := k3) (by omega) (by omega)).mpr zz_)
        refine lv_lload_n hx hb dX0_digest_109 rfl (lv_at hl 1 rfl) ?_
        refine lv_aload_n hx hb dX0_digest_110 rfl (lv_at hl 0 rfl) ?_
        refine gf_q152 (v := .ref (R 9)) hX hZ.1 0 rfl rfl dX0_digest_111 ?_
        refine lv_iload_n hx hb dX0_digest_114 rfl (lv_at hl 2 rfl) ?_
        refine r_bald (f := (F 10)) hX hZ.1 15 rfl k3 (by omega) (by omega) dX0_digest_115 ?_
        refine lv_i2l (v := ((F 10) k3).toInt64) hx hb dX0_digest_116 rfl ?_
        refine PM.cl (PM.runS (As := [.long (dg3 F (if I 1 = 0 then dgA kd I F n else 31 * dgA kd I F n + (ftC kd I F n am (p6 am)).toInt64) k3), .long (((F 10) k3).toInt64)]) (rest := []) hX (K_X0_mixed l g (dg3 F (if I 1 = 0 then dgA kd I F n else 31 * dgA kd I F n + (ftC kd I F n am (p6 am)).toInt64) k3) (((F 10) k3).toInt64)) (cs_q793 hX ⟨Nat.le_of_ble_eq_true rfl, Nat.le_of_ble_eq_true rfl⟩) va_P_nil trivial rfl hl.1 rfl (Nat.le_of_ble_eq_true rfl) dX0_digest_117 ⟨Nat.zero_le _, Nat.zero_le _⟩) ?_
        refine lv_lstore_n (lv' := [(1, .long (31 * (dg3 F (if I 1 = 0 then dgA kd I F n else 31 * dgA kd I F n + (ftC kd I F n am (p6 am)).toInt64) k3) + (((F 10) k3).toInt64))), (0, .ref h), (3, .int (nI k3))]) hx hb dX0_digest_120 rfl hl (by decide) rfl (fun ls hl => ?_)
        refine lv_iinc (v := (nI (k3 + 1))) (lv' := [(3, .int (nI (k3 + 1))), (1, .long (31 * (dg3 F (if I 1 = 0 then dgA kd I F n else 31 * dgA kd I F n + (ftC kd I F n am (p6 am)).toInt64) k3) + (((F 10) k3).toInt64))), (0, .ref h)]) hx hb dX0_digest_121 hl (k := 2) rfl (nI_1 _) (by decide) rfl (fun ls hl => ?_)
        refine lv_goto (tgt := 101) hx hb dX0_digest_124 (by decide) ?_
        exact ihk3 (k3 + 1) _ _ _ ⟨by omega, hZ.cast (rfl), lv_cast (lv_sub (l' := [(0, .ref h), (1, .long (31 * (dg3 F (if I 1 = 0 then dgA kd I F n else 31 * dgA kd I F n + (ftC kd I F n am (p6 am)).toInt64) k3) + (((F 10) k3).toInt64))), (3, .int (nI (k3 + 1)))]) hl [2, 1, 0] rfl) (by rfl)⟩ (by omega)
      refine lv_lload_n hx hb dX0_digest_85 rfl (lv_at hl 0 rfl) ?_
      refine lv_aload_n hx hb dX0_digest_86 rfl (lv_at hl 1 rfl) ?_
      refine EM.ciA (EM.runV (As := []) (rest := [.long (31 * (dg2 kd I F n (dg1 F n 6) n) + ((nowF F n).toInt64))]) hX (K_X0_layFits l g h R V I dr md ed n (va_up (va_up (va_up F 4 (u 4)) 5 (u 5)) 6 (u 6)) kd am (by omega) (ham) (by omega) (hrk.addr adC)) (cv_q722 hX ⟨Nat.le_of_ble_eq_true rfl, Nat.le_of_ble_eq_true rfl⟩) hZ.1 hZ.2.1 hZ.ro (r_recv hX hZ.1 0 rfl rfl) rfl hl.1 rfl (Nat.le_of_ble_eq_true rfl) dX0_digest_87 ⟨Nat.zero_le _, Nat.zero_le _⟩) hZ (fun _ => adC) (fun u_6 H locs hZ => ?_)
      refine lv_seti (v := (ftC kd I F n am (p6 am))) (by refine ftC_congr ?_ ?_ ?_ ?_ ?_ _ <;> rfl) ?_
      refine lv_i2l (v := (ftC kd I F n am (p6 am)).toInt64) hx hb dX0_digest_90 rfl ?_
      refine PM.cl (PM.runS (As := [.long (31 * (dg2 kd I F n (dg1 F n 6) n) + ((nowF F n).toInt64)), .long ((ftC kd I F n am (p6 am)).toInt64)]) (rest := []) hX (K_X0_mixed l g (31 * (dg2 kd I F n (dg1 F n 6) n) + ((nowF F n).toInt64)) ((ftC kd I F n am (p6 am)).toInt64)) (cs_q793 hX ⟨Nat.le_of_ble_eq_true rfl, Nat.le_of_ble_eq_true rfl⟩) va_P_nil trivial rfl hl.1 rfl (Nat.le_of_ble_eq_true rfl) dX0_digest_91 ⟨Nat.zero_le _, Nat.zero_le _⟩) ?_
      refine lv_goto (tgt := 98) hx hb dX0_digest_94 (by decide) ?_
      refine lv_lstore_n (lv' := [(1, .long (31 * (31 * (dg2 kd I F n (dg1 F n 6) n) + ((nowF F n).toInt64)) + ((ftC kd I F n am (p6 am)).toInt64))), (0, .ref h), (3, .int (nI n))]) hx hb dX0_digest_98 rfl hl (by decide) rfl (fun ls hl => ?_)
      refine lv_iconst (v := 0) hx hb dX0_digest_99 (by decide) ?_
      refine lv_istore_n (lv' := [(3, .int 0), (1, .long (31 * (31 * (dg2 kd I F n (dg1 F n 6) n) + ((nowF F n).toInt64)) + ((ftC kd I F n am (p6 am)).toInt64))), (0, .ref h)]) hx hb dX0_digest_100 rfl hl (by decide) rfl (fun ls hl => ?_)
      refine W_loop (α := Nat) (P := fun (k3 : Nat) (H : Heap) (locs : List Loc) (ls : Array Slot) => k3 ≤ pl ∧ Zt g A s.heap (roP g ed n kd) (wC g h R V I dr md ed n (va_up (va_up (va_up (va_up F 4 (u_6 4)) 5 (u_6 5)) 6 (u_6 6)) 12 (ftB kd I (va_up (va_up (va_up F 4 (u 4)) 5 (u 5)) 6 (u 6)) n am (p6 am)))) H locs ∧ lv_has ls 4 [(0, .ref h), (1, .long (dg3 F (if I 1 = 0 then dgA kd I F n else 31 * dgA kd I F n + (ftC kd I F n am (p6 am)).toInt64) k3)), (3, .int (nI k3))]) (fun k3 => pl - k3) 0 ⟨Nat.zero_le _, hZ.cast (rfl), lv_cast (lv_sub (l' := [(0, .ref h), (1, .long (31 * (31 * (dg2 kd I F n (dg1 F n 6) n) + ((nowF F n).toInt64)) + ((ftC kd I F n am (p6 am)).toInt64))), (3, .int 0)]) hl [2, 1, 0] rfl) (by simp only [if_pos c_1, if_pos c_2, if_neg c_3]; rfl)⟩ ?_
      rintro k3 H locs ls ⟨hk3, hZ, hl⟩ ihk3
      refine lv_iload_n hx hb dX0_digest_101 rfl (lv_at hl 2 rfl) ?_
      refine lv_aload_n hx hb dX0_digest_102 rfl (lv_at hl 0 rfl) ?_
      refine gf_q154 (v := .int (I 10)) hX hZ.1 0 rfl rfl dX0_digest_103 ?_
      refine lv_seti (v := (nI pl)) (hpl) ?_
      refine lv_icmp_ge (tgt := 127) hx hb dX0_digest_106 (by decide) (fun c_7 => ?_) (fun c_7 => ?_)
      · have c_7n : pl ≤ k3 := (nI_leI (a := pl) (b := k3) (by omega) (by omega)).mp c_7
        have ek3 : pl = k3 := by omega
        subst ek3
        refine lv_iconst (v := 0) hx hb dX0_digest_127 (by decide) ?_
        refine lv_istore_n (lv' := [(3, .int 0), (0, .ref h), (1, .long (dg3 F (if I 1 = 0 then dgA kd I F n else 31 * dgA kd I F n + (ftC kd I F n am (p6 am)).toInt64) pl))]) hx hb dX0_digest_128 rfl hl (by decide) rfl (fun ls hl => ?_)
        refine W_loop (α := Nat) (P := fun (k4 : Nat) (H : Heap) (locs : List Loc) (ls : Array Slot) => k4 ≤ 10 ∧ Zt g A s.heap (roP g ed n kd) (wC g h R V I dr md ed n (va_up (va_up (va_up (va_up F 4 (u_6 4)) 5 (u_6 5)) 6 (u_6 6)) 12 (ftB kd I (va_up (va_up (va_up F 4 (u 4)) 5 (u 5)) 6 (u 6)) n am (p6 am)))) H locs ∧ lv_has ls 4 [(0, .ref h), (1, .long (dg4 I F n (dg3 F (if I 1 = 0 then dgA kd I F n else 31 * dgA kd I F n + (ftC kd I F n am (p6 am)).toInt64) pl) k4)), (3, .int (nI k4))]) (fun k4 => 10 - k4) 0 ⟨Nat.zero_le _, hZ.cast (rfl), lv_cast (lv_sub (l' := [(0, .ref h), (1, .long (dg3 F (if I 1 = 0 then dgA kd I F n else 31 * dgA kd I F n + (ftC kd I F n am (p6 am)).toInt64) pl)), (3, .int 0)]) hl [1, 2, 0] rfl) (rfl)⟩ ?_
        rintro k4 H locs ls ⟨hk4, hZ, hl⟩ ihk4
        refine lv_iload_n hx hb dX0_digest_129 rfl (lv_at hl 2 rfl) ?_
        refine lv_bipush (v := 10) hx hb dX0_digest_130 (by decide) ?_
        refine lv_icmp_ge (tgt := 152) hx hb dX0_digest_132 (by decide) (fun c_8 => ?_) (fun c_8 => ?_)
        · have c_8n : 10 ≤ k4 := (nI_leI (a := 10) (b := k4) (by omega) (by omega)).mp c_8
          have eik4 : k4 = 10 := by omega
          subst eik4
          refine lv_lload_n hx hb dX0_digest_152 rfl (lv_at hl 1 rfl) ?_
          exact EM.lret hX hr hlk hZ (ws1 := fun u => (wC g h R V I dr md ed n (va_up (va_up (va_up (va_up F 4 (u 4)) 5 (u 5)) 6 (u 6)) 12 (u 12)))) (va_up (va_up (va_up (va_up F 4 (u_6 4)) 5 (u_6 5)) 6 (u_6 6)) 12 (ftB kd I (va_up (va_up (va_up F 4 (u 4)) 5 (u 5)) 6 (u 6)) n am (p6 am))) (rfl) (rfl) dX0_digest_153
        have c_8n : ¬ 10 ≤ k4 := fun zz_ => c_8 ((nI_leI (a := 10) (b := k4) (by omega) (by omega)).mpr zz_)
        refine lv_lload_n hx hb dX0_digest_135 rfl (lv_at hl 1 rfl) ?_
        refine lv_aload_n hx hb dX0_digest_136 rfl (lv_at hl 0 rfl) ?_
        refine lv_iload_n hx hb dX0_digest_137 rfl (lv_at hl 2 rfl) ?_
        refine PM.ci (PM.runV (As := [.int (nI k4)]) (rest := [.long (dg4 I F n (dg3 F (if I 1 = 0 then dgA kd I F n else 31 * dgA kd I F n + (ftC kd I F n am (p6 am)).toInt64) pl) k4)]) hX (K_X0_countOf l g h R V I dr md ed n (va_up (va_up (va_up (va_up F 4 (u_6 4)) 5 (u_6 5)) 6 (u_6 6)) 12 (ftB kd I (va_up (va_up (va_up F 4 (u 4)) 5 (u 5)) 6 (u 6)) n am (p6 am))) (nI k4) (by omega)) (cv_q784 hX ⟨Nat.le_of_ble_eq_true rfl, Nat.le_of_ble_eq_true rfl⟩) hZ.1 trivial (r_recv hX hZ.1 0 rfl rfl) rfl hl.1 rfl (Nat.le_of_ble_eq_true rfl) dX0_digest_138 ⟨Nat.zero_le _, Nat.zero_le _⟩) ?_
        refine lv_seti (v := (countF I F n (nI k4))) (rfl) ?_
        refine lv_i2l (v := (countF I F n (nI k4)).toInt64) hx hb dX0_digest_141 rfl ?_
        refine PM.cl (PM.runS (As := [.long (dg4 I F n (dg3 F (if I 1 = 0 then dgA kd I F n else 31 * dgA kd I F n + (ftC kd I F n am (p6 am)).toInt64) pl) k4), .long ((countF I F n (nI k4)).toInt64)]) (rest := []) hX (K_X0_mixed l g (dg4 I F n (dg3 F (if I 1 = 0 then dgA kd I F n else 31 * dgA kd I F n + (ftC kd I F n am (p6 am)).toInt64) pl) k4) ((countF I F n (nI k4)).toInt64)) (cs_q793 hX ⟨Nat.le_of_ble_eq_true rfl, Nat.le_of_ble_eq_true rfl⟩) va_P_nil trivial rfl hl.1 rfl (Nat.le_of_ble_eq_true rfl) dX0_digest_142 ⟨Nat.zero_le _, Nat.zero_le _⟩) ?_
        refine lv_lstore_n (lv' := [(1, .long (31 * (dg4 I F n (dg3 F (if I 1 = 0 then dgA kd I F n else 31 * dgA kd I F n + (ftC kd I F n am (p6 am)).toInt64) pl) k4) + ((countF I F n (nI k4)).toInt64))), (0, .ref h), (3, .int (nI k4))]) hx hb dX0_digest_145 rfl hl (by decide) rfl (fun ls hl => ?_)
        refine lv_iinc (v := (nI (k4 + 1))) (lv' := [(3, .int (nI (k4 + 1))), (1, .long (31 * (dg4 I F n (dg3 F (if I 1 = 0 then dgA kd I F n else 31 * dgA kd I F n + (ftC kd I F n am (p6 am)).toInt64) pl) k4) + ((countF I F n (nI k4)).toInt64))), (0, .ref h)]) hx hb dX0_digest_146 hl (k := 2) rfl (nI_1 _) (by decide) rfl (fun ls hl => ?_)
        refine lv_goto (tgt := 129) hx hb dX0_digest_149 (by decide) ?_
        exact ihk4 (k4 + 1) _ _ _ ⟨by omega, hZ.cast (rfl), lv_cast (lv_sub (l' := [(0, .ref h), (1, .long (31 * (dg4 I F n (dg3 F (if I 1 = 0 then dgA kd I F n else 31 * dgA kd I F n + (ftC kd I F n am (p6 am)).toInt64) pl) k4) + ((countF I F n (nI k4)).toInt64))), (3, .int (nI (k4 + 1)))]) hl [2, 1, 0] rfl) (by rfl)⟩ (by omega)
      have c_7n : ¬ pl ≤ k3 := fun zz_ => c_7 ((nI_leI (a := pl) (b := k3) (by omega) (by omega)).mpr zz_)
      refine lv_lload_n hx hb dX0_digest_109 rfl (lv_at hl 1 rfl) ?_
      refine lv_aload_n hx hb dX0_digest_110 rfl (lv_at hl 0 rfl) ?_
      refine gf_q152 (v := .ref (R 9)) hX hZ.1 0 rfl rfl dX0_digest_111 ?_
      refine lv_iload_n hx hb dX0_digest_114 rfl (lv_at hl 2 rfl) ?_
      refine r_bald (f := (F 10)) hX hZ.1 15 rfl k3 (by omega) (by omega) dX0_digest_115 ?_
      refine lv_i2l (v := ((F 10) k3).toInt64) hx hb dX0_digest_116 rfl ?_
      refine PM.cl (PM.runS (As := [.long (dg3 F (if I 1 = 0 then dgA kd I F n else 31 * dgA kd I F n + (ftC kd I F n am (p6 am)).toInt64) k3), .long (((F 10) k3).toInt64)]) (rest := []) hX (K_X0_mixed l g (dg3 F (if I 1 = 0 then dgA kd I F n else 31 * dgA kd I F n + (ftC kd I F n am (p6 am)).toInt64) k3) (((F 10) k3).toInt64)) (cs_q793 hX ⟨Nat.le_of_ble_eq_true rfl, Nat.le_of_ble_eq_true rfl⟩) va_P_nil trivial rfl hl.1 rfl (Nat.le_of_ble_eq_true rfl) dX0_digest_117 ⟨Nat.zero_le _, Nat.zero_le _⟩) ?_
      refine lv_lstore_n (lv' := [(1, .long (31 * (dg3 F (if I 1 = 0 then dgA kd I F n else 31 * dgA kd I F n + (ftC kd I F n am (p6 am)).toInt64) k3) + (((F 10) k3).toInt64))), (0, .ref h), (3, .int (nI k3))]) hx hb dX0_digest_120 rfl hl (by decide) rfl (fun ls hl => ?_)
      refine lv_iinc (v := (nI (k3 + 1))) (lv' := [(3, .int (nI (k3 + 1))), (1, .long (31 * (dg3 F (if I 1 = 0 then dgA kd I F n else 31 * dgA kd I F n + (ftC kd I F n am (p6 am)).toInt64) k3) + (((F 10) k3).toInt64))), (0, .ref h)]) hx hb dX0_digest_121 hl (k := 2) rfl (nI_1 _) (by decide) rfl (fun ls hl => ?_)
      refine lv_goto (tgt := 101) hx hb dX0_digest_124 (by decide) ?_
      exact ihk3 (k3 + 1) _ _ _ ⟨by omega, hZ.cast (rfl), lv_cast (lv_sub (l' := [(0, .ref h), (1, .long (31 * (dg3 F (if I 1 = 0 then dgA kd I F n else 31 * dgA kd I F n + (ftC kd I F n am (p6 am)).toInt64) k3) + (((F 10) k3).toInt64))), (3, .int (nI (k3 + 1)))]) hl [2, 1, 0] rfl) (by rfl)⟩ (by omega)
    have c_2n : ¬ n ≤ k2 := fun zz_ => c_2 ((nI_leI (a := n) (b := k2) (by omega) (by omega)).mpr zz_)
    refine lv_aload_n hx hb dX0_digest_55 rfl (lv_at hl 0 rfl) ?_
    refine lv_lload_n hx hb dX0_digest_56 rfl (lv_at hl 1 rfl) ?_
    refine lv_iload_n hx hb dX0_digest_57 rfl (lv_at hl 2 rfl) ?_
    refine EM.clA (EM.runV (As := [.long (dg2 kd I F n (dg1 F n 6) k2), .int (nI k2)]) (rest := []) hX (K_X0_mixedFile l g h R V I dr md ed n (va_up (va_up (va_up F 4 (u 4)) 5 (u 5)) 6 (u 6)) (dg2 kd I F n (dg1 F n 6) k2) k2 kd (by omega) (by omega) (hlo) (hrk.addr adC)) (cv_q797 hX ⟨Nat.le_of_ble_eq_true rfl, Nat.le_of_ble_eq_true rfl⟩) hZ.1 hZ.2.1 hZ.ro (r_recv hX hZ.1 0 rfl rfl) rfl hl.1 rfl (Nat.le_of_ble_eq_true rfl) dX0_digest_58 ⟨Nat.zero_le _, Nat.zero_le _⟩) hZ (fun _ => adC) (fun u_9 H locs hZ => ?_)
    refine lv_setl (v := (mxF kd I F n k2 (dg2 kd I F n (dg1 F n 6) k2))) (rfl) ?_
    refine lv_lstore_n (lv' := [(1, .long (mxF kd I F n k2 (dg2 kd I F n (dg1 F n 6) k2))), (0, .ref h), (3, .int (nI k2))]) hx hb dX0_digest_61 rfl hl (by decide) rfl (fun ls hl => ?_)
    refine lv_iinc (v := (nI (k2 + 1))) (lv' := [(3, .int (nI (k2 + 1))), (1, .long (mxF kd I F n k2 (dg2 kd I F n (dg1 F n 6) k2))), (0, .ref h)]) hx hb dX0_digest_62 hl (k := 2) rfl (nI_1 _) (by decide) rfl (fun ls hl => ?_)
    refine lv_goto (tgt := 44) hx hb dX0_digest_65 (by decide) ?_
    exact ihk2 (k2 + 1) (va_up (va_up (va_up F 4 (u_9 4)) 5 (u_9 5)) 6 (u_9 6)) _ _ _ ⟨by omega, hZ.cast (rfl), lv_cast (lv_sub (l' := [(0, .ref h), (1, .long (mxF kd I F n k2 (dg2 kd I F n (dg1 F n 6) k2))), (3, .int (nI (k2 + 1)))]) hl [2, 1, 0] rfl) (by rfl)⟩ (by omega)
  have c_1n : ¬ 6 ≤ k1 := fun zz_ => c_1 ((nI_leI (a := 6) (b := k1) (by omega) (by omega)).mpr zz_)
  refine lv_lload_n hx hb dX0_digest_12 rfl (lv_at hl 1 rfl) ?_
  refine lv_aload_n hx hb dX0_digest_13 rfl (lv_at hl 0 rfl) ?_
  refine gf_q146 (v := .ref (R 4)) hX hZ.1 0 rfl rfl dX0_digest_14 ?_
  refine lv_iload_n hx hb dX0_digest_17 rfl (lv_at hl 2 rfl) ?_
  refine r_iald (f := (F 0)) hX hZ.1 2 rfl k1 (by omega) (by omega) dX0_digest_18 ?_
  refine lv_i2l (v := ((F 0) k1).toInt64) hx hb dX0_digest_19 rfl ?_
  refine PM.cl (PM.runS (As := [.long (dg1 F n k1), .long (((F 0) k1).toInt64)]) (rest := []) hX (K_X0_mixed l g (dg1 F n k1) (((F 0) k1).toInt64)) (cs_q793 hX ⟨Nat.le_of_ble_eq_true rfl, Nat.le_of_ble_eq_true rfl⟩) va_P_nil trivial rfl hl.1 rfl (Nat.le_of_ble_eq_true rfl) dX0_digest_20 ⟨Nat.zero_le _, Nat.zero_le _⟩) ?_
  refine lv_aload_n hx hb dX0_digest_23 rfl (lv_at hl 0 rfl) ?_
  refine gf_q148 (v := .ref (R 6)) hX hZ.1 0 rfl rfl dX0_digest_24 ?_
  refine lv_iload_n hx hb dX0_digest_27 rfl (lv_at hl 2 rfl) ?_
  refine PM.ci (PM.runV (As := [.int (nI k1)]) (rest := [.long (31 * (dg1 F n k1) + (((F 0) k1).toInt64))]) hX (K_X1_under l g h R I dr md ed n (R 6) (V 0) (V 1) (V 2) (F 1) (F 2) (F 3) (nI k1) (by omega)) (cv_q351 hX ⟨Nat.le_of_ble_eq_true rfl, Nat.le_of_ble_eq_true rfl⟩) (hZ.1.sub (ws' := (wA g h R I dr md ed n (R 6) (V 0) (V 1) (V 2) (F 1) (F 2) (F 3))) [0, 1, 3, 4, 5, 6] rfl) trivial (r_recv hX hZ.1 3 rfl rfl) rfl hl.1 rfl (Nat.le_of_ble_eq_true rfl) dX0_digest_28 ⟨Nat.zero_le _, Nat.zero_le _⟩) ?_
  refine lv_i2l (v := (undF (F 1) (nI k1) n).toInt64) hx hb dX0_digest_31 rfl ?_
  refine PM.cl (PM.runS (As := [.long (31 * (dg1 F n k1) + (((F 0) k1).toInt64)), .long ((undF (F 1) (nI k1) n).toInt64)]) (rest := []) hX (K_X0_mixed l g (31 * (dg1 F n k1) + (((F 0) k1).toInt64)) ((undF (F 1) (nI k1) n).toInt64)) (cs_q793 hX ⟨Nat.le_of_ble_eq_true rfl, Nat.le_of_ble_eq_true rfl⟩) va_P_nil trivial rfl hl.1 rfl (Nat.le_of_ble_eq_true rfl) dX0_digest_32 ⟨Nat.zero_le _, Nat.zero_le _⟩) ?_
  refine lv_lstore_n (lv' := [(1, .long (31 * (31 * (dg1 F n k1) + (((F 0) k1).toInt64)) + ((undF (F 1) (nI k1) n).toInt64))), (0, .ref h), (3, .int (nI k1))]) hx hb dX0_digest_35 rfl hl (by decide) rfl (fun ls hl => ?_)
  refine lv_iinc (v := (nI (k1 + 1))) (lv' := [(3, .int (nI (k1 + 1))), (1, .long (31 * (31 * (dg1 F n k1) + (((F 0) k1).toInt64)) + ((undF (F 1) (nI k1) n).toInt64))), (0, .ref h)]) hx hb dX0_digest_36 hl (k := 2) rfl (nI_1 _) (by decide) rfl (fun ls hl => ?_)
  refine lv_goto (tgt := 6) hx hb dX0_digest_39 (by decide) ?_
  exact ihk1 (k1 + 1) _ _ _ ⟨by omega, hZ.cast (rfl), lv_cast (lv_sub (l' := [(0, .ref h), (1, .long (31 * (31 * (dg1 F n k1) + (((F 0) k1).toInt64)) + ((undF (F 1) (nI k1) n).toInt64))), (3, .int (nI (k1 + 1)))]) hl [2, 1, 0] rfl) (by rfl)⟩ (by omega)
