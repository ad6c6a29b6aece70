/-! THE MODEL, 2: a year (by program: gen/model2.py) -/
set_option maxHeartbeats 400000 in
set_option maxRecDepth 100000 in
theorem K_X2_asItIs (l : Launch) (g : Gx) (h : Nat) (R : Nat → Nat) (J : Nat → Int32) (hs : Int64) (G : Nat → Nat → Int32) (hrk : RoK roT (wM g h R J hs G)) : MM l g yX2_asItIs cX2_asItIs 2 none 0 [.ref h] roT (wM g h R J hs G) (wM g h R J hs (va_up (va_up G 5 (G 3)) 6 (G 4))) none := by
  refine MM.of (own := "BurntLettersModel") (by decide) rfl (Nat.le_of_ble_eq_true rfl) hrk ?_
  intro p e s m below meth c A hX hr hlk hZ ls hl
  have hx := hX.1.1
  have hb := hX.1.2.1
  have hl : lv_has ls 2 [(0, .ref h)] := hl
  refine lv_iconst (v := 0) hx hb dX2_asItIs_0 (by decide) ?_
  refine lv_istore_n (lv' := [(1, .int 0), (0, .ref h)]) hx hb dX2_asItIs_1 rfl hl (by decide) rfl (fun ls hl => ?_)
  refine W_loop (α := Nat) (P := fun (i : Nat) (H : Heap) (locs : List Loc) (ls : Array Slot) => i ≤ 5 ∧ Zt g A s.heap roT (wM g h R J hs (va_up (va_up G 5 (cpF (G 3) (G 5) i)) 6 (cpF (G 4) (G 6) i))) H locs ∧ lv_has ls 2 [(0, .ref h), (1, .int (nI i))]) (fun i => 5 - i) 0 ⟨Nat.zero_le _, hZ.cast (rfl), lv_cast (lv_sub (l' := [(0, .ref h), (1, .int 0)]) hl [1, 0] rfl) (rfl)⟩ ?_
  rintro i H locs ls ⟨hi, hZ, hl⟩ ihi
  refine lv_iload_n hx hb dX2_asItIs_2 rfl (lv_at hl 1 rfl) ?_
  refine lv_iconst (v := 5) hx hb dX2_asItIs_3 (by decide) ?_
  refine lv_icmp_ge (tgt := 37) hx hb dX2_asItIs_4 (by decide) (fun c_1 => ?_) (fun c_1 => ?_)
  · have c_1n : 5 ≤ i := (nI_leI (a := 5) (b := i) (by omega) (by omega)).mp c_1
    have eii : i = 5 := by omega
    subst eii
    have hZ := hZ.arr 6 (G 3) rfl (cpF_in (G 3) (G 5) 5)
    have hZ : Zt g A s.heap roT (wM g h R J hs (va_up (va_up G 6 (cpF (G 4) (G 6) 5)) 5 (G 3))) H locs := hZ
    have hZ := hZ.arr 7 (G 4) rfl (cpF_in (G 4) (G 6) 5)
    have hZ : Zt g A s.heap roT (wM g h R J hs (va_up (va_up G 5 (G 3)) 6 (G 4))) H locs := hZ
    exact MM.vret hX hr hlk hZ (rfl) dX2_asItIs_37
  have c_1n : ¬ 5 ≤ i := fun zz_ => c_1 ((nI_leI (a := 5) (b := i) (by omega) (by omega)).mpr zz_)
  refine lv_aload_n hx hb dX2_asItIs_7 rfl (lv_at hl 0 rfl) ?_
  refine gf_q817 (v := .ref (R 10)) hX hZ.1 0 rfl rfl dX2_asItIs_8 ?_
  refine lv_iload_n hx hb dX2_asItIs_11 rfl (lv_at hl 1 rfl) ?_
  refine lv_aload_n hx hb dX2_asItIs_12 rfl (lv_at hl 0 rfl) ?_
  refine gf_q815 (v := .ref (R 8)) hX hZ.1 0 rfl rfl dX2_asItIs_13 ?_
  refine lv_iload_n hx hb dX2_asItIs_16 rfl (lv_at hl 1 rfl) ?_
  refine r_iald (f := (G 3)) hX hZ.1 4 rfl i (by omega) (by omega) dX2_asItIs_17 ?_
  refine r_iast (f := (cpF (G 3) (G 5) i)) (x := ((G 3) i)) (ws1 := (wM g h R J hs (va_up (va_up G 6 (cpF (G 4) (G 6) i)) 5 (upd (cpF (G 3) (G 5) i) i ((G 3) i))))) hX hZ 6 rfl i (by omega) (by omega) dX2_asItIs_18 rfl (fun H locs hZ => ?_)
  refine lv_aload_n hx hb dX2_asItIs_19 rfl (lv_at hl 0 rfl) ?_
  refine gf_q818 (v := .ref (R 11)) hX hZ.1 0 rfl rfl dX2_asItIs_20 ?_
  refine lv_iload_n hx hb dX2_asItIs_23 rfl (lv_at hl 1 rfl) ?_
  refine lv_aload_n hx hb dX2_asItIs_24 rfl (lv_at hl 0 rfl) ?_
  refine gf_q816 (v := .ref (R 9)) hX hZ.1 0 rfl rfl dX2_asItIs_25 ?_
  refine lv_iload_n hx hb dX2_asItIs_28 rfl (lv_at hl 1 rfl) ?_
  refine r_iald (f := (G 4)) hX hZ.1 5 rfl i (by omega) (by omega) dX2_asItIs_29 ?_
  refine r_iast (f := (cpF (G 4) (G 6) i)) (x := ((G 4) i)) (ws1 := (wM g h R J hs (va_up (va_up G 5 (upd (cpF (G 3) (G 5) i) i ((G 3) i))) 6 (upd (cpF (G 4) (G 6) i) i ((G 4) i))))) hX hZ 7 rfl i (by omega) (by omega) dX2_asItIs_30 rfl (fun H locs hZ => ?_)
  refine lv_iinc (v := (nI (i + 1))) (lv' := [(1, .int (nI (i + 1))), (0, .ref h)]) hx hb dX2_asItIs_31 hl (k := 1) rfl (nI_1 _) (by decide) rfl (fun ls hl => ?_)
  refine lv_goto (tgt := 2) hx hb dX2_asItIs_34 (by decide) ?_
  exact ihi (i + 1) _ _ _ ⟨by omega, hZ.cast (rfl), lv_cast (lv_sub (l' := [(0, .ref h), (1, .int (nI (i + 1)))]) hl [1, 0] rfl) (by rfl)⟩ (by omega)

set_option maxHeartbeats 400000 in
set_option maxRecDepth 100000 in
theorem K_X2_isPointedAt (l : Launch) (g : Gx) (h : Nat) (R : Nat → Nat) (J : Nat → Int32) (hs : Int64) (G : Nat → Nat → Int32) (fi : Nat) (n_ : Nat) (kd : Nat → Nat) (pt : Nat → Int32) (hn : n_ ≤ 5) (hJ6 : (J 6) = nI n_) (hrow : RowsOk G n_ kd pt) : PM l g yX2_isPointedAt cX2_isPointedAt 4 (some .boolean) 0 [.ref h, .int (nI fi)] roT (wM g h R J hs G) (some (.int (b01 (paB (G 7) pt (nI fi) n_ = true)))) := by
  refine PM.of (own := "BurntLettersModel") (by decide) rfl (Nat.le_of_ble_eq_true rfl) ?_
  intro p e s m below meth c hX hr hlk hP hro ls hl
  have hx := hX.1.1
  have hb := hX.1.2.1
  have hl : lv_has ls 4 [(0, .ref h), (1, .int (nI fi))] := hl
  refine lv_iconst (v := 0) hx hb dX2_isPointedAt_0 (by decide) ?_
  refine lv_istore_n (lv' := [(2, .int 0), (0, .ref h), (1, .int (nI fi))]) hx hb dX2_isPointedAt_1 rfl hl (by decide) rfl (fun ls hl => ?_)
  refine lv_iconst (v := 0) hx hb dX2_isPointedAt_2 (by decide) ?_
  refine lv_istore_n (lv' := [(3, .int 0), (2, .int 0), (0, .ref h), (1, .int (nI fi))]) hx hb dX2_isPointedAt_3 rfl hl (by decide) rfl (fun ls hl => ?_)
  refine W_loopP (α := Nat) (P := fun (i : Nat) (ls : Array Slot) => i ≤ n_ ∧ lv_has ls 4 [(0, .ref h), (1, .int (nI fi)), (2, .int (b01 (paB (G 7) pt (nI fi) i = true))), (3, .int (nI i))]) (fun i => n_ - i) 0 ⟨Nat.zero_le _, lv_cast (lv_sub (l' := [(0, .ref h), (1, .int (nI fi)), (2, .int 0), (3, .int 0)]) hl [2, 3, 1, 0] rfl) (by simp [b01, paB, nI])⟩ ?_
  rintro i ls ⟨hi, hl⟩ ihi
  refine lv_iload_n hx hb dX2_isPointedAt_4 rfl (lv_at hl 3 rfl) ?_
  refine lv_aload_n hx hb dX2_isPointedAt_5 rfl (lv_at hl 0 rfl) ?_
  refine gf_q813 (v := .int (J 6)) hX hP 0 rfl rfl dX2_isPointedAt_6 ?_
  refine lv_seti (v := (nI n_)) (hJ6) ?_
  refine lv_icmp_ge (tgt := 51) hx hb dX2_isPointedAt_9 (by decide) (fun c_1 => ?_) (fun c_1 => ?_)
  · have c_1n : n_ ≤ i := (nI_leI (a := n_) (b := i) (by omega) (by omega)).mp c_1
    have ei : n_ = i := by omega
    subst ei
    refine lv_iload_n hx hb dX2_isPointedAt_51 rfl (lv_at hl 2 rfl) ?_
    exact PM.zret hX hr hlk (rfl) (b01_or _) dX2_isPointedAt_52
  have c_1n : ¬ n_ ≤ i := fun zz_ => c_1 ((nI_leI (a := n_) (b := i) (by omega) (by omega)).mpr zz_)
  refine lv_iload_n hx hb dX2_isPointedAt_12 rfl (lv_at hl 2 rfl) ?_
  refine lv_bif_ne (tgt := 39) hx hb dX2_isPointedAt_13 (by decide) (fun c_2 => ?_) (fun c_2 => ?_)
  · refine lv_iconst (v := 1) hx hb dX2_isPointedAt_39 (by decide) ?_
    refine lv_goto (tgt := 44) hx hb dX2_isPointedAt_40 (by decide) ?_
    refine lv_istore_n (lv' := [(2, .int 1), (0, .ref h), (1, .int (nI fi)), (3, .int (nI i))]) hx hb dX2_isPointedAt_44 rfl hl (by decide) rfl (fun ls hl => ?_)
    refine lv_iinc (v := (nI (i + 1))) (lv' := [(3, .int (nI (i + 1))), (2, .int 1), (0, .ref h), (1, .int (nI fi))]) hx hb dX2_isPointedAt_45 hl (k := 3) rfl (nI_1 _) (by decide) rfl (fun ls hl => ?_)
    refine lv_goto (tgt := 4) hx hb dX2_isPointedAt_48 (by decide) ?_
    exact ihi (i + 1) _ ⟨by omega, lv_cast (lv_sub (l' := [(0, .ref h), (1, .int (nI fi)), (2, .int 1), (3, .int (nI (i + 1)))]) hl [2, 3, 1, 0] rfl) (by simp [b01, paB, c_1, c_2])⟩ (by omega)
  refine lv_aload_n hx hb dX2_isPointedAt_16 rfl (lv_at hl 0 rfl) ?_
  refine gf_q819 (v := .ref (R 12)) hX hP 0 rfl rfl dX2_isPointedAt_17 ?_
  refine lv_iload_n hx hb dX2_isPointedAt_20 rfl (lv_at hl 3 rfl) ?_
  refine r_iald (f := (G 7)) hX hP 8 rfl i (by omega) (by omega) dX2_isPointedAt_21 ?_
  refine lv_if_eq (tgt := 43) hx hb dX2_isPointedAt_22 (by decide) (fun c_3 => ?_) (fun c_3 => ?_)
  · refine lv_iconst (v := 0) hx hb dX2_isPointedAt_43 (by decide) ?_
    refine lv_istore_n (lv' := [(2, .int 0), (0, .ref h), (1, .int (nI fi)), (3, .int (nI i))]) hx hb dX2_isPointedAt_44 rfl hl (by decide) rfl (fun ls hl => ?_)
    refine lv_iinc (v := (nI (i + 1))) (lv' := [(3, .int (nI (i + 1))), (2, .int 0), (0, .ref h), (1, .int (nI fi))]) hx hb dX2_isPointedAt_45 hl (k := 3) rfl (nI_1 _) (by decide) rfl (fun ls hl => ?_)
    refine lv_goto (tgt := 4) hx hb dX2_isPointedAt_48 (by decide) ?_
    exact ihi (i + 1) _ ⟨by omega, lv_cast (lv_sub (l' := [(0, .ref h), (1, .int (nI fi)), (2, .int 0), (3, .int (nI (i + 1)))]) hl [2, 3, 1, 0] rfl) (by simp [b01, paB, c_1, c_2, c_3])⟩ (by omega)
  refine lv_aload_n hx hb dX2_isPointedAt_25 rfl (lv_at hl 0 rfl) ?_
  refine gf_q814 (v := .ref (R 7)) hX hP 0 rfl rfl dX2_isPointedAt_26 ?_
  refine lv_iconst (v := 2) hx hb dX2_isPointedAt_29 (by decide) ?_
  refine lv_iload_n hx hb dX2_isPointedAt_30 rfl (lv_at hl 3 rfl) ?_
  refine lv_imul hx hb dX2_isPointedAt_31 ?_
  refine lv_seti (v := (nI (2 * i))) (pk_mul _ _) ?_
  refine lv_iconst (v := 1) hx hb dX2_isPointedAt_32 (by decide) ?_
  refine lv_iadd hx hb dX2_isPointedAt_33 ?_
  refine lv_seti (v := (nI ((2 * i) + 1))) (nI_add _ _) ?_
  refine r_iald (f := (G 2)) hX hP 3 rfl ((2 * i) + 1) (by omega) (by omega) dX2_isPointedAt_34 ?_
  refine lv_seti (v := (pt i)) ((hrow i (by omega)).2.1) ?_
  refine lv_iload_n hx hb dX2_isPointedAt_35 rfl (lv_at hl 1 rfl) ?_
  refine lv_icmp_ne (tgt := 43) hx hb dX2_isPointedAt_36 (by decide) (fun c_4 => ?_) (fun c_4 => ?_)
  · refine lv_iconst (v := 0) hx hb dX2_isPointedAt_43 (by decide) ?_
    refine lv_istore_n (lv' := [(2, .int 0), (0, .ref h), (1, .int (nI fi)), (3, .int (nI i))]) hx hb dX2_isPointedAt_44 rfl hl (by decide) rfl (fun ls hl => ?_)
    refine lv_iinc (v := (nI (i + 1))) (lv' := [(3, .int (nI (i + 1))), (2, .int 0), (0, .ref h), (1, .int (nI fi))]) hx hb dX2_isPointedAt_45 hl (k := 3) rfl (nI_1 _) (by decide) rfl (fun ls hl => ?_)
    refine lv_goto (tgt := 4) hx hb dX2_isPointedAt_48 (by decide) ?_
    exact ihi (i + 1) _ ⟨by omega, lv_cast (lv_sub (l' := [(0, .ref h), (1, .int (nI fi)), (2, .int 0), (3, .int (nI (i + 1)))]) hl [2, 3, 1, 0] rfl) (by simp [b01, paB, c_1, c_2, c_3, c_4])⟩ (by omega)
  refine lv_iconst (v := 1) hx hb dX2_isPointedAt_39 (by decide) ?_
  refine lv_goto (tgt := 44) hx hb dX2_isPointedAt_40 (by decide) ?_
  refine lv_istore_n (lv' := [(2, .int 1), (0, .ref h), (1, .int (nI fi)), (3, .int (nI i))]) hx hb dX2_isPointedAt_44 rfl hl (by decide) rfl (fun ls hl => ?_)
  refine lv_iinc (v := (nI (i + 1))) (lv' := [(3, .int (nI (i + 1))), (2, .int 1), (0, .ref h), (1, .int (nI fi))]) hx hb dX2_isPointedAt_45 hl (k := 3) rfl (nI_1 _) (by decide) rfl (fun ls hl => ?_)
  refine lv_goto (tgt := 4) hx hb dX2_isPointedAt_48 (by decide) ?_
  exact ihi (i + 1) _ ⟨by omega, lv_cast (lv_sub (l' := [(0, .ref h), (1, .int (nI fi)), (2, .int 1), (3, .int (nI (i + 1)))]) hl [2, 3, 1, 0] rfl) (by simp [b01, paB, c_1, c_2, c_3, c_4])⟩ (by omega)

set_option maxHeartbeats 400000 in
set_option maxRecDepth 100000 in
theorem K_X2_burnsOf (l : Launch) (g : Gx) (h : Nat) (R : Nat → Nat) (J : Nat → Int32) (hs : Int64) (G : Nat → Nat → Int32) (fi : Nat) (tt : Nat) (n_ : Nat) (kd : Nat → Nat) (pt : Nat → Int32) (hn : n_ ≤ 5) (hJ6 : (J 6) = nI n_) (hrow : RowsOk G n_ kd pt) (hf : fi < n_) (htt : tt < 6) (hak : ∃ m, m < 64 ∧ (G 7) fi = nI m) (hrk : RoK roT (wM g h R J hs G)) : MM l g yX2_burnsOf cX2_burnsOf 6 (some .int) 1 [.ref h, .int (nI fi), .int (nI tt)] roT (wM g h R J hs G) (wM g h R J hs (va_up G 6 (bsK kd pt (G 7) (G 6) tt n_ fi))) (some (.int (bsM kd pt (G 7) (G 6) tt n_ fi))) := by
  refine MM.of (own := "BurntLettersModel") (by decide) rfl (Nat.le_of_ble_eq_true rfl) hrk ?_
  intro p e s m below meth c A hX hr hlk hZ ls hl
  have hx := hX.1.1
  have hb := hX.1.2.1
  have hl : lv_has ls 6 [(0, .ref h), (1, .int (nI fi)), (2, .int (nI tt))] := hl
  refine lv_aload_n hx hb dX2_burnsOf_0 rfl (lv_at hl 0 rfl) ?_
  refine gf_q819 (v := .ref (R 12)) hX hZ.1 0 rfl rfl dX2_burnsOf_1 ?_
  refine lv_iload_n hx hb dX2_burnsOf_4 rfl (lv_at hl 1 rfl) ?_
  refine r_iald (f := (G 7)) hX hZ.1 8 rfl fi (by omega) (by omega) dX2_burnsOf_5 ?_
  refine lv_iload_n hx hb dX2_burnsOf_6 rfl (lv_at hl 2 rfl) ?_
  refine lv_ishr hx hb dX2_burnsOf_7 ?_
  refine lv_iconst (v := 1) hx hb dX2_burnsOf_8 (by decide) ?_
  refine lv_iand hx hb dX2_burnsOf_9 ?_
  refine lv_iconst (v := 1) hx hb dX2_burnsOf_10 (by decide) ?_
  refine lv_icmp_ne (tgt := 18) hx hb dX2_burnsOf_11 (by decide) (fun c_1 => ?_) (fun c_1 => ?_)
  · refine lv_iconst (v := 0) hx hb dX2_burnsOf_18 (by decide) ?_
    refine lv_istore_n (lv' := [(3, .int 0), (0, .ref h), (1, .int (nI fi)), (2, .int (nI tt))]) hx hb dX2_burnsOf_19 rfl hl (by decide) rfl (fun ls hl => ?_)
    refine lv_aload_n hx hb dX2_burnsOf_20 rfl (lv_at hl 1 rfl) ?_
    refine gf_q819 (v := .ref (R 12)) hX hZ.1 0 rfl rfl dX2_burnsOf_21 ?_
    refine lv_iload_n hx hb dX2_burnsOf_24 rfl (lv_at hl 2 rfl) ?_
    refine r_iald (f := (G 7)) hX hZ.1 8 rfl fi (by omega) (by omega) dX2_burnsOf_25 ?_
    refine lv_iconst (v := 1) hx hb dX2_burnsOf_26 (by decide) ?_
    refine lv_iload_n hx hb dX2_burnsOf_27 rfl (lv_at hl 3 rfl) ?_
    refine lv_ishl hx hb dX2_burnsOf_28 ?_
    refine lv_icmp_ne (tgt := 70) hx hb dX2_burnsOf_29 (by decide) (fun c_2 => ?_) (fun c_2 => ?_)
    · refine lv_iconst (v := 0) hx hb dX2_burnsOf_70 (by decide) ?_
      refine lv_istore (lv' := [(4, .int 0), (3, .int 0), (0, .ref h), (1, .int (nI fi)), (2, .int (nI tt))]) hx hb dX2_burnsOf_71 hl (by decide) rfl (fun ls hl => ?_)
      refine lv_iload_n hx hb dX2_burnsOf_73 rfl (lv_at hl 1 rfl) ?_
      refine lv_if_eq (tgt := 82) hx hb dX2_burnsOf_74 (by decide) (fun c_3 => ?_) (fun c_3 => ?_)
      · refine lv_aload_n hx hb dX2_burnsOf_82 rfl (lv_at hl 2 rfl) ?_
        refine gf_q818 (v := .ref (R 11)) hX hZ.1 0 rfl rfl dX2_burnsOf_83 ?_
        refine lv_iload_n hx hb dX2_burnsOf_86 rfl (lv_at hl 3 rfl) ?_
        refine lv_dup2_11 hx hb dX2_burnsOf_87 rfl rfl ?_
        refine r_iald (f := (G 6)) hX hZ.1 7 rfl fi (by omega) (by omega) dX2_burnsOf_88 ?_
        refine lv_iload hx hb dX2_burnsOf_89 (lv_at hl 0 rfl) ?_
        refine lv_if_eq (tgt := 98) hx hb dX2_burnsOf_91 (by decide) (fun c_4 => ?_) (fun c_4 => ?_)
        · refine lv_iconst (v := 0) hx hb dX2_burnsOf_98 (by decide) ?_
          refine lv_iadd hx hb dX2_burnsOf_99 ?_
          refine r_iast (f := (G 6)) (x := (((G 6) fi) + 0)) (ws1 := (wM g h R J hs (va_up G 6 (upd (G 6) fi (((G 6) fi) + 0))))) hX hZ 7 rfl fi (by omega) (by omega) dX2_burnsOf_100 rfl (fun H locs hZ => ?_)
          refine lv_iconst (v := 0) hx hb dX2_burnsOf_101 (by decide) ?_
          exact MM.iret hX hr hlk hZ (by first | (rw [(bsM_nh (kd := kd) (pt := pt) (kp := G 6) (n := n_) hak htt c_1).2]; done) | (rw [(bsM_sv (kd := kd) (pt := pt) (a := G 7) (kp := G 6) (t := tt) (n := n_) (f := fi) ⟨⟨c_2, c_none⟩, by rw [kpF_2 c_nonen]; exact c_none⟩).2]; done) | (rw [(bsM_sv (kd := kd) (pt := pt) (a := G 7) (kp := G 6) (t := tt) (n := n_) (f := fi) ⟨⟨c_2, c_none⟩, by rw [kpF_1 c_nonen]; exact c_none⟩).2]; done) | exact absurd ((here_fin _ hak.choose_spec.1 tt htt).2.2.1 (by rw [← hak.choose_spec.2]; exact c_2)) (by rw [← hak.choose_spec.2]; exact c_1)) (by first | exact (bsM_nh hak htt c_1).1 | exact (bsM_sv ⟨⟨c_2, c_none⟩, by rw [kpF_2 c_nonen]; exact c_none⟩).1 | exact (bsM_sv ⟨⟨c_2, c_none⟩, by rw [kpF_1 c_nonen]; exact c_none⟩).1 | exact absurd ((here_fin _ hak.choose_spec.1 tt htt).2.2.1 (by rw [← hak.choose_spec.2]; exact c_2)) (by rw [← hak.choose_spec.2]; exact c_1)) dX2_burnsOf_102
        exact absurd c_4 (by decide)
      exact absurd c_3 (by decide)
    refine lv_aload_n hx hb dX2_burnsOf_32 rfl (lv_at hl 1 rfl) ?_
    refine gf_q818 (v := .ref (R 11)) hX hZ.1 0 rfl rfl dX2_burnsOf_33 ?_
    refine lv_iload_n hx hb dX2_burnsOf_36 rfl (lv_at hl 2 rfl) ?_
    refine r_iald (f := (G 6)) hX hZ.1 7 rfl fi (by omega) (by omega) dX2_burnsOf_37 ?_
    refine lv_aload_n hx hb dX2_burnsOf_38 rfl (lv_at hl 1 rfl) ?_
    refine gf_q814 (v := .ref (R 7)) hX hZ.1 0 rfl rfl dX2_burnsOf_39 ?_
    refine lv_iconst (v := 2) hx hb dX2_burnsOf_42 (by decide) ?_
    refine lv_iload_n hx hb dX2_burnsOf_43 rfl (lv_at hl 2 rfl) ?_
    refine lv_imul hx hb dX2_burnsOf_44 ?_
    refine lv_seti (v := (nI (2 * fi))) (pk_mul _ _) ?_
    refine r_iald (f := (G 2)) hX hZ.1 3 rfl (2 * fi) (by omega) (by omega) dX2_burnsOf_45 ?_
    refine lv_seti (v := (nI (kd fi))) ((hrow fi hf).1) ?_
    have hk5 := (hrow fi hf).2.2
    refine lv_iconst (v := 2) hx hb dX2_burnsOf_46 (by decide) ?_
    refine lv_icmp_ne (tgt := 54) hx hb dX2_burnsOf_47 (by decide) (fun c_5 => ?_) (fun c_5 => ?_)
    · have c_5n : ¬ (kd fi) = 2 := fun zz_ => c_5 ((nI_eq (a := (kd fi)) (b := 2) (by omega) (by omega)).mpr zz_)
      refine lv_iconst (v := 1) hx hb dX2_burnsOf_54 (by decide) ?_
      refine lv_icmp_ge (tgt := 70) hx hb dX2_burnsOf_55 (by decide) (fun c_6 => ?_) (fun c_6 => ?_)
      · refine lv_iconst (v := 0) hx hb dX2_burnsOf_70 (by decide) ?_
        refine lv_istore (lv' := [(4, .int 0), (3, .int 0), (0, .ref h), (1, .int (nI fi)), (2, .int (nI tt))]) hx hb dX2_burnsOf_71 hl (by decide) rfl (fun ls hl => ?_)
        refine lv_iload_n hx hb dX2_burnsOf_73 rfl (lv_at hl 1 rfl) ?_
        refine lv_if_eq (tgt := 82) hx hb dX2_burnsOf_74 (by decide) (fun c_7 => ?_) (fun c_7 => ?_)
        · refine lv_aload_n hx hb dX2_burnsOf_82 rfl (lv_at hl 2 rfl) ?_
          refine gf_q818 (v := .ref (R 11)) hX hZ.1 0 rfl rfl dX2_burnsOf_83 ?_
          refine lv_iload_n hx hb dX2_burnsOf_86 rfl (lv_at hl 3 rfl) ?_
          refine lv_dup2_11 hx hb dX2_burnsOf_87 rfl rfl ?_
          refine r_iald (f := (G 6)) hX hZ.1 7 rfl fi (by omega) (by omega) dX2_burnsOf_88 ?_
          refine lv_iload hx hb dX2_burnsOf_89 (lv_at hl 0 rfl) ?_
          refine lv_if_eq (tgt := 98) hx hb dX2_burnsOf_91 (by decide) (fun c_8 => ?_) (fun c_8 => ?_)
          · refine lv_iconst (v := 0) hx hb dX2_burnsOf_98 (by decide) ?_
            refine lv_iadd hx hb dX2_burnsOf_99 ?_
            refine r_iast (f := (G 6)) (x := (((G 6) fi) + 0)) (ws1 := (wM g h R J hs (va_up G 6 (upd (G 6) fi (((G 6) fi) + 0))))) hX hZ 7 rfl fi (by omega) (by omega) dX2_burnsOf_100 rfl (fun H locs hZ => ?_)
            refine lv_iconst (v := 0) hx hb dX2_burnsOf_101 (by decide) ?_
            exact MM.iret hX hr hlk hZ (by first | (rw [(bsM_nh (kd := kd) (pt := pt) (kp := G 6) (n := n_) hak htt c_1).2]; done) | (rw [(bsM_sv (kd := kd) (pt := pt) (a := G 7) (kp := G 6) (t := tt) (n := n_) (f := fi) ⟨⟨c_2, c_none⟩, by rw [kpF_2 c_5n]; exact c_6⟩).2]; done) | (rw [(bsM_sv (kd := kd) (pt := pt) (a := G 7) (kp := G 6) (t := tt) (n := n_) (f := fi) ⟨⟨c_2, c_none⟩, by rw [kpF_1 c_5n]; exact c_6⟩).2]; done) | exact absurd ((here_fin _ hak.choose_spec.1 tt htt).2.2.1 (by rw [← hak.choose_spec.2]; exact c_2)) (by rw [← hak.choose_spec.2]; exact c_1)) (by first | exact (bsM_nh hak htt c_1).1 | exact (bsM_sv ⟨⟨c_2, c_none⟩, by rw [kpF_2 c_5n]; exact c_6⟩).1 | exact (bsM_sv ⟨⟨c_2, c_none⟩, by rw [kpF_1 c_5n]; exact c_6⟩).1 | exact absurd ((here_fin _ hak.choose_spec.1 tt htt).2.2.1 (by rw [← hak.choose_spec.2]; exact c_2)) (by rw [← hak.choose_spec.2]; exact c_1)) dX2_burnsOf_102
          exact absurd c_8 (by decide)
        exact absurd c_7 (by decide)
      refine lv_aload_n hx hb dX2_burnsOf_58 rfl (lv_at hl 1 rfl) ?_
      refine lv_iload_n hx hb dX2_burnsOf_59 rfl (lv_at hl 2 rfl) ?_
      refine PM.ci (PM.runV (As := [.int (nI fi)]) (rest := []) hX (K_X2_isPointedAt l g h R J hs G fi n_ kd pt (by omega) (hJ6) (hrow)) (cv_q1007 hX ⟨Nat.le_of_ble_eq_true rfl, Nat.le_of_ble_eq_true rfl⟩) hZ.1 trivial (r_recv hX hZ.1 0 rfl rfl) rfl hl.1 rfl (Nat.le_of_ble_eq_true rfl) dX2_burnsOf_60 ⟨Nat.zero_le _, Nat.zero_le _⟩) ?_
      refine lv_bif_eq (tgt := 70) hx hb dX2_burnsOf_63 (by decide) (fun c_9 => ?_) (fun c_9 => ?_)
      · refine lv_iconst (v := 0) hx hb dX2_burnsOf_70 (by decide) ?_
        refine lv_istore (lv' := [(4, .int 0), (3, .int 0), (0, .ref h), (1, .int (nI fi)), (2, .int (nI tt))]) hx hb dX2_burnsOf_71 hl (by decide) rfl (fun ls hl => ?_)
        refine lv_iload_n hx hb dX2_burnsOf_73 rfl (lv_at hl 1 rfl) ?_
        refine lv_if_eq (tgt := 82) hx hb dX2_burnsOf_74 (by decide) (fun c_10 => ?_) (fun c_10 => ?_)
        · refine lv_aload_n hx hb dX2_burnsOf_82 rfl (lv_at hl 2 rfl) ?_
          refine gf_q818 (v := .ref (R 11)) hX hZ.1 0 rfl rfl dX2_burnsOf_83 ?_
          refine lv_iload_n hx hb dX2_burnsOf_86 rfl (lv_at hl 3 rfl) ?_
          refine lv_dup2_11 hx hb dX2_burnsOf_87 rfl rfl ?_
          refine r_iald (f := (G 6)) hX hZ.1 7 rfl fi (by omega) (by omega) dX2_burnsOf_88 ?_
          refine lv_iload hx hb dX2_burnsOf_89 (lv_at hl 0 rfl) ?_
          refine lv_if_eq (tgt := 98) hx hb dX2_burnsOf_91 (by decide) (fun c_11 => ?_) (fun c_11 => ?_)
          · refine lv_iconst (v := 0) hx hb dX2_burnsOf_98 (by decide) ?_
            refine lv_iadd hx hb dX2_burnsOf_99 ?_
            refine r_iast (f := (G 6)) (x := (((G 6) fi) + 0)) (ws1 := (wM g h R J hs (va_up G 6 (upd (G 6) fi (((G 6) fi) + 0))))) hX hZ 7 rfl fi (by omega) (by omega) dX2_burnsOf_100 rfl (fun H locs hZ => ?_)
            refine lv_iconst (v := 0) hx hb dX2_burnsOf_101 (by decide) ?_
            exact MM.iret hX hr hlk hZ (by first | (rw [(bsM_nh (kd := kd) (pt := pt) (kp := G 6) (n := n_) hak htt c_1).2]; done) | (rw [(bsM_sv (kd := kd) (pt := pt) (a := G 7) (kp := G 6) (t := tt) (n := n_) (f := fi) ⟨⟨c_2, c_9⟩, by rw [kpF_2 c_5n]; exact c_6⟩).2]; done) | (rw [(bsM_sv (kd := kd) (pt := pt) (a := G 7) (kp := G 6) (t := tt) (n := n_) (f := fi) ⟨⟨c_2, c_9⟩, by rw [kpF_1 c_5n]; exact c_6⟩).2]; done) | exact absurd ((here_fin _ hak.choose_spec.1 tt htt).2.2.1 (by rw [← hak.choose_spec.2]; exact c_2)) (by rw [← hak.choose_spec.2]; exact c_1)) (by first | exact (bsM_nh hak htt c_1).1 | exact (bsM_sv ⟨⟨c_2, c_9⟩, by rw [kpF_2 c_5n]; exact c_6⟩).1 | exact (bsM_sv ⟨⟨c_2, c_9⟩, by rw [kpF_1 c_5n]; exact c_6⟩).1 | exact absurd ((here_fin _ hak.choose_spec.1 tt htt).2.2.1 (by rw [← hak.choose_spec.2]; exact c_2)) (by rw [← hak.choose_spec.2]; exact c_1)) dX2_burnsOf_102
          exact absurd c_11 (by decide)
        exact absurd c_10 (by decide)
      refine lv_iconst (v := 1) hx hb dX2_burnsOf_66 (by decide) ?_
      refine lv_goto (tgt := 71) hx hb dX2_burnsOf_67 (by decide) ?_
      refine lv_istore (lv' := [(4, .int 1), (3, .int 0), (0, .ref h), (1, .int (nI fi)), (2, .int (nI tt))]) hx hb dX2_burnsOf_71 hl (by decide) rfl (fun ls hl => ?_)
      refine lv_iload_n hx hb dX2_burnsOf_73 rfl (lv_at hl 1 rfl) ?_
      refine lv_if_eq (tgt := 82) hx hb dX2_burnsOf_74 (by decide) (fun c_12 => ?_) (fun c_12 => ?_)
      · refine lv_aload_n hx hb dX2_burnsOf_82 rfl (lv_at hl 2 rfl) ?_
        refine gf_q818 (v := .ref (R 11)) hX hZ.1 0 rfl rfl dX2_burnsOf_83 ?_
        refine lv_iload_n hx hb dX2_burnsOf_86 rfl (lv_at hl 3 rfl) ?_
        refine lv_dup2_11 hx hb dX2_burnsOf_87 rfl rfl ?_
        refine r_iald (f := (G 6)) hX hZ.1 7 rfl fi (by omega) (by omega) dX2_burnsOf_88 ?_
        refine lv_iload hx hb dX2_burnsOf_89 (lv_at hl 0 rfl) ?_
        refine lv_if_eq (tgt := 98) hx hb dX2_burnsOf_91 (by decide) (fun c_13 => ?_) (fun c_13 => ?_)
        · exact absurd c_13 (by decide)
        refine lv_iconst (v := 1) hx hb dX2_burnsOf_94 (by decide) ?_
        refine lv_goto (tgt := 99) hx hb dX2_burnsOf_95 (by decide) ?_
        refine lv_iadd hx hb dX2_burnsOf_99 ?_
        refine r_iast (f := (G 6)) (x := (((G 6) fi) + 1)) (ws1 := (wM g h R J hs (va_up G 6 (upd (G 6) fi (((G 6) fi) + 1))))) hX hZ 7 rfl fi (by omega) (by omega) dX2_burnsOf_100 rfl (fun H locs hZ => ?_)
        refine lv_iconst (v := 0) hx hb dX2_burnsOf_101 (by decide) ?_
        exact MM.iret hX hr hlk hZ (by first | (rw [(bsM_nh (kd := kd) (pt := pt) (kp := G 6) (n := n_) hak htt c_1).2]; done) | (rw [(bsM_sv (kd := kd) (pt := pt) (a := G 7) (kp := G 6) (t := tt) (n := n_) (f := fi) ⟨⟨c_2, c_9⟩, by rw [kpF_2 c_5n]; exact c_6⟩).2]; done) | (rw [(bsM_sv (kd := kd) (pt := pt) (a := G 7) (kp := G 6) (t := tt) (n := n_) (f := fi) ⟨⟨c_2, c_9⟩, by rw [kpF_1 c_5n]; exact c_6⟩).2]; done) | exact absurd ((here_fin _ hak.choose_spec.1 tt htt).2.2.1 (by rw [← hak.choose_spec.2]; exact c_2)) (by rw [← hak.choose_spec.2]; exact c_1)) (by first | exact (bsM_nh hak htt c_1).1 | exact (bsM_sv ⟨⟨c_2, c_9⟩, by rw [kpF_2 c_5n]; exact c_6⟩).1 | exact (bsM_sv ⟨⟨c_2, c_9⟩, by rw [kpF_1 c_5n]; exact c_6⟩).1 | exact absurd ((here_fin _ hak.choose_spec.1 tt htt).2.2.1 (by rw [← hak.choose_spec.2]; exact c_2)) (by rw [← hak.choose_spec.2]; exact c_1)) dX2_burnsOf_102
      exact absurd c_12 (by decide)
    have c_5n : (kd fi) = 2 := (nI_eq (a := (kd fi)) (b := 2) (by omega) (by omega)).mp c_5
    refine lv_iconst (v := 2) hx hb dX2_burnsOf_50 (by decide) ?_
    refine lv_goto (tgt := 55) hx hb dX2_burnsOf_51 (by decide) ?_
    refine lv_icmp_ge (tgt := 70) hx hb dX2_burnsOf_55 (by decide) (fun c_14 => ?_) (fun c_14 => ?_)
    · refine lv_iconst (v := 0) hx hb dX2_burnsOf_70 (by decide) ?_
      refine lv_istore (lv' := [(4, .int 0), (3, .int 0), (0, .ref h), (1, .int (nI fi)), (2, .int (nI tt))]) hx hb dX2_burnsOf_71 hl (by decide) rfl (fun ls hl => ?_)
      refine lv_iload_n hx hb dX2_burnsOf_73 rfl (lv_at hl 1 rfl) ?_
      refine lv_if_eq (tgt := 82) hx hb dX2_burnsOf_74 (by decide) (fun c_15 => ?_) (fun c_15 => ?_)
      · refine lv_aload_n hx hb dX2_burnsOf_82 rfl (lv_at hl 2 rfl) ?_
        refine gf_q818 (v := .ref (R 11)) hX hZ.1 0 rfl rfl dX2_burnsOf_83 ?_
        refine lv_iload_n hx hb dX2_burnsOf_86 rfl (lv_at hl 3 rfl) ?_
        refine lv_dup2_11 hx hb dX2_burnsOf_87 rfl rfl ?_
        refine r_iald (f := (G 6)) hX hZ.1 7 rfl fi (by omega) (by omega) dX2_burnsOf_88 ?_
        refine lv_iload hx hb dX2_burnsOf_89 (lv_at hl 0 rfl) ?_
        refine lv_if_eq (tgt := 98) hx hb dX2_burnsOf_91 (by decide) (fun c_16 => ?_) (fun c_16 => ?_)
        · refine lv_iconst (v := 0) hx hb dX2_burnsOf_98 (by decide) ?_
          refine lv_iadd hx hb dX2_burnsOf_99 ?_
          refine r_iast (f := (G 6)) (x := (((G 6) fi) + 0)) (ws1 := (wM g h R J hs (va_up G 6 (upd (G 6) fi (((G 6) fi) + 0))))) hX hZ 7 rfl fi (by omega) (by omega) dX2_burnsOf_100 rfl (fun H locs hZ => ?_)
          refine lv_iconst (v := 0) hx hb dX2_burnsOf_101 (by decide) ?_
          exact MM.iret hX hr hlk hZ (by first | (rw [(bsM_nh (kd := kd) (pt := pt) (kp := G 6) (n := n_) hak htt c_1).2]; done) | (rw [(bsM_sv (kd := kd) (pt := pt) (a := G 7) (kp := G 6) (t := tt) (n := n_) (f := fi) ⟨⟨c_2, c_none⟩, by rw [kpF_2 c_5n]; exact c_14⟩).2]; done) | (rw [(bsM_sv (kd := kd) (pt := pt) (a := G 7) (kp := G 6) (t := tt) (n := n_) (f := fi) ⟨⟨c_2, c_none⟩, by rw [kpF_1 c_5n]; exact c_14⟩).2]; done) | exact absurd ((here_fin _ hak.choose_spec.1 tt htt).2.2.1 (by rw [← hak.choose_spec.2]; exact c_2)) (by rw [← hak.choose_spec.2]; exact c_1)) (by first | exact (bsM_nh hak htt c_1).1 | exact (bsM_sv ⟨⟨c_2, c_none⟩, by rw [kpF_2 c_5n]; exact c_14⟩).1 | exact (bsM_sv ⟨⟨c_2, c_none⟩, by rw [kpF_1 c_5n]; exact c_14⟩).1 | exact absurd ((here_fin _ hak.choose_spec.1 tt htt).2.2.1 (by rw [← hak.choose_spec.2]; exact c_2)) (by rw [← hak.choose_spec.2]; exact c_1)) dX2_burnsOf_102
        exact absurd c_16 (by decide)
      exact absurd c_15 (by decide)
    refine lv_aload_n hx hb dX2_burnsOf_58 rfl (lv_at hl 1 rfl) ?_
    refine lv_iload_n hx hb dX2_burnsOf_59 rfl (lv_at hl 2 rfl) ?_
    refine PM.ci (PM.runV (As := [.int (nI fi)]) (rest := []) hX (K_X2_isPointedAt l g h R J hs G fi n_ kd pt (by omega) (hJ6) (hrow)) (cv_q1007 hX ⟨Nat.le_of_ble_eq_true rfl, Nat.le_of_ble_eq_true rfl⟩) hZ.1 trivial (r_recv hX hZ.1 0 rfl rfl) rfl hl.1 rfl (Nat.le_of_ble_eq_true rfl) dX2_burnsOf_60 ⟨Nat.zero_le _, Nat.zero_le _⟩) ?_
    refine lv_bif_eq (tgt := 70) hx hb dX2_burnsOf_63 (by decide) (fun c_17 => ?_) (fun c_17 => ?_)
    · refine lv_iconst (v := 0) hx hb dX2_burnsOf_70 (by decide) ?_
      refine lv_istore (lv' := [(4, .int 0), (3, .int 0), (0, .ref h), (1, .int (nI fi)), (2, .int (nI tt))]) hx hb dX2_burnsOf_71 hl (by decide) rfl (fun ls hl => ?_)
      refine lv_iload_n hx hb dX2_burnsOf_73 rfl (lv_at hl 1 rfl) ?_
      refine lv_if_eq (tgt := 82) hx hb dX2_burnsOf_74 (by decide) (fun c_18 => ?_) (fun c_18 => ?_)
      · refine lv_aload_n hx hb dX2_burnsOf_82 rfl (lv_at hl 2 rfl) ?_
        refine gf_q818 (v := .ref (R 11)) hX hZ.1 0 rfl rfl dX2_burnsOf_83 ?_
        refine lv_iload_n hx hb dX2_burnsOf_86 rfl (lv_at hl 3 rfl) ?_
        refine lv_dup2_11 hx hb dX2_burnsOf_87 rfl rfl ?_
        refine r_iald (f := (G 6)) hX hZ.1 7 rfl fi (by omega) (by omega) dX2_burnsOf_88 ?_
        refine lv_iload hx hb dX2_burnsOf_89 (lv_at hl 0 rfl) ?_
        refine lv_if_eq (tgt := 98) hx hb dX2_burnsOf_91 (by decide) (fun c_19 => ?_) (fun c_19 => ?_)
        · refine lv_iconst (v := 0) hx hb dX2_burnsOf_98 (by decide) ?_
          refine lv_iadd hx hb dX2_burnsOf_99 ?_
          refine r_iast (f := (G 6)) (x := (((G 6) fi) + 0)) (ws1 := (wM g h R J hs (va_up G 6 (upd (G 6) fi (((G 6) fi) + 0))))) hX hZ 7 rfl fi (by omega) (by omega) dX2_burnsOf_100 rfl (fun H locs hZ => ?_)
          refine lv_iconst (v := 0) hx hb dX2_burnsOf_101 (by decide) ?_
          exact MM.iret hX hr hlk hZ (by first | (rw [(bsM_nh (kd := kd) (pt := pt) (kp := G 6) (n := n_) hak htt c_1).2]; done) | (rw [(bsM_sv (kd := kd) (pt := pt) (a := G 7) (kp := G 6) (t := tt) (n := n_) (f := fi) ⟨⟨c_2, c_17⟩, by rw [kpF_2 c_5n]; exact c_14⟩).2]; done) | (rw [(bsM_sv (kd := kd) (pt := pt) (a := G 7) (kp := G 6) (t := tt) (n := n_) (f := fi) ⟨⟨c_2, c_17⟩, by rw [kpF_1 c_5n]; exact c_14⟩).2]; done) | exact absurd ((here_fin _ hak.choose_spec.1 tt htt).2.2.1 (by rw [← hak.choose_spec.2]; exact c_2)) (by rw [← hak.choose_spec.2]; exact c_1)) (by first | exact (bsM_nh hak htt c_1).1 | exact (bsM_sv ⟨⟨c_2, c_17⟩, by rw [kpF_2 c_5n]; exact c_14⟩).1 | exact (bsM_sv ⟨⟨c_2, c_17⟩, by rw [kpF_1 c_5n]; exact c_14⟩).1 | exact absurd ((here_fin _ hak.choose_spec.1 tt htt).2.2.1 (by rw [← hak.choose_spec.2]; exact c_2)) (by rw [← hak.choose_spec.2]; exact c_1)) dX2_burnsOf_102
        exact absurd c_19 (by decide)
      exact absurd c_18 (by decide)
    refine lv_iconst (v := 1) hx hb dX2_burnsOf_66 (by decide) ?_
    refine lv_goto (tgt := 71) hx hb dX2_burnsOf_67 (by decide) ?_
    refine lv_istore (lv' := [(4, .int 1), (3, .int 0), (0, .ref h), (1, .int (nI fi)), (2, .int (nI tt))]) hx hb dX2_burnsOf_71 hl (by decide) rfl (fun ls hl => ?_)
    refine lv_iload_n hx hb dX2_burnsOf_73 rfl (lv_at hl 1 rfl) ?_
    refine lv_if_eq (tgt := 82) hx hb dX2_burnsOf_74 (by decide) (fun c_20 => ?_) (fun c_20 => ?_)
    · refine lv_aload_n hx hb dX2_burnsOf_82 rfl (lv_at hl 2 rfl) ?_
      refine gf_q818 (v := .ref (R 11)) hX hZ.1 0 rfl rfl dX2_burnsOf_83 ?_
      refine lv_iload_n hx hb dX2_burnsOf_86 rfl (lv_at hl 3 rfl) ?_
      refine lv_dup2_11 hx hb dX2_burnsOf_87 rfl rfl ?_
      refine r_iald (f := (G 6)) hX hZ.1 7 rfl fi (by omega) (by omega) dX2_burnsOf_88 ?_
      refine lv_iload hx hb dX2_burnsOf_89 (lv_at hl 0 rfl) ?_
      refine lv_if_eq (tgt := 98) hx hb dX2_burnsOf_91 (by decide) (fun c_21 => ?_) (fun c_21 => ?_)
      · exact absurd c_21 (by decide)
      refine lv_iconst (v := 1) hx hb dX2_burnsOf_94 (by decide) ?_
      refine lv_goto (tgt := 99) hx hb dX2_burnsOf_95 (by decide) ?_
      refine lv_iadd hx hb dX2_burnsOf_99 ?_
      refine r_iast (f := (G 6)) (x := (((G 6) fi) + 1)) (ws1 := (wM g h R J hs (va_up G 6 (upd (G 6) fi (((G 6) fi) + 1))))) hX hZ 7 rfl fi (by omega) (by omega) dX2_burnsOf_100 rfl (fun H locs hZ => ?_)
      refine lv_iconst (v := 0) hx hb dX2_burnsOf_101 (by decide) ?_
      exact MM.iret hX hr hlk hZ (by first | (rw [(bsM_nh (kd := kd) (pt := pt) (kp := G 6) (n := n_) hak htt c_1).2]; done) | (rw [(bsM_sv (kd := kd) (pt := pt) (a := G 7) (kp := G 6) (t := tt) (n := n_) (f := fi) ⟨⟨c_2, c_17⟩, by rw [kpF_2 c_5n]; exact c_14⟩).2]; done) | (rw [(bsM_sv (kd := kd) (pt := pt) (a := G 7) (kp := G 6) (t := tt) (n := n_) (f := fi) ⟨⟨c_2, c_17⟩, by rw [kpF_1 c_5n]; exact c_14⟩).2]; done) | exact absurd ((here_fin _ hak.choose_spec.1 tt htt).2.2.1 (by rw [← hak.choose_spec.2]; exact c_2)) (by rw [← hak.choose_spec.2]; exact c_1)) (by first | exact (bsM_nh hak htt c_1).1 | exact (bsM_sv ⟨⟨c_2, c_17⟩, by rw [kpF_2 c_5n]; exact c_14⟩).1 | exact (bsM_sv ⟨⟨c_2, c_17⟩, by rw [kpF_1 c_5n]; exact c_14⟩).1 | exact absurd ((here_fin _ hak.choose_spec.1 tt htt).2.2.1 (by rw [← hak.choose_spec.2]; exact c_2)) (by rw [← hak.choose_spec.2]; exact c_1)) dX2_burnsOf_102
    exact absurd c_20 (by decide)
  refine lv_iconst (v := 1) hx hb dX2_burnsOf_14 (by decide) ?_
  refine lv_goto (tgt := 19) hx hb dX2_burnsOf_15 (by decide) ?_
  refine lv_istore_n (lv' := [(3, .int 1), (0, .ref h), (1, .int (nI fi)), (2, .int (nI tt))]) hx hb dX2_burnsOf_19 rfl hl (by decide) rfl (fun ls hl => ?_)
  refine lv_aload_n hx hb dX2_burnsOf_20 rfl (lv_at hl 1 rfl) ?_
  refine gf_q819 (v := .ref (R 12)) hX hZ.1 0 rfl rfl dX2_burnsOf_21 ?_
  refine lv_iload_n hx hb dX2_burnsOf_24 rfl (lv_at hl 2 rfl) ?_
  refine r_iald (f := (G 7)) hX hZ.1 8 rfl fi (by omega) (by omega) dX2_burnsOf_25 ?_
  refine lv_iconst (v := 1) hx hb dX2_burnsOf_26 (by decide) ?_
  refine lv_iload_n hx hb dX2_burnsOf_27 rfl (lv_at hl 3 rfl) ?_
  refine lv_ishl hx hb dX2_burnsOf_28 ?_
  refine lv_icmp_ne (tgt := 70) hx hb dX2_burnsOf_29 (by decide) (fun c_22 => ?_) (fun c_22 => ?_)
  · refine lv_iconst (v := 0) hx hb dX2_burnsOf_70 (by decide) ?_
    refine lv_istore (lv' := [(4, .int 0), (3, .int 1), (0, .ref h), (1, .int (nI fi)), (2, .int (nI tt))]) hx hb dX2_burnsOf_71 hl (by decide) rfl (fun ls hl => ?_)
    refine lv_iload_n hx hb dX2_burnsOf_73 rfl (lv_at hl 1 rfl) ?_
    refine lv_if_eq (tgt := 82) hx hb dX2_burnsOf_74 (by decide) (fun c_23 => ?_) (fun c_23 => ?_)
    · exact absurd c_23 (by decide)
    refine lv_iload hx hb dX2_burnsOf_77 (lv_at hl 0 rfl) ?_
    refine lv_if_eq (tgt := 103) hx hb dX2_burnsOf_79 (by decide) (fun c_24 => ?_) (fun c_24 => ?_)
    · refine lv_iconst (v := 1) hx hb dX2_burnsOf_103 (by decide) ?_
      refine lv_iload_n hx hb dX2_burnsOf_104 rfl (lv_at hl 4 rfl) ?_
      refine lv_iconst (v := 1) hx hb dX2_burnsOf_105 (by decide) ?_
      refine lv_iadd hx hb dX2_burnsOf_106 ?_
      refine lv_seti (v := (nI (tt + 1))) (nI_add _ _) ?_
      refine lv_bipush (v := 6) hx hb dX2_burnsOf_107 (by decide) ?_
      refine lv_irem hx hb dX2_burnsOf_109 (by decide) ?_
      refine lv_seti (v := (nI ((tt + 1) % 6))) (pk_rem (a := (tt + 1)) (d := 6) (by omega) (by omega) (by omega)) ?_
      refine lv_ishl hx hb dX2_burnsOf_110 ?_
      refine lv_istore (lv' := [(5, .int ((1 : Int32) <<< ((nI ((tt + 1) % 6)) &&& 31))), (4, .int 0), (3, .int 1), (0, .ref h), (1, .int (nI fi)), (2, .int (nI tt))]) hx hb dX2_burnsOf_111 hl (by decide) rfl (fun ls hl => ?_)
      refine lv_iconst (v := 1) hx hb dX2_burnsOf_113 (by decide) ?_
      refine lv_iload_n hx hb dX2_burnsOf_114 rfl (lv_at hl 5 rfl) ?_
      refine lv_ishl hx hb dX2_burnsOf_115 ?_
      refine lv_aload_n hx hb dX2_burnsOf_116 rfl (lv_at hl 3 rfl) ?_
      refine gf_q814 (v := .ref (R 7)) hX hZ.1 0 rfl rfl dX2_burnsOf_117 ?_
      refine lv_iconst (v := 2) hx hb dX2_burnsOf_120 (by decide) ?_
      refine lv_iload_n hx hb dX2_burnsOf_121 rfl (lv_at hl 4 rfl) ?_
      refine lv_imul hx hb dX2_burnsOf_122 ?_
      refine lv_seti (v := (nI (2 * fi))) (pk_mul _ _) ?_
      refine r_iald (f := (G 2)) hX hZ.1 3 rfl (2 * fi) (by omega) (by omega) dX2_burnsOf_123 ?_
      refine lv_seti (v := (nI (kd fi))) ((hrow fi hf).1) ?_
      have hk5 := (hrow fi hf).2.2
      refine lv_iconst (v := 4) hx hb dX2_burnsOf_124 (by decide) ?_
      refine lv_icmp_ne (tgt := 140) hx hb dX2_burnsOf_125 (by decide) (fun c_25 => ?_) (fun c_25 => ?_)
      · have c_25n : ¬ (kd fi) = 4 := fun zz_ => c_25 ((nI_eq (a := (kd fi)) (b := 4) (by omega) (by omega)).mpr zz_)
        refine lv_iconst (v := 0) hx hb dX2_burnsOf_140 (by decide) ?_
        refine lv_ior hx hb dX2_burnsOf_141 ?_
        exact MM.iret hX hr hlk hZ (by first | exact congrArg (fun z => wM g h R J hs (va_up G 6 z)) (bsM_no hak htt c_1 (fun q => c_22 q.1.1)).2 | exact congrArg (fun z => wM g h R J hs (va_up G 6 z)) (bsM_no hak htt c_1 (fun q => q.2 (by rw [kpF_2 c_25n]; exact c_none))).2 | exact congrArg (fun z => wM g h R J hs (va_up G 6 z)) (bsM_no hak htt c_1 (fun q => q.2 (by rw [kpF_1 c_25n]; exact c_none))).2 | exact congrArg (fun z => wM g h R J hs (va_up G 6 z)) (bsM_no hak htt c_1 (fun q => c_none q.1.2)).2) (by first | (rw [← (bsM_no hak htt c_1 (fun q => c_22 q.1.1)).1, if_pos c_25n]; done) | (rw [← (bsM_no hak htt c_1 (fun q => c_22 q.1.1)).1, if_neg c_25n]; done) | (rw [← (bsM_no hak htt c_1 (fun q => q.2 (by rw [kpF_2 c_25n]; exact c_none))).1, if_pos c_25n]; done) | (rw [← (bsM_no hak htt c_1 (fun q => q.2 (by rw [kpF_2 c_25n]; exact c_none))).1, if_neg c_25n]; done) | (rw [← (bsM_no hak htt c_1 (fun q => q.2 (by rw [kpF_1 c_25n]; exact c_none))).1, if_pos c_25n]; done) | (rw [← (bsM_no hak htt c_1 (fun q => q.2 (by rw [kpF_1 c_25n]; exact c_none))).1, if_neg c_25n]; done) | (rw [← (bsM_no hak htt c_1 (fun q => c_none q.1.2)).1, if_pos c_25n]; done) | (rw [← (bsM_no hak htt c_1 (fun q => c_none q.1.2)).1, if_neg c_25n]; done)) dX2_burnsOf_142
      have c_25n : (kd fi) = 4 := (nI_eq (a := (kd fi)) (b := 4) (by omega) (by omega)).mp c_25
      refine lv_aload_n hx hb dX2_burnsOf_128 rfl (lv_at hl 3 rfl) ?_
      refine gf_q819 (v := .ref (R 12)) hX hZ.1 0 rfl rfl dX2_burnsOf_129 ?_
      refine lv_iload_n hx hb dX2_burnsOf_132 rfl (lv_at hl 4 rfl) ?_
      refine r_iald (f := (G 7)) hX hZ.1 8 rfl fi (by omega) (by omega) dX2_burnsOf_133 ?_
      refine lv_iload hx hb dX2_burnsOf_134 (lv_at hl 0 rfl) ?_
      refine lv_iand hx hb dX2_burnsOf_136 ?_
      refine lv_goto (tgt := 141) hx hb dX2_burnsOf_137 (by decide) ?_
      refine lv_ior hx hb dX2_burnsOf_141 ?_
      exact MM.iret hX hr hlk hZ (by first | exact congrArg (fun z => wM g h R J hs (va_up G 6 z)) (bsM_no hak htt c_1 (fun q => c_22 q.1.1)).2 | exact congrArg (fun z => wM g h R J hs (va_up G 6 z)) (bsM_no hak htt c_1 (fun q => q.2 (by rw [kpF_2 c_25n]; exact c_none))).2 | exact congrArg (fun z => wM g h R J hs (va_up G 6 z)) (bsM_no hak htt c_1 (fun q => q.2 (by rw [kpF_1 c_25n]; exact c_none))).2 | exact congrArg (fun z => wM g h R J hs (va_up G 6 z)) (bsM_no hak htt c_1 (fun q => c_none q.1.2)).2) (by first | (rw [← (bsM_no hak htt c_1 (fun q => c_22 q.1.1)).1, if_pos c_25n]; done) | (rw [← (bsM_no hak htt c_1 (fun q => c_22 q.1.1)).1, if_neg c_25n]; done) | (rw [← (bsM_no hak htt c_1 (fun q => q.2 (by rw [kpF_2 c_25n]; exact c_none))).1, if_pos c_25n]; done) | (rw [← (bsM_no hak htt c_1 (fun q => q.2 (by rw [kpF_2 c_25n]; exact c_none))).1, if_neg c_25n]; done) | (rw [← (bsM_no hak htt c_1 (fun q => q.2 (by rw [kpF_1 c_25n]; exact c_none))).1, if_pos c_25n]; done) | (rw [← (bsM_no hak htt c_1 (fun q => q.2 (by rw [kpF_1 c_25n]; exact c_none))).1, if_neg c_25n]; done) | (rw [← (bsM_no hak htt c_1 (fun q => c_none q.1.2)).1, if_pos c_25n]; done) | (rw [← (bsM_no hak htt c_1 (fun q => c_none q.1.2)).1, if_neg c_25n]; done)) dX2_burnsOf_142
    exact absurd c_24 (by decide)
  refine lv_aload_n hx hb dX2_burnsOf_32 rfl (lv_at hl 1 rfl) ?_
  refine gf_q818 (v := .ref (R 11)) hX hZ.1 0 rfl rfl dX2_burnsOf_33 ?_
  refine lv_iload_n hx hb dX2_burnsOf_36 rfl (lv_at hl 2 rfl) ?_
  refine r_iald (f := (G 6)) hX hZ.1 7 rfl fi (by omega) (by omega) dX2_burnsOf_37 ?_
  refine lv_aload_n hx hb dX2_burnsOf_38 rfl (lv_at hl 1 rfl) ?_
  refine gf_q814 (v := .ref (R 7)) hX hZ.1 0 rfl rfl dX2_burnsOf_39 ?_
  refine lv_iconst (v := 2) hx hb dX2_burnsOf_42 (by decide) ?_
  refine lv_iload_n hx hb dX2_burnsOf_43 rfl (lv_at hl 2 rfl) ?_
  refine lv_imul hx hb dX2_burnsOf_44 ?_
  refine lv_seti (v := (nI (2 * fi))) (pk_mul _ _) ?_
  refine r_iald (f := (G 2)) hX hZ.1 3 rfl (2 * fi) (by omega) (by omega) dX2_burnsOf_45 ?_
  refine lv_seti (v := (nI (kd fi))) ((hrow fi hf).1) ?_
  have hk5 := (hrow fi hf).2.2
  refine lv_iconst (v := 2) hx hb dX2_burnsOf_46 (by decide) ?_
  refine lv_icmp_ne (tgt := 54) hx hb dX2_burnsOf_47 (by decide) (fun c_26 => ?_) (fun c_26 => ?_)
  · have c_26n : ¬ (kd fi) = 2 := fun zz_ => c_26 ((nI_eq (a := (kd fi)) (b := 2) (by omega) (by omega)).mpr zz_)
    refine lv_iconst (v := 1) hx hb dX2_burnsOf_54 (by decide) ?_
    refine lv_icmp_ge (tgt := 70) hx hb dX2_burnsOf_55 (by decide) (fun c_27 => ?_) (fun c_27 => ?_)
    · refine lv_iconst (v := 0) hx hb dX2_burnsOf_70 (by decide) ?_
      refine lv_istore (lv' := [(4, .int 0), (3, .int 1), (0, .ref h), (1, .int (nI fi)), (2, .int (nI tt))]) hx hb dX2_burnsOf_71 hl (by decide) rfl (fun ls hl => ?_)
      refine lv_iload_n hx hb dX2_burnsOf_73 rfl (lv_at hl 1 rfl) ?_
      refine lv_if_eq (tgt := 82) hx hb dX2_burnsOf_74 (by decide) (fun c_28 => ?_) (fun c_28 => ?_)
      · exact absurd c_28 (by decide)
      refine lv_iload hx hb dX2_burnsOf_77 (lv_at hl 0 rfl) ?_
      refine lv_if_eq (tgt := 103) hx hb dX2_burnsOf_79 (by decide) (fun c_29 => ?_) (fun c_29 => ?_)
      · refine lv_iconst (v := 1) hx hb dX2_burnsOf_103 (by decide) ?_
        refine lv_iload_n hx hb dX2_burnsOf_104 rfl (lv_at hl 4 rfl) ?_
        refine lv_iconst (v := 1) hx hb dX2_burnsOf_105 (by decide) ?_
        refine lv_iadd hx hb dX2_burnsOf_106 ?_
        refine lv_seti (v := (nI (tt + 1))) (nI_add _ _) ?_
        refine lv_bipush (v := 6) hx hb dX2_burnsOf_107 (by decide) ?_
        refine lv_irem hx hb dX2_burnsOf_109 (by decide) ?_
        refine lv_seti (v := (nI ((tt + 1) % 6))) (pk_rem (a := (tt + 1)) (d := 6) (by omega) (by omega) (by omega)) ?_
        refine lv_ishl hx hb dX2_burnsOf_110 ?_
        refine lv_istore (lv' := [(5, .int ((1 : Int32) <<< ((nI ((tt + 1) % 6)) &&& 31))), (4, .int 0), (3, .int 1), (0, .ref h), (1, .int (nI fi)), (2, .int (nI tt))]) hx hb dX2_burnsOf_111 hl (by decide) rfl (fun ls hl => ?_)
        refine lv_iconst (v := 1) hx hb dX2_burnsOf_113 (by decide) ?_
        refine lv_iload_n hx hb dX2_burnsOf_114 rfl (lv_at hl 5 rfl) ?_
        refine lv_ishl hx hb dX2_burnsOf_115 ?_
        refine lv_aload_n hx hb dX2_burnsOf_116 rfl (lv_at hl 3 rfl) ?_
        refine gf_q814 (v := .ref (R 7)) hX hZ.1 0 rfl rfl dX2_burnsOf_117 ?_
        refine lv_iconst (v := 2) hx hb dX2_burnsOf_120 (by decide) ?_
        refine lv_iload_n hx hb dX2_burnsOf_121 rfl (lv_at hl 4 rfl) ?_
        refine lv_imul hx hb dX2_burnsOf_122 ?_
        refine lv_seti (v := (nI (2 * fi))) (pk_mul _ _) ?_
        refine r_iald (f := (G 2)) hX hZ.1 3 rfl (2 * fi) (by omega) (by omega) dX2_burnsOf_123 ?_
        refine lv_seti (v := (nI (kd fi))) ((hrow fi hf).1) ?_
        have hk5 := (hrow fi hf).2.2
        refine lv_iconst (v := 4) hx hb dX2_burnsOf_124 (by decide) ?_
        refine lv_icmp_ne (tgt := 140) hx hb dX2_burnsOf_125 (by decide) (fun c_30 => ?_) (fun c_30 => ?_)
        · have c_30n : ¬ (kd fi) = 4 := fun zz_ => c_30 ((nI_eq (a := (kd fi)) (b := 4) (by omega) (by omega)).mpr zz_)
          refine lv_iconst (v := 0) hx hb dX2_burnsOf_140 (by decide) ?_
          refine lv_ior hx hb dX2_burnsOf_141 ?_
          exact MM.iret hX hr hlk hZ (by first | exact congrArg (fun z => wM g h R J hs (va_up G 6 z)) (bsM_no hak htt c_1 (fun q => c_22 q.1.1)).2 | exact congrArg (fun z => wM g h R J hs (va_up G 6 z)) (bsM_no hak htt c_1 (fun q => q.2 (by rw [kpF_2 c_26n]; exact c_27))).2 | exact congrArg (fun z => wM g h R J hs (va_up G 6 z)) (bsM_no hak htt c_1 (fun q => q.2 (by rw [kpF_1 c_26n]; exact c_27))).2 | exact congrArg (fun z => wM g h R J hs (va_up G 6 z)) (bsM_no hak htt c_1 (fun q => c_30 q.1.2)).2) (by first | (rw [← (bsM_no hak htt c_1 (fun q => c_22 q.1.1)).1, if_pos c_30n]; done) | (rw [← (bsM_no hak htt c_1 (fun q => c_22 q.1.1)).1, if_neg c_30n]; done) | (rw [← (bsM_no hak htt c_1 (fun q => q.2 (by rw [kpF_2 c_26n]; exact c_27))).1, if_pos c_30n]; done) | (rw [← (bsM_no hak htt c_1 (fun q => q.2 (by rw [kpF_2 c_26n]; exact c_27))).1, if_neg c_30n]; done) | (rw [← (bsM_no hak htt c_1 (fun q => q.2 (by rw [kpF_1 c_26n]; exact c_27))).1, if_pos c_30n]; done) | (rw [← (bsM_no hak htt c_1 (fun q => q.2 (by rw [kpF_1 c_26n]; exact c_27))).1, if_neg c_30n]; done) | (rw [← (bsM_no hak htt c_1 (fun q => c_30 q.1.2)).1, if_pos c_30n]; done) | (rw [← (bsM_no hak htt c_1 (fun q => c_30 q.1.2)).1, if_neg c_30n]; done)) dX2_burnsOf_142
        have c_30n : (kd fi) = 4 := (nI_eq (a := (kd fi)) (b := 4) (by omega) (by omega)).mp c_30
        refine lv_aload_n hx hb dX2_burnsOf_128 rfl (lv_at hl 3 rfl) ?_
        refine gf_q819 (v := .ref (R 12)) hX hZ.1 0 rfl rfl dX2_burnsOf_129 ?_
        refine lv_iload_n hx hb dX2_burnsOf_132 rfl (lv_at hl 4 rfl) ?_
        refine r_iald (f := (G 7)) hX hZ.1 8 rfl fi (by omega) (by omega) dX2_burnsOf_133 ?_
        refine lv_iload hx hb dX2_burnsOf_134 (lv_at hl 0 rfl) ?_
        refine lv_iand hx hb dX2_burnsOf_136 ?_
        refine lv_goto (tgt := 141) hx hb dX2_burnsOf_137 (by decide) ?_
        refine lv_ior hx hb dX2_burnsOf_141 ?_
        exact MM.iret hX hr hlk hZ (by first | exact congrArg (fun z => wM g h R J hs (va_up G 6 z)) (bsM_no hak htt c_1 (fun q => c_22 q.1.1)).2 | exact congrArg (fun z => wM g h R J hs (va_up G 6 z)) (bsM_no hak htt c_1 (fun q => q.2 (by rw [kpF_2 c_26n]; exact c_27))).2 | exact congrArg (fun z => wM g h R J hs (va_up G 6 z)) (bsM_no hak htt c_1 (fun q => q.2 (by rw [kpF_1 c_26n]; exact c_27))).2 | exact congrArg (fun z => wM g h R J hs (va_up G 6 z)) (bsM_no hak htt c_1 (fun q => c_30 q.1.2)).2) (by first | (rw [← (bsM_no hak htt c_1 (fun q => c_22 q.1.1)).1, if_pos c_30n]; done) | (rw [← (bsM_no hak htt c_1 (fun q => c_22 q.1.1)).1, if_neg c_30n]; done) | (rw [← (bsM_no hak htt c_1 (fun q => q.2 (by rw [kpF_2 c_26n]; exact c_27))).1, if_pos c_30n]; done) | (rw [← (bsM_no hak htt c_1 (fun q => q.2 (by rw [kpF_2 c_26n]; exact c_27))).1, if_neg c_30n]; done) | (rw [← (bsM_no hak htt c_1 (fun q => q.2 (by rw [kpF_1 c_26n]; exact c_27))).1, if_pos c_30n]; done) | (rw [← (bsM_no hak htt c_1 (fun q => q.2 (by rw [kpF_1 c_26n]; exact c_27))).1, if_neg c_30n]; done) | (rw [← (bsM_no hak htt c_1 (fun q => c_30 q.1.2)).1, if_pos c_30n]; done) | (rw [← (bsM_no hak htt c_1 (fun q => c_30 q.1.2)).1, if_neg c_30n]; done)) dX2_burnsOf_142
      exact absurd c_29 (by decide)
    refine lv_aload_n hx hb dX2_burnsOf_58 rfl (lv_at hl 1 rfl) ?_
    refine lv_iload_n hx hb dX2_burnsOf_59 rfl (lv_at hl 2 rfl) ?_
    refine PM.ci (PM.runV (As := [.int (nI fi)]) (rest := []) hX (K_X2_isPointedAt l g h R J hs G fi n_ kd pt (by omega) (hJ6) (hrow)) (cv_q1007 hX ⟨Nat.le_of_ble_eq_true rfl, Nat.le_of_ble_eq_true rfl⟩) hZ.1 trivial (r_recv hX hZ.1 0 rfl rfl) rfl hl.1 rfl (Nat.le_of_ble_eq_true rfl) dX2_burnsOf_60 ⟨Nat.zero_le _, Nat.zero_le _⟩) ?_
    refine lv_bif_eq (tgt := 70) hx hb dX2_burnsOf_63 (by decide) (fun c_31 => ?_) (fun c_31 => ?_)
    · refine lv_iconst (v := 0) hx hb dX2_burnsOf_70 (by decide) ?_
      refine lv_istore (lv' := [(4, .int 0), (3, .int 1), (0, .ref h), (1, .int (nI fi)), (2, .int (nI tt))]) hx hb dX2_burnsOf_71 hl (by decide) rfl (fun ls hl => ?_)
      refine lv_iload_n hx hb dX2_burnsOf_73 rfl (lv_at hl 1 rfl) ?_
      refine lv_if_eq (tgt := 82) hx hb dX2_burnsOf_74 (by decide) (fun c_32 => ?_) (fun c_32 => ?_)
      · exact absurd c_32 (by decide)
      refine lv_iload hx hb dX2_burnsOf_77 (lv_at hl 0 rfl) ?_
      refine lv_if_eq (tgt := 103) hx hb dX2_burnsOf_79 (by decide) (fun c_33 => ?_) (fun c_33 => ?_)
      · refine lv_iconst (v := 1) hx hb dX2_burnsOf_103 (by decide) ?_
        refine lv_iload_n hx hb dX2_burnsOf_104 rfl (lv_at hl 4 rfl) ?_
        refine lv_iconst (v := 1) hx hb dX2_burnsOf_105 (by decide) ?_
        refine lv_iadd hx hb dX2_burnsOf_106 ?_
        refine lv_seti (v := (nI (tt + 1))) (nI_add _ _) ?_
        refine lv_bipush (v := 6) hx hb dX2_burnsOf_107 (by decide) ?_
        refine lv_irem hx hb dX2_burnsOf_109 (by decide) ?_
        refine lv_seti (v := (nI ((tt + 1) % 6))) (pk_rem (a := (tt + 1)) (d := 6) (by omega) (by omega) (by omega)) ?_
        refine lv_ishl hx hb dX2_burnsOf_110 ?_
        refine lv_istore (lv' := [(5, .int ((1 : Int32) <<< ((nI ((tt + 1) % 6)) &&& 31))), (4, .int 0), (3, .int 1), (0, .ref h), (1, .int (nI fi)), (2, .int (nI tt))]) hx hb dX2_burnsOf_111 hl (by decide) rfl (fun ls hl => ?_)
        refine lv_iconst (v := 1) hx hb dX2_burnsOf_113 (by decide) ?_
        refine lv_iload_n hx hb dX2_burnsOf_114 rfl (lv_at hl 5 rfl) ?_
        refine lv_ishl hx hb dX2_burnsOf_115 ?_
        refine lv_aload_n hx hb dX2_burnsOf_116 rfl (lv_at hl 3 rfl) ?_
        refine gf_q814 (v := .ref (R 7)) hX hZ.1 0 rfl rfl dX2_burnsOf_117 ?_
        refine lv_iconst (v := 2) hx hb dX2_burnsOf_120 (by decide) ?_
        refine lv_iload_n hx hb dX2_burnsOf_121 rfl (lv_at hl 4 rfl) ?_
        refine lv_imul hx hb dX2_burnsOf_122 ?_
        refine lv_seti (v := (nI (2 * fi))) (pk_mul _ _) ?_
        refine r_iald (f := (G 2)) hX hZ.1 3 rfl (2 * fi) (by omega) (by omega) dX2_burnsOf_123 ?_
        refine lv_seti (v := (nI (kd fi))) ((hrow fi hf).1) ?_
        have hk5 := (hrow fi hf).2.2
        refine lv_iconst (v := 4) hx hb dX2_burnsOf_124 (by decide) ?_
        refine lv_icmp_ne (tgt := 140) hx hb dX2_burnsOf_125 (by decide) (fun c_34 => ?_) (fun c_34 => ?_)
        · have c_34n : ¬ (kd fi) = 4 := fun zz_ => c_34 ((nI_eq (a := (kd fi)) (b := 4) (by omega) (by omega)).mpr zz_)
          refine lv_iconst (v := 0) hx hb dX2_burnsOf_140 (by decide) ?_
          refine lv_ior hx hb dX2_burnsOf_141 ?_
          exact MM.iret hX hr hlk hZ (by first | exact congrArg (fun z => wM g h R J hs (va_up G 6 z)) (bsM_no hak htt c_1 (fun q => c_22 q.1.1)).2 | exact congrArg (fun z => wM g h R J hs (va_up G 6 z)) (bsM_no hak htt c_1 (fun q => q.2 (by rw [kpF_2 c_26n]; exact c_27))).2 | exact congrArg (fun z => wM g h R J hs (va_up G 6 z)) (bsM_no hak htt c_1 (fun q => q.2 (by rw [kpF_1 c_26n]; exact c_27))).2 | exact congrArg (fun z => wM g h R J hs (va_up G 6 z)) (bsM_no hak htt c_1 (fun q => c_31 q.1.2)).2) (by first | (rw [← (bsM_no hak htt c_1 (fun q => c_22 q.1.1)).1, if_pos c_34n]; done) | (rw [← (bsM_no hak htt c_1 (fun q => c_22 q.1.1)).1, if_neg c_34n]; done) | (rw [← (bsM_no hak htt c_1 (fun q => q.2 (by rw [kpF_2 c_26n]; exact c_27))).1, if_pos c_34n]; done) | (rw [← (bsM_no hak htt c_1 (fun q => q.2 (by rw [kpF_2 c_26n]; exact c_27))).1, if_neg c_34n]; done) | (rw [← (bsM_no hak htt c_1 (fun q => q.2 (by rw [kpF_1 c_26n]; exact c_27))).1, if_pos c_34n]; done) | (rw [← (bsM_no hak htt c_1 (fun q => q.2 (by rw [kpF_1 c_26n]; exact c_27))).1, if_neg c_34n]; done) | (rw [← (bsM_no hak htt c_1 (fun q => c_31 q.1.2)).1, if_pos c_34n]; done) | (rw [← (bsM_no hak htt c_1 (fun q => c_31 q.1.2)).1, if_neg c_34n]; done)) dX2_burnsOf_142
        have c_34n : (kd fi) = 4 := (nI_eq (a := (kd fi)) (b := 4) (by omega) (by omega)).mp c_34
        refine lv_aload_n hx hb dX2_burnsOf_128 rfl (lv_at hl 3 rfl) ?_
        refine gf_q819 (v := .ref (R 12)) hX hZ.1 0 rfl rfl dX2_burnsOf_129 ?_
        refine lv_iload_n hx hb dX2_burnsOf_132 rfl (lv_at hl 4 rfl) ?_
        refine r_iald (f := (G 7)) hX hZ.1 8 rfl fi (by omega) (by omega) dX2_burnsOf_133 ?_
        refine lv_iload hx hb dX2_burnsOf_134 (lv_at hl 0 rfl) ?_
        refine lv_iand hx hb dX2_burnsOf_136 ?_
        refine lv_goto (tgt := 141) hx hb dX2_burnsOf_137 (by decide) ?_
        refine lv_ior hx hb dX2_burnsOf_141 ?_
        exact MM.iret hX hr hlk hZ (by first | exact congrArg (fun z => wM g h R J hs (va_up G 6 z)) (bsM_no hak htt c_1 (fun q => c_22 q.1.1)).2 | exact congrArg (fun z => wM g h R J hs (va_up G 6 z)) (bsM_no hak htt c_1 (fun q => q.2 (by rw [kpF_2 c_26n]; exact c_27))).2 | exact congrArg (fun z => wM g h R J hs (va_up G 6 z)) (bsM_no hak htt c_1 (fun q => q.2 (by rw [kpF_1 c_26n]; exact c_27))).2 | exact congrArg (fun z => wM g h R J hs (va_up G 6 z)) (bsM_no hak htt c_1 (fun q => c_31 q.1.2)).2) (by first | (rw [← (bsM_no hak htt c_1 (fun q => c_22 q.1.1)).1, if_pos c_34n]; done) | (rw [← (bsM_no hak htt c_1 (fun q => c_22 q.1.1)).1, if_neg c_34n]; done) | (rw [← (bsM_no hak htt c_1 (fun q => q.2 (by rw [kpF_2 c_26n]; exact c_27))).1, if_pos c_34n]; done) | (rw [← (bsM_no hak htt c_1 (fun q => q.2 (by rw [kpF_2 c_26n]; exact c_27))).1, if_neg c_34n]; done) | (rw [← (bsM_no hak htt c_1 (fun q => q.2 (by rw [kpF_1 c_26n]; exact c_27))).1, if_pos c_34n]; done) | (rw [← (bsM_no hak htt c_1 (fun q => q.2 (by rw [kpF_1 c_26n]; exact c_27))).1, if_neg c_34n]; done) | (rw [← (bsM_no hak htt c_1 (fun q => c_31 q.1.2)).1, if_pos c_34n]; done) | (rw [← (bsM_no hak htt c_1 (fun q => c_31 q.1.2)).1, if_neg c_34n]; done)) dX2_burnsOf_142
      exact absurd c_33 (by decide)
    refine lv_iconst (v := 1) hx hb dX2_burnsOf_66 (by decide) ?_
    refine lv_goto (tgt := 71) hx hb dX2_burnsOf_67 (by decide) ?_
    refine lv_istore (lv' := [(4, .int 1), (3, .int 1), (0, .ref h), (1, .int (nI fi)), (2, .int (nI tt))]) hx hb dX2_burnsOf_71 hl (by decide) rfl (fun ls hl => ?_)
    refine lv_iload_n hx hb dX2_burnsOf_73 rfl (lv_at hl 1 rfl) ?_
    refine lv_if_eq (tgt := 82) hx hb dX2_burnsOf_74 (by decide) (fun c_35 => ?_) (fun c_35 => ?_)
    · exact absurd c_35 (by decide)
    refine lv_iload hx hb dX2_burnsOf_77 (lv_at hl 0 rfl) ?_
    refine lv_if_eq (tgt := 103) hx hb dX2_burnsOf_79 (by decide) (fun c_36 => ?_) (fun c_36 => ?_)
    · exact absurd c_36 (by decide)
    refine lv_aload_n hx hb dX2_burnsOf_82 rfl (lv_at hl 2 rfl) ?_
    refine gf_q818 (v := .ref (R 11)) hX hZ.1 0 rfl rfl dX2_burnsOf_83 ?_
    refine lv_iload_n hx hb dX2_burnsOf_86 rfl (lv_at hl 3 rfl) ?_
    refine lv_dup2_11 hx hb dX2_burnsOf_87 rfl rfl ?_
    refine r_iald (f := (G 6)) hX hZ.1 7 rfl fi (by omega) (by omega) dX2_burnsOf_88 ?_
    refine lv_iload hx hb dX2_burnsOf_89 (lv_at hl 0 rfl) ?_
    refine lv_if_eq (tgt := 98) hx hb dX2_burnsOf_91 (by decide) (fun c_37 => ?_) (fun c_37 => ?_)
    · exact absurd c_37 (by decide)
    refine lv_iconst (v := 1) hx hb dX2_burnsOf_94 (by decide) ?_
    refine lv_goto (tgt := 99) hx hb dX2_burnsOf_95 (by decide) ?_
    refine lv_iadd hx hb dX2_burnsOf_99 ?_
    refine r_iast (f := (G 6)) (x := (((G 6) fi) + 1)) (ws1 := (wM g h R J hs (va_up G 6 (upd (G 6) fi (((G 6) fi) + 1))))) hX hZ 7 rfl fi (by omega) (by omega) dX2_burnsOf_100 rfl (fun H locs hZ => ?_)
    refine lv_iconst (v := 0) hx hb dX2_burnsOf_101 (by decide) ?_
    exact MM.iret hX hr hlk hZ (by first | (rw [(bsM_nh (kd := kd) (pt := pt) (kp := G 6) (n := n_) hak htt c_1).2]; done) | (rw [(bsM_sv (kd := kd) (pt := pt) (a := G 7) (kp := G 6) (t := tt) (n := n_) (f := fi) ⟨⟨c_22, c_31⟩, by rw [kpF_2 c_26n]; exact c_27⟩).2]; done) | (rw [(bsM_sv (kd := kd) (pt := pt) (a := G 7) (kp := G 6) (t := tt) (n := n_) (f := fi) ⟨⟨c_22, c_31⟩, by rw [kpF_1 c_26n]; exact c_27⟩).2]; done) | exact absurd ((here_fin _ hak.choose_spec.1 tt htt).2.2.1 (by rw [← hak.choose_spec.2]; exact c_22)) (by rw [← hak.choose_spec.2]; exact c_1)) (by first | exact (bsM_nh hak htt c_1).1 | exact (bsM_sv ⟨⟨c_22, c_31⟩, by rw [kpF_2 c_26n]; exact c_27⟩).1 | exact (bsM_sv ⟨⟨c_22, c_31⟩, by rw [kpF_1 c_26n]; exact c_27⟩).1 | exact absurd ((here_fin _ hak.choose_spec.1 tt htt).2.2.1 (by rw [← hak.choose_spec.2]; exact c_22)) (by rw [← hak.choose_spec.2]; exact c_1)) dX2_burnsOf_102
  have c_26n : (kd fi) = 2 := (nI_eq (a := (kd fi)) (b := 2) (by omega) (by omega)).mp c_26
  refine lv_iconst (v := 2) hx hb dX2_burnsOf_50 (by decide) ?_
  refine lv_goto (tgt := 55) hx hb dX2_burnsOf_51 (by decide) ?_
  refine lv_icmp_ge (tgt := 70) hx hb dX2_burnsOf_55 (by decide) (fun c_38 => ?_) (fun c_38 => ?_)
  · refine lv_iconst (v := 0) hx hb dX2_burnsOf_70 (by decide) ?_
    refine lv_istore (lv' := [(4, .int 0), (3, .int 1), (0, .ref h), (1, .int (nI fi)), (2, .int (nI tt))]) hx hb dX2_burnsOf_71 hl (by decide) rfl (fun ls hl => ?_)
    refine lv_iload_n hx hb dX2_burnsOf_73 rfl (lv_at hl 1 rfl) ?_
    refine lv_if_eq (tgt := 82) hx hb dX2_burnsOf_74 (by decide) (fun c_39 => ?_) (fun c_39 => ?_)
    · exact absurd c_39 (by decide)
    refine lv_iload hx hb dX2_burnsOf_77 (lv_at hl 0 rfl) ?_
    refine lv_if_eq (tgt := 103) hx hb dX2_burnsOf_79 (by decide) (fun c_40 => ?_) (fun c_40 => ?_)
    · refine lv_iconst (v := 1) hx hb dX2_burnsOf_103 (by decide) ?_
      refine lv_iload_n hx hb dX2_burnsOf_104 rfl (lv_at hl 4 rfl) ?_
      refine lv_iconst (v := 1) hx hb dX2_burnsOf_105 (by decide) ?_
      refine lv_iadd hx hb dX2_burnsOf_106 ?_
      refine lv_seti (v := (nI (tt + 1))) (nI_add _ _) ?_
      refine lv_bipush (v := 6) hx hb dX2_burnsOf_107 (by decide) ?_
      refine lv_irem hx hb dX2_burnsOf_109 (by decide) ?_
      refine lv_seti (v := (nI ((tt + 1) % 6))) (pk_rem (a := (tt + 1)) (d := 6) (by omega) (by omega) (by omega)) ?_
      refine lv_ishl hx hb dX2_burnsOf_110 ?_
      refine lv_istore (lv' := [(5, .int ((1 : Int32) <<< ((nI ((tt + 1) % 6)) &&& 31))), (4, .int 0), (3, .int 1), (0, .ref h), (1, .int (nI fi)), (2, .int (nI tt))]) hx hb dX2_burnsOf_111 hl (by decide) rfl (fun ls hl => ?_)
      refine lv_iconst (v := 1) hx hb dX2_burnsOf_113 (by decide) ?_
      refine lv_iload_n hx hb dX2_burnsOf_114 rfl (lv_at hl 5 rfl) ?_
      refine lv_ishl hx hb dX2_burnsOf_115 ?_
      refine lv_aload_n hx hb dX2_burnsOf_116 rfl (lv_at hl 3 rfl) ?_
      refine gf_q814 (v := .ref (R 7)) hX hZ.1 0 rfl rfl dX2_burnsOf_117 ?_
      refine lv_iconst (v := 2) hx hb dX2_burnsOf_120 (by decide) ?_
      refine lv_iload_n hx hb dX2_burnsOf_121 rfl (lv_at hl 4 rfl) ?_
      refine lv_imul hx hb dX2_burnsOf_122 ?_
      refine lv_seti (v := (nI (2 * fi))) (pk_mul _ _) ?_
      refine r_iald (f := (G 2)) hX hZ.1 3 rfl (2 * fi) (by omega) (by omega) dX2_burnsOf_123 ?_
      refine lv_seti (v := (nI (kd fi))) ((hrow fi hf).1) ?_
      have hk5 := (hrow fi hf).2.2
      refine lv_iconst (v := 4) hx hb dX2_burnsOf_124 (by decide) ?_
      refine lv_icmp_ne (tgt := 140) hx hb dX2_burnsOf_125 (by decide) (fun c_41 => ?_) (fun c_41 => ?_)
      · have c_41n : ¬ (kd fi) = 4 := fun zz_ => c_41 ((nI_eq (a := (kd fi)) (b := 4) (by omega) (by omega)).mpr zz_)
        refine lv_iconst (v := 0) hx hb dX2_burnsOf_140 (by decide) ?_
        refine lv_ior hx hb dX2_burnsOf_141 ?_
        exact MM.iret hX hr hlk hZ (by first | exact congrArg (fun z => wM g h R J hs (va_up G 6 z)) (bsM_no hak htt c_1 (fun q => c_22 q.1.1)).2 | exact congrArg (fun z => wM g h R J hs (va_up G 6 z)) (bsM_no hak htt c_1 (fun q => q.2 (by rw [kpF_2 c_26n]; exact c_38))).2 | exact congrArg (fun z => wM g h R J hs (va_up G 6 z)) (bsM_no hak htt c_1 (fun q => q.2 (by rw [kpF_1 c_26n]; exact c_38))).2 | exact congrArg (fun z => wM g h R J hs (va_up G 6 z)) (bsM_no hak htt c_1 (fun q => c_41 q.1.2)).2) (by first | (rw [← (bsM_no hak htt c_1 (fun q => c_22 q.1.1)).1, if_pos c_41n]; done) | (rw [← (bsM_no hak htt c_1 (fun q => c_22 q.1.1)).1, if_neg c_41n]; done) | (rw [← (bsM_no hak htt c_1 (fun q => q.2 (by rw [kpF_2 c_26n]; exact c_38))).1, if_pos c_41n]; done) | (rw [← (bsM_no hak htt c_1 (fun q => q.2 (by rw [kpF_2 c_26n]; exact c_38))).1, if_neg c_41n]; done) | (rw [← (bsM_no hak htt c_1 (fun q => q.2 (by rw [kpF_1 c_26n]; exact c_38))).1, if_pos c_41n]; done) | (rw [← (bsM_no hak htt c_1 (fun q => q.2 (by rw [kpF_1 c_26n]; exact c_38))).1, if_neg c_41n]; done) | (rw [← (bsM_no hak htt c_1 (fun q => c_41 q.1.2)).1, if_pos c_41n]; done) | (rw [← (bsM_no hak htt c_1 (fun q => c_41 q.1.2)).1, if_neg c_41n]; done)) dX2_burnsOf_142
      have c_41n : (kd fi) = 4 := (nI_eq (a := (kd fi)) (b := 4) (by omega) (by omega)).mp c_41
      refine lv_aload_n hx hb dX2_burnsOf_128 rfl (lv_at hl 3 rfl) ?_
      refine gf_q819 (v := .ref (R 12)) hX hZ.1 0 rfl rfl dX2_burnsOf_129 ?_
      refine lv_iload_n hx hb dX2_burnsOf_132 rfl (lv_at hl 4 rfl) ?_
      refine r_iald (f := (G 7)) hX hZ.1 8 rfl fi (by omega) (by omega) dX2_burnsOf_133 ?_
      refine lv_iload hx hb dX2_burnsOf_134 (lv_at hl 0 rfl) ?_
      refine lv_iand hx hb dX2_burnsOf_136 ?_
      refine lv_goto (tgt := 141) hx hb dX2_burnsOf_137 (by decide) ?_
      refine lv_ior hx hb dX2_burnsOf_141 ?_
      exact MM.iret hX hr hlk hZ (by first | exact congrArg (fun z => wM g h R J hs (va_up G 6 z)) (bsM_no hak htt c_1 (fun q => c_22 q.1.1)).2 | exact congrArg (fun z => wM g h R J hs (va_up G 6 z)) (bsM_no hak htt c_1 (fun q => q.2 (by rw [kpF_2 c_26n]; exact c_38))).2 | exact congrArg (fun z => wM g h R J hs (va_up G 6 z)) (bsM_no hak htt c_1 (fun q => q.2 (by rw [kpF_1 c_26n]; exact c_38))).2 | exact congrArg (fun z => wM g h R J hs (va_up G 6 z)) (bsM_no hak htt c_1 (fun q => c_41 q.1.2)).2) (by first | (rw [← (bsM_no hak htt c_1 (fun q => c_22 q.1.1)).1, if_pos c_41n]; done) | (rw [← (bsM_no hak htt c_1 (fun q => c_22 q.1.1)).1, if_neg c_41n]; done) | (rw [← (bsM_no hak htt c_1 (fun q => q.2 (by rw [kpF_2 c_26n]; exact c_38))).1, if_pos c_41n]; done) | (rw [← (bsM_no hak htt c_1 (fun q => q.2 (by rw [kpF_2 c_26n]; exact c_38))).1, if_neg c_41n]; done) | (rw [← (bsM_no hak htt c_1 (fun q => q.2 (by rw [kpF_1 c_26n]; exact c_38))).1, if_pos c_41n]; done) | (rw [← (bsM_no hak htt c_1 (fun q => q.2 (by rw [kpF_1 c_26n]; exact c_38))).1, if_neg c_41n]; done) | (rw [← (bsM_no hak htt c_1 (fun q => c_41 q.1.2)).1, if_pos c_41n]; done) | (rw [← (bsM_no hak htt c_1 (fun q => c_41 q.1.2)).1, if_neg c_41n]; done)) dX2_burnsOf_142
    exact absurd c_40 (by decide)
  refine lv_aload_n hx hb dX2_burnsOf_58 rfl (lv_at hl 1 rfl) ?_
  refine lv_iload_n hx hb dX2_burnsOf_59 rfl (lv_at hl 2 rfl) ?_
  refine PM.ci (PM.runV (As := [.int (nI fi)]) (rest := []) hX (K_X2_isPointedAt l g h R J hs G fi n_ kd pt (by omega) (hJ6) (hrow)) (cv_q1007 hX ⟨Nat.le_of_ble_eq_true rfl, Nat.le_of_ble_eq_true rfl⟩) hZ.1 trivial (r_recv hX hZ.1 0 rfl rfl) rfl hl.1 rfl (Nat.le_of_ble_eq_true rfl) dX2_burnsOf_60 ⟨Nat.zero_le _, Nat.zero_le _⟩) ?_
  refine lv_bif_eq (tgt := 70) hx hb dX2_burnsOf_63 (by decide) (fun c_42 => ?_) (fun c_42 => ?_)
  · refine lv_iconst (v := 0) hx hb dX2_burnsOf_70 (by decide) ?_
    refine lv_istore (lv' := [(4, .int 0), (3, .int 1), (0, .ref h), (1, .int (nI fi)), (2, .int (nI tt))]) hx hb dX2_burnsOf_71 hl (by decide) rfl (fun ls hl => ?_)
    refine lv_iload_n hx hb dX2_burnsOf_73 rfl (lv_at hl 1 rfl) ?_
    refine lv_if_eq (tgt := 82) hx hb dX2_burnsOf_74 (by decide) (fun c_43 => ?_) (fun c_43 => ?_)
    · exact absurd c_43 (by decide)
    refine lv_iload hx hb dX2_burnsOf_77 (lv_at hl 0 rfl) ?_
    refine lv_if_eq (tgt := 103) hx hb dX2_burnsOf_79 (by decide) (fun c_44 => ?_) (fun c_44 => ?_)
    · refine lv_iconst (v := 1) hx hb dX2_burnsOf_103 (by decide) ?_
      refine lv_iload_n hx hb dX2_burnsOf_104 rfl (lv_at hl 4 rfl) ?_
      refine lv_iconst (v := 1) hx hb dX2_burnsOf_105 (by decide) ?_
      refine lv_iadd hx hb dX2_burnsOf_106 ?_
      refine lv_seti (v := (nI (tt + 1))) (nI_add _ _) ?_
      refine lv_bipush (v := 6) hx hb dX2_burnsOf_107 (by decide) ?_
      refine lv_irem hx hb dX2_burnsOf_109 (by decide) ?_
      refine lv_seti (v := (nI ((tt + 1) % 6))) (pk_rem (a := (tt + 1)) (d := 6) (by omega) (by omega) (by omega)) ?_
      refine lv_ishl hx hb dX2_burnsOf_110 ?_
      refine lv_istore (lv' := [(5, .int ((1 : Int32) <<< ((nI ((tt + 1) % 6)) &&& 31))), (4, .int 0), (3, .int 1), (0, .ref h), (1, .int (nI fi)), (2, .int (nI tt))]) hx hb dX2_burnsOf_111 hl (by decide) rfl (fun ls hl => ?_)
      refine lv_iconst (v := 1) hx hb dX2_burnsOf_113 (by decide) ?_
      refine lv_iload_n hx hb dX2_burnsOf_114 rfl (lv_at hl 5 rfl) ?_
      refine lv_ishl hx hb dX2_burnsOf_115 ?_
      refine lv_aload_n hx hb dX2_burnsOf_116 rfl (lv_at hl 3 rfl) ?_
      refine gf_q814 (v := .ref (R 7)) hX hZ.1 0 rfl rfl dX2_burnsOf_117 ?_
      refine lv_iconst (v := 2) hx hb dX2_burnsOf_120 (by decide) ?_
      refine lv_iload_n hx hb dX2_burnsOf_121 rfl (lv_at hl 4 rfl) ?_
      refine lv_imul hx hb dX2_burnsOf_122 ?_
      refine lv_seti (v := (nI (2 * fi))) (pk_mul _ _) ?_
      refine r_iald (f := (G 2)) hX hZ.1 3 rfl (2 * fi) (by omega) (by omega) dX2_burnsOf_123 ?_
      refine lv_seti (v := (nI (kd fi))) ((hrow fi hf).1) ?_
      have hk5 := (hrow fi hf).2.2
      refine lv_iconst (v := 4) hx hb dX2_burnsOf_124 (by decide) ?_
      refine lv_icmp_ne (tgt := 140) hx hb dX2_burnsOf_125 (by decide) (fun c_45 => ?_) (fun c_45 => ?_)
      · have c_45n : ¬ (kd fi) = 4 := fun zz_ => c_45 ((nI_eq (a := (kd fi)) (b := 4) (by omega) (by omega)).mpr zz_)
        refine lv_iconst (v := 0) hx hb dX2_burnsOf_140 (by decide) ?_
        refine lv_ior hx hb dX2_burnsOf_141 ?_
        exact MM.iret hX hr hlk hZ (by first | exact congrArg (fun z => wM g h R J hs (va_up G 6 z)) (bsM_no hak htt c_1 (fun q => c_22 q.1.1)).2 | exact congrArg (fun z => wM g h R J hs (va_up G 6 z)) (bsM_no hak htt c_1 (fun q => q.2 (by rw [kpF_2 c_26n]; exact c_38))).2 | exact congrArg (fun z => wM g h R J hs (va_up G 6 z)) (bsM_no hak htt c_1 (fun q => q.2 (by rw [kpF_1 c_26n]; exact c_38))).2 | exact congrArg (fun z => wM g h R J hs (va_up G 6 z)) (bsM_no hak htt c_1 (fun q => c_42 q.1.2)).2) (by first | (rw [← (bsM_no hak htt c_1 (fun q => c_22 q.1.1)).1, if_pos c_45n]; done) | (rw [← (bsM_no hak htt c_1 (fun q => c_22 q.1.1)).1, if_neg c_45n]; done) | (rw [← (bsM_no hak htt c_1 (fun q => q.2 (by rw [kpF_2 c_26n]; exact c_38))).1, if_pos c_45n]; done) | (rw [← (bsM_no hak htt c_1 (fun q => q.2 (by rw [kpF_2 c_26n]; exact c_38))).1, if_neg c_45n]; done) | (rw [← (bsM_no hak htt c_1 (fun q => q.2 (by rw [kpF_1 c_26n]; exact c_38))).1, if_pos c_45n]; done) | (rw [← (bsM_no hak htt c_1 (fun q => q.2 (by rw [kpF_1 c_26n]; exact c_38))).1, if_neg c_45n]; done) | (rw [← (bsM_no hak htt c_1 (fun q => c_42 q.1.2)).1, if_pos c_45n]; done) | (rw [← (bsM_no hak htt c_1 (fun q => c_42 q.1.2)).1, if_neg c_45n]; done)) dX2_burnsOf_142
      have c_45n : (kd fi) = 4 := (nI_eq (a := (kd fi)) (b := 4) (by omega) (by omega)).mp c_45
      refine lv_aload_n hx hb dX2_burnsOf_128 rfl (lv_at hl 3 rfl) ?_
      refine gf_q819 (v := .ref (R 12)) hX hZ.1 0 rfl rfl dX2_burnsOf_129 ?_
      refine lv_iload_n hx hb dX2_burnsOf_132 rfl (lv_at hl 4 rfl) ?_
      refine r_iald (f := (G 7)) hX hZ.1 8 rfl fi (by omega) (by omega) dX2_burnsOf_133 ?_
      refine lv_iload hx hb dX2_burnsOf_134 (lv_at hl 0 rfl) ?_
      refine lv_iand hx hb dX2_burnsOf_136 ?_
      refine lv_goto (tgt := 141) hx hb dX2_burnsOf_137 (by decide) ?_
      refine lv_ior hx hb dX2_burnsOf_141 ?_
      exact MM.iret hX hr hlk hZ (by first | exact congrArg (fun z => wM g h R J hs (va_up G 6 z)) (bsM_no hak htt c_1 (fun q => c_22 q.1.1)).2 | exact congrArg (fun z => wM g h R J hs (va_up G 6 z)) (bsM_no hak htt c_1 (fun q => q.2 (by rw [kpF_2 c_26n]; exact c_38))).2 | exact congrArg (fun z => wM g h R J hs (va_up G 6 z)) (bsM_no hak htt c_1 (fun q => q.2 (by rw [kpF_1 c_26n]; exact c_38))).2 | exact congrArg (fun z => wM g h R J hs (va_up G 6 z)) (bsM_no hak htt c_1 (fun q => c_42 q.1.2)).2) (by first | (rw [← (bsM_no hak htt c_1 (fun q => c_22 q.1.1)).1, if_pos c_45n]; done) | (rw [← (bsM_no hak htt c_1 (fun q => c_22 q.1.1)).1, if_neg c_45n]; done) | (rw [← (bsM_no hak htt c_1 (fun q => q.2 (by rw [kpF_2 c_26n]; exact c_38))).1, if_pos c_45n]; done) | (rw [← (bsM_no hak htt c_1 (fun q => q.2 (by rw [kpF_2 c_26n]; exact c_38))).1, if_neg c_45n]; done) | (rw [← (bsM_no hak htt c_1 (fun q => q.2 (by rw [kpF_1 c_26n]; exact c_38))).1, if_pos c_45n]; done) | (rw [← (bsM_no hak htt c_1 (fun q => q.2 (by rw [kpF_1 c_26n]; exact c_38))).1, if_neg c_45n]; done) | (rw [← (bsM_no hak htt c_1 (fun q => c_42 q.1.2)).1, if_pos c_45n]; done) | (rw [← (bsM_no hak htt c_1 (fun q => c_42 q.1.2)).1, if_neg c_45n]; done)) dX2_burnsOf_142
    exact absurd c_44 (by decide)
  refine lv_iconst (v := 1) hx hb dX2_burnsOf_66 (by decide) ?_
  refine lv_goto (tgt := 71) hx hb dX2_burnsOf_67 (by decide) ?_
  refine lv_istore (lv' := [(4, .int 1), (3, .int 1), (0, .ref h), (1, .int (nI fi)), (2, .int (nI tt))]) hx hb dX2_burnsOf_71 hl (by decide) rfl (fun ls hl => ?_)
  refine lv_iload_n hx hb dX2_burnsOf_73 rfl (lv_at hl 1 rfl) ?_
  refine lv_if_eq (tgt := 82) hx hb dX2_burnsOf_74 (by decide) (fun c_46 => ?_) (fun c_46 => ?_)
  · exact absurd c_46 (by decide)
  refine lv_iload hx hb dX2_burnsOf_77 (lv_at hl 0 rfl) ?_
  refine lv_if_eq (tgt := 103) hx hb dX2_burnsOf_79 (by decide) (fun c_47 => ?_) (fun c_47 => ?_)
  · exact absurd c_47 (by decide)
  refine lv_aload_n hx hb dX2_burnsOf_82 rfl (lv_at hl 2 rfl) ?_
  refine gf_q818 (v := .ref (R 11)) hX hZ.1 0 rfl rfl dX2_burnsOf_83 ?_
  refine lv_iload_n hx hb dX2_burnsOf_86 rfl (lv_at hl 3 rfl) ?_
  refine lv_dup2_11 hx hb dX2_burnsOf_87 rfl rfl ?_
  refine r_iald (f := (G 6)) hX hZ.1 7 rfl fi (by omega) (by omega) dX2_burnsOf_88 ?_
  refine lv_iload hx hb dX2_burnsOf_89 (lv_at hl 0 rfl) ?_
  refine lv_if_eq (tgt := 98) hx hb dX2_burnsOf_91 (by decide) (fun c_48 => ?_) (fun c_48 => ?_)
  · exact absurd c_48 (by decide)
  refine lv_iconst (v := 1) hx hb dX2_burnsOf_94 (by decide) ?_
  refine lv_goto (tgt := 99) hx hb dX2_burnsOf_95 (by decide) ?_
  refine lv_iadd hx hb dX2_burnsOf_99 ?_
  refine r_iast (f := (G 6)) (x := (((G 6) fi) + 1)) (ws1 := (wM g h R J hs (va_up G 6 (upd (G 6) fi (((G 6) fi) + 1))))) hX hZ 7 rfl fi (by omega) (by omega) dX2_burnsOf_100 rfl (fun H locs hZ => ?_)
  refine lv_iconst (v := 0) hx hb dX2_burnsOf_101 (by decide) ?_
  exact MM.iret hX hr hlk hZ (by first | (rw [(bsM_nh (kd := kd) (pt := pt) (kp := G 6) (n := n_) hak htt c_1).2]; done) | (rw [(bsM_sv (kd := kd) (pt := pt) (a := G 7) (kp := G 6) (t := tt) (n := n_) (f := fi) ⟨⟨c_22, c_42⟩, by rw [kpF_2 c_26n]; exact c_38⟩).2]; done) | (rw [(bsM_sv (kd := kd) (pt := pt) (a := G 7) (kp := G 6) (t := tt) (n := n_) (f := fi) ⟨⟨c_22, c_42⟩, by rw [kpF_1 c_26n]; exact c_38⟩).2]; done) | exact absurd ((here_fin _ hak.choose_spec.1 tt htt).2.2.1 (by rw [← hak.choose_spec.2]; exact c_22)) (by rw [← hak.choose_spec.2]; exact c_1)) (by first | exact (bsM_nh hak htt c_1).1 | exact (bsM_sv ⟨⟨c_22, c_42⟩, by rw [kpF_2 c_26n]; exact c_38⟩).1 | exact (bsM_sv ⟨⟨c_22, c_42⟩, by rw [kpF_1 c_26n]; exact c_38⟩).1 | exact absurd ((here_fin _ hak.choose_spec.1 tt htt).2.2.1 (by rw [← hak.choose_spec.2]; exact c_22)) (by rw [← hak.choose_spec.2]; exact c_1)) dX2_burnsOf_102

set_option maxHeartbeats 400000 in
set_option maxRecDepth 100000 in
theorem K_X2_spread (l : Launch) (g : Gx) (h : Nat) (R : Nat → Nat) (J : Nat → Int32) (hs : Int64) (G : Nat → Nat → Int32) (fi : Nat) (n_ : Nat) (kd : Nat → Nat) (hn : n_ ≤ 5) (hJ6 : (J 6) = nI n_) (hf : fi < n_) (hk1 : kd fi = 1) (h0 : ¬ (G 5) fi = 0) (hlv : LvOk (G 5) n_) (hrk : RoK roT (wM g h R J hs G)) : MM l g yX2_spread cX2_spread 3 none 1 [.ref h, .int (nI fi)] roT (wM g h R J hs G) (wM g h R J hs (va_up G 5 (spF kd (G 5) (J 2) n_ fi 6))) none := by
  refine MM.of (own := "BurntLettersModel") (by decide) rfl (Nat.le_of_ble_eq_true rfl) hrk ?_
  intro p e s m below meth c A hX hr hlk hZ ls hl
  have hx := hX.1.1
  have hb := hX.1.2.1
  have hl : lv_has ls 3 [(0, .ref h), (1, .int (nI fi))] := hl
  refine lv_iconst (v := 0) hx hb dX2_spread_0 (by decide) ?_
  refine lv_istore_n (lv' := [(2, .int 0), (0, .ref h), (1, .int (nI fi))]) hx hb dX2_spread_1 rfl hl (by decide) rfl (fun ls hl => ?_)
  refine W_loop (α := Nat) (P := fun (i : Nat) (H : Heap) (locs : List Loc) (ls : Array Slot) => i ≤ 6 ∧ spF kd (G 5) (J 2) n_ fi 6 = spF kd (G 5) (J 2) n_ fi (6 - i) ∧ Zt g A s.heap roT (wM g h R J hs G) H locs ∧ lv_has ls 3 [(0, .ref h), (1, .int (nI fi)), (2, .int (nI i))]) (fun i => 6 - i) 0 ⟨Nat.zero_le _, rfl, hZ.cast (rfl), lv_cast (lv_sub (l' := [(0, .ref h), (1, .int (nI fi)), (2, .int 0)]) hl [1, 2, 0] rfl) (rfl)⟩ ?_
  rintro i H locs ls ⟨hi, hs_, hZ, hl⟩ ihi
  refine lv_iload_n hx hb dX2_spread_2 rfl (lv_at hl 2 rfl) ?_
  refine lv_bipush (v := 6) hx hb dX2_spread_3 (by decide) ?_
  refine lv_icmp_ge (tgt := 56) hx hb dX2_spread_5 (by decide) (fun c_1 => ?_) (fun c_1 => ?_)
  · have c_1n : 6 ≤ i := (nI_leI (a := 6) (b := i) (by omega) (by omega)).mp c_1
    exact MM.vret hX hr hlk hZ (by rw [hs_, show 6 - i = 0 by omega, spF]; rfl) dX2_spread_56
  have c_1n : ¬ 6 ≤ i := fun zz_ => c_1 ((nI_leI (a := 6) (b := i) (by omega) (by omega)).mpr zz_)
  refine lv_aload_n hx hb dX2_spread_8 rfl (lv_at hl 0 rfl) ?_
  refine gf_q817 (v := .ref (R 10)) hX hZ.1 0 rfl rfl dX2_spread_9 ?_
  refine lv_iload_n hx hb dX2_spread_12 rfl (lv_at hl 1 rfl) ?_
  refine r_iald (f := (G 5)) hX hZ.1 6 rfl fi (by omega) (by omega) dX2_spread_13 ?_
  refine lv_iload_n hx hb dX2_spread_14 rfl (lv_at hl 2 rfl) ?_
  refine lv_ishr hx hb dX2_spread_15 ?_
  refine lv_iconst (v := 1) hx hb dX2_spread_16 (by decide) ?_
  refine lv_iand hx hb dX2_spread_17 ?_
  refine lv_if_ne (tgt := 50) hx hb dX2_spread_18 (by decide) (fun c_2 => ?_) (fun c_2 => ?_)
  · refine lv_iinc (v := (nI (i + 1))) (lv' := [(2, .int (nI (i + 1))), (0, .ref h), (1, .int (nI fi))]) hx hb dX2_spread_50 hl (k := 2) rfl (nI_1 _) (by decide) rfl (fun ls hl => ?_)
    refine lv_goto (tgt := 2) hx hb dX2_spread_53 (by decide) ?_
    exact ihi (i + 1) _ _ _ ⟨by omega, by rw [hs_, show 6 - i = (5 - i) + 1 by omega, spF, if_neg (by rw [show 5 - (5 - i) = i by omega]; first | exact (fun q => q.2.1 (in1' c_2)) | exact (fun q => q.2.2.1 c_none)), show 6 - (i + 1) = 5 - i by omega], hZ.cast (rfl), lv_cast (lv_sub (l' := [(0, .ref h), (1, .int (nI fi)), (2, .int (nI (i + 1)))]) hl [1, 2, 0] rfl) (by rfl)⟩ (by omega)
  refine lv_aload_n hx hb dX2_spread_21 rfl (lv_at hl 0 rfl) ?_
  refine lv_aload_n hx hb dX2_spread_22 rfl (lv_at hl 0 rfl) ?_
  refine gf_q817 (v := .ref (R 10)) hX hZ.1 0 rfl rfl dX2_spread_23 ?_
  refine lv_iload_n hx hb dX2_spread_26 rfl (lv_at hl 2 rfl) ?_
  refine PM.ci (PM.runV (As := [.ref (R 10), .int (nI i)]) (rest := []) hX (K_X2_fullness l g h R J hs (R 10) (G 5) (nI i) n_ (by omega) (hJ6)) (cv_q935 hX ⟨Nat.le_of_ble_eq_true rfl, Nat.le_of_ble_eq_true rfl⟩) (hZ.1.sub (ws' := (wF g h R J hs (R 10) (G 5))) [0, 6] rfl) trivial (r_recv hX hZ.1 0 rfl rfl) rfl hl.1 rfl (Nat.le_of_ble_eq_true rfl) dX2_spread_27 ⟨Nat.zero_le _, Nat.zero_le _⟩) ?_
  refine lv_aload_n hx hb dX2_spread_30 rfl (lv_at hl 0 rfl) ?_
  refine gf_q809 (v := .int (J 2)) hX hZ.1 0 rfl rfl dX2_spread_31 ?_
  refine lv_icmp_ge (tgt := 50) hx hb dX2_spread_34 (by decide) (fun c_3 => ?_) (fun c_3 => ?_)
  · refine lv_iinc (v := (nI (i + 1))) (lv' := [(2, .int (nI (i + 1))), (0, .ref h), (1, .int (nI fi))]) hx hb dX2_spread_50 hl (k := 2) rfl (nI_1 _) (by decide) rfl (fun ls hl => ?_)
    refine lv_goto (tgt := 2) hx hb dX2_spread_53 (by decide) ?_
    exact ihi (i + 1) _ _ _ ⟨by omega, by rw [hs_, show 6 - i = (5 - i) + 1 by omega, spF, if_neg (by rw [show 5 - (5 - i) = i by omega]; first | exact (fun q => q.2.1 (in1' c_2)) | exact (fun q => q.2.2.1 c_3)), show 6 - (i + 1) = 5 - i by omega], hZ.cast (rfl), lv_cast (lv_sub (l' := [(0, .ref h), (1, .int (nI fi)), (2, .int (nI (i + 1)))]) hl [1, 2, 0] rfl) (by rfl)⟩ (by omega)
  refine lv_aload_n hx hb dX2_spread_37 rfl (lv_at hl 0 rfl) ?_
  refine gf_q817 (v := .ref (R 10)) hX hZ.1 0 rfl rfl dX2_spread_38 ?_
  refine lv_iload_n hx hb dX2_spread_41 rfl (lv_at hl 1 rfl) ?_
  refine lv_dup2_11 hx hb dX2_spread_42 rfl rfl ?_
  refine r_iald (f := (G 5)) hX hZ.1 6 rfl fi (by omega) (by omega) dX2_spread_43 ?_
  refine lv_iconst (v := 1) hx hb dX2_spread_44 (by decide) ?_
  refine lv_iload_n hx hb dX2_spread_45 rfl (lv_at hl 2 rfl) ?_
  refine lv_ishl hx hb dX2_spread_46 ?_
  refine lv_ior hx hb dX2_spread_47 ?_
  refine r_iast (f := (G 5)) (x := (((G 5) fi) ||| ((1 : Int32) <<< ((nI i) &&& 31)))) (ws1 := (wM g h R J hs (va_up G 5 (upd (G 5) fi (((G 5) fi) ||| ((1 : Int32) <<< ((nI i) &&& 31))))))) hX hZ 6 rfl fi (by omega) (by omega) dX2_spread_48 rfl (fun H locs hZ => ?_)
  exact MM.vret hX hr hlk hZ (by rw [hs_, show 6 - i = (5 - i) + 1 by omega, spF, if_pos (by rw [show 5 - (5 - i) = i by omega]; exact (mc_sp hlv hf (by omega) hk1 h0).mpr ⟨in0 c_2, c_3⟩), show 5 - (5 - i) = i by omega]) dX2_spread_49

set_option maxHeartbeats 400000 in
set_option maxRecDepth 100000 in
theorem K_X2_pass (l : Launch) (g : Gx) (h : Nat) (R : Nat → Nat) (J : Nat → Int32) (hs : Int64) (G : Nat → Nat → Int32) (tt : Nat) (n_ : Nat) (kd : Nat → Nat) (pt : Nat → Int32) (hn : n_ ≤ 5) (hJ6 : (J 6) = nI n_) (hrow : RowsOk G n_ kd pt) (htt : tt < 6) (hlv : LvOk (G 5) n_) (hrk : RoK roT (wM g h R J hs G)) : EM l g yX2_pass cX2_pass 5 (some .int) 2 [.ref h, .int (nI tt)] roT (wM g h R J hs G) (fun u => (wM g h R J hs (va_up (va_up (va_up G 5 (brL kd (J 2) pt (G 5) (G 6) (nI tt) n_)) 6 (brK kd pt (G 5) (G 6) (nI tt) n_)) 7 (u 7)))) (some (.int (brR kd pt (G 5) (G 6) (nI tt) n_))) := by
  refine EM.of (own := "BurntLettersModel") (by decide) rfl (Nat.le_of_ble_eq_true rfl) hrk ?_
  intro p e s m below meth c A hX hr hlk hZ ls hl
  have hx := hX.1.1
  have hb := hX.1.2.1
  have hl : lv_has ls 5 [(0, .ref h), (1, .int (nI tt))] := hl
  have hk5 : ∀ f, f < n_ → kd f < 5 := fun f hf => (hrow f hf).2.2
  refine lv_iconst (v := 0) hx hb dX2_pass_0 (by decide) ?_
  refine lv_istore_n (lv' := [(2, .int 0), (0, .ref h), (1, .int (nI tt))]) hx hb dX2_pass_1 rfl hl (by decide) rfl (fun ls hl => ?_)
  refine W_loop (α := Nat) (P := fun (k1 : Nat) (H : Heap) (locs : List Loc) (ls : Array Slot) => k1 ≤ 5 ∧ Zt g A s.heap roT (wM g h R J hs (va_up G 7 (ahU (G 5) (G 7) n_ k1))) H locs ∧ lv_has ls 5 [(0, .ref h), (1, .int (nI tt)), (2, .int (nI k1))]) (fun k1 => 5 - k1) 0 ⟨Nat.zero_le _, hZ.cast (rfl), lv_cast (lv_sub (l' := [(0, .ref h), (1, .int (nI tt)), (2, .int 0)]) hl [1, 2, 0] rfl) (rfl)⟩ ?_
  rintro k1 H locs ls ⟨hk1, hZ, hl⟩ ihk1
  refine lv_iload_n hx hb dX2_pass_2 rfl (lv_at hl 2 rfl) ?_
  refine lv_iconst (v := 5) hx hb dX2_pass_3 (by decide) ?_
  refine lv_icmp_ge (tgt := 37) hx hb dX2_pass_4 (by decide) (fun c_1 => ?_) (fun c_1 => ?_)
  · have c_1n : 5 ≤ k1 := (nI_leI (a := 5) (b := k1) (by omega) (by omega)).mp c_1
    have eik1 : k1 = 5 := by omega
    subst eik1
    have hZ := hZ.arr 8 (ahF (G 5) n_) rfl (ahU_in (G 5) (G 7) n_ 5)
    have hZ : Zt g A s.heap roT (wM g h R J hs (va_up G 7 (ahF (G 5) n_))) H locs := hZ
    refine lv_iconst (v := 0) hx hb dX2_pass_37 (by decide) ?_
    refine lv_istore_n (lv' := [(2, .int 0), (0, .ref h), (1, .int (nI tt))]) hx hb dX2_pass_38 rfl hl (by decide) rfl (fun ls hl => ?_)
    refine lv_iconst (v := 0) hx hb dX2_pass_39 (by decide) ?_
    refine lv_istore_n (lv' := [(3, .int 0), (2, .int 0), (0, .ref h), (1, .int (nI tt))]) hx hb dX2_pass_40 rfl hl (by decide) rfl (fun ls hl => ?_)
    refine W_loop (α := Nat) (P := fun (i : Nat) (H : Heap) (locs : List Loc) (ls : Array Slot) => i ≤ n_ ∧ Zt g A s.heap roT (wM g h R J hs (va_up (va_up (va_up G 7 (ahF (G 5) n_)) 5 ((bnF kd pt (G 5) (G 6) (livF (G 5) n_) (nI tt) n_ i).1)) 6 ((bnF kd pt (G 5) (G 6) (livF (G 5) n_) (nI tt) n_ i).2))) H locs ∧ lv_has ls 5 [(0, .ref h), (1, .int (nI tt)), (2, .int (mnF kd pt (G 5) (G 6) (nI tt) n_ i)), (3, .int (nI i))]) (fun i => n_ - i) 0 ⟨Nat.zero_le _, hZ.cast (rfl), lv_cast (lv_sub (l' := [(0, .ref h), (1, .int (nI tt)), (2, .int 0), (3, .int 0)]) hl [2, 3, 1, 0] rfl) (rfl)⟩ ?_
    rintro i H locs ls ⟨hi, hZ, hl⟩ ihi
    have hnx := fun hi2 => bn_next (kd := kd) (pt := pt) (lv := G 5) (kp := G 6) (t := tt) (n := n_) (i := i) hn hi2
    refine lv_iload_n hx hb dX2_pass_41 rfl (lv_at hl 3 rfl) ?_
    refine lv_aload_n hx hb dX2_pass_42 rfl (lv_at hl 0 rfl) ?_
    refine gf_q813 (v := .int (J 6)) hX hZ.1 0 rfl rfl dX2_pass_43 ?_
    refine lv_seti (v := (nI n_)) (hJ6) ?_
    refine lv_icmp_ge (tgt := 84) hx hb dX2_pass_46 (by decide) (fun c_2 => ?_) (fun c_2 => ?_)
    · have c_2n : n_ ≤ i := (nI_leI (a := n_) (b := i) (by omega) (by omega)).mp c_2
      have ei : n_ = i := by omega
      subst ei
      refine lv_iconst (v := 0) hx hb dX2_pass_84 (by decide) ?_
      refine lv_istore_n (lv' := [(3, .int 0), (0, .ref h), (1, .int (nI tt)), (2, .int (mnF kd pt (G 5) (G 6) (nI tt) n_ n_))]) hx hb dX2_pass_85 rfl hl (by decide) rfl (fun ls hl => ?_)
      refine W_loop (α := Nat) (P := fun (j : Nat) (H : Heap) (locs : List Loc) (ls : Array Slot) => j ≤ n_ ∧ Zt g A s.heap roT (wM g h R J hs (va_up (va_up (va_up G 7 (ahF (G 5) n_)) 6 ((bnF kd pt (G 5) (G 6) (livF (G 5) n_) (nI tt) n_ n_).2)) 5 (spA kd (J 2) n_ (bnP kd pt (G 5) (G 6) (nI tt) n_).1 j))) H locs ∧ lv_has ls 5 [(0, .ref h), (1, .int (nI tt)), (2, .int (mnF kd pt (G 5) (G 6) (nI tt) n_ n_)), (3, .int (nI j))]) (fun j => n_ - j) 0 ⟨Nat.zero_le _, hZ.cast (rfl), lv_cast (lv_sub (l' := [(0, .ref h), (1, .int (nI tt)), (2, .int (mnF kd pt (G 5) (G 6) (nI tt) n_ n_)), (3, .int 0)]) hl [1, 2, 3, 0] rfl) (rfl)⟩ ?_
      rintro j H locs ls ⟨hj, hZ, hl⟩ ihj
      refine lv_iload_n hx hb dX2_pass_86 rfl (lv_at hl 3 rfl) ?_
      refine lv_aload_n hx hb dX2_pass_87 rfl (lv_at hl 0 rfl) ?_
      refine gf_q813 (v := .int (J 6)) hX hZ.1 0 rfl rfl dX2_pass_88 ?_
      refine lv_seti (v := (nI n_)) (hJ6) ?_
      refine lv_icmp_ge (tgt := 126) hx hb dX2_pass_91 (by decide) (fun c_3 => ?_) (fun c_3 => ?_)
      · have c_3n : n_ ≤ j := (nI_leI (a := n_) (b := j) (by omega) (by omega)).mp c_3
        have ej : n_ = j := by omega
        subst ej
        refine lv_iload_n hx hb dX2_pass_126 rfl (lv_at hl 2 rfl) ?_
        exact EM.iret hX hr hlk hZ (ws1 := fun u => (wM g h R J hs (va_up (va_up (va_up G 5 (brL kd (J 2) pt (G 5) (G 6) (nI tt) n_)) 6 (brK kd pt (G 5) (G 6) (nI tt) n_)) 7 (u 7)))) (va_up (va_up (va_up G 7 (ahF (G 5) n_)) 6 ((bnF kd pt (G 5) (G 6) (livF (G 5) n_) (nI tt) n_ n_).2)) 5 (spA kd (J 2) n_ (bnP kd pt (G 5) (G 6) (nI tt) n_).1 n_)) (rfl) (mn_brR hn hlv htt hk5) dX2_pass_127
      have c_3n : ¬ n_ ≤ j := fun zz_ => c_3 ((nI_leI (a := n_) (b := j) (by omega) (by omega)).mpr zz_)
      refine lv_aload_n hx hb dX2_pass_94 rfl (lv_at hl 0 rfl) ?_
      refine gf_q814 (v := .ref (R 7)) hX hZ.1 0 rfl rfl dX2_pass_95 ?_
      refine lv_iconst (v := 2) hx hb dX2_pass_98 (by decide) ?_
      refine lv_iload_n hx hb dX2_pass_99 rfl (lv_at hl 3 rfl) ?_
      refine lv_imul hx hb dX2_pass_100 ?_
      refine lv_seti (v := (nI (2 * j))) (pk_mul _ _) ?_
      refine r_iald (f := (G 2)) hX hZ.1 3 rfl (2 * j) (by omega) (by omega) dX2_pass_101 ?_
      refine lv_seti (v := (nI (kd j))) ((hrow j (by omega)).1) ?_
      have hk5j := hk5 j (by omega)
      refine lv_iconst (v := 1) hx hb dX2_pass_102 (by decide) ?_
      refine lv_icmp_ne (tgt := 120) hx hb dX2_pass_103 (by decide) (fun c_4 => ?_) (fun c_4 => ?_)
      · have c_4n : ¬ (kd j) = 1 := fun zz_ => c_4 ((nI_eq (a := (kd j)) (b := 1) (by omega) (by omega)).mpr zz_)
        refine lv_iinc (v := (nI (j + 1))) (lv' := [(3, .int (nI (j + 1))), (0, .ref h), (1, .int (nI tt)), (2, .int (mnF kd pt (G 5) (G 6) (nI tt) n_ n_))]) hx hb dX2_pass_120 hl (k := 3) rfl (nI_1 _) (by decide) rfl (fun ls hl => ?_)
        refine lv_goto (tgt := 86) hx hb dX2_pass_123 (by decide) ?_
        exact ihj (j + 1) _ _ _ ⟨by omega, hZ.cast (by first | (rw [spA, if_neg (fun q => c_4n q.1)]; done) | (rw [spA, if_neg (fun q => q.2 c_none)]; done) | (rw [spA, if_pos ⟨c_4n, c_none⟩]; rfl)), lv_cast (lv_sub (l' := [(0, .ref h), (1, .int (nI tt)), (2, .int (mnF kd pt (G 5) (G 6) (nI tt) n_ n_)), (3, .int (nI (j + 1)))]) hl [1, 2, 3, 0] rfl) (by rfl)⟩ (by omega)
      have c_4n : (kd j) = 1 := (nI_eq (a := (kd j)) (b := 1) (by omega) (by omega)).mp c_4
      refine lv_aload_n hx hb dX2_pass_106 rfl (lv_at hl 0 rfl) ?_
      refine gf_q817 (v := .ref (R 10)) hX hZ.1 0 rfl rfl dX2_pass_107 ?_
      refine lv_iload_n hx hb dX2_pass_110 rfl (lv_at hl 3 rfl) ?_
      refine r_iald (f := (spA kd (J 2) n_ (bnP kd pt (G 5) (G 6) (nI tt) n_).1 j)) hX hZ.1 6 rfl j (by omega) (by omega) dX2_pass_111 ?_
      refine lv_if_eq (tgt := 120) hx hb dX2_pass_112 (by decide) (fun c_5 => ?_) (fun c_5 => ?_)
      · refine lv_iinc (v := (nI (j + 1))) (lv' := [(3, .int (nI (j + 1))), (0, .ref h), (1, .int (nI tt)), (2, .int (mnF kd pt (G 5) (G 6) (nI tt) n_ n_))]) hx hb dX2_pass_120 hl (k := 3) rfl (nI_1 _) (by decide) rfl (fun ls hl => ?_)
        refine lv_goto (tgt := 86) hx hb dX2_pass_123 (by decide) ?_
        exact ihj (j + 1) _ _ _ ⟨by omega, hZ.cast (by first | (rw [spA, if_neg (fun q => c_4n q.1)]; done) | (rw [spA, if_neg (fun q => q.2 c_5)]; done) | (rw [spA, if_pos ⟨c_4n, c_5⟩]; rfl)), lv_cast (lv_sub (l' := [(0, .ref h), (1, .int (nI tt)), (2, .int (mnF kd pt (G 5) (G 6) (nI tt) n_ n_)), (3, .int (nI (j + 1)))]) hl [1, 2, 3, 0] rfl) (by rfl)⟩ (by omega)
      refine lv_aload_n hx hb dX2_pass_115 rfl (lv_at hl 0 rfl) ?_
      refine lv_iload_n hx hb dX2_pass_116 rfl (lv_at hl 3 rfl) ?_
      refine MM.cvA (MM.runV (As := [.int (nI j)]) (rest := []) hX (K_X2_spread l g h R J hs (va_up (va_up (va_up G 7 (ahF (G 5) n_)) 6 ((bnF kd pt (G 5) (G 6) (livF (G 5) n_) (nI tt) n_ n_).2)) 5 (spA kd (J 2) n_ (bnP kd pt (G 5) (G 6) (nI tt) n_).1 j)) j n_ kd (by omega) (hJ6) (by omega) (c_4n) (c_5) (spA_ok (bn_ok hn hlv htt hk5 (Nat.le_refl n_)) j (by omega)) (RoK.tt _)) (cv_q1011 hX ⟨Nat.le_of_ble_eq_true rfl, Nat.le_of_ble_eq_true rfl⟩) hZ.1 hZ.2.1 trivial (r_recv hX hZ.1 0 rfl rfl) rfl hl.1 rfl (Nat.le_of_ble_eq_true rfl) dX2_pass_117 ⟨Nat.zero_le _, Nat.zero_le _⟩) hZ adM (fun H locs hZ => ?_)
      refine lv_iinc (v := (nI (j + 1))) (lv' := [(3, .int (nI (j + 1))), (0, .ref h), (1, .int (nI tt)), (2, .int (mnF kd pt (G 5) (G 6) (nI tt) n_ n_))]) hx hb dX2_pass_120 hl (k := 3) rfl (nI_1 _) (by decide) rfl (fun ls hl => ?_)
      refine lv_goto (tgt := 86) hx hb dX2_pass_123 (by decide) ?_
      exact ihj (j + 1) _ _ _ ⟨by omega, hZ.cast (by first | (rw [spA, if_neg (fun q => c_4n q.1)]; done) | (rw [spA, if_neg (fun q => q.2 c_5)]; done) | (rw [spA, if_pos ⟨c_4n, c_5⟩]; rfl)), lv_cast (lv_sub (l' := [(0, .ref h), (1, .int (nI tt)), (2, .int (mnF kd pt (G 5) (G 6) (nI tt) n_ n_)), (3, .int (nI (j + 1)))]) hl [1, 2, 3, 0] rfl) (by rfl)⟩ (by omega)
    have c_2n : ¬ n_ ≤ i := fun zz_ => c_2 ((nI_leI (a := n_) (b := i) (by omega) (by omega)).mpr zz_)
    have hnx := hnx (by omega)
    refine lv_aload_n hx hb dX2_pass_49 rfl (lv_at hl 0 rfl) ?_
    refine lv_iload_n hx hb dX2_pass_50 rfl (lv_at hl 3 rfl) ?_
    refine lv_iload_n hx hb dX2_pass_51 rfl (lv_at hl 1 rfl) ?_
    refine MM.ciA (MM.runV (As := [.int (nI i), .int (nI tt)]) (rest := []) hX (K_X2_burnsOf l g h R J hs (va_up (va_up (va_up G 7 (ahF (G 5) n_)) 5 ((bnF kd pt (G 5) (G 6) (livF (G 5) n_) (nI tt) n_ i).1)) 6 ((bnF kd pt (G 5) (G 6) (livF (G 5) n_) (nI tt) n_ i).2)) i tt n_ kd pt (by omega) (hJ6) (hrow) (by omega) (by omega) (ah_ok hlv (by omega)) (RoK.tt _)) (cv_q1003 hX ⟨Nat.le_of_ble_eq_true rfl, Nat.le_of_ble_eq_true rfl⟩) hZ.1 hZ.2.1 trivial (r_recv hX hZ.1 0 rfl rfl) rfl hl.1 rfl (Nat.le_of_ble_eq_true rfl) dX2_pass_52 ⟨Nat.zero_le _, Nat.zero_le _⟩) hZ adM (fun H locs hZ => ?_)
    refine lv_seti (v := (bsM kd pt (ahF (G 5) n_) ((bnF kd pt (G 5) (G 6) (livF (G 5) n_) (nI tt) n_ i).2) tt n_ i)) (rfl) ?_
    refine lv_seti (v := (bsF kd pt (G 5) (G 6) (nI tt) n_ i)) (hnx.1) ?_
    refine lv_istore (lv' := [(4, .int (bsF kd pt (G 5) (G 6) (nI tt) n_ i)), (0, .ref h), (1, .int (nI tt)), (2, .int (mnF kd pt (G 5) (G 6) (nI tt) n_ i)), (3, .int (nI i))]) hx hb dX2_pass_55 hl (by decide) rfl (fun ls hl => ?_)
    refine lv_aload_n hx hb dX2_pass_57 rfl (lv_at hl 1 rfl) ?_
    refine gf_q817 (v := .ref (R 10)) hX hZ.1 0 rfl rfl dX2_pass_58 ?_
    refine lv_iload_n hx hb dX2_pass_61 rfl (lv_at hl 4 rfl) ?_
    refine lv_dup2_11 hx hb dX2_pass_62 rfl rfl ?_
    refine r_iald (f := ((bnF kd pt (G 5) (G 6) (livF (G 5) n_) (nI tt) n_ i).1)) hX hZ.1 6 rfl i (by omega) (by omega) dX2_pass_63 ?_
    refine lv_iload hx hb dX2_pass_64 (lv_at hl 0 rfl) ?_
    refine lv_iconst (v := (-1)) hx hb dX2_pass_66 (by decide) ?_
    refine lv_ixor hx hb dX2_pass_67 ?_
    refine lv_iand hx hb dX2_pass_68 ?_
    refine r_iast (f := ((bnF kd pt (G 5) (G 6) (livF (G 5) n_) (nI tt) n_ i).1)) (x := ((((bnF kd pt (G 5) (G 6) (livF (G 5) n_) (nI tt) n_ i).1) i) &&& ((bsF kd pt (G 5) (G 6) (nI tt) n_ i) ^^^ (-1)))) (ws1 := (wM g h R J hs (va_up (va_up (va_up G 7 (ahF (G 5) n_)) 6 (bsK kd pt (ahF (G 5) n_) ((bnF kd pt (G 5) (G 6) (livF (G 5) n_) (nI tt) n_ i).2) tt n_ i)) 5 (upd ((bnF kd pt (G 5) (G 6) (livF (G 5) n_) (nI tt) n_ i).1) i ((((bnF kd pt (G 5) (G 6) (livF (G 5) n_) (nI tt) n_ i).1) i) &&& ((bsF kd pt (G 5) (G 6) (nI tt) n_ i) ^^^ (-1))))))) hX hZ 6 rfl i (by omega) (by omega) dX2_pass_69 rfl (fun H locs hZ => ?_)
    refine lv_iload_n hx hb dX2_pass_70 rfl (lv_at hl 3 rfl) ?_
    refine lv_iload hx hb dX2_pass_71 (lv_at hl 0 rfl) ?_
    refine PM.ci (PM.runS (As := [.int (bsF kd pt (G 5) (G 6) (nI tt) n_ i)]) (rest := [.int (mnF kd pt (G 5) (G 6) (nI tt) n_ i)]) hX (K_X2_ones l g (bsF kd pt (G 5) (G 6) (nI tt) n_ i)) (cs_q976 hX ⟨Nat.le_of_ble_eq_true rfl, Nat.le_of_ble_eq_true rfl⟩) va_P_nil trivial rfl hl.1 rfl (Nat.le_of_ble_eq_true rfl) dX2_pass_73 ⟨Nat.zero_le _, Nat.zero_le _⟩) ?_
    refine lv_iadd hx hb dX2_pass_76 ?_
    refine lv_istore_n (lv' := [(2, .int ((mnF kd pt (G 5) (G 6) (nI tt) n_ i) + (onF (bsF kd pt (G 5) (G 6) (nI tt) n_ i) 6))), (4, .int (bsF kd pt (G 5) (G 6) (nI tt) n_ i)), (0, .ref h), (1, .int (nI tt)), (3, .int (nI i))]) hx hb dX2_pass_77 rfl hl (by decide) rfl (fun ls hl => ?_)
    refine lv_iinc (v := (nI (i + 1))) (lv' := [(3, .int (nI (i + 1))), (2, .int ((mnF kd pt (G 5) (G 6) (nI tt) n_ i) + (onF (bsF kd pt (G 5) (G 6) (nI tt) n_ i) 6))), (4, .int (bsF kd pt (G 5) (G 6) (nI tt) n_ i)), (0, .ref h), (1, .int (nI tt))]) hx hb dX2_pass_78 hl (k := 4) rfl (nI_1 _) (by decide) rfl (fun ls hl => ?_)
    refine lv_goto (tgt := 41) hx hb dX2_pass_81 (by decide) ?_
    exact ihi (i + 1) _ _ _ ⟨by omega, hZ.cast (by rw [hnx.2.1, hnx.2.2]; rfl), lv_cast (lv_sub (l' := [(0, .ref h), (1, .int (nI tt)), (2, .int ((mnF kd pt (G 5) (G 6) (nI tt) n_ i) + (onF (bsF kd pt (G 5) (G 6) (nI tt) n_ i) 6))), (3, .int (nI (i + 1)))]) hl [3, 4, 1, 0] rfl) (by rfl)⟩ (by omega)
  have c_1n : ¬ 5 ≤ k1 := fun zz_ => c_1 ((nI_leI (a := 5) (b := k1) (by omega) (by omega)).mpr zz_)
  refine lv_aload_n hx hb dX2_pass_7 rfl (lv_at hl 0 rfl) ?_
  refine gf_q819 (v := .ref (R 12)) hX hZ.1 0 rfl rfl dX2_pass_8 ?_
  refine lv_iload_n hx hb dX2_pass_11 rfl (lv_at hl 2 rfl) ?_
  refine lv_iload_n hx hb dX2_pass_12 rfl (lv_at hl 2 rfl) ?_
  refine lv_aload_n hx hb dX2_pass_13 rfl (lv_at hl 0 rfl) ?_
  refine gf_q813 (v := .int (J 6)) hX hZ.1 0 rfl rfl dX2_pass_14 ?_
  refine lv_seti (v := (nI n_)) (hJ6) ?_
  refine lv_icmp_ge (tgt := 29) hx hb dX2_pass_17 (by decide) (fun c_6 => ?_) (fun c_6 => ?_)
  · have c_6n : n_ ≤ k1 := (nI_leI (a := n_) (b := k1) (by omega) (by omega)).mp c_6
    refine lv_iconst (v := 0) hx hb dX2_pass_29 (by decide) ?_
    refine r_iast (f := (ahU (G 5) (G 7) n_ k1)) (x := 0) (ws1 := (wM g h R J hs (va_up G 7 (upd (ahU (G 5) (G 7) n_ k1) k1 0)))) hX hZ 8 rfl k1 (by omega) (by omega) dX2_pass_30 rfl (fun H locs hZ => ?_)
    refine lv_iinc (v := (nI (k1 + 1))) (lv' := [(2, .int (nI (k1 + 1))), (0, .ref h), (1, .int (nI tt))]) hx hb dX2_pass_31 hl (k := 2) rfl (nI_1 _) (by decide) rfl (fun ls hl => ?_)
    refine lv_goto (tgt := 2) hx hb dX2_pass_34 (by decide) ?_
    exact ihk1 (k1 + 1) _ _ _ ⟨by omega, hZ.cast (by first | (rw [ahU, if_pos (by omega)]; done) | (rw [ahU, if_neg (by omega)]; done)), lv_cast (lv_sub (l' := [(0, .ref h), (1, .int (nI tt)), (2, .int (nI (k1 + 1)))]) hl [1, 2, 0] rfl) (by rfl)⟩ (by omega)
  have c_6n : ¬ n_ ≤ k1 := fun zz_ => c_6 ((nI_leI (a := n_) (b := k1) (by omega) (by omega)).mpr zz_)
  refine lv_aload_n hx hb dX2_pass_20 rfl (lv_at hl 0 rfl) ?_
  refine gf_q817 (v := .ref (R 10)) hX hZ.1 0 rfl rfl dX2_pass_21 ?_
  refine lv_iload_n hx hb dX2_pass_24 rfl (lv_at hl 2 rfl) ?_
  refine r_iald (f := (G 5)) hX hZ.1 6 rfl k1 (by omega) (by omega) dX2_pass_25 ?_
  refine lv_goto (tgt := 30) hx hb dX2_pass_26 (by decide) ?_
  refine r_iast (f := (ahU (G 5) (G 7) n_ k1)) (x := ((G 5) k1)) (ws1 := (wM g h R J hs (va_up G 7 (upd (ahU (G 5) (G 7) n_ k1) k1 ((G 5) k1))))) hX hZ 8 rfl k1 (by omega) (by omega) dX2_pass_30 rfl (fun H locs hZ => ?_)
  refine lv_iinc (v := (nI (k1 + 1))) (lv' := [(2, .int (nI (k1 + 1))), (0, .ref h), (1, .int (nI tt))]) hx hb dX2_pass_31 hl (k := 2) rfl (nI_1 _) (by decide) rfl (fun ls hl => ?_)
  refine lv_goto (tgt := 2) hx hb dX2_pass_34 (by decide) ?_
  exact ihk1 (k1 + 1) _ _ _ ⟨by omega, hZ.cast (by first | (rw [ahU, if_pos (by omega)]; done) | (rw [ahU, if_neg (by omega)]; done)), lv_cast (lv_sub (l' := [(0, .ref h), (1, .int (nI tt)), (2, .int (nI (k1 + 1)))]) hl [1, 2, 0] rfl) (by rfl)⟩ (by omega)

set_option maxHeartbeats 400000 in
set_option maxRecDepth 100000 in
theorem K_X2_burn (l : Launch) (g : Gx) (h : Nat) (R : Nat → Nat) (J : Nat → Int32) (hs : Int64) (G : Nat → Nat → Int32) (x : Int32) (n_ : Nat) (kd : Nat → Nat) (pt : Nat → Int32) (hn : n_ ≤ 5) (hJ6 : (J 6) = nI n_) (hrow : RowsOk G n_ kd pt) (hlv : LvOk (G 3) n_) (hrk : RoK roT (wM g h R J hs G)) : EM l g yX2_burn cX2_burn 4 (some .int) 3 [.ref h, .int x] roT (wM g h R J hs G) (fun u => (wM g h R (mbJ J x) hs (va_up (va_up (va_up (va_up (va_up G 3 (mbL kd J G pt n_ x)) 4 (mbK kd J G pt n_ x)) 5 (u 5)) 6 (u 6)) 7 (u 7)))) (some (.int (burR kd (vI J) (vF G pt) n_ x))) := by
  refine EM.of (own := "BurntLettersModel") (by decide) rfl (Nat.le_of_ble_eq_true rfl) hrk ?_
  intro p e s m below meth c A hX hr hlk hZ ls hl
  have hx := hX.1.1
  have hb := hX.1.2.1
  have hl : lv_has ls 4 [(0, .ref h), (1, .int x)] := hl
  refine lv_iload_n hx hb dX2_burn_0 rfl (lv_at hl 1 rfl) ?_
  refine PM.ci (PM.runS (As := [.int x]) (rest := []) hX (K_X2_isLetter l g x) (cs_q927 hX ⟨Nat.le_of_ble_eq_true rfl, Nat.le_of_ble_eq_true rfl⟩) va_P_nil trivial rfl hl.1 rfl (Nat.le_of_ble_eq_true rfl) dX2_burn_1 ⟨Nat.zero_le _, Nat.zero_le _⟩) ?_
  refine lv_bif_ne (tgt := 10) hx hb dX2_burn_4 (by decide) (fun c_1 => ?_) (fun c_1 => ?_)
  · obtain ⟨xx, hxx, rfl⟩ := inP_nat (b := 5) (by omega) c_1
    refine lv_aload_n hx hb dX2_burn_10 rfl (lv_at hl 0 rfl) ?_
    refine PM.ci (PM.runV (As := []) (rest := []) hX (K_X2_lacks l g h R J hs G) (cv_q944 hX ⟨Nat.le_of_ble_eq_true rfl, Nat.le_of_ble_eq_true rfl⟩) hZ.1 trivial (r_recv hX hZ.1 0 rfl rfl) rfl hl.1 rfl (Nat.le_of_ble_eq_true rfl) dX2_burn_11 ⟨Nat.zero_le _, Nat.zero_le _⟩) ?_
    refine lv_bif_eq (tgt := 20) hx hb dX2_burn_14 (by decide) (fun c_2 => ?_) (fun c_2 => ?_)
    · refine lv_aload_n hx hb dX2_burn_20 rfl (lv_at hl 0 rfl) ?_
      refine MM.cvA (MM.runV (As := []) (rest := []) hX (K_X2_asItIs l g h R J hs G (RoK.tt _)) (cv_q995 hX ⟨Nat.le_of_ble_eq_true rfl, Nat.le_of_ble_eq_true rfl⟩) hZ.1 hZ.2.1 trivial (r_recv hX hZ.1 0 rfl rfl) rfl hl.1 rfl (Nat.le_of_ble_eq_true rfl) dX2_burn_21 ⟨Nat.zero_le _, Nat.zero_le _⟩) hZ adM (fun H locs hZ => ?_)
      refine lv_aload_n hx hb dX2_burn_24 rfl (lv_at hl 0 rfl) ?_
      refine lv_iload_n hx hb dX2_burn_25 rfl (lv_at hl 1 rfl) ?_
      refine EM.ciA (EM.runV (As := [.int (nI xx)]) (rest := []) hX (K_X2_pass l g h R J hs (va_up (va_up G 5 (G 3)) 6 (G 4)) xx n_ kd pt (by omega) (hJ6) (hrow) (by omega) (hlv) (RoK.tt _)) (cv_q999 hX ⟨Nat.le_of_ble_eq_true rfl, Nat.le_of_ble_eq_true rfl⟩) hZ.1 hZ.2.1 trivial (r_recv hX hZ.1 0 rfl rfl) rfl hl.1 rfl (Nat.le_of_ble_eq_true rfl) dX2_burn_26 ⟨Nat.zero_le _, Nat.zero_le _⟩) hZ (fun _ => adM) (fun u_3 H locs hZ => ?_)
      refine lv_seti (v := (brR kd pt (G 3) (G 4) (nI xx) n_)) (rfl) ?_
      refine lv_istore_n (lv' := [(2, .int (brR kd pt (G 3) (G 4) (nI xx) n_)), (0, .ref h), (1, .int (nI xx))]) hx hb dX2_burn_29 rfl hl (by decide) rfl (fun ls hl => ?_)
      refine lv_iconst (v := 0) hx hb dX2_burn_30 (by decide) ?_
      refine lv_istore_n (lv' := [(3, .int 0), (2, .int (brR kd pt (G 3) (G 4) (nI xx) n_)), (0, .ref h), (1, .int (nI xx))]) hx hb dX2_burn_31 rfl hl (by decide) rfl (fun ls hl => ?_)
      refine W_loop (α := Nat) (P := fun (i : Nat) (H : Heap) (locs : List Loc) (ls : Array Slot) => i ≤ 5 ∧ Zt g A s.heap roT (wM g h R J hs (va_up (va_up (va_up (va_up (va_up G 5 (brL kd (J 2) pt (G 3) (G 4) (nI xx) n_)) 6 (brK kd pt (G 3) (G 4) (nI xx) n_)) 7 (u_3 7)) 3 (cpF (brL kd (J 2) pt (G 3) (G 4) (nI xx) n_) (G 3) i)) 4 (cpF (brK kd pt (G 3) (G 4) (nI xx) n_) (G 4) i))) H locs ∧ lv_has ls 4 [(0, .ref h), (1, .int (nI xx)), (2, .int (brR kd pt (G 3) (G 4) (nI xx) n_)), (3, .int (nI i))]) (fun i => 5 - i) 0 ⟨Nat.zero_le _, hZ.cast (rfl), lv_cast (lv_sub (l' := [(0, .ref h), (1, .int (nI xx)), (2, .int (brR kd pt (G 3) (G 4) (nI xx) n_)), (3, .int 0)]) hl [2, 3, 1, 0] rfl) (rfl)⟩ ?_
      rintro i H locs ls ⟨hi, hZ, hl⟩ ihi
      refine lv_iload_n hx hb dX2_burn_32 rfl (lv_at hl 3 rfl) ?_
      refine lv_iconst (v := 5) hx hb dX2_burn_33 (by decide) ?_
      refine lv_icmp_ge (tgt := 67) hx hb dX2_burn_34 (by decide) (fun c_4 => ?_) (fun c_4 => ?_)
      · have c_4n : 5 ≤ i := (nI_leI (a := 5) (b := i) (by omega) (by omega)).mp c_4
        have eii : i = 5 := by omega
        subst eii
        have hZ := hZ.arr 4 (brL kd (J 2) pt (G 3) (G 4) (nI xx) n_) rfl (cpF_in _ _ 5)
        have hZ : Zt g A s.heap roT (wM g h R J hs (va_up (va_up (va_up (va_up (va_up G 5 (brL kd (J 2) pt (G 3) (G 4) (nI xx) n_)) 6 (brK kd pt (G 3) (G 4) (nI xx) n_)) 7 (u_3 7)) 4 (cpF (brK kd pt (G 3) (G 4) (nI xx) n_) (G 4) 5)) 3 (brL kd (J 2) pt (G 3) (G 4) (nI xx) n_))) H locs := hZ
        have hZ := hZ.arr 5 (brK kd pt (G 3) (G 4) (nI xx) n_) rfl (cpF_in _ _ 5)
        have hZ : Zt g A s.heap roT (wM g h R J hs (va_up (va_up (va_up (va_up (va_up G 5 (brL kd (J 2) pt (G 3) (G 4) (nI xx) n_)) 6 (brK kd pt (G 3) (G 4) (nI xx) n_)) 7 (u_3 7)) 3 (brL kd (J 2) pt (G 3) (G 4) (nI xx) n_)) 4 (brK kd pt (G 3) (G 4) (nI xx) n_))) H locs := hZ
        refine lv_aload_n hx hb dX2_burn_67 rfl (lv_at hl 0 rfl) ?_
        refine lv_dup hx hb dX2_burn_68 rfl ?_
        refine gf_q810 (v := .int (J 3)) hX hZ.1 0 rfl rfl dX2_burn_69 ?_
        refine lv_iconst (v := 1) hx hb dX2_burn_72 (by decide) ?_
        refine lv_iadd hx hb dX2_burn_73 ?_
        refine pf_q810 (ws1 := (wM g h R (upd J 3 ((J 3) + 1)) hs (va_up (va_up (va_up (va_up (va_up G 5 (brL kd (J 2) pt (G 3) (G 4) (nI xx) n_)) 6 (brK kd pt (G 3) (G 4) (nI xx) n_)) 7 (u_3 7)) 3 (brL kd (J 2) pt (G 3) (G 4) (nI xx) n_)) 4 (brK kd pt (G 3) (G 4) (nI xx) n_)))) hX hZ 0 rfl (Nat.le_of_ble_eq_true rfl) rfl dX2_burn_74 (fun H locs hZ => ?_)
        refine lv_iload_n hx hb dX2_burn_77 rfl (lv_at hl 2 rfl) ?_
        exact EM.iret hX hr hlk hZ (ws1 := fun u => (wM g h R (mbJ J (nI xx)) hs (va_up (va_up (va_up (va_up (va_up G 3 (mbL kd J G pt n_ (nI xx))) 4 (mbK kd J G pt n_ (nI xx))) 5 (u 5)) 6 (u 6)) 7 (u 7)))) (va_up (va_up (va_up (va_up (va_up G 5 (brL kd (J 2) pt (G 3) (G 4) (nI xx) n_)) 6 (brK kd pt (G 3) (G 4) (nI xx) n_)) 7 (u_3 7)) 3 (brL kd (J 2) pt (G 3) (G 4) (nI xx) n_)) 4 (brK kd pt (G 3) (G 4) (nI xx) n_)) (by first | (simp only [mbJ, mbL, mbK, if_pos c_1, if_neg c_2, if_pos c_4]; done) | (simp only [mbJ, mbL, mbK, if_pos c_1, if_neg c_2, if_pos c_4]; rfl)) (by first | (rw [burR, if_neg c_1]; done) | (rw [burR, if_pos c_1, if_pos (vI1.mpr c_2)]; done) | (rw [burR, if_pos c_1, if_neg (fun q => c_2 (vI1.mp q))]; rfl)) dX2_burn_78
      have c_4n : ¬ 5 ≤ i := fun zz_ => c_4 ((nI_leI (a := 5) (b := i) (by omega) (by omega)).mpr zz_)
      refine lv_aload_n hx hb dX2_burn_37 rfl (lv_at hl 0 rfl) ?_
      refine gf_q815 (v := .ref (R 8)) hX hZ.1 0 rfl rfl dX2_burn_38 ?_
      refine lv_iload_n hx hb dX2_burn_41 rfl (lv_at hl 3 rfl) ?_
      refine lv_aload_n hx hb dX2_burn_42 rfl (lv_at hl 0 rfl) ?_
      refine gf_q817 (v := .ref (R 10)) hX hZ.1 0 rfl rfl dX2_burn_43 ?_
      refine lv_iload_n hx hb dX2_burn_46 rfl (lv_at hl 3 rfl) ?_
      refine r_iald (f := (brL kd (J 2) pt (G 3) (G 4) (nI xx) n_)) hX hZ.1 6 rfl i (by omega) (by omega) dX2_burn_47 ?_
      refine r_iast (f := (cpF (brL kd (J 2) pt (G 3) (G 4) (nI xx) n_) (G 3) i)) (x := ((brL kd (J 2) pt (G 3) (G 4) (nI xx) n_) i)) (ws1 := (wM g h R J hs (va_up (va_up (va_up (va_up (va_up G 5 (brL kd (J 2) pt (G 3) (G 4) (nI xx) n_)) 6 (brK kd pt (G 3) (G 4) (nI xx) n_)) 7 (u_3 7)) 4 (cpF (brK kd pt (G 3) (G 4) (nI xx) n_) (G 4) i)) 3 (upd (cpF (brL kd (J 2) pt (G 3) (G 4) (nI xx) n_) (G 3) i) i ((brL kd (J 2) pt (G 3) (G 4) (nI xx) n_) i))))) hX hZ 4 rfl i (by omega) (by omega) dX2_burn_48 rfl (fun H locs hZ => ?_)
      refine lv_aload_n hx hb dX2_burn_49 rfl (lv_at hl 0 rfl) ?_
      refine gf_q816 (v := .ref (R 9)) hX hZ.1 0 rfl rfl dX2_burn_50 ?_
      refine lv_iload_n hx hb dX2_burn_53 rfl (lv_at hl 3 rfl) ?_
      refine lv_aload_n hx hb dX2_burn_54 rfl (lv_at hl 0 rfl) ?_
      refine gf_q818 (v := .ref (R 11)) hX hZ.1 0 rfl rfl dX2_burn_55 ?_
      refine lv_iload_n hx hb dX2_burn_58 rfl (lv_at hl 3 rfl) ?_
      refine r_iald (f := (brK kd pt (G 3) (G 4) (nI xx) n_)) hX hZ.1 7 rfl i (by omega) (by omega) dX2_burn_59 ?_
      refine r_iast (f := (cpF (brK kd pt (G 3) (G 4) (nI xx) n_) (G 4) i)) (x := ((brK kd pt (G 3) (G 4) (nI xx) n_) i)) (ws1 := (wM g h R J hs (va_up (va_up (va_up (va_up (va_up G 5 (brL kd (J 2) pt (G 3) (G 4) (nI xx) n_)) 6 (brK kd pt (G 3) (G 4) (nI xx) n_)) 7 (u_3 7)) 3 (upd (cpF (brL kd (J 2) pt (G 3) (G 4) (nI xx) n_) (G 3) i) i ((brL kd (J 2) pt (G 3) (G 4) (nI xx) n_) i))) 4 (upd (cpF (brK kd pt (G 3) (G 4) (nI xx) n_) (G 4) i) i ((brK kd pt (G 3) (G 4) (nI xx) n_) i))))) hX hZ 5 rfl i (by omega) (by omega) dX2_burn_60 rfl (fun H locs hZ => ?_)
      refine lv_iinc (v := (nI (i + 1))) (lv' := [(3, .int (nI (i + 1))), (0, .ref h), (1, .int (nI xx)), (2, .int (brR kd pt (G 3) (G 4) (nI xx) n_))]) hx hb dX2_burn_61 hl (k := 3) rfl (nI_1 _) (by decide) rfl (fun ls hl => ?_)
      refine lv_goto (tgt := 32) hx hb dX2_burn_64 (by decide) ?_
      exact ihi (i + 1) _ _ _ ⟨by omega, hZ.cast (rfl), lv_cast (lv_sub (l' := [(0, .ref h), (1, .int (nI xx)), (2, .int (brR kd pt (G 3) (G 4) (nI xx) n_)), (3, .int (nI (i + 1)))]) hl [1, 2, 3, 0] rfl) (by rfl)⟩ (by omega)
    refine lv_bipush (v := (-103)) hx hb dX2_burn_17 (by decide) ?_
    exact EM.iret hX hr hlk hZ (ws1 := fun u => (wM g h R (mbJ J (nI xx)) hs (va_up (va_up (va_up (va_up (va_up G 3 (mbL kd J G pt n_ (nI xx))) 4 (mbK kd J G pt n_ (nI xx))) 5 (u 5)) 6 (u 6)) 7 (u 7)))) G (by first | (simp only [mbJ, mbL, mbK, if_pos c_1, if_pos c_2]; done) | (simp only [mbJ, mbL, mbK, if_pos c_1, if_pos c_2]; rfl)) (by first | (rw [burR, if_neg c_1]; done) | (rw [burR, if_pos c_1, if_pos (vI1.mpr c_2)]; done) | (rw [burR, if_pos c_1, if_neg (fun q => c_2 (vI1.mp q))]; rfl)) dX2_burn_19
  refine lv_bipush (v := (-101)) hx hb dX2_burn_7 (by decide) ?_
  exact EM.iret hX hr hlk hZ (ws1 := fun u => (wM g h R (mbJ J x) hs (va_up (va_up (va_up (va_up (va_up G 3 (mbL kd J G pt n_ x)) 4 (mbK kd J G pt n_ x)) 5 (u 5)) 6 (u 6)) 7 (u 7)))) G (by first | (simp only [mbJ, mbL, mbK, if_neg c_1]; done) | (simp only [mbJ, mbL, mbK, if_neg c_1]; rfl)) (by first | (rw [burR, if_neg c_1]; done) | (rw [burR, if_pos c_1, if_pos (vI1.mpr c_none)]; done) | (rw [burR, if_pos c_1, if_neg (fun q => c_none (vI1.mp q))]; rfl)) dX2_burn_9
