/-! THE MODEL, 6 (by program: gen/model6.py) -/
set_option maxHeartbeats 400000 in
set_option maxRecDepth 100000 in
theorem K_X2_isSure (l : Launch) (g : Gx) (h : Nat) (R : Nat → Nat) (J : Nat → Int32) (hs : Int64) (G : Nat → Nat → Int32) (set : Nat) (fl : Bool) (y : Nat) (kk : Nat) (hst : set < 64) (hk : kk < 5) (hf4 : fl = true ↔ kk = 4) (hy : y ≤ 4) : PM l g yX2_isSure cX2_isSure 12 (some .boolean) 1 [.ref h, .int (nI set), .int (b01 (fl = true)), .int (nI y)] roT (wM g h R J hs G) (some (.int (b01 (srB kk (G 1) (nI set) y (p6 y) = true)))) := by
  refine PM.of (own := "BurntLettersModel") (by decide) rfl (Nat.le_of_ble_eq_true rfl) ?_
  intro p e s m below meth c hX hr hlk hP hro ls hl
  have hx := hX.1.1
  have hb := hX.1.2.1
  have hl : lv_has ls 12 [(0, .ref h), (1, .int (nI set)), (2, .int (b01 (fl = true))), (3, .int (nI y))] := hl
  have hp6 := p6_le (show y ≤ 5 by omega)
  refine lv_iconst (v := 1) hx hb dX2_isSure_0 (by decide) ?_
  refine lv_istore (lv' := [(4, .int 1), (0, .ref h), (1, .int (nI set)), (2, .int (b01 (fl = true))), (3, .int (nI y))]) hx hb dX2_isSure_1 hl (by decide) rfl (fun ls hl => ?_)
  refine lv_iconst (v := 0) hx hb dX2_isSure_3 (by decide) ?_
  refine lv_istore (lv' := [(5, .int 0), (4, .int 1), (0, .ref h), (1, .int (nI set)), (2, .int (b01 (fl = true))), (3, .int (nI y))]) hx hb dX2_isSure_4 hl (by decide) rfl (fun ls hl => ?_)
  refine W_loopP (α := Nat) (P := fun (i : Nat) (ls : Array Slot) => i ≤ p6 y ∧ lv_has ls 12 [(0, .ref h), (1, .int (nI set)), (2, .int (b01 (fl = true))), (3, .int (nI y)), (4, .int (b01 (srB kk (G 1) (nI set) y i = true))), (5, .int (nI i))]) (fun i => p6 y - i) 0 ⟨Nat.zero_le _, lv_cast (lv_sub (l' := [(0, .ref h), (1, .int (nI set)), (2, .int (b01 (fl = true))), (3, .int (nI y)), (4, .int 1), (5, .int 0)]) hl [2, 3, 4, 5, 1, 0] rfl) (by simp [b01, srB, nI])⟩ ?_
  rintro i ls ⟨hi, hl⟩ ihi
  refine lv_iload hx hb dX2_isSure_6 (lv_at hl 5 rfl) ?_
  refine lv_bipush (v := 6) hx hb dX2_isSure_8 (by decide) ?_
  refine lv_iload_n hx hb dX2_isSure_10 rfl (lv_at hl 3 rfl) ?_
  refine PM.ci (PM.runS (As := [.int 6, .int (nI y)]) (rest := [.int (nI i)]) hX (K_X2_power l g 6 y (by omega)) (cs_q1027 hX ⟨Nat.le_of_ble_eq_true rfl, Nat.le_of_ble_eq_true rfl⟩) va_P_nil trivial rfl hl.1 rfl (Nat.le_of_ble_eq_true rfl) dX2_isSure_11 ⟨Nat.zero_le _, Nat.zero_le _⟩) ?_
  refine lv_seti (v := (nI (p6 y))) (hp6.1) ?_
  refine lv_icmp_ge (tgt := 173) hx hb dX2_isSure_14 (by decide) (fun c_1 => ?_) (fun c_1 => ?_)
  · have c_1n : (p6 y) ≤ i := (nI_leI (a := (p6 y)) (b := i) (by omega) (by omega)).mp c_1
    have ei : p6 y = i := by omega
    subst ei
    refine lv_iload hx hb dX2_isSure_173 (lv_at hl 4 rfl) ?_
    exact PM.zret hX hr hlk (by first | rfl | exact b01_congr ⟨fun q => absurd q c_none, fun q => absurd (srB_mono _ hi q) c_none⟩) (b01_or _) dX2_isSure_175
  have c_1n : ¬ (p6 y) ≤ i := fun zz_ => c_1 ((nI_leI (a := (p6 y)) (b := i) (by omega) (by omega)).mpr zz_)
  refine lv_iload hx hb dX2_isSure_17 (lv_at hl 4 rfl) ?_
  refine lv_bif_eq (tgt := 173) hx hb dX2_isSure_19 (by decide) (fun c_2 => ?_) (fun c_2 => ?_)
  · refine lv_iload hx hb dX2_isSure_173 (lv_at hl 4 rfl) ?_
    exact PM.zret hX hr hlk (by first | rfl | exact b01_congr ⟨fun q => absurd q c_2, fun q => absurd (srB_mono _ hi q) c_2⟩) (b01_or _) dX2_isSure_175
  refine lv_iload hx hb dX2_isSure_22 (lv_at hl 5 rfl) ?_
  refine lv_istore (lv' := [(6, .int (nI i)), (0, .ref h), (1, .int (nI set)), (2, .int (b01 (fl = true))), (3, .int (nI y)), (4, .int (b01 (srB kk (G 1) (nI set) y i = true))), (5, .int (nI i))]) hx hb dX2_isSure_24 hl (by decide) rfl (fun ls hl => ?_)
  refine lv_iload_n hx hb dX2_isSure_26 rfl (lv_at hl 2 rfl) ?_
  refine lv_istore (lv' := [(7, .int (nI set)), (6, .int (nI i)), (0, .ref h), (1, .int (nI set)), (2, .int (b01 (fl = true))), (3, .int (nI y)), (4, .int (b01 (srB kk (G 1) (nI set) y i = true))), (5, .int (nI i))]) hx hb dX2_isSure_27 hl (by decide) rfl (fun ls hl => ?_)
  refine lv_iconst (v := 1) hx hb dX2_isSure_29 (by decide) ?_
  refine lv_istore (lv' := [(8, .int 1), (7, .int (nI set)), (6, .int (nI i)), (0, .ref h), (1, .int (nI set)), (2, .int (b01 (fl = true))), (3, .int (nI y)), (4, .int (b01 (srB kk (G 1) (nI set) y i = true))), (5, .int (nI i))]) hx hb dX2_isSure_30 hl (by decide) rfl (fun ls hl => ?_)
  refine lv_iconst (v := 0) hx hb dX2_isSure_32 (by decide) ?_
  refine lv_istore (lv' := [(9, .int 0), (8, .int 1), (7, .int (nI set)), (6, .int (nI i)), (0, .ref h), (1, .int (nI set)), (2, .int (b01 (fl = true))), (3, .int (nI y)), (4, .int (b01 (srB kk (G 1) (nI set) y i = true))), (5, .int (nI i))]) hx hb dX2_isSure_33 hl (by decide) rfl (fun ls hl => ?_)
  refine W_loopP (α := Nat) (P := fun (j : Nat) (ls : Array Slot) => j ≤ y ∧ lv_has ls 12 [(0, .ref h), (1, .int (nI set)), (2, .int (b01 (fl = true))), (3, .int (nI y)), (4, .int (b01 (srB kk (G 1) (nI set) y i = true))), (5, .int (nI i)), (6, .int (nI (lft i j))), (7, .int (snF kk (nI set) i j)), (8, .int (b01 (myB (G 1) i j = true))), (9, .int (nI j))]) (fun j => y - j) 0 ⟨Nat.zero_le _, lv_cast (lv_sub (l' := [(0, .ref h), (1, .int (nI set)), (2, .int (b01 (fl = true))), (3, .int (nI y)), (4, .int (b01 (srB kk (G 1) (nI set) y i = true))), (5, .int (nI i)), (6, .int (nI i)), (7, .int (nI set)), (8, .int 1), (9, .int 0)]) hl [4, 5, 6, 7, 8, 9, 3, 2, 1, 0] rfl) (by simp [b01, myB, snF, nI, lft])⟩ ?_
  rintro j ls ⟨hj, hl⟩ ihj
  have hlf := lft_le i j
  refine lv_iload hx hb dX2_isSure_35 (lv_at hl 9 rfl) ?_
  refine lv_iload_n hx hb dX2_isSure_37 rfl (lv_at hl 3 rfl) ?_
  refine lv_icmp_ge (tgt := 150) hx hb dX2_isSure_38 (by decide) (fun c_3 => ?_) (fun c_3 => ?_)
  · have c_3n : y ≤ j := (nI_leI (a := y) (b := j) (by omega) (by omega)).mp c_3
    have ej : y = j := by omega
    subst ej
    refine lv_iload hx hb dX2_isSure_150 (lv_at hl 8 rfl) ?_
    refine lv_bif_eq (tgt := 160) hx hb dX2_isSure_152 (by decide) (fun c_4 => ?_) (fun c_4 => ?_)
    · refine lv_iconst (v := 1) hx hb dX2_isSure_160 (by decide) ?_
      refine lv_goto (tgt := 165) hx hb dX2_isSure_161 (by decide) ?_
      refine lv_istore (lv' := [(4, .int 1), (0, .ref h), (1, .int (nI set)), (2, .int (b01 (fl = true))), (3, .int (nI y)), (5, .int (nI i)), (6, .int (nI (lft i y))), (7, .int (snF kk (nI set) i y)), (8, .int (b01 (myB (G 1) i y = true))), (9, .int (nI y))]) hx hb dX2_isSure_165 hl (by decide) rfl (fun ls hl => ?_)
      refine lv_iinc (v := (nI (i + 1))) (lv' := [(5, .int (nI (i + 1))), (4, .int 1), (0, .ref h), (1, .int (nI set)), (2, .int (b01 (fl = true))), (3, .int (nI y)), (6, .int (nI (lft i y))), (7, .int (snF kk (nI set) i y)), (8, .int (b01 (myB (G 1) i y = true))), (9, .int (nI y))]) hx hb dX2_isSure_167 hl (k := 5) rfl (nI_1 _) (by decide) rfl (fun ls hl => ?_)
      refine lv_goto (tgt := 6) hx hb dX2_isSure_170 (by decide) ?_
      exact ihi (i + 1) _ ⟨by omega, lv_cast (lv_sub (l' := [(0, .ref h), (1, .int (nI set)), (2, .int (b01 (fl = true))), (3, .int (nI y)), (4, .int 1), (5, .int (nI (i + 1)))]) hl [2, 3, 4, 5, 1, 0] rfl) (by simp [b01, srB, c_1, c_2, c_3, c_4])⟩ (by omega)
    refine lv_iload hx hb dX2_isSure_155 (lv_at hl 7 rfl) ?_
    refine lv_if_eq (tgt := 164) hx hb dX2_isSure_157 (by decide) (fun c_5 => ?_) (fun c_5 => ?_)
    · refine lv_iconst (v := 0) hx hb dX2_isSure_164 (by decide) ?_
      refine lv_istore (lv' := [(4, .int 0), (0, .ref h), (1, .int (nI set)), (2, .int (b01 (fl = true))), (3, .int (nI y)), (5, .int (nI i)), (6, .int (nI (lft i y))), (7, .int (snF kk (nI set) i y)), (8, .int (b01 (myB (G 1) i y = true))), (9, .int (nI y))]) hx hb dX2_isSure_165 hl (by decide) rfl (fun ls hl => ?_)
      refine lv_iinc (v := (nI (i + 1))) (lv' := [(5, .int (nI (i + 1))), (4, .int 0), (0, .ref h), (1, .int (nI set)), (2, .int (b01 (fl = true))), (3, .int (nI y)), (6, .int (nI (lft i y))), (7, .int (snF kk (nI set) i y)), (8, .int (b01 (myB (G 1) i y = true))), (9, .int (nI y))]) hx hb dX2_isSure_167 hl (k := 5) rfl (nI_1 _) (by decide) rfl (fun ls hl => ?_)
      refine lv_goto (tgt := 6) hx hb dX2_isSure_170 (by decide) ?_
      exact ihi (i + 1) _ ⟨by omega, lv_cast (lv_sub (l' := [(0, .ref h), (1, .int (nI set)), (2, .int (b01 (fl = true))), (3, .int (nI y)), (4, .int 0), (5, .int (nI (i + 1)))]) hl [2, 3, 4, 5, 1, 0] rfl) (by simp [b01, srB, c_1, c_2, c_3, c_4, c_5])⟩ (by omega)
    refine lv_iconst (v := 1) hx hb dX2_isSure_160 (by decide) ?_
    refine lv_goto (tgt := 165) hx hb dX2_isSure_161 (by decide) ?_
    refine lv_istore (lv' := [(4, .int 1), (0, .ref h), (1, .int (nI set)), (2, .int (b01 (fl = true))), (3, .int (nI y)), (5, .int (nI i)), (6, .int (nI (lft i y))), (7, .int (snF kk (nI set) i y)), (8, .int (b01 (myB (G 1) i y = true))), (9, .int (nI y))]) hx hb dX2_isSure_165 hl (by decide) rfl (fun ls hl => ?_)
    refine lv_iinc (v := (nI (i + 1))) (lv' := [(5, .int (nI (i + 1))), (4, .int 1), (0, .ref h), (1, .int (nI set)), (2, .int (b01 (fl = true))), (3, .int (nI y)), (6, .int (nI (lft i y))), (7, .int (snF kk (nI set) i y)), (8, .int (b01 (myB (G 1) i y = true))), (9, .int (nI y))]) hx hb dX2_isSure_167 hl (k := 5) rfl (nI_1 _) (by decide) rfl (fun ls hl => ?_)
    refine lv_goto (tgt := 6) hx hb dX2_isSure_170 (by decide) ?_
    exact ihi (i + 1) _ ⟨by omega, lv_cast (lv_sub (l' := [(0, .ref h), (1, .int (nI set)), (2, .int (b01 (fl = true))), (3, .int (nI y)), (4, .int 1), (5, .int (nI (i + 1)))]) hl [2, 3, 4, 5, 1, 0] rfl) (by simp [b01, srB, c_1, c_2, c_3, c_4, c_5])⟩ (by omega)
  have c_3n : ¬ y ≤ j := fun zz_ => c_3 ((nI_leI (a := y) (b := j) (by omega) (by omega)).mpr zz_)
  refine lv_iload hx hb dX2_isSure_41 (lv_at hl 6 rfl) ?_
  refine lv_bipush (v := 6) hx hb dX2_isSure_43 (by decide) ?_
  refine lv_irem hx hb dX2_isSure_45 (by decide) ?_
  refine lv_seti (v := (nI ((lft i j) % 6))) (pk_rem (a := (lft i j)) (d := 6) (by omega) (by omega) (by omega)) ?_
  refine lv_istore (lv' := [(10, .int (nI ((lft i j) % 6))), (0, .ref h), (1, .int (nI set)), (2, .int (b01 (fl = true))), (3, .int (nI y)), (4, .int (b01 (srB kk (G 1) (nI set) y i = true))), (5, .int (nI i)), (6, .int (nI (lft i j))), (7, .int (snF kk (nI set) i j)), (8, .int (b01 (myB (G 1) i j = true))), (9, .int (nI j))]) hx hb dX2_isSure_46 hl (by decide) rfl (fun ls hl => ?_)
  refine lv_iload hx hb dX2_isSure_48 (lv_at hl 7 rfl) ?_
  refine lv_bipush (v := 6) hx hb dX2_isSure_50 (by decide) ?_
  refine lv_idiv hx hb dX2_isSure_52 (by decide) ?_
  refine lv_seti (v := (nI ((lft i j) / 6))) (pk_div (a := (lft i j)) (d := 6) (by omega) (by omega) (by omega)) ?_
  refine lv_istore (lv' := [(6, .int (nI ((lft i j) / 6))), (10, .int (nI ((lft i j) % 6))), (0, .ref h), (1, .int (nI set)), (2, .int (b01 (fl = true))), (3, .int (nI y)), (4, .int (b01 (srB kk (G 1) (nI set) y i = true))), (5, .int (nI i)), (7, .int (snF kk (nI set) i j)), (8, .int (b01 (myB (G 1) i j = true))), (9, .int (nI j))]) hx hb dX2_isSure_53 hl (by decide) rfl (fun ls hl => ?_)
  refine lv_iload hx hb dX2_isSure_55 (lv_at hl 9 rfl) ?_
  refine lv_bif_eq (tgt := 74) hx hb dX2_isSure_57 (by decide) (fun c_6 => ?_) (fun c_6 => ?_)
  · refine lv_iconst (v := 0) hx hb dX2_isSure_74 (by decide) ?_
    refine lv_istore (lv' := [(8, .int 0), (6, .int (nI ((lft i j) / 6))), (10, .int (nI ((lft i j) % 6))), (0, .ref h), (1, .int (nI set)), (2, .int (b01 (fl = true))), (3, .int (nI y)), (4, .int (b01 (srB kk (G 1) (nI set) y i = true))), (5, .int (nI i)), (7, .int (snF kk (nI set) i j)), (9, .int (nI j))]) hx hb dX2_isSure_75 hl (by decide) rfl (fun ls hl => ?_)
    refine lv_iload hx hb dX2_isSure_77 (lv_at hl 9 rfl) ?_
    refine lv_iload hx hb dX2_isSure_79 (lv_at hl 2 rfl) ?_
    refine lv_ishr hx hb dX2_isSure_81 ?_
    refine lv_iconst (v := 1) hx hb dX2_isSure_82 (by decide) ?_
    refine lv_iand hx hb dX2_isSure_83 ?_
    refine lv_iconst (v := 1) hx hb dX2_isSure_84 (by decide) ?_
    refine lv_icmp_ne (tgt := 92) hx hb dX2_isSure_85 (by decide) (fun c_7 => ?_) (fun c_7 => ?_)
    · refine lv_iconst (v := 0) hx hb dX2_isSure_92 (by decide) ?_
      refine lv_istore (lv' := [(11, .int 0), (8, .int 0), (6, .int (nI ((lft i j) / 6))), (10, .int (nI ((lft i j) % 6))), (0, .ref h), (1, .int (nI set)), (2, .int (b01 (fl = true))), (3, .int (nI y)), (4, .int (b01 (srB kk (G 1) (nI set) y i = true))), (5, .int (nI i)), (7, .int (snF kk (nI set) i j)), (9, .int (nI j))]) hx hb dX2_isSure_93 hl (by decide) rfl (fun ls hl => ?_)
      refine lv_iload hx hb dX2_isSure_95 (lv_at hl 10 rfl) ?_
      refine lv_iload hx hb dX2_isSure_97 (lv_at hl 0 rfl) ?_
      refine lv_if_eq (tgt := 111) hx hb dX2_isSure_99 (by decide) (fun c_8 => ?_) (fun c_8 => ?_)
      · refine lv_iconst (v := (-1)) hx hb dX2_isSure_111 (by decide) ?_
        refine lv_iand hx hb dX2_isSure_112 ?_
        refine lv_istore (lv' := [(7, .int ((snF kk (nI set) i j) &&& (-1))), (11, .int 0), (8, .int 0), (6, .int (nI ((lft i j) / 6))), (10, .int (nI ((lft i j) % 6))), (0, .ref h), (1, .int (nI set)), (2, .int (b01 (fl = true))), (3, .int (nI y)), (4, .int (b01 (srB kk (G 1) (nI set) y i = true))), (5, .int (nI i)), (9, .int (nI j))]) hx hb dX2_isSure_113 hl (by decide) rfl (fun ls hl => ?_)
        refine lv_iload hx hb dX2_isSure_115 (lv_at hl 0 rfl) ?_
        refine lv_iload hx hb dX2_isSure_117 (lv_at hl 1 rfl) ?_
        refine lv_if_eq (tgt := 140) hx hb dX2_isSure_119 (by decide) (fun c_9 => ?_) (fun c_9 => ?_)
        · refine lv_iconst (v := (-1)) hx hb dX2_isSure_140 (by decide) ?_
          refine lv_iand hx hb dX2_isSure_141 ?_
          refine lv_istore (lv' := [(7, .int (((snF kk (nI set) i j) &&& (-1)) &&& (-1))), (11, .int 0), (8, .int 0), (6, .int (nI ((lft i j) / 6))), (10, .int (nI ((lft i j) % 6))), (0, .ref h), (1, .int (nI set)), (2, .int (b01 (fl = true))), (3, .int (nI y)), (4, .int (b01 (srB kk (G 1) (nI set) y i = true))), (5, .int (nI i)), (9, .int (nI j))]) hx hb dX2_isSure_142 hl (by decide) rfl (fun ls hl => ?_)
          refine lv_iinc (v := (nI (j + 1))) (lv' := [(9, .int (nI (j + 1))), (7, .int (((snF kk (nI set) i j) &&& (-1)) &&& (-1))), (11, .int 0), (8, .int 0), (6, .int (nI ((lft i j) / 6))), (10, .int (nI ((lft i j) % 6))), (0, .ref h), (1, .int (nI set)), (2, .int (b01 (fl = true))), (3, .int (nI y)), (4, .int (b01 (srB kk (G 1) (nI set) y i = true))), (5, .int (nI i))]) hx hb dX2_isSure_144 hl (k := 11) rfl (nI_1 _) (by decide) rfl (fun ls hl => ?_)
          refine lv_goto (tgt := 35) hx hb dX2_isSure_147 (by decide) ?_
          exact ihj (j + 1) _ ⟨by omega, lv_cast (lv_sub (l' := [(0, .ref h), (1, .int (nI set)), (2, .int (b01 (fl = true))), (3, .int (nI y)), (4, .int (b01 (srB kk (G 1) (nI set) y i = true))), (5, .int (nI i)), (6, .int (nI ((lft i j) / 6))), (7, .int (((snF kk (nI set) i j) &&& (-1)) &&& (-1))), (8, .int 0), (9, .int (nI (j + 1)))]) hl [6, 7, 8, 9, 10, 11, 4, 1, 3, 0] rfl) (by first | (rw [sn_h4 hst hk c_6 (hf4.mp c_7)]; simp [b01, myB, lft, c_1, c_2, c_3, c_6, c_7]; done) | (rw [sn_h0 hst hk c_6 (fun q => c_7 (hf4.mpr q))]; simp [b01, myB, lft, c_1, c_2, c_3, c_6, c_7]; done) | (rw [sn_n hst hk c_7]; simp [b01, myB, lft, c_1, c_2, c_3, c_6, c_7]; done))⟩ (by omega)
        exact absurd c_9 (by decide)
      exact absurd c_8 (by decide)
    refine lv_iconst (v := 1) hx hb dX2_isSure_88 (by decide) ?_
    refine lv_goto (tgt := 93) hx hb dX2_isSure_89 (by decide) ?_
    refine lv_istore (lv' := [(11, .int 1), (8, .int 0), (6, .int (nI ((lft i j) / 6))), (10, .int (nI ((lft i j) % 6))), (0, .ref h), (1, .int (nI set)), (2, .int (b01 (fl = true))), (3, .int (nI y)), (4, .int (b01 (srB kk (G 1) (nI set) y i = true))), (5, .int (nI i)), (7, .int (snF kk (nI set) i j)), (9, .int (nI j))]) hx hb dX2_isSure_93 hl (by decide) rfl (fun ls hl => ?_)
    refine lv_iload hx hb dX2_isSure_95 (lv_at hl 10 rfl) ?_
    refine lv_iload hx hb dX2_isSure_97 (lv_at hl 0 rfl) ?_
    refine lv_if_eq (tgt := 111) hx hb dX2_isSure_99 (by decide) (fun c_10 => ?_) (fun c_10 => ?_)
    · exact absurd c_10 (by decide)
    refine lv_iconst (v := 1) hx hb dX2_isSure_102 (by decide) ?_
    refine lv_iload hx hb dX2_isSure_103 (lv_at hl 3 rfl) ?_
    refine lv_ishl hx hb dX2_isSure_105 ?_
    refine lv_iconst (v := (-1)) hx hb dX2_isSure_106 (by decide) ?_
    refine lv_ixor hx hb dX2_isSure_107 ?_
    refine lv_goto (tgt := 112) hx hb dX2_isSure_108 (by decide) ?_
    refine lv_iand hx hb dX2_isSure_112 ?_
    refine lv_istore (lv' := [(7, .int ((snF kk (nI set) i j) &&& (((1 : Int32) <<< ((nI ((lft i j) % 6)) &&& 31)) ^^^ (-1)))), (11, .int 1), (8, .int 0), (6, .int (nI ((lft i j) / 6))), (10, .int (nI ((lft i j) % 6))), (0, .ref h), (1, .int (nI set)), (2, .int (b01 (fl = true))), (3, .int (nI y)), (4, .int (b01 (srB kk (G 1) (nI set) y i = true))), (5, .int (nI i)), (9, .int (nI j))]) hx hb dX2_isSure_113 hl (by decide) rfl (fun ls hl => ?_)
    refine lv_iload hx hb dX2_isSure_115 (lv_at hl 0 rfl) ?_
    refine lv_iload hx hb dX2_isSure_117 (lv_at hl 1 rfl) ?_
    refine lv_if_eq (tgt := 140) hx hb dX2_isSure_119 (by decide) (fun c_11 => ?_) (fun c_11 => ?_)
    · exact absurd c_11 (by decide)
    refine lv_iload_n hx hb dX2_isSure_122 rfl (lv_at hl 7 rfl) ?_
    refine lv_bif_eq (tgt := 140) hx hb dX2_isSure_123 (by decide) (fun c_12 => ?_) (fun c_12 => ?_)
    · refine lv_iconst (v := (-1)) hx hb dX2_isSure_140 (by decide) ?_
      refine lv_iand hx hb dX2_isSure_141 ?_
      refine lv_istore (lv' := [(7, .int (((snF kk (nI set) i j) &&& (((1 : Int32) <<< ((nI ((lft i j) % 6)) &&& 31)) ^^^ (-1))) &&& (-1))), (11, .int 1), (8, .int 0), (6, .int (nI ((lft i j) / 6))), (10, .int (nI ((lft i j) % 6))), (0, .ref h), (1, .int (nI set)), (2, .int (b01 (fl = true))), (3, .int (nI y)), (4, .int (b01 (srB kk (G 1) (nI set) y i = true))), (5, .int (nI i)), (9, .int (nI j))]) hx hb dX2_isSure_142 hl (by decide) rfl (fun ls hl => ?_)
      refine lv_iinc (v := (nI (j + 1))) (lv' := [(9, .int (nI (j + 1))), (7, .int (((snF kk (nI set) i j) &&& (((1 : Int32) <<< ((nI ((lft i j) % 6)) &&& 31)) ^^^ (-1))) &&& (-1))), (11, .int 1), (8, .int 0), (6, .int (nI ((lft i j) / 6))), (10, .int (nI ((lft i j) % 6))), (0, .ref h), (1, .int (nI set)), (2, .int (b01 (fl = true))), (3, .int (nI y)), (4, .int (b01 (srB kk (G 1) (nI set) y i = true))), (5, .int (nI i))]) hx hb dX2_isSure_144 hl (k := 11) rfl (nI_1 _) (by decide) rfl (fun ls hl => ?_)
      refine lv_goto (tgt := 35) hx hb dX2_isSure_147 (by decide) ?_
      exact ihj (j + 1) _ ⟨by omega, lv_cast (lv_sub (l' := [(0, .ref h), (1, .int (nI set)), (2, .int (b01 (fl = true))), (3, .int (nI y)), (4, .int (b01 (srB kk (G 1) (nI set) y i = true))), (5, .int (nI i)), (6, .int (nI ((lft i j) / 6))), (7, .int (((snF kk (nI set) i j) &&& (((1 : Int32) <<< ((nI ((lft i j) % 6)) &&& 31)) ^^^ (-1))) &&& (-1))), (8, .int 0), (9, .int (nI (j + 1)))]) hl [6, 7, 8, 9, 10, 11, 4, 1, 3, 0] rfl) (by first | (rw [sn_h4 hst hk c_7 (hf4.mp c_12)]; simp [b01, myB, lft, c_1, c_2, c_3, c_6, c_7, c_12]; done) | (rw [sn_h0 hst hk c_7 (fun q => c_12 (hf4.mpr q))]; simp [b01, myB, lft, c_1, c_2, c_3, c_6, c_7, c_12]; done) | (rw [sn_n hst hk c_12]; simp [b01, myB, lft, c_1, c_2, c_3, c_6, c_7, c_12]; done))⟩ (by omega)
    refine lv_iconst (v := 1) hx hb dX2_isSure_126 (by decide) ?_
    refine lv_iload hx hb dX2_isSure_127 (lv_at hl 4 rfl) ?_
    refine lv_iconst (v := 1) hx hb dX2_isSure_129 (by decide) ?_
    refine lv_iadd hx hb dX2_isSure_130 ?_
    refine lv_seti (v := (nI (((lft i j) % 6) + 1))) (nI_add _ _) ?_
    refine lv_bipush (v := 6) hx hb dX2_isSure_131 (by decide) ?_
    refine lv_irem hx hb dX2_isSure_133 (by decide) ?_
    refine lv_seti (v := (nI ((((lft i j) % 6) + 1) % 6))) (pk_rem (a := (((lft i j) % 6) + 1)) (d := 6) (by omega) (by omega) (by omega)) ?_
    refine lv_ishl hx hb dX2_isSure_134 ?_
    refine lv_iconst (v := (-1)) hx hb dX2_isSure_135 (by decide) ?_
    refine lv_ixor hx hb dX2_isSure_136 ?_
    refine lv_goto (tgt := 141) hx hb dX2_isSure_137 (by decide) ?_
    refine lv_iand hx hb dX2_isSure_141 ?_
    refine lv_istore (lv' := [(7, .int (((snF kk (nI set) i j) &&& (((1 : Int32) <<< ((nI ((lft i j) % 6)) &&& 31)) ^^^ (-1))) &&& (((1 : Int32) <<< ((nI ((((lft i j) % 6) + 1) % 6)) &&& 31)) ^^^ (-1)))), (11, .int 1), (8, .int 0), (6, .int (nI ((lft i j) / 6))), (10, .int (nI ((lft i j) % 6))), (0, .ref h), (1, .int (nI set)), (2, .int (b01 (fl = true))), (3, .int (nI y)), (4, .int (b01 (srB kk (G 1) (nI set) y i = true))), (5, .int (nI i)), (9, .int (nI j))]) hx hb dX2_isSure_142 hl (by decide) rfl (fun ls hl => ?_)
    refine lv_iinc (v := (nI (j + 1))) (lv' := [(9, .int (nI (j + 1))), (7, .int (((snF kk (nI set) i j) &&& (((1 : Int32) <<< ((nI ((lft i j) % 6)) &&& 31)) ^^^ (-1))) &&& (((1 : Int32) <<< ((nI ((((lft i j) % 6) + 1) % 6)) &&& 31)) ^^^ (-1)))), (11, .int 1), (8, .int 0), (6, .int (nI ((lft i j) / 6))), (10, .int (nI ((lft i j) % 6))), (0, .ref h), (1, .int (nI set)), (2, .int (b01 (fl = true))), (3, .int (nI y)), (4, .int (b01 (srB kk (G 1) (nI set) y i = true))), (5, .int (nI i))]) hx hb dX2_isSure_144 hl (k := 11) rfl (nI_1 _) (by decide) rfl (fun ls hl => ?_)
    refine lv_goto (tgt := 35) hx hb dX2_isSure_147 (by decide) ?_
    exact ihj (j + 1) _ ⟨by omega, lv_cast (lv_sub (l' := [(0, .ref h), (1, .int (nI set)), (2, .int (b01 (fl = true))), (3, .int (nI y)), (4, .int (b01 (srB kk (G 1) (nI set) y i = true))), (5, .int (nI i)), (6, .int (nI ((lft i j) / 6))), (7, .int (((snF kk (nI set) i j) &&& (((1 : Int32) <<< ((nI ((lft i j) % 6)) &&& 31)) ^^^ (-1))) &&& (((1 : Int32) <<< ((nI ((((lft i j) % 6) + 1) % 6)) &&& 31)) ^^^ (-1)))), (8, .int 0), (9, .int (nI (j + 1)))]) hl [6, 7, 8, 9, 10, 11, 4, 1, 3, 0] rfl) (by first | (rw [sn_h4 hst hk c_7 (hf4.mp c_12)]; simp [b01, myB, lft, c_1, c_2, c_3, c_6, c_7, c_12]; done) | (rw [sn_h0 hst hk c_7 (fun q => c_12 (hf4.mpr q))]; simp [b01, myB, lft, c_1, c_2, c_3, c_6, c_7, c_12]; done) | (rw [sn_n hst hk c_12]; simp [b01, myB, lft, c_1, c_2, c_3, c_6, c_7, c_12]; done))⟩ (by omega)
  refine lv_aload_n hx hb dX2_isSure_60 rfl (lv_at hl 2 rfl) ?_
  refine gf_q812 (v := .ref (R 5)) hX hP 0 rfl rfl dX2_isSure_61 ?_
  refine lv_iload hx hb dX2_isSure_64 (lv_at hl 1 rfl) ?_
  refine r_iald (f := (G 1)) hX hP 2 rfl ((lft i j) % 6) (by omega) (by omega) dX2_isSure_66 ?_
  refine lv_if_le (tgt := 74) hx hb dX2_isSure_67 (by decide) (fun c_13 => ?_) (fun c_13 => ?_)
  · refine lv_iconst (v := 0) hx hb dX2_isSure_74 (by decide) ?_
    refine lv_istore (lv' := [(8, .int 0), (6, .int (nI ((lft i j) / 6))), (10, .int (nI ((lft i j) % 6))), (0, .ref h), (1, .int (nI set)), (2, .int (b01 (fl = true))), (3, .int (nI y)), (4, .int (b01 (srB kk (G 1) (nI set) y i = true))), (5, .int (nI i)), (7, .int (snF kk (nI set) i j)), (9, .int (nI j))]) hx hb dX2_isSure_75 hl (by decide) rfl (fun ls hl => ?_)
    refine lv_iload hx hb dX2_isSure_77 (lv_at hl 9 rfl) ?_
    refine lv_iload hx hb dX2_isSure_79 (lv_at hl 2 rfl) ?_
    refine lv_ishr hx hb dX2_isSure_81 ?_
    refine lv_iconst (v := 1) hx hb dX2_isSure_82 (by decide) ?_
    refine lv_iand hx hb dX2_isSure_83 ?_
    refine lv_iconst (v := 1) hx hb dX2_isSure_84 (by decide) ?_
    refine lv_icmp_ne (tgt := 92) hx hb dX2_isSure_85 (by decide) (fun c_14 => ?_) (fun c_14 => ?_)
    · refine lv_iconst (v := 0) hx hb dX2_isSure_92 (by decide) ?_
      refine lv_istore (lv' := [(11, .int 0), (8, .int 0), (6, .int (nI ((lft i j) / 6))), (10, .int (nI ((lft i j) % 6))), (0, .ref h), (1, .int (nI set)), (2, .int (b01 (fl = true))), (3, .int (nI y)), (4, .int (b01 (srB kk (G 1) (nI set) y i = true))), (5, .int (nI i)), (7, .int (snF kk (nI set) i j)), (9, .int (nI j))]) hx hb dX2_isSure_93 hl (by decide) rfl (fun ls hl => ?_)
      refine lv_iload hx hb dX2_isSure_95 (lv_at hl 10 rfl) ?_
      refine lv_iload hx hb dX2_isSure_97 (lv_at hl 0 rfl) ?_
      refine lv_if_eq (tgt := 111) hx hb dX2_isSure_99 (by decide) (fun c_15 => ?_) (fun c_15 => ?_)
      · refine lv_iconst (v := (-1)) hx hb dX2_isSure_111 (by decide) ?_
        refine lv_iand hx hb dX2_isSure_112 ?_
        refine lv_istore (lv' := [(7, .int ((snF kk (nI set) i j) &&& (-1))), (11, .int 0), (8, .int 0), (6, .int (nI ((lft i j) / 6))), (10, .int (nI ((lft i j) % 6))), (0, .ref h), (1, .int (nI set)), (2, .int (b01 (fl = true))), (3, .int (nI y)), (4, .int (b01 (srB kk (G 1) (nI set) y i = true))), (5, .int (nI i)), (9, .int (nI j))]) hx hb dX2_isSure_113 hl (by decide) rfl (fun ls hl => ?_)
        refine lv_iload hx hb dX2_isSure_115 (lv_at hl 0 rfl) ?_
        refine lv_iload hx hb dX2_isSure_117 (lv_at hl 1 rfl) ?_
        refine lv_if_eq (tgt := 140) hx hb dX2_isSure_119 (by decide) (fun c_16 => ?_) (fun c_16 => ?_)
        · refine lv_iconst (v := (-1)) hx hb dX2_isSure_140 (by decide) ?_
          refine lv_iand hx hb dX2_isSure_141 ?_
          refine lv_istore (lv' := [(7, .int (((snF kk (nI set) i j) &&& (-1)) &&& (-1))), (11, .int 0), (8, .int 0), (6, .int (nI ((lft i j) / 6))), (10, .int (nI ((lft i j) % 6))), (0, .ref h), (1, .int (nI set)), (2, .int (b01 (fl = true))), (3, .int (nI y)), (4, .int (b01 (srB kk (G 1) (nI set) y i = true))), (5, .int (nI i)), (9, .int (nI j))]) hx hb dX2_isSure_142 hl (by decide) rfl (fun ls hl => ?_)
          refine lv_iinc (v := (nI (j + 1))) (lv' := [(9, .int (nI (j + 1))), (7, .int (((snF kk (nI set) i j) &&& (-1)) &&& (-1))), (11, .int 0), (8, .int 0), (6, .int (nI ((lft i j) / 6))), (10, .int (nI ((lft i j) % 6))), (0, .ref h), (1, .int (nI set)), (2, .int (b01 (fl = true))), (3, .int (nI y)), (4, .int (b01 (srB kk (G 1) (nI set) y i = true))), (5, .int (nI i))]) hx hb dX2_isSure_144 hl (k := 11) rfl (nI_1 _) (by decide) rfl (fun ls hl => ?_)
          refine lv_goto (tgt := 35) hx hb dX2_isSure_147 (by decide) ?_
          exact ihj (j + 1) _ ⟨by omega, lv_cast (lv_sub (l' := [(0, .ref h), (1, .int (nI set)), (2, .int (b01 (fl = true))), (3, .int (nI y)), (4, .int (b01 (srB kk (G 1) (nI set) y i = true))), (5, .int (nI i)), (6, .int (nI ((lft i j) / 6))), (7, .int (((snF kk (nI set) i j) &&& (-1)) &&& (-1))), (8, .int 0), (9, .int (nI (j + 1)))]) hl [6, 7, 8, 9, 10, 11, 4, 1, 3, 0] rfl) (by first | (rw [sn_h4 hst hk c_13 (hf4.mp c_14)]; simp [b01, myB, lft, c_1, c_2, c_3, c_6, c_13, c_14]; done) | (rw [sn_h0 hst hk c_13 (fun q => c_14 (hf4.mpr q))]; simp [b01, myB, lft, c_1, c_2, c_3, c_6, c_13, c_14]; done) | (rw [sn_n hst hk c_14]; simp [b01, myB, lft, c_1, c_2, c_3, c_6, c_13, c_14]; done))⟩ (by omega)
        exact absurd c_16 (by decide)
      exact absurd c_15 (by decide)
    refine lv_iconst (v := 1) hx hb dX2_isSure_88 (by decide) ?_
    refine lv_goto (tgt := 93) hx hb dX2_isSure_89 (by decide) ?_
    refine lv_istore (lv' := [(11, .int 1), (8, .int 0), (6, .int (nI ((lft i j) / 6))), (10, .int (nI ((lft i j) % 6))), (0, .ref h), (1, .int (nI set)), (2, .int (b01 (fl = true))), (3, .int (nI y)), (4, .int (b01 (srB kk (G 1) (nI set) y i = true))), (5, .int (nI i)), (7, .int (snF kk (nI set) i j)), (9, .int (nI j))]) hx hb dX2_isSure_93 hl (by decide) rfl (fun ls hl => ?_)
    refine lv_iload hx hb dX2_isSure_95 (lv_at hl 10 rfl) ?_
    refine lv_iload hx hb dX2_isSure_97 (lv_at hl 0 rfl) ?_
    refine lv_if_eq (tgt := 111) hx hb dX2_isSure_99 (by decide) (fun c_17 => ?_) (fun c_17 => ?_)
    · exact absurd c_17 (by decide)
    refine lv_iconst (v := 1) hx hb dX2_isSure_102 (by decide) ?_
    refine lv_iload hx hb dX2_isSure_103 (lv_at hl 3 rfl) ?_
    refine lv_ishl hx hb dX2_isSure_105 ?_
    refine lv_iconst (v := (-1)) hx hb dX2_isSure_106 (by decide) ?_
    refine lv_ixor hx hb dX2_isSure_107 ?_
    refine lv_goto (tgt := 112) hx hb dX2_isSure_108 (by decide) ?_
    refine lv_iand hx hb dX2_isSure_112 ?_
    refine lv_istore (lv' := [(7, .int ((snF kk (nI set) i j) &&& (((1 : Int32) <<< ((nI ((lft i j) % 6)) &&& 31)) ^^^ (-1)))), (11, .int 1), (8, .int 0), (6, .int (nI ((lft i j) / 6))), (10, .int (nI ((lft i j) % 6))), (0, .ref h), (1, .int (nI set)), (2, .int (b01 (fl = true))), (3, .int (nI y)), (4, .int (b01 (srB kk (G 1) (nI set) y i = true))), (5, .int (nI i)), (9, .int (nI j))]) hx hb dX2_isSure_113 hl (by decide) rfl (fun ls hl => ?_)
    refine lv_iload hx hb dX2_isSure_115 (lv_at hl 0 rfl) ?_
    refine lv_iload hx hb dX2_isSure_117 (lv_at hl 1 rfl) ?_
    refine lv_if_eq (tgt := 140) hx hb dX2_isSure_119 (by decide) (fun c_18 => ?_) (fun c_18 => ?_)
    · exact absurd c_18 (by decide)
    refine lv_iload_n hx hb dX2_isSure_122 rfl (lv_at hl 7 rfl) ?_
    refine lv_bif_eq (tgt := 140) hx hb dX2_isSure_123 (by decide) (fun c_19 => ?_) (fun c_19 => ?_)
    · refine lv_iconst (v := (-1)) hx hb dX2_isSure_140 (by decide) ?_
      refine lv_iand hx hb dX2_isSure_141 ?_
      refine lv_istore (lv' := [(7, .int (((snF kk (nI set) i j) &&& (((1 : Int32) <<< ((nI ((lft i j) % 6)) &&& 31)) ^^^ (-1))) &&& (-1))), (11, .int 1), (8, .int 0), (6, .int (nI ((lft i j) / 6))), (10, .int (nI ((lft i j) % 6))), (0, .ref h), (1, .int (nI set)), (2, .int (b01 (fl = true))), (3, .int (nI y)), (4, .int (b01 (srB kk (G 1) (nI set) y i = true))), (5, .int (nI i)), (9, .int (nI j))]) hx hb dX2_isSure_142 hl (by decide) rfl (fun ls hl => ?_)
      refine lv_iinc (v := (nI (j + 1))) (lv' := [(9, .int (nI (j + 1))), (7, .int (((snF kk (nI set) i j) &&& (((1 : Int32) <<< ((nI ((lft i j) % 6)) &&& 31)) ^^^ (-1))) &&& (-1))), (11, .int 1), (8, .int 0), (6, .int (nI ((lft i j) / 6))), (10, .int (nI ((lft i j) % 6))), (0, .ref h), (1, .int (nI set)), (2, .int (b01 (fl = true))), (3, .int (nI y)), (4, .int (b01 (srB kk (G 1) (nI set) y i = true))), (5, .int (nI i))]) hx hb dX2_isSure_144 hl (k := 11) rfl (nI_1 _) (by decide) rfl (fun ls hl => ?_)
      refine lv_goto (tgt := 35) hx hb dX2_isSure_147 (by decide) ?_
      exact ihj (j + 1) _ ⟨by omega, lv_cast (lv_sub (l' := [(0, .ref h), (1, .int (nI set)), (2, .int (b01 (fl = true))), (3, .int (nI y)), (4, .int (b01 (srB kk (G 1) (nI set) y i = true))), (5, .int (nI i)), (6, .int (nI ((lft i j) / 6))), (7, .int (((snF kk (nI set) i j) &&& (((1 : Int32) <<< ((nI ((lft i j) % 6)) &&& 31)) ^^^ (-1))) &&& (-1))), (8, .int 0), (9, .int (nI (j + 1)))]) hl [6, 7, 8, 9, 10, 11, 4, 1, 3, 0] rfl) (by first | (rw [sn_h4 hst hk c_14 (hf4.mp c_19)]; simp [b01, myB, lft, c_1, c_2, c_3, c_6, c_13, c_14, c_19]; done) | (rw [sn_h0 hst hk c_14 (fun q => c_19 (hf4.mpr q))]; simp [b01, myB, lft, c_1, c_2, c_3, c_6, c_13, c_14, c_19]; done) | (rw [sn_n hst hk c_19]; simp [b01, myB, lft, c_1, c_2, c_3, c_6, c_13, c_14, c_19]; done))⟩ (by omega)
    refine lv_iconst (v := 1) hx hb dX2_isSure_126 (by decide) ?_
    refine lv_iload hx hb dX2_isSure_127 (lv_at hl 4 rfl) ?_
    refine lv_iconst (v := 1) hx hb dX2_isSure_129 (by decide) ?_
    refine lv_iadd hx hb dX2_isSure_130 ?_
    refine lv_seti (v := (nI (((lft i j) % 6) + 1))) (nI_add _ _) ?_
    refine lv_bipush (v := 6) hx hb dX2_isSure_131 (by decide) ?_
    refine lv_irem hx hb dX2_isSure_133 (by decide) ?_
    refine lv_seti (v := (nI ((((lft i j) % 6) + 1) % 6))) (pk_rem (a := (((lft i j) % 6) + 1)) (d := 6) (by omega) (by omega) (by omega)) ?_
    refine lv_ishl hx hb dX2_isSure_134 ?_
    refine lv_iconst (v := (-1)) hx hb dX2_isSure_135 (by decide) ?_
    refine lv_ixor hx hb dX2_isSure_136 ?_
    refine lv_goto (tgt := 141) hx hb dX2_isSure_137 (by decide) ?_
    refine lv_iand hx hb dX2_isSure_141 ?_
    refine lv_istore (lv' := [(7, .int (((snF kk (nI set) i j) &&& (((1 : Int32) <<< ((nI ((lft i j) % 6)) &&& 31)) ^^^ (-1))) &&& (((1 : Int32) <<< ((nI ((((lft i j) % 6) + 1) % 6)) &&& 31)) ^^^ (-1)))), (11, .int 1), (8, .int 0), (6, .int (nI ((lft i j) / 6))), (10, .int (nI ((lft i j) % 6))), (0, .ref h), (1, .int (nI set)), (2, .int (b01 (fl = true))), (3, .int (nI y)), (4, .int (b01 (srB kk (G 1) (nI set) y i = true))), (5, .int (nI i)), (9, .int (nI j))]) hx hb dX2_isSure_142 hl (by decide) rfl (fun ls hl => ?_)
    refine lv_iinc (v := (nI (j + 1))) (lv' := [(9, .int (nI (j + 1))), (7, .int (((snF kk (nI set) i j) &&& (((1 : Int32) <<< ((nI ((lft i j) % 6)) &&& 31)) ^^^ (-1))) &&& (((1 : Int32) <<< ((nI ((((lft i j) % 6) + 1) % 6)) &&& 31)) ^^^ (-1)))), (11, .int 1), (8, .int 0), (6, .int (nI ((lft i j) / 6))), (10, .int (nI ((lft i j) % 6))), (0, .ref h), (1, .int (nI set)), (2, .int (b01 (fl = true))), (3, .int (nI y)), (4, .int (b01 (srB kk (G 1) (nI set) y i = true))), (5, .int (nI i))]) hx hb dX2_isSure_144 hl (k := 11) rfl (nI_1 _) (by decide) rfl (fun ls hl => ?_)
    refine lv_goto (tgt := 35) hx hb dX2_isSure_147 (by decide) ?_
    exact ihj (j + 1) _ ⟨by omega, lv_cast (lv_sub (l' := [(0, .ref h), (1, .int (nI set)), (2, .int (b01 (fl = true))), (3, .int (nI y)), (4, .int (b01 (srB kk (G 1) (nI set) y i = true))), (5, .int (nI i)), (6, .int (nI ((lft i j) / 6))), (7, .int (((snF kk (nI set) i j) &&& (((1 : Int32) <<< ((nI ((lft i j) % 6)) &&& 31)) ^^^ (-1))) &&& (((1 : Int32) <<< ((nI ((((lft i j) % 6) + 1) % 6)) &&& 31)) ^^^ (-1)))), (8, .int 0), (9, .int (nI (j + 1)))]) hl [6, 7, 8, 9, 10, 11, 4, 1, 3, 0] rfl) (by first | (rw [sn_h4 hst hk c_14 (hf4.mp c_19)]; simp [b01, myB, lft, c_1, c_2, c_3, c_6, c_13, c_14, c_19]; done) | (rw [sn_h0 hst hk c_14 (fun q => c_19 (hf4.mpr q))]; simp [b01, myB, lft, c_1, c_2, c_3, c_6, c_13, c_14, c_19]; done) | (rw [sn_n hst hk c_19]; simp [b01, myB, lft, c_1, c_2, c_3, c_6, c_13, c_14, c_19]; done))⟩ (by omega)
  refine lv_iconst (v := 1) hx hb dX2_isSure_70 (by decide) ?_
  refine lv_goto (tgt := 75) hx hb dX2_isSure_71 (by decide) ?_
  refine lv_istore (lv' := [(8, .int 1), (6, .int (nI ((lft i j) / 6))), (10, .int (nI ((lft i j) % 6))), (0, .ref h), (1, .int (nI set)), (2, .int (b01 (fl = true))), (3, .int (nI y)), (4, .int (b01 (srB kk (G 1) (nI set) y i = true))), (5, .int (nI i)), (7, .int (snF kk (nI set) i j)), (9, .int (nI j))]) hx hb dX2_isSure_75 hl (by decide) rfl (fun ls hl => ?_)
  refine lv_iload hx hb dX2_isSure_77 (lv_at hl 9 rfl) ?_
  refine lv_iload hx hb dX2_isSure_79 (lv_at hl 2 rfl) ?_
  refine lv_ishr hx hb dX2_isSure_81 ?_
  refine lv_iconst (v := 1) hx hb dX2_isSure_82 (by decide) ?_
  refine lv_iand hx hb dX2_isSure_83 ?_
  refine lv_iconst (v := 1) hx hb dX2_isSure_84 (by decide) ?_
  refine lv_icmp_ne (tgt := 92) hx hb dX2_isSure_85 (by decide) (fun c_20 => ?_) (fun c_20 => ?_)
  · refine lv_iconst (v := 0) hx hb dX2_isSure_92 (by decide) ?_
    refine lv_istore (lv' := [(11, .int 0), (8, .int 1), (6, .int (nI ((lft i j) / 6))), (10, .int (nI ((lft i j) % 6))), (0, .ref h), (1, .int (nI set)), (2, .int (b01 (fl = true))), (3, .int (nI y)), (4, .int (b01 (srB kk (G 1) (nI set) y i = true))), (5, .int (nI i)), (7, .int (snF kk (nI set) i j)), (9, .int (nI j))]) hx hb dX2_isSure_93 hl (by decide) rfl (fun ls hl => ?_)
    refine lv_iload hx hb dX2_isSure_95 (lv_at hl 10 rfl) ?_
    refine lv_iload hx hb dX2_isSure_97 (lv_at hl 0 rfl) ?_
    refine lv_if_eq (tgt := 111) hx hb dX2_isSure_99 (by decide) (fun c_21 => ?_) (fun c_21 => ?_)
    · refine lv_iconst (v := (-1)) hx hb dX2_isSure_111 (by decide) ?_
      refine lv_iand hx hb dX2_isSure_112 ?_
      refine lv_istore (lv' := [(7, .int ((snF kk (nI set) i j) &&& (-1))), (11, .int 0), (8, .int 1), (6, .int (nI ((lft i j) / 6))), (10, .int (nI ((lft i j) % 6))), (0, .ref h), (1, .int (nI set)), (2, .int (b01 (fl = true))), (3, .int (nI y)), (4, .int (b01 (srB kk (G 1) (nI set) y i = true))), (5, .int (nI i)), (9, .int (nI j))]) hx hb dX2_isSure_113 hl (by decide) rfl (fun ls hl => ?_)
      refine lv_iload hx hb dX2_isSure_115 (lv_at hl 0 rfl) ?_
      refine lv_iload hx hb dX2_isSure_117 (lv_at hl 1 rfl) ?_
      refine lv_if_eq (tgt := 140) hx hb dX2_isSure_119 (by decide) (fun c_22 => ?_) (fun c_22 => ?_)
      · refine lv_iconst (v := (-1)) hx hb dX2_isSure_140 (by decide) ?_
        refine lv_iand hx hb dX2_isSure_141 ?_
        refine lv_istore (lv' := [(7, .int (((snF kk (nI set) i j) &&& (-1)) &&& (-1))), (11, .int 0), (8, .int 1), (6, .int (nI ((lft i j) / 6))), (10, .int (nI ((lft i j) % 6))), (0, .ref h), (1, .int (nI set)), (2, .int (b01 (fl = true))), (3, .int (nI y)), (4, .int (b01 (srB kk (G 1) (nI set) y i = true))), (5, .int (nI i)), (9, .int (nI j))]) hx hb dX2_isSure_142 hl (by decide) rfl (fun ls hl => ?_)
        refine lv_iinc (v := (nI (j + 1))) (lv' := [(9, .int (nI (j + 1))), (7, .int (((snF kk (nI set) i j) &&& (-1)) &&& (-1))), (11, .int 0), (8, .int 1), (6, .int (nI ((lft i j) / 6))), (10, .int (nI ((lft i j) % 6))), (0, .ref h), (1, .int (nI set)), (2, .int (b01 (fl = true))), (3, .int (nI y)), (4, .int (b01 (srB kk (G 1) (nI set) y i = true))), (5, .int (nI i))]) hx hb dX2_isSure_144 hl (k := 11) rfl (nI_1 _) (by decide) rfl (fun ls hl => ?_)
        refine lv_goto (tgt := 35) hx hb dX2_isSure_147 (by decide) ?_
        exact ihj (j + 1) _ ⟨by omega, lv_cast (lv_sub (l' := [(0, .ref h), (1, .int (nI set)), (2, .int (b01 (fl = true))), (3, .int (nI y)), (4, .int (b01 (srB kk (G 1) (nI set) y i = true))), (5, .int (nI i)), (6, .int (nI ((lft i j) / 6))), (7, .int (((snF kk (nI set) i j) &&& (-1)) &&& (-1))), (8, .int 1), (9, .int (nI (j + 1)))]) hl [6, 7, 8, 9, 10, 11, 4, 1, 3, 0] rfl) (by first | (rw [sn_h4 hst hk c_13 (hf4.mp c_20)]; simp [b01, myB, lft, c_1, c_2, c_3, c_6, c_13, c_20]; done) | (rw [sn_h0 hst hk c_13 (fun q => c_20 (hf4.mpr q))]; simp [b01, myB, lft, c_1, c_2, c_3, c_6, c_13, c_20]; done) | (rw [sn_n hst hk c_20]; simp [b01, myB, lft, c_1, c_2, c_3, c_6, c_13, c_20]; done))⟩ (by omega)
      exact absurd c_22 (by decide)
    exact absurd c_21 (by decide)
  refine lv_iconst (v := 1) hx hb dX2_isSure_88 (by decide) ?_
  refine lv_goto (tgt := 93) hx hb dX2_isSure_89 (by decide) ?_
  refine lv_istore (lv' := [(11, .int 1), (8, .int 1), (6, .int (nI ((lft i j) / 6))), (10, .int (nI ((lft i j) % 6))), (0, .ref h), (1, .int (nI set)), (2, .int (b01 (fl = true))), (3, .int (nI y)), (4, .int (b01 (srB kk (G 1) (nI set) y i = true))), (5, .int (nI i)), (7, .int (snF kk (nI set) i j)), (9, .int (nI j))]) hx hb dX2_isSure_93 hl (by decide) rfl (fun ls hl => ?_)
  refine lv_iload hx hb dX2_isSure_95 (lv_at hl 10 rfl) ?_
  refine lv_iload hx hb dX2_isSure_97 (lv_at hl 0 rfl) ?_
  refine lv_if_eq (tgt := 111) hx hb dX2_isSure_99 (by decide) (fun c_23 => ?_) (fun c_23 => ?_)
  · exact absurd c_23 (by decide)
  refine lv_iconst (v := 1) hx hb dX2_isSure_102 (by decide) ?_
  refine lv_iload hx hb dX2_isSure_103 (lv_at hl 3 rfl) ?_
  refine lv_ishl hx hb dX2_isSure_105 ?_
  refine lv_iconst (v := (-1)) hx hb dX2_isSure_106 (by decide) ?_
  refine lv_ixor hx hb dX2_isSure_107 ?_
  refine lv_goto (tgt := 112) hx hb dX2_isSure_108 (by decide) ?_
  refine lv_iand hx hb dX2_isSure_112 ?_
  refine lv_istore (lv' := [(7, .int ((snF kk (nI set) i j) &&& (((1 : Int32) <<< ((nI ((lft i j) % 6)) &&& 31)) ^^^ (-1)))), (11, .int 1), (8, .int 1), (6, .int (nI ((lft i j) / 6))), (10, .int (nI ((lft i j) % 6))), (0, .ref h), (1, .int (nI set)), (2, .int (b01 (fl = true))), (3, .int (nI y)), (4, .int (b01 (srB kk (G 1) (nI set) y i = true))), (5, .int (nI i)), (9, .int (nI j))]) hx hb dX2_isSure_113 hl (by decide) rfl (fun ls hl => ?_)
  refine lv_iload hx hb dX2_isSure_115 (lv_at hl 0 rfl) ?_
  refine lv_iload hx hb dX2_isSure_117 (lv_at hl 1 rfl) ?_
  refine lv_if_eq (tgt := 140) hx hb dX2_isSure_119 (by decide) (fun c_24 => ?_) (fun c_24 => ?_)
  · exact absurd c_24 (by decide)
  refine lv_iload_n hx hb dX2_isSure_122 rfl (lv_at hl 7 rfl) ?_
  refine lv_bif_eq (tgt := 140) hx hb dX2_isSure_123 (by decide) (fun c_25 => ?_) (fun c_25 => ?_)
  · refine lv_iconst (v := (-1)) hx hb dX2_isSure_140 (by decide) ?_
    refine lv_iand hx hb dX2_isSure_141 ?_
    refine lv_istore (lv' := [(7, .int (((snF kk (nI set) i j) &&& (((1 : Int32) <<< ((nI ((lft i j) % 6)) &&& 31)) ^^^ (-1))) &&& (-1))), (11, .int 1), (8, .int 1), (6, .int (nI ((lft i j) / 6))), (10, .int (nI ((lft i j) % 6))), (0, .ref h), (1, .int (nI set)), (2, .int (b01 (fl = true))), (3, .int (nI y)), (4, .int (b01 (srB kk (G 1) (nI set) y i = true))), (5, .int (nI i)), (9, .int (nI j))]) hx hb dX2_isSure_142 hl (by decide) rfl (fun ls hl => ?_)
    refine lv_iinc (v := (nI (j + 1))) (lv' := [(9, .int (nI (j + 1))), (7, .int (((snF kk (nI set) i j) &&& (((1 : Int32) <<< ((nI ((lft i j) % 6)) &&& 31)) ^^^ (-1))) &&& (-1))), (11, .int 1), (8, .int 1), (6, .int (nI ((lft i j) / 6))), (10, .int (nI ((lft i j) % 6))), (0, .ref h), (1, .int (nI set)), (2, .int (b01 (fl = true))), (3, .int (nI y)), (4, .int (b01 (srB kk (G 1) (nI set) y i = true))), (5, .int (nI i))]) hx hb dX2_isSure_144 hl (k := 11) rfl (nI_1 _) (by decide) rfl (fun ls hl => ?_)
    refine lv_goto (tgt := 35) hx hb dX2_isSure_147 (by decide) ?_
    exact ihj (j + 1) _ ⟨by omega, lv_cast (lv_sub (l' := [(0, .ref h), (1, .int (nI set)), (2, .int (b01 (fl = true))), (3, .int (nI y)), (4, .int (b01 (srB kk (G 1) (nI set) y i = true))), (5, .int (nI i)), (6, .int (nI ((lft i j) / 6))), (7, .int (((snF kk (nI set) i j) &&& (((1 : Int32) <<< ((nI ((lft i j) % 6)) &&& 31)) ^^^ (-1))) &&& (-1))), (8, .int 1), (9, .int (nI (j + 1)))]) hl [6, 7, 8, 9, 10, 11, 4, 1, 3, 0] rfl) (by first | (rw [sn_h4 hst hk c_20 (hf4.mp c_25)]; simp [b01, myB, lft, c_1, c_2, c_3, c_6, c_13, c_20, c_25]; done) | (rw [sn_h0 hst hk c_20 (fun q => c_25 (hf4.mpr q))]; simp [b01, myB, lft, c_1, c_2, c_3, c_6, c_13, c_20, c_25]; done) | (rw [sn_n hst hk c_25]; simp [b01, myB, lft, c_1, c_2, c_3, c_6, c_13, c_20, c_25]; done))⟩ (by omega)
  refine lv_iconst (v := 1) hx hb dX2_isSure_126 (by decide) ?_
  refine lv_iload hx hb dX2_isSure_127 (lv_at hl 4 rfl) ?_
  refine lv_iconst (v := 1) hx hb dX2_isSure_129 (by decide) ?_
  refine lv_iadd hx hb dX2_isSure_130 ?_
  refine lv_seti (v := (nI (((lft i j) % 6) + 1))) (nI_add _ _) ?_
  refine lv_bipush (v := 6) hx hb dX2_isSure_131 (by decide) ?_
  refine lv_irem hx hb dX2_isSure_133 (by decide) ?_
  refine lv_seti (v := (nI ((((lft i j) % 6) + 1) % 6))) (pk_rem (a := (((lft i j) % 6) + 1)) (d := 6) (by omega) (by omega) (by omega)) ?_
  refine lv_ishl hx hb dX2_isSure_134 ?_
  refine lv_iconst (v := (-1)) hx hb dX2_isSure_135 (by decide) ?_
  refine lv_ixor hx hb dX2_isSure_136 ?_
  refine lv_goto (tgt := 141) hx hb dX2_isSure_137 (by decide) ?_
  refine lv_iand hx hb dX2_isSure_141 ?_
  refine lv_istore (lv' := [(7, .int (((snF kk (nI set) i j) &&& (((1 : Int32) <<< ((nI ((lft i j) % 6)) &&& 31)) ^^^ (-1))) &&& (((1 : Int32) <<< ((nI ((((lft i j) % 6) + 1) % 6)) &&& 31)) ^^^ (-1)))), (11, .int 1), (8, .int 1), (6, .int (nI ((lft i j) / 6))), (10, .int (nI ((lft i j) % 6))), (0, .ref h), (1, .int (nI set)), (2, .int (b01 (fl = true))), (3, .int (nI y)), (4, .int (b01 (srB kk (G 1) (nI set) y i = true))), (5, .int (nI i)), (9, .int (nI j))]) hx hb dX2_isSure_142 hl (by decide) rfl (fun ls hl => ?_)
  refine lv_iinc (v := (nI (j + 1))) (lv' := [(9, .int (nI (j + 1))), (7, .int (((snF kk (nI set) i j) &&& (((1 : Int32) <<< ((nI ((lft i j) % 6)) &&& 31)) ^^^ (-1))) &&& (((1 : Int32) <<< ((nI ((((lft i j) % 6) + 1) % 6)) &&& 31)) ^^^ (-1)))), (11, .int 1), (8, .int 1), (6, .int (nI ((lft i j) / 6))), (10, .int (nI ((lft i j) % 6))), (0, .ref h), (1, .int (nI set)), (2, .int (b01 (fl = true))), (3, .int (nI y)), (4, .int (b01 (srB kk (G 1) (nI set) y i = true))), (5, .int (nI i))]) hx hb dX2_isSure_144 hl (k := 11) rfl (nI_1 _) (by decide) rfl (fun ls hl => ?_)
  refine lv_goto (tgt := 35) hx hb dX2_isSure_147 (by decide) ?_
  exact ihj (j + 1) _ ⟨by omega, lv_cast (lv_sub (l' := [(0, .ref h), (1, .int (nI set)), (2, .int (b01 (fl = true))), (3, .int (nI y)), (4, .int (b01 (srB kk (G 1) (nI set) y i = true))), (5, .int (nI i)), (6, .int (nI ((lft i j) / 6))), (7, .int (((snF kk (nI set) i j) &&& (((1 : Int32) <<< ((nI ((lft i j) % 6)) &&& 31)) ^^^ (-1))) &&& (((1 : Int32) <<< ((nI ((((lft i j) % 6) + 1) % 6)) &&& 31)) ^^^ (-1)))), (8, .int 1), (9, .int (nI (j + 1)))]) hl [6, 7, 8, 9, 10, 11, 4, 1, 3, 0] rfl) (by first | (rw [sn_h4 hst hk c_20 (hf4.mp c_25)]; simp [b01, myB, lft, c_1, c_2, c_3, c_6, c_13, c_20, c_25]; done) | (rw [sn_h0 hst hk c_20 (fun q => c_25 (hf4.mpr q))]; simp [b01, myB, lft, c_1, c_2, c_3, c_6, c_13, c_20, c_25]; done) | (rw [sn_n hst hk c_25]; simp [b01, myB, lft, c_1, c_2, c_3, c_6, c_13, c_20, c_25]; done))⟩ (by omega)
