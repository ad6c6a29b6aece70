/-! THE MODEL, 3 (by program: gen/model3.py) -/
set_option maxHeartbeats 400000 in
set_option maxRecDepth 100000 in
theorem K_X2_livesOf (l : Launch) (g : Gx) (h : Nat) (R : Nat → Nat) (J : Nat → Int32) (hs : Int64) (G : Nat → Nat → Int32) (fi : Nat) (y : Nat) (n_ : Nat) (kd : Nat → Nat) (pt : Nat → Int32) (hn : n_ ≤ 5) (hJ6 : (J 6) = nI n_) (hrow : RowsOk G n_ kd pt) (hlv : LvOk (G 3) n_) (hlo : LotsOk (G 1)) (hf : fi < n_) (hy : y ≤ 4) (hrk : RoK roT (wM g h R J hs G)) : EM l g yX2_livesOf cX2_livesOf 9 (some .int) 3 [.ref h, .int (nI fi), .int (nI y)] roT (wM g h R J hs G) (fun u => (wM g h R J hs (va_up (va_up (va_up G 5 (u 5)) 6 (u 6)) 7 (u 7)))) (some (.int (lvF kd (J 2) pt n_ (G 1) ((G 3), (G 4)) fi y (p6 y)))) := by
  refine EM.of (own := "BurntLettersModel") (by decide) rfl (Nat.le_of_ble_eq_true rfl) hrk ?_
  intro p e s m below meth c A hX hr hlk hZ ls hl
  have hx := hX.1.1
  have hb := hX.1.2.1
  have hl : lv_has ls 9 [(0, .ref h), (1, .int (nI fi)), (2, .int (nI y))] := hl
  have hp6 := p6_le (show y ≤ 5 by omega)
  have hk5 : ∀ f, f < n_ → kd f < 5 := fun f hf => (hrow f hf).2.2
  refine lv_iconst (v := 0) hx hb dX2_livesOf_0 (by decide) ?_
  refine lv_istore_n (lv' := [(3, .int 0), (0, .ref h), (1, .int (nI fi)), (2, .int (nI y))]) hx hb dX2_livesOf_1 rfl hl (by decide) rfl (fun ls hl => ?_)
  refine lv_iconst (v := 0) hx hb dX2_livesOf_2 (by decide) ?_
  refine lv_istore (lv' := [(4, .int 0), (3, .int 0), (0, .ref h), (1, .int (nI fi)), (2, .int (nI y))]) hx hb dX2_livesOf_3 hl (by decide) rfl (fun ls hl => ?_)
  refine W_loopU (α := Nat) (P := fun (i : Nat) (u : Nat → Nat → Int32) (H : Heap) (locs : List Loc) (ls : Array Slot) => i ≤ p6 y ∧ Zt g A s.heap roT (wM g h R J hs (va_up (va_up (va_up G 5 (u 5)) 6 (u 6)) 7 (u 7))) H locs ∧ lv_has ls 9 [(0, .ref h), (1, .int (nI fi)), (2, .int (nI y)), (3, .int (lvF kd (J 2) pt n_ (G 1) (G 3, G 4) fi y i)), (4, .int (nI i))]) (fun i => p6 y - i) 0 G ⟨Nat.zero_le _, hZ.cast (rfl), lv_cast (lv_sub (l' := [(0, .ref h), (1, .int (nI fi)), (2, .int (nI y)), (3, .int 0), (4, .int 0)]) hl [2, 3, 4, 1, 0] rfl) (rfl)⟩ ?_
  rintro i u H locs ls ⟨hi, hZ, hl⟩ ihi
  refine lv_iload hx hb dX2_livesOf_5 (lv_at hl 4 rfl) ?_
  refine lv_bipush (v := 6) hx hb dX2_livesOf_7 (by decide) ?_
  refine lv_iload_n hx hb dX2_livesOf_9 rfl (lv_at hl 2 rfl) ?_
  refine PM.ci (PM.runS (As := [.int 6, .int (nI y)]) (rest := [.int (nI i)]) hX (K_X2_power l g 6 y (by omega)) (cs_q1027 hX ⟨Nat.le_of_ble_eq_true rfl, Nat.le_of_ble_eq_true rfl⟩) va_P_nil trivial rfl hl.1 rfl (Nat.le_of_ble_eq_true rfl) dX2_livesOf_10 ⟨Nat.zero_le _, Nat.zero_le _⟩) ?_
  refine lv_seti (v := (nI (p6 y))) (hp6.1) ?_
  refine lv_icmp_ge (tgt := 130) hx hb dX2_livesOf_13 (by decide) (fun c_1 => ?_) (fun c_1 => ?_)
  · have c_1n : (p6 y) ≤ i := (nI_leI (a := (p6 y)) (b := i) (by omega) (by omega)).mp c_1
    have ei : p6 y = i := by omega
    subst ei
    refine lv_iload_n hx hb dX2_livesOf_130 rfl (lv_at hl 3 rfl) ?_
    exact EM.iret hX hr hlk hZ (ws1 := fun u => (wM g h R J hs (va_up (va_up (va_up G 5 (u 5)) 6 (u 6)) 7 (u 7)))) (va_up (va_up (va_up G 5 (u 5)) 6 (u 6)) 7 (u 7)) (rfl) (rfl) dX2_livesOf_131
  have c_1n : ¬ (p6 y) ≤ i := fun zz_ => c_1 ((nI_leI (a := (p6 y)) (b := i) (by omega) (by omega)).mpr zz_)
  refine lv_iconst (v := 1) hx hb dX2_livesOf_16 (by decide) ?_
  refine lv_istore (lv' := [(5, .int 1), (0, .ref h), (1, .int (nI fi)), (2, .int (nI y)), (3, .int (lvF kd (J 2) pt n_ (G 1) (G 3, G 4) fi y i)), (4, .int (nI i))]) hx hb dX2_livesOf_17 hl (by decide) rfl (fun ls hl => ?_)
  refine lv_iload hx hb dX2_livesOf_19 (lv_at hl 5 rfl) ?_
  refine lv_istore (lv' := [(6, .int (nI i)), (5, .int 1), (0, .ref h), (1, .int (nI fi)), (2, .int (nI y)), (3, .int (lvF kd (J 2) pt n_ (G 1) (G 3, G 4) fi y i)), (4, .int (nI i))]) hx hb dX2_livesOf_21 hl (by decide) rfl (fun ls hl => ?_)
  refine lv_iconst (v := 0) hx hb dX2_livesOf_23 (by decide) ?_
  refine lv_istore (lv' := [(7, .int 0), (6, .int (nI i)), (5, .int 1), (0, .ref h), (1, .int (nI fi)), (2, .int (nI y)), (3, .int (lvF kd (J 2) pt n_ (G 1) (G 3, G 4) fi y i)), (4, .int (nI i))]) hx hb dX2_livesOf_24 hl (by decide) rfl (fun ls hl => ?_)
  refine W_loop (α := Nat) (P := fun (j : Nat) (H : Heap) (locs : List Loc) (ls : Array Slot) => j ≤ y ∧ Zt g A s.heap roT (wM g h R J hs (va_up (va_up (va_up G 5 (u 5)) 6 (u 6)) 7 (u 7))) H locs ∧ lv_has ls 9 [(0, .ref h), (1, .int (nI fi)), (2, .int (nI y)), (3, .int (lvF kd (J 2) pt n_ (G 1) (G 3, G 4) fi y i)), (4, .int (nI i)), (5, .int (shF (G 1) i j)), (6, .int (nI (lft i j))), (7, .int (nI j))]) (fun j => y - j) 0 ⟨Nat.zero_le _, hZ.cast (rfl), lv_cast (lv_sub (l' := [(0, .ref h), (1, .int (nI fi)), (2, .int (nI y)), (3, .int (lvF kd (J 2) pt n_ (G 1) (G 3, G 4) fi y i)), (4, .int (nI i)), (5, .int 1), (6, .int (nI i)), (7, .int 0)]) hl [3, 4, 5, 6, 7, 2, 1, 0] rfl) (rfl)⟩ ?_
  rintro j H locs ls ⟨hj, hZ, hl⟩ ihj
  have hlf := lft_le i j
  refine lv_iload hx hb dX2_livesOf_26 (lv_at hl 7 rfl) ?_
  refine lv_iload_n hx hb dX2_livesOf_28 rfl (lv_at hl 2 rfl) ?_
  refine lv_icmp_ge (tgt := 60) hx hb dX2_livesOf_29 (by decide) (fun c_2 => ?_) (fun c_2 => ?_)
  · have c_2n : y ≤ j := (nI_leI (a := y) (b := j) (by omega) (by omega)).mp c_2
    have ej : y = j := by omega
    subst ej
    refine lv_iload hx hb dX2_livesOf_60 (lv_at hl 5 rfl) ?_
    refine lv_if_le (tgt := 124) hx hb dX2_livesOf_62 (by decide) (fun c_3 => ?_) (fun c_3 => ?_)
    · refine lv_iinc (v := (nI (i + 1))) (lv' := [(4, .int (nI (i + 1))), (0, .ref h), (1, .int (nI fi)), (2, .int (nI y)), (3, .int (lvF kd (J 2) pt n_ (G 1) (G 3, G 4) fi y i)), (5, .int (shF (G 1) i y)), (6, .int (nI (lft i y))), (7, .int (nI y))]) hx hb dX2_livesOf_124 hl (k := 4) rfl (nI_1 _) (by decide) rfl (fun ls hl => ?_)
      refine lv_goto (tgt := 5) hx hb dX2_livesOf_127 (by decide) ?_
      exact ihi (i + 1) (va_up (va_up (va_up G 5 (u 5)) 6 (u 6)) 7 (u 7)) _ _ _ ⟨by omega, hZ.cast (rfl), lv_cast (lv_sub (l' := [(0, .ref h), (1, .int (nI fi)), (2, .int (nI y)), (3, .int (lvF kd (J 2) pt n_ (G 1) (G 3, G 4) fi y i)), (4, .int (nI (i + 1)))]) hl [1, 2, 3, 4, 0] rfl) (by first | (simp only [lvF, if_pos c_3]; done) | (rw [lvF, shF_0 hlo hy c_3, ite_self, Int32.add_zero]; done))⟩ (by omega)
    refine lv_aload_n hx hb dX2_livesOf_65 rfl (lv_at hl 0 rfl) ?_
    refine MM.cvA (MM.runV (As := []) (rest := []) hX (K_X2_asItIs l g h R J hs (va_up (va_up (va_up G 5 (u 5)) 6 (u 6)) 7 (u 7)) (RoK.tt _)) (cv_q995 hX ⟨Nat.le_of_ble_eq_true rfl, Nat.le_of_ble_eq_true rfl⟩) hZ.1 hZ.2.1 trivial (r_recv hX hZ.1 0 rfl rfl) rfl hl.1 rfl (Nat.le_of_ble_eq_true rfl) dX2_livesOf_66 ⟨Nat.zero_le _, Nat.zero_le _⟩) hZ adM (fun H locs hZ => ?_)
    refine lv_iload hx hb dX2_livesOf_69 (lv_at hl 4 rfl) ?_
    refine lv_istore (lv' := [(6, .int (nI i)), (0, .ref h), (1, .int (nI fi)), (2, .int (nI y)), (3, .int (lvF kd (J 2) pt n_ (G 1) (G 3, G 4) fi y i)), (4, .int (nI i)), (5, .int (shF (G 1) i y)), (7, .int (nI y))]) hx hb dX2_livesOf_71 hl (by decide) rfl (fun ls hl => ?_)
    refine lv_iconst (v := 0) hx hb dX2_livesOf_73 (by decide) ?_
    refine lv_istore (lv' := [(7, .int 0), (6, .int (nI i)), (0, .ref h), (1, .int (nI fi)), (2, .int (nI y)), (3, .int (lvF kd (J 2) pt n_ (G 1) (G 3, G 4) fi y i)), (4, .int (nI i)), (5, .int (shF (G 1) i y))]) hx hb dX2_livesOf_74 hl (by decide) rfl (fun ls hl => ?_)
    refine W_loopU (α := Nat) (P := fun (k : Nat) (u2 : Nat → Nat → Int32) (H : Heap) (locs : List Loc) (ls : Array Slot) => k ≤ y ∧ Zt g A s.heap roT (wM g h R J hs (va_up (va_up (va_up G 5 ((rnS kd (J 2) pt n_ (G 3, G 4) i k).1)) 6 ((rnS kd (J 2) pt n_ (G 3, G 4) i k).2)) 7 (u2 7))) H locs ∧ lv_has ls 9 [(0, .ref h), (1, .int (nI fi)), (2, .int (nI y)), (3, .int (lvF kd (J 2) pt n_ (G 1) (G 3, G 4) fi y i)), (4, .int (nI i)), (5, .int (shF (G 1) i y)), (6, .int (nI (lft i k))), (7, .int (nI k))]) (fun k => y - k) 0 (va_up (va_up (va_up G 7 (u 7)) 5 (G 3)) 6 (G 4)) ⟨Nat.zero_le _, hZ.cast (rfl), lv_cast (lv_sub (l' := [(0, .ref h), (1, .int (nI fi)), (2, .int (nI y)), (3, .int (lvF kd (J 2) pt n_ (G 1) (G 3, G 4) fi y i)), (4, .int (nI i)), (5, .int (shF (G 1) i y)), (6, .int (nI i)), (7, .int 0)]) hl [2, 3, 4, 5, 6, 7, 1, 0] rfl) (rfl)⟩ ?_
    rintro k u2 H locs ls ⟨hk, hZ, hl⟩ ihk
    have hlf := lft_le i k
    refine lv_iload hx hb dX2_livesOf_76 (lv_at hl 7 rfl) ?_
    refine lv_iload_n hx hb dX2_livesOf_78 rfl (lv_at hl 2 rfl) ?_
    refine lv_icmp_ge (tgt := 106) hx hb dX2_livesOf_79 (by decide) (fun c_4 => ?_) (fun c_4 => ?_)
    · have c_4n : y ≤ k := (nI_leI (a := y) (b := k) (by omega) (by omega)).mp c_4
      have ek : y = k := by omega
      subst ek
      refine lv_iload_n hx hb dX2_livesOf_106 rfl (lv_at hl 3 rfl) ?_
      refine lv_aload_n hx hb dX2_livesOf_107 rfl (lv_at hl 0 rfl) ?_
      refine gf_q817 (v := .ref (R 10)) hX hZ.1 0 rfl rfl dX2_livesOf_108 ?_
      refine lv_iload_n hx hb dX2_livesOf_111 rfl (lv_at hl 1 rfl) ?_
      refine r_iald (f := ((rnS kd (J 2) pt n_ (G 3, G 4) i y).1)) hX hZ.1 6 rfl fi (by omega) (by omega) dX2_livesOf_112 ?_
      refine lv_if_eq (tgt := 121) hx hb dX2_livesOf_113 (by decide) (fun c_5 => ?_) (fun c_5 => ?_)
      · refine lv_iconst (v := 0) hx hb dX2_livesOf_121 (by decide) ?_
        refine lv_iadd hx hb dX2_livesOf_122 ?_
        refine lv_istore_n (lv' := [(3, .int ((lvF kd (J 2) pt n_ (G 1) (G 3, G 4) fi y i) + 0)), (0, .ref h), (1, .int (nI fi)), (2, .int (nI y)), (4, .int (nI i)), (5, .int (shF (G 1) i y)), (6, .int (nI (lft i y))), (7, .int (nI y))]) hx hb dX2_livesOf_123 rfl hl (by decide) rfl (fun ls hl => ?_)
        refine lv_iinc (v := (nI (i + 1))) (lv' := [(4, .int (nI (i + 1))), (3, .int ((lvF kd (J 2) pt n_ (G 1) (G 3, G 4) fi y i) + 0)), (0, .ref h), (1, .int (nI fi)), (2, .int (nI y)), (5, .int (shF (G 1) i y)), (6, .int (nI (lft i y))), (7, .int (nI y))]) hx hb dX2_livesOf_124 hl (k := 4) rfl (nI_1 _) (by decide) rfl (fun ls hl => ?_)
        refine lv_goto (tgt := 5) hx hb dX2_livesOf_127 (by decide) ?_
        exact ihi (i + 1) (va_up (va_up (va_up G 5 ((rnS kd (J 2) pt n_ (G 3, G 4) i y).1)) 6 ((rnS kd (J 2) pt n_ (G 3, G 4) i y).2)) 7 (u2 7)) _ _ _ ⟨by omega, hZ.cast (rfl), lv_cast (lv_sub (l' := [(0, .ref h), (1, .int (nI fi)), (2, .int (nI y)), (3, .int ((lvF kd (J 2) pt n_ (G 1) (G 3, G 4) fi y i) + 0)), (4, .int (nI (i + 1)))]) hl [2, 3, 4, 1, 0] rfl) (by first | (simp only [lvF, if_pos c_5]; done) | (rw [lvF, shF_0 hlo hy c_5, ite_self, Int32.add_zero]; done))⟩ (by omega)
      refine lv_iload hx hb dX2_livesOf_116 (lv_at hl 5 rfl) ?_
      refine lv_goto (tgt := 122) hx hb dX2_livesOf_118 (by decide) ?_
      refine lv_iadd hx hb dX2_livesOf_122 ?_
      refine lv_istore_n (lv' := [(3, .int ((lvF kd (J 2) pt n_ (G 1) (G 3, G 4) fi y i) + (shF (G 1) i y))), (0, .ref h), (1, .int (nI fi)), (2, .int (nI y)), (4, .int (nI i)), (5, .int (shF (G 1) i y)), (6, .int (nI (lft i y))), (7, .int (nI y))]) hx hb dX2_livesOf_123 rfl hl (by decide) rfl (fun ls hl => ?_)
      refine lv_iinc (v := (nI (i + 1))) (lv' := [(4, .int (nI (i + 1))), (3, .int ((lvF kd (J 2) pt n_ (G 1) (G 3, G 4) fi y i) + (shF (G 1) i y))), (0, .ref h), (1, .int (nI fi)), (2, .int (nI y)), (5, .int (shF (G 1) i y)), (6, .int (nI (lft i y))), (7, .int (nI y))]) hx hb dX2_livesOf_124 hl (k := 4) rfl (nI_1 _) (by decide) rfl (fun ls hl => ?_)
      refine lv_goto (tgt := 5) hx hb dX2_livesOf_127 (by decide) ?_
      exact ihi (i + 1) (va_up (va_up (va_up G 5 ((rnS kd (J 2) pt n_ (G 3, G 4) i y).1)) 6 ((rnS kd (J 2) pt n_ (G 3, G 4) i y).2)) 7 (u2 7)) _ _ _ ⟨by omega, hZ.cast (rfl), lv_cast (lv_sub (l' := [(0, .ref h), (1, .int (nI fi)), (2, .int (nI y)), (3, .int ((lvF kd (J 2) pt n_ (G 1) (G 3, G 4) fi y i) + (shF (G 1) i y))), (4, .int (nI (i + 1)))]) hl [2, 3, 4, 1, 0] rfl) (by first | (simp only [lvF, if_neg c_5]; done) | (rw [lvF, shF_0 hlo hy c_5, ite_self, Int32.add_zero]; done))⟩ (by omega)
    have c_4n : ¬ y ≤ k := fun zz_ => c_4 ((nI_leI (a := y) (b := k) (by omega) (by omega)).mpr zz_)
    refine lv_aload_n hx hb dX2_livesOf_82 rfl (lv_at hl 0 rfl) ?_
    refine lv_iload hx hb dX2_livesOf_83 (lv_at hl 6 rfl) ?_
    refine lv_bipush (v := 6) hx hb dX2_livesOf_85 (by decide) ?_
    refine lv_irem hx hb dX2_livesOf_87 (by decide) ?_
    refine lv_seti (v := (nI ((lft i k) % 6))) (pk_rem (a := (lft i k)) (d := 6) (by omega) (by omega) (by omega)) ?_
    refine EM.ciA (EM.runV (As := [.int (nI ((lft i k) % 6))]) (rest := []) hX (K_X2_pass l g h R J hs (va_up (va_up (va_up G 5 ((rnS kd (J 2) pt n_ (G 3, G 4) i k).1)) 6 ((rnS kd (J 2) pt n_ (G 3, G 4) i k).2)) 7 (u2 7)) ((lft i k) % 6) n_ kd pt (by omega) (hJ6) (hrow) (Nat.mod_lt _ (by decide)) (rnS_ok hn hlv hk5 k) (RoK.tt _)) (cv_q999 hX ⟨Nat.le_of_ble_eq_true rfl, Nat.le_of_ble_eq_true rfl⟩) hZ.1 hZ.2.1 trivial (r_recv hX hZ.1 0 rfl rfl) rfl hl.1 rfl (Nat.le_of_ble_eq_true rfl) dX2_livesOf_88 ⟨Nat.zero_le _, Nat.zero_le _⟩) hZ (fun _ => adM) (fun u_6 H locs hZ => ?_)
    refine lv_seti (v := (brR kd pt ((rnS kd (J 2) pt n_ (G 3, G 4) i k).1) ((rnS kd (J 2) pt n_ (G 3, G 4) i k).2) (nI ((lft i k) % 6)) n_)) (rfl) ?_
    refine lv_istore (lv' := [(8, .int (brR kd pt ((rnS kd (J 2) pt n_ (G 3, G 4) i k).1) ((rnS kd (J 2) pt n_ (G 3, G 4) i k).2) (nI ((lft i k) % 6)) n_)), (0, .ref h), (1, .int (nI fi)), (2, .int (nI y)), (3, .int (lvF kd (J 2) pt n_ (G 1) (G 3, G 4) fi y i)), (4, .int (nI i)), (5, .int (shF (G 1) i y)), (6, .int (nI (lft i k))), (7, .int (nI k))]) hx hb dX2_livesOf_91 hl (by decide) rfl (fun ls hl => ?_)
    refine lv_iload hx hb dX2_livesOf_93 (lv_at hl 7 rfl) ?_
    refine lv_bipush (v := 6) hx hb dX2_livesOf_95 (by decide) ?_
    refine lv_idiv hx hb dX2_livesOf_97 (by decide) ?_
    refine lv_seti (v := (nI ((lft i k) / 6))) (pk_div (a := (lft i k)) (d := 6) (by omega) (by omega) (by omega)) ?_
    refine lv_istore (lv' := [(6, .int (nI ((lft i k) / 6))), (8, .int (brR kd pt ((rnS kd (J 2) pt n_ (G 3, G 4) i k).1) ((rnS kd (J 2) pt n_ (G 3, G 4) i k).2) (nI ((lft i k) % 6)) n_)), (0, .ref h), (1, .int (nI fi)), (2, .int (nI y)), (3, .int (lvF kd (J 2) pt n_ (G 1) (G 3, G 4) fi y i)), (4, .int (nI i)), (5, .int (shF (G 1) i y)), (7, .int (nI k))]) hx hb dX2_livesOf_98 hl (by decide) rfl (fun ls hl => ?_)
    refine lv_iinc (v := (nI (k + 1))) (lv' := [(7, .int (nI (k + 1))), (6, .int (nI ((lft i k) / 6))), (8, .int (brR kd pt ((rnS kd (J 2) pt n_ (G 3, G 4) i k).1) ((rnS kd (J 2) pt n_ (G 3, G 4) i k).2) (nI ((lft i k) % 6)) n_)), (0, .ref h), (1, .int (nI fi)), (2, .int (nI y)), (3, .int (lvF kd (J 2) pt n_ (G 1) (G 3, G 4) fi y i)), (4, .int (nI i)), (5, .int (shF (G 1) i y))]) hx hb dX2_livesOf_100 hl (k := 8) rfl (nI_1 _) (by decide) rfl (fun ls hl => ?_)
    refine lv_goto (tgt := 76) hx hb dX2_livesOf_103 (by decide) ?_
    exact ihk (k + 1) (va_up (va_up (va_up G 5 (brL kd (J 2) pt ((rnS kd (J 2) pt n_ (G 3, G 4) i k).1) ((rnS kd (J 2) pt n_ (G 3, G 4) i k).2) (nI ((lft i k) % 6)) n_)) 6 (brK kd pt ((rnS kd (J 2) pt n_ (G 3, G 4) i k).1) ((rnS kd (J 2) pt n_ (G 3, G 4) i k).2) (nI ((lft i k) % 6)) n_)) 7 (u_6 7)) _ _ _ ⟨by omega, hZ.cast (rfl), lv_cast (lv_sub (l' := [(0, .ref h), (1, .int (nI fi)), (2, .int (nI y)), (3, .int (lvF kd (J 2) pt n_ (G 1) (G 3, G 4) fi y i)), (4, .int (nI i)), (5, .int (shF (G 1) i y)), (6, .int (nI ((lft i k) / 6))), (7, .int (nI (k + 1)))]) hl [3, 4, 5, 6, 7, 8, 1, 0] rfl) (by rfl)⟩ (by omega)
  have c_2n : ¬ y ≤ j := fun zz_ => c_2 ((nI_leI (a := y) (b := j) (by omega) (by omega)).mpr zz_)
  refine lv_iload hx hb dX2_livesOf_32 (lv_at hl 5 rfl) ?_
  refine lv_aload_n hx hb dX2_livesOf_34 rfl (lv_at hl 0 rfl) ?_
  refine gf_q812 (v := .ref (R 5)) hX hZ.1 0 rfl rfl dX2_livesOf_35 ?_
  refine lv_iload hx hb dX2_livesOf_38 (lv_at hl 6 rfl) ?_
  refine lv_bipush (v := 6) hx hb dX2_livesOf_40 (by decide) ?_
  refine lv_irem hx hb dX2_livesOf_42 (by decide) ?_
  refine lv_seti (v := (nI ((lft i j) % 6))) (pk_rem (a := (lft i j)) (d := 6) (by omega) (by omega) (by omega)) ?_
  refine r_iald (f := (G 1)) hX hZ.1 2 rfl ((lft i j) % 6) (by omega) (by omega) dX2_livesOf_43 ?_
  refine lv_imul hx hb dX2_livesOf_44 ?_
  refine lv_istore (lv' := [(5, .int ((shF (G 1) i j) * ((G 1) ((lft i j) % 6)))), (0, .ref h), (1, .int (nI fi)), (2, .int (nI y)), (3, .int (lvF kd (J 2) pt n_ (G 1) (G 3, G 4) fi y i)), (4, .int (nI i)), (6, .int (nI (lft i j))), (7, .int (nI j))]) hx hb dX2_livesOf_45 hl (by decide) rfl (fun ls hl => ?_)
  refine lv_iload hx hb dX2_livesOf_47 (lv_at hl 6 rfl) ?_
  refine lv_bipush (v := 6) hx hb dX2_livesOf_49 (by decide) ?_
  refine lv_idiv hx hb dX2_livesOf_51 (by decide) ?_
  refine lv_seti (v := (nI ((lft i j) / 6))) (pk_div (a := (lft i j)) (d := 6) (by omega) (by omega) (by omega)) ?_
  refine lv_istore (lv' := [(6, .int (nI ((lft i j) / 6))), (5, .int ((shF (G 1) i j) * ((G 1) ((lft i j) % 6)))), (0, .ref h), (1, .int (nI fi)), (2, .int (nI y)), (3, .int (lvF kd (J 2) pt n_ (G 1) (G 3, G 4) fi y i)), (4, .int (nI i)), (7, .int (nI j))]) hx hb dX2_livesOf_52 hl (by decide) rfl (fun ls hl => ?_)
  refine lv_iinc (v := (nI (j + 1))) (lv' := [(7, .int (nI (j + 1))), (6, .int (nI ((lft i j) / 6))), (5, .int ((shF (G 1) i j) * ((G 1) ((lft i j) % 6)))), (0, .ref h), (1, .int (nI fi)), (2, .int (nI y)), (3, .int (lvF kd (J 2) pt n_ (G 1) (G 3, G 4) fi y i)), (4, .int (nI i))]) hx hb dX2_livesOf_54 hl (k := 7) rfl (nI_1 _) (by decide) rfl (fun ls hl => ?_)
  refine lv_goto (tgt := 26) hx hb dX2_livesOf_57 (by decide) ?_
  exact ihj (j + 1) _ _ _ ⟨by omega, hZ.cast (rfl), lv_cast (lv_sub (l' := [(0, .ref h), (1, .int (nI fi)), (2, .int (nI y)), (3, .int (lvF kd (J 2) pt n_ (G 1) (G 3, G 4) fi y i)), (4, .int (nI i)), (5, .int ((shF (G 1) i j) * ((G 1) ((lft i j) % 6)))), (6, .int (nI ((lft i j) / 6))), (7, .int (nI (j + 1)))]) hl [3, 4, 5, 6, 7, 2, 1, 0] rfl) (by rfl)⟩ (by omega)

set_option maxHeartbeats 400000 in
set_option maxRecDepth 100000 in
theorem K_X2_term (l : Launch) (g : Gx) (a : Nat) (b : Nat) (part : Int32) (ha : a < 2 ^ 31) (hb2 : b < 2 ^ 31) (hb0 : 0 < b) : PM l g yX2_term cX2_term 6 (some .int) 0 [.int (nI a), .int (nI b), .int part] roT ([] : va_W) (some (.int (lwF a b part))) := by
  refine PM.of (own := "BurntLettersModel") (by decide) rfl (Nat.le_of_ble_eq_true rfl) ?_
  intro p e s m below meth c hX hr hlk hP hro ls hl
  have hx := hX.1.1
  have hb := hX.1.2.1
  have hl : lv_has ls 6 [(0, .int (nI a)), (1, .int (nI b)), (2, .int part)] := hl
  refine lv_iload_n hx hb dX2_term_0 rfl (lv_at hl 0 rfl) ?_
  refine lv_istore_n (lv' := [(3, .int (nI a)), (0, .int (nI a)), (1, .int (nI b)), (2, .int part)]) hx hb dX2_term_1 rfl hl (by decide) rfl (fun ls hl => ?_)
  refine lv_iload_n hx hb dX2_term_2 rfl (lv_at hl 2 rfl) ?_
  refine lv_istore (lv' := [(4, .int (nI b)), (3, .int (nI a)), (0, .int (nI a)), (1, .int (nI b)), (2, .int part)]) hx hb dX2_term_3 hl (by decide) rfl (fun ls hl => ?_)
  refine W_loopP (α := Nat × Nat) (P := fun (x : Nat × Nat) (ls : Array Slot) => Nat.gcd x.1 x.2 = Nat.gcd a b ∧ x.1 < 2 ^ 31 ∧ x.2 < 2 ^ 31 ∧ lv_has ls 6 [(0, .int (nI a)), (1, .int (nI b)), (2, .int part), (3, .int (nI x.1)), (4, .int (nI x.2))]) (fun x => x.1) (a, b) ⟨rfl, ha, hb2, lv_cast (lv_sub (l' := [(0, .int (nI a)), (1, .int (nI b)), (2, .int part), (3, .int (nI a)), (4, .int (nI b))]) hl [2, 3, 4, 1, 0] rfl) (rfl)⟩ ?_
  rintro x ls ⟨hg, h1, h2, hl⟩ ihx
  refine lv_iload_n hx hb dX2_term_5 rfl (lv_at hl 3 rfl) ?_
  refine lv_if_eq (tgt := 24) hx hb dX2_term_6 (by decide) (fun c_1 => ?_) (fun c_1 => ?_)
  · have c_1n : x.1 = 0 := (nI_eq (a := x.1) (b := 0) (by omega) (by omega)).mp c_1
    have hg1 : x.2 = Nat.gcd a b := by rw [← hg, c_1n, Nat.gcd_zero_left]
    have hgp : 0 < Nat.gcd a b := Nat.gcd_pos_of_pos_right a hb0
    have hgl : 0 < x.2 := by rw [hg1]; exact hgp
    refine lv_iload_n hx hb dX2_term_24 rfl (lv_at hl 2 rfl) ?_
    refine lv_if_ne (tgt := 35) hx hb dX2_term_25 (by decide) (fun c_2 => ?_) (fun c_2 => ?_)
    · refine lv_iload_n hx hb dX2_term_35 rfl (lv_at hl 1 rfl) ?_
      refine lv_iload hx hb dX2_term_36 (lv_at hl 4 rfl) ?_
      refine lv_idiv hx hb dX2_term_38 (nI_ne0 hgl h2) ?_
      refine lv_seti (v := (nI (b / x.2))) (pk_div (a := b) (d := x.2) (by omega) (by omega) (by omega)) ?_
      exact PM.iret hX hr hlk (by simp only [lwF, if_pos c_1, if_neg c_2, hg1]) dX2_term_39
    refine lv_iload_n hx hb dX2_term_28 rfl (lv_at hl 0 rfl) ?_
    refine lv_iload hx hb dX2_term_29 (lv_at hl 4 rfl) ?_
    refine lv_idiv hx hb dX2_term_31 (nI_ne0 hgl h2) ?_
    refine lv_seti (v := (nI (a / x.2))) (pk_div (a := a) (d := x.2) (by omega) (by omega) (by omega)) ?_
    refine lv_goto (tgt := 39) hx hb dX2_term_32 (by decide) ?_
    exact PM.iret hX hr hlk (by simp only [lwF, if_pos c_1, if_pos c_2, hg1]) dX2_term_39
  have c_1n : ¬ x.1 = 0 := fun zz_ => c_1 ((nI_eq (a := x.1) (b := 0) (by omega) (by omega)).mpr zz_)
  refine lv_iload hx hb dX2_term_9 (lv_at hl 4 rfl) ?_
  refine lv_iload_n hx hb dX2_term_11 rfl (lv_at hl 3 rfl) ?_
  refine lv_irem hx hb dX2_term_12 (c_1) ?_
  refine lv_seti (v := (nI (x.2 % x.1))) (pk_rem (a := x.2) (d := x.1) (by omega) (by omega) (by omega)) ?_
  refine lv_istore (lv' := [(5, .int (nI (x.2 % x.1))), (0, .int (nI a)), (1, .int (nI b)), (2, .int part), (3, .int (nI x.1)), (4, .int (nI x.2))]) hx hb dX2_term_13 hl (by decide) rfl (fun ls hl => ?_)
  refine lv_iload_n hx hb dX2_term_15 rfl (lv_at hl 4 rfl) ?_
  refine lv_istore (lv' := [(4, .int (nI x.1)), (5, .int (nI (x.2 % x.1))), (0, .int (nI a)), (1, .int (nI b)), (2, .int part), (3, .int (nI x.1))]) hx hb dX2_term_16 hl (by decide) rfl (fun ls hl => ?_)
  refine lv_iload hx hb dX2_term_18 (lv_at hl 1 rfl) ?_
  refine lv_istore_n (lv' := [(3, .int (nI (x.2 % x.1))), (4, .int (nI x.1)), (5, .int (nI (x.2 % x.1))), (0, .int (nI a)), (1, .int (nI b)), (2, .int part)]) hx hb dX2_term_20 rfl hl (by decide) rfl (fun ls hl => ?_)
  refine lv_goto (tgt := 5) hx hb dX2_term_21 (by decide) ?_
  exact ihx (x.2 % x.1, x.1) _ ⟨by rw [← hg]; exact (Nat.gcd_rec x.1 x.2).symm, Nat.lt_trans (Nat.mod_lt _ (by omega)) h1, h1, lv_cast (lv_sub (l' := [(0, .int (nI a)), (1, .int (nI b)), (2, .int part), (3, .int (nI (x.2 % x.1))), (4, .int (nI x.1))]) hl [3, 4, 5, 0, 1] rfl) (by rfl)⟩ (Nat.mod_lt _ (by omega))

set_option maxHeartbeats 400000 in
set_option maxRecDepth 100000 in
theorem K_X2_oddsOf (l : Launch) (g : Gx) (h : Nat) (R : Nat → Nat) (J : Nat → Int32) (hs : Int64) (G : Nat → Nat → Int32) (fi : Nat) (y : Nat) (part : Int32) (n_ : Nat) (kd : Nat → Nat) (pt : Nat → Int32) (hn : n_ ≤ 5) (hJ6 : (J 6) = nI n_) (hrow : RowsOk G n_ kd pt) (hlv : LvOk (G 3) n_) (hlo : LotsOk (G 1)) (hf : fi < n_) (hy : y ≤ 4) (hrk : RoK roT (wM g h R J hs G)) : EM l g yX2_oddsOf cX2_oddsOf 4 (some .int) 4 [.ref h, .int (nI fi), .int (nI y), .int part] roT (wM g h R J hs G) (fun u => (wM g h R J hs (va_up (va_up (va_up G 5 (u 5)) 6 (u 6)) 7 (u 7)))) (some (.int (odF kd (vI J) (vF G pt) n_ fi y part))) := by
  refine EM.of (own := "BurntLettersModel") (by decide) rfl (Nat.le_of_ble_eq_true rfl) hrk ?_
  intro p e s m below meth c A hX hr hlk hZ ls hl
  have hx := hX.1.1
  have hb := hX.1.2.1
  have hl : lv_has ls 4 [(0, .ref h), (1, .int (nI fi)), (2, .int (nI y)), (3, .int part)] := hl
  have hp10 := p10_le hy
  have hnn := liF_nat (kd := kd) (I := vI J) (F := vF G pt) (n := n_) (f := fi) (c := -1) hlo hy
  refine lv_aload_n hx hb dX2_oddsOf_0 rfl (lv_at hl 0 rfl) ?_
  refine lv_iload_n hx hb dX2_oddsOf_1 rfl (lv_at hl 1 rfl) ?_
  refine lv_iload_n hx hb dX2_oddsOf_2 rfl (lv_at hl 2 rfl) ?_
  refine EM.ciA (EM.runV (As := [.int (nI fi), .int (nI y)]) (rest := []) hX (K_X2_livesOf l g h R J hs G fi y n_ kd pt (by omega) (hJ6) (hrow) (hlv) (hlo) (by omega) (by omega) (RoK.tt _)) (cv_q1023 hX ⟨Nat.le_of_ble_eq_true rfl, Nat.le_of_ble_eq_true rfl⟩) hZ.1 hZ.2.1 trivial (r_recv hX hZ.1 0 rfl rfl) rfl hl.1 rfl (Nat.le_of_ble_eq_true rfl) dX2_oddsOf_3 ⟨Nat.zero_le _, Nat.zero_le _⟩) hZ (fun _ => adM) (fun u_1 H locs hZ => ?_)
  refine lv_seti (v := (liF kd (vI J) (vF G pt) n_ fi (-1) y)) (liF_m) ?_
  refine lv_seti (v := (nI (ix (liF kd (vI J) (vF G pt) n_ fi (-1) y)))) (hnn.1) ?_
  refine lv_bipush (v := 10) hx hb dX2_oddsOf_6 (by decide) ?_
  refine lv_iload_n hx hb dX2_oddsOf_8 rfl (lv_at hl 2 rfl) ?_
  refine PM.ci (PM.runS (As := [.int 10, .int (nI y)]) (rest := [.int (nI (ix (liF kd (vI J) (vF G pt) n_ fi (-1) y)))]) hX (K_X2_power l g 10 y (by omega)) (cs_q1027 hX ⟨Nat.le_of_ble_eq_true rfl, Nat.le_of_ble_eq_true rfl⟩) va_P_nil trivial rfl hl.1 rfl (Nat.le_of_ble_eq_true rfl) dX2_oddsOf_9 ⟨Nat.zero_le _, Nat.zero_le _⟩) ?_
  refine lv_seti (v := (nI (p10 y))) (hp10.1) ?_
  refine lv_iload_n hx hb dX2_oddsOf_12 rfl (lv_at hl 3 rfl) ?_
  refine PM.ci (PM.runS (As := [.int (nI (ix (liF kd (vI J) (vF G pt) n_ fi (-1) y))), .int (nI (p10 y)), .int part]) (rest := []) hX (K_X2_term l g (ix (liF kd (vI J) (vF G pt) n_ fi (-1) y)) (p10 y) part (hnn.2) (by omega) (by omega)) (cs_q1030 hX ⟨Nat.le_of_ble_eq_true rfl, Nat.le_of_ble_eq_true rfl⟩) va_P_nil trivial rfl hl.1 rfl (Nat.le_of_ble_eq_true rfl) dX2_oddsOf_13 ⟨Nat.zero_le _, Nat.zero_le _⟩) ?_
  exact EM.iret hX hr hlk hZ (ws1 := fun u => (wM g h R J hs (va_up (va_up (va_up G 5 (u 5)) 6 (u 6)) 7 (u 7)))) (va_up (va_up (va_up G 5 (u_1 5)) 6 (u_1 6)) 7 (u_1 7)) (rfl) (rfl) dX2_oddsOf_16

set_option maxHeartbeats 400000 in
set_option maxRecDepth 100000 in
theorem K_X2_odds (l : Launch) (g : Gx) (h : Nat) (R : Nat → Nat) (J : Nat → Int32) (hs : Int64) (G : Nat → Nat → Int32) (x : Int32) (y : Int32) (part : Int32) (n_ : Nat) (kd : Nat → Nat) (pt : Nat → Int32) (hn : n_ ≤ 5) (hJ6 : (J 6) = nI n_) (hrow : RowsOk G n_ kd pt) (hlv : LvOk (G 3) n_) (hlo : LotsOk (G 1)) (hrk : RoK roT (wM g h R J hs G)) : EM l g yX2_odds cX2_odds 4 (some .int) 5 [.ref h, .int x, .int y, .int part] roT (wM g h R J hs G) (fun u => (wM g h R J hs (va_up (va_up (va_up G 5 (u 5)) 6 (u 6)) 7 (u 7)))) (some (.int (oddR kd (vI J) (vF G pt) n_ x y part))) := by
  refine EM.of (own := "BurntLettersModel") (by decide) rfl (Nat.le_of_ble_eq_true rfl) hrk ?_
  intro p e s m below meth c A hX hr hlk hZ ls hl
  have hx := hX.1.1
  have hb := hX.1.2.1
  have hl : lv_has ls 4 [(0, .ref h), (1, .int x), (2, .int y), (3, .int part)] := hl
  refine lv_aload_n hx hb dX2_odds_0 rfl (lv_at hl 0 rfl) ?_
  refine lv_iload_n hx hb dX2_odds_1 rfl (lv_at hl 1 rfl) ?_
  refine PM.ci (PM.runV (As := [.int x]) (rest := []) hX (K_X2_isFile l g h R J hs G x n_ (hJ6)) (cv_q952 hX ⟨Nat.le_of_ble_eq_true rfl, Nat.le_of_ble_eq_true rfl⟩) hZ.1 trivial (r_recv hX hZ.1 0 rfl rfl) rfl hl.1 rfl (Nat.le_of_ble_eq_true rfl) dX2_odds_2 ⟨Nat.zero_le _, Nat.zero_le _⟩) ?_
  refine lv_bif_ne (tgt := 11) hx hb dX2_odds_5 (by decide) (fun c_1 => ?_) (fun c_1 => ?_)
  · obtain ⟨f, hf, rfl⟩ := file_nat hn c_1
    refine lv_iload_n hx hb dX2_odds_11 rfl (lv_at hl 2 rfl) ?_
    refine lv_i2l (v := y.toInt64) hx hb dX2_odds_12 rfl ?_
    refine lv_lconst (v := 0) hx hb dX2_odds_13 (by decide) ?_
    refine lv_ldc2 (v := 4) hx hb hX.1.2.2.2.1 (hX.w q943) dX2_odds_14 ?_
    refine PM.ci (PM.runS (As := [.long y.toInt64, .long 0, .long 4]) (rest := []) hX (K_X2_in l g y.toInt64 0 4) (cs_q900 hX ⟨Nat.le_of_ble_eq_true rfl, Nat.le_of_ble_eq_true rfl⟩) va_P_nil trivial rfl hl.1 rfl (Nat.le_of_ble_eq_true rfl) dX2_odds_17 ⟨Nat.zero_le _, Nat.zero_le _⟩) ?_
    refine lv_seti (v := (b01 (inP y 0 4))) (inL_c (a := 0) (b := 4) (by decide) (by decide)) ?_
    refine lv_bif_eq (tgt := 43) hx hb dX2_odds_20 (by decide) (fun c_2 => ?_) (fun c_2 => ?_)
    · refine lv_bipush (v := (-102)) hx hb dX2_odds_43 (by decide) ?_
      exact EM.iret hX hr hlk hZ (ws1 := fun u => (wM g h R J hs (va_up (va_up (va_up G 5 (u 5)) 6 (u 6)) 7 (u 7)))) G (rfl) (by first | (simp only [oddR, if_pos c_1, if_neg c_2]; done) | (simp only [oddR, if_pos c_1, if_neg c_2, ix_nI (show f < 2 ^ 31 by omega), ix_nI (show yy < 2 ^ 31 by omega)]; done)) dX2_odds_45
    obtain ⟨yy, hyy, rfl⟩ := inP_nat (b := 4) (by omega) c_2
    refine lv_iload_n hx hb dX2_odds_23 rfl (lv_at hl 3 rfl) ?_
    refine lv_i2l (v := part.toInt64) hx hb dX2_odds_24 rfl ?_
    refine lv_lconst (v := 0) hx hb dX2_odds_25 (by decide) ?_
    refine lv_lconst (v := 1) hx hb dX2_odds_26 (by decide) ?_
    refine PM.ci (PM.runS (As := [.long part.toInt64, .long 0, .long 1]) (rest := []) hX (K_X2_in l g part.toInt64 0 1) (cs_q900 hX ⟨Nat.le_of_ble_eq_true rfl, Nat.le_of_ble_eq_true rfl⟩) va_P_nil trivial rfl hl.1 rfl (Nat.le_of_ble_eq_true rfl) dX2_odds_27 ⟨Nat.zero_le _, Nat.zero_le _⟩) ?_
    refine lv_seti (v := (b01 (inP part 0 1))) (inL_c (a := 0) (b := 1) (by decide) (by decide)) ?_
    refine lv_bif_eq (tgt := 43) hx hb dX2_odds_30 (by decide) (fun c_3 => ?_) (fun c_3 => ?_)
    · refine lv_bipush (v := (-102)) hx hb dX2_odds_43 (by decide) ?_
      exact EM.iret hX hr hlk hZ (ws1 := fun u => (wM g h R J hs (va_up (va_up (va_up G 5 (u 5)) 6 (u 6)) 7 (u 7)))) G (rfl) (by first | (simp only [oddR, if_pos c_1, if_pos c_2, if_neg c_3]; done) | (simp only [oddR, if_pos c_1, if_pos c_2, if_neg c_3, ix_nI (show f < 2 ^ 31 by omega), ix_nI (show yy < 2 ^ 31 by omega)]; done)) dX2_odds_45
    refine lv_aload_n hx hb dX2_odds_33 rfl (lv_at hl 0 rfl) ?_
    refine lv_iload_n hx hb dX2_odds_34 rfl (lv_at hl 1 rfl) ?_
    refine lv_iload_n hx hb dX2_odds_35 rfl (lv_at hl 2 rfl) ?_
    refine lv_iload_n hx hb dX2_odds_36 rfl (lv_at hl 3 rfl) ?_
    refine EM.ciA (EM.runV (As := [.int (nI f), .int (nI yy), .int part]) (rest := []) hX (K_X2_oddsOf l g h R J hs G f yy part n_ kd pt (by omega) (hJ6) (hrow) (hlv) (hlo) (by omega) (by omega) (RoK.tt _)) (cv_q1019 hX ⟨Nat.le_of_ble_eq_true rfl, Nat.le_of_ble_eq_true rfl⟩) hZ.1 hZ.2.1 trivial (r_recv hX hZ.1 0 rfl rfl) rfl hl.1 rfl (Nat.le_of_ble_eq_true rfl) dX2_odds_37 ⟨Nat.zero_le _, Nat.zero_le _⟩) hZ (fun _ => adM) (fun u_4 H locs hZ => ?_)
    refine lv_goto (tgt := 45) hx hb dX2_odds_40 (by decide) ?_
    exact EM.iret hX hr hlk hZ (ws1 := fun u => (wM g h R J hs (va_up (va_up (va_up G 5 (u 5)) 6 (u 6)) 7 (u 7)))) (va_up (va_up (va_up G 5 (u_4 5)) 6 (u_4 6)) 7 (u_4 7)) (rfl) (by first | (simp only [oddR, if_pos c_1, if_pos c_2, if_pos c_3]; done) | (simp only [oddR, if_pos c_1, if_pos c_2, if_pos c_3, ix_nI (show f < 2 ^ 31 by omega), ix_nI (show yy < 2 ^ 31 by omega)]; done)) dX2_odds_45
  refine lv_bipush (v := (-101)) hx hb dX2_odds_8 (by decide) ?_
  exact EM.iret hX hr hlk hZ (ws1 := fun u => (wM g h R J hs (va_up (va_up (va_up G 5 (u 5)) 6 (u 6)) 7 (u 7)))) G (rfl) (by first | (simp only [oddR, if_neg c_1]; done) | (simp only [oddR, if_neg c_1, ix_nI (show f < 2 ^ 31 by omega), ix_nI (show yy < 2 ^ 31 by omega)]; done)) dX2_odds_10

set_option maxHeartbeats 400000 in
set_option maxRecDepth 100000 in
theorem K_X2_whereOf (l : Launch) (g : Gx) (h : Nat) (R : Nat → Nat) (J : Nat → Int32) (hs : Int64) (G : Nat → Nat → Int32) (fi : Nat) (y : Nat) (n_ : Nat) (kd : Nat → Nat) (pt : Nat → Int32) (hn : n_ ≤ 5) (hJ6 : (J 6) = nI n_) (hrow : RowsOk G n_ kd pt) (hlv : LvOk (G 3) n_) (hlo : LotsOk (G 1)) (hf : fi < n_) (hy : y ≤ 4) (hrk : RoK roT (wM g h R J hs G)) : EM l g yX2_whereOf cX2_whereOf 7 (some .int) 4 [.ref h, .int (nI fi), .int (nI y)] roT (wM g h R J hs G) (fun u => (wM g h R J hs (va_up (va_up (va_up G 5 (u 5)) 6 (u 6)) 7 (u 7)))) (some (.int ((whF kd (vI J) (vF G pt) n_ fi y 6).1))) := by
  refine EM.of (own := "BurntLettersModel") (by decide) rfl (Nat.le_of_ble_eq_true rfl) hrk ?_
  intro p e s m below meth c A hX hr hlk hZ ls hl
  have hx := hX.1.1
  have hb := hX.1.2.1
  have hl : lv_has ls 7 [(0, .ref h), (1, .int (nI fi)), (2, .int (nI y))] := hl
  refine lv_aload_n hx hb dX2_whereOf_0 rfl (lv_at hl 0 rfl) ?_
  refine lv_iload_n hx hb dX2_whereOf_1 rfl (lv_at hl 1 rfl) ?_
  refine lv_iload_n hx hb dX2_whereOf_2 rfl (lv_at hl 2 rfl) ?_
  refine EM.ciA (EM.runV (As := [.int (nI fi), .int (nI y)]) (rest := []) hX (K_X2_livesOf l g h R J hs G fi y n_ kd pt (by omega) (hJ6) (hrow) (hlv) (hlo) (by omega) (by omega) (RoK.tt _)) (cv_q1023 hX ⟨Nat.le_of_ble_eq_true rfl, Nat.le_of_ble_eq_true rfl⟩) hZ.1 hZ.2.1 trivial (r_recv hX hZ.1 0 rfl rfl) rfl hl.1 rfl (Nat.le_of_ble_eq_true rfl) dX2_whereOf_3 ⟨Nat.zero_le _, Nat.zero_le _⟩) hZ (fun _ => adM) (fun u_1 H locs hZ => ?_)
  refine lv_seti (v := (liF kd (vI J) (vF G pt) n_ fi (-1) y)) (liF_m) ?_
  refine lv_istore_n (lv' := [(3, .int (liF kd (vI J) (vF G pt) n_ fi (-1) y)), (0, .ref h), (1, .int (nI fi)), (2, .int (nI y))]) hx hb dX2_whereOf_6 rfl hl (by decide) rfl (fun ls hl => ?_)
  refine lv_iconst (v := (-1)) hx hb dX2_whereOf_7 (by decide) ?_
  refine lv_istore (lv' := [(4, .int (-1)), (3, .int (liF kd (vI J) (vF G pt) n_ fi (-1) y)), (0, .ref h), (1, .int (nI fi)), (2, .int (nI y))]) hx hb dX2_whereOf_8 hl (by decide) rfl (fun ls hl => ?_)
  refine lv_iconst (v := 0) hx hb dX2_whereOf_10 (by decide) ?_
  refine lv_istore (lv' := [(5, .int 0), (4, .int (-1)), (3, .int (liF kd (vI J) (vF G pt) n_ fi (-1) y)), (0, .ref h), (1, .int (nI fi)), (2, .int (nI y))]) hx hb dX2_whereOf_11 hl (by decide) rfl (fun ls hl => ?_)
  refine W_loopU (α := Nat) (P := fun (i : Nat) (u : Nat → Nat → Int32) (H : Heap) (locs : List Loc) (ls : Array Slot) => i ≤ 6 ∧ Zt g A s.heap roT (wM g h R J hs (va_up (va_up (va_up G 5 (u 5)) 6 (u 6)) 7 (u 7))) H locs ∧ lv_has ls 7 [(0, .ref h), (1, .int (nI fi)), (2, .int (nI y)), (3, .int ((whF kd (vI J) (vF G pt) n_ fi y i).2)), (4, .int ((whF kd (vI J) (vF G pt) n_ fi y i).1)), (5, .int (nI i))]) (fun i => 6 - i) 0 (va_up (va_up (va_up G 5 (u_1 5)) 6 (u_1 6)) 7 (u_1 7)) ⟨Nat.zero_le _, hZ.cast (rfl), lv_cast (lv_sub (l' := [(0, .ref h), (1, .int (nI fi)), (2, .int (nI y)), (3, .int (liF kd (vI J) (vF G pt) n_ fi (-1) y)), (4, .int (-1)), (5, .int 0)]) hl [3, 4, 5, 2, 1, 0] rfl) (rfl)⟩ ?_
  rintro i u H locs ls ⟨hi, hZ, hl⟩ ihi
  refine lv_iload hx hb dX2_whereOf_13 (lv_at hl 5 rfl) ?_
  refine lv_bipush (v := 6) hx hb dX2_whereOf_15 (by decide) ?_
  refine lv_icmp_ge (tgt := 100) hx hb dX2_whereOf_17 (by decide) (fun c_2 => ?_) (fun c_2 => ?_)
  · have c_2n : 6 ≤ i := (nI_leI (a := 6) (b := i) (by omega) (by omega)).mp c_2
    have eii : i = 6 := by omega
    subst eii
    refine lv_iload hx hb dX2_whereOf_100 (lv_at hl 4 rfl) ?_
    exact EM.iret hX hr hlk hZ (ws1 := fun u => (wM g h R J hs (va_up (va_up (va_up G 5 (u 5)) 6 (u 6)) 7 (u 7)))) (va_up (va_up (va_up G 5 (u 5)) 6 (u 6)) 7 (u 7)) (rfl) (rfl) dX2_whereOf_102
  have c_2n : ¬ 6 ≤ i := fun zz_ => c_2 ((nI_leI (a := 6) (b := i) (by omega) (by omega)).mpr zz_)
  refine lv_aload_n hx hb dX2_whereOf_20 rfl (lv_at hl 0 rfl) ?_
  refine lv_iload_n hx hb dX2_whereOf_21 rfl (lv_at hl 1 rfl) ?_
  refine lv_iload hx hb dX2_whereOf_22 (lv_at hl 5 rfl) ?_
  refine PM.ci (PM.runV (As := [.int (nI fi), .int (nI i)]) (rest := []) hX (K_X2_mayCopy l g h R J hs (va_up (va_up (va_up G 5 (u 5)) 6 (u 6)) 7 (u 7)) fi (nI i) n_ kd pt (by omega) (hJ6) (hrow) (by omega) (hlv)) (cv_q972 hX ⟨Nat.le_of_ble_eq_true rfl, Nat.le_of_ble_eq_true rfl⟩) hZ.1 trivial (r_recv hX hZ.1 0 rfl rfl) rfl hl.1 rfl (Nat.le_of_ble_eq_true rfl) dX2_whereOf_24 ⟨Nat.zero_le _, Nat.zero_le _⟩) ?_
  refine lv_seti (v := (b01 (mcP kd (G 3) (J 2) n_ fi (nI i)))) (rfl) ?_
  refine lv_bif_eq (tgt := 94) hx hb dX2_whereOf_27 (by decide) (fun c_3 => ?_) (fun c_3 => ?_)
  · refine lv_iinc (v := (nI (i + 1))) (lv' := [(5, .int (nI (i + 1))), (0, .ref h), (1, .int (nI fi)), (2, .int (nI y)), (3, .int ((whF kd (vI J) (vF G pt) n_ fi y i).2)), (4, .int ((whF kd (vI J) (vF G pt) n_ fi y i).1))]) hx hb dX2_whereOf_94 hl (k := 5) rfl (nI_1 _) (by decide) rfl (fun ls hl => ?_)
    refine lv_goto (tgt := 13) hx hb dX2_whereOf_97 (by decide) ?_
    exact ihi (i + 1) (va_up (va_up (va_up G 5 (u 5)) 6 (u 6)) 7 (u 7)) _ _ _ ⟨by omega, hZ.cast (by first | (rw [hbk]; rfl) | rfl), lv_cast (lv_sub (l' := [(0, .ref h), (1, .int (nI fi)), (2, .int (nI y)), (3, .int ((whF kd (vI J) (vF G pt) n_ fi y i).2)), (4, .int ((whF kd (vI J) (vF G pt) n_ fi y i).1)), (5, .int (nI (i + 1)))]) hl [1, 2, 3, 4, 5, 0] rfl) (by first | exact absurd c_none c_none | exact absurd c_none c_none | (rw [whF_m, if_neg c_3]; done) | (rw [whF_m, if_pos c_3, max_alt]; simp only [if_neg c_3]; done))⟩ (by omega)
  have hbk := wh_back (t := i) hlv hf (by omega) c_3.2.1
  refine lv_aload_n hx hb dX2_whereOf_30 rfl (lv_at hl 0 rfl) ?_
  refine gf_q815 (v := .ref (R 8)) hX hZ.1 0 rfl rfl dX2_whereOf_31 ?_
  refine lv_iload_n hx hb dX2_whereOf_34 rfl (lv_at hl 1 rfl) ?_
  refine lv_dup2_11 hx hb dX2_whereOf_35 rfl rfl ?_
  refine r_iald (f := (G 3)) hX hZ.1 4 rfl fi (by omega) (by omega) dX2_whereOf_36 ?_
  refine lv_iconst (v := 1) hx hb dX2_whereOf_37 (by decide) ?_
  refine lv_iload hx hb dX2_whereOf_38 (lv_at hl 5 rfl) ?_
  refine lv_ishl hx hb dX2_whereOf_40 ?_
  refine lv_ior hx hb dX2_whereOf_41 ?_
  refine r_iast (f := (G 3)) (x := (((G 3) fi) ||| ((1 : Int32) <<< ((nI i) &&& 31)))) (ws1 := (wM g h R J hs (va_up (va_up (va_up (va_up G 5 (u 5)) 6 (u 6)) 7 (u 7)) 3 (upd (G 3) fi (((G 3) fi) ||| ((1 : Int32) <<< ((nI i) &&& 31))))))) hX hZ 4 rfl fi (by omega) (by omega) dX2_whereOf_42 rfl (fun H locs hZ => ?_)
  refine lv_aload_n hx hb dX2_whereOf_43 rfl (lv_at hl 0 rfl) ?_
  refine lv_iload_n hx hb dX2_whereOf_44 rfl (lv_at hl 1 rfl) ?_
  refine lv_iload_n hx hb dX2_whereOf_45 rfl (lv_at hl 2 rfl) ?_
  refine EM.ciA (EM.runV (As := [.int (nI fi), .int (nI y)]) (rest := []) hX (K_X2_livesOf l g h R J hs (va_up (va_up (va_up (va_up G 5 (u 5)) 6 (u 6)) 7 (u 7)) 3 (upd (G 3) fi (((G 3) fi) ||| ((1 : Int32) <<< ((nI i) &&& 31))))) fi y n_ kd pt (by omega) (hJ6) (hrow) (up_ok hlv hf (by omega)) (hlo) (by omega) (by omega) (RoK.tt _)) (cv_q1023 hX ⟨Nat.le_of_ble_eq_true rfl, Nat.le_of_ble_eq_true rfl⟩) hZ.1 hZ.2.1 trivial (r_recv hX hZ.1 0 rfl rfl) rfl hl.1 rfl (Nat.le_of_ble_eq_true rfl) dX2_whereOf_46 ⟨Nat.zero_le _, Nat.zero_le _⟩) hZ (fun _ => adM) (fun u_4 H locs hZ => ?_)
  refine lv_seti (v := (lvF kd (J 2) pt n_ (G 1) ((upd (G 3) fi (((G 3) fi) ||| ((1 : Int32) <<< ((nI i) &&& 31)))), (G 4)) fi y (p6 y))) (rfl) ?_
  refine lv_seti (v := (liF kd (vI J) (vF G pt) n_ fi (nI i) y)) (liF_c (by omega)) ?_
  refine lv_istore (lv' := [(6, .int (liF kd (vI J) (vF G pt) n_ fi (nI i) y)), (0, .ref h), (1, .int (nI fi)), (2, .int (nI y)), (3, .int ((whF kd (vI J) (vF G pt) n_ fi y i).2)), (4, .int ((whF kd (vI J) (vF G pt) n_ fi y i).1)), (5, .int (nI i))]) hx hb dX2_whereOf_49 hl (by decide) rfl (fun ls hl => ?_)
  refine lv_aload_n hx hb dX2_whereOf_51 rfl (lv_at hl 1 rfl) ?_
  refine gf_q815 (v := .ref (R 8)) hX hZ.1 0 rfl rfl dX2_whereOf_52 ?_
  refine lv_iload_n hx hb dX2_whereOf_55 rfl (lv_at hl 2 rfl) ?_
  refine lv_dup2_11 hx hb dX2_whereOf_56 rfl rfl ?_
  refine r_iald (f := (upd (G 3) fi (((G 3) fi) ||| ((1 : Int32) <<< ((nI i) &&& 31))))) hX hZ.1 4 rfl fi (by omega) (by omega) dX2_whereOf_57 ?_
  refine lv_iconst (v := 1) hx hb dX2_whereOf_58 (by decide) ?_
  refine lv_iload hx hb dX2_whereOf_59 (lv_at hl 6 rfl) ?_
  refine lv_ishl hx hb dX2_whereOf_61 ?_
  refine lv_iconst (v := (-1)) hx hb dX2_whereOf_62 (by decide) ?_
  refine lv_ixor hx hb dX2_whereOf_63 ?_
  refine lv_iand hx hb dX2_whereOf_64 ?_
  refine r_iast (f := (upd (G 3) fi (((G 3) fi) ||| ((1 : Int32) <<< ((nI i) &&& 31))))) (x := (((upd (G 3) fi (((G 3) fi) ||| ((1 : Int32) <<< ((nI i) &&& 31)))) fi) &&& (((1 : Int32) <<< ((nI i) &&& 31)) ^^^ (-1)))) (ws1 := (wM g h R J hs (va_up (va_up (va_up (va_up G 5 (u_4 5)) 6 (u_4 6)) 7 (u_4 7)) 3 (upd (upd (G 3) fi (((G 3) fi) ||| ((1 : Int32) <<< ((nI i) &&& 31)))) fi (((upd (G 3) fi (((G 3) fi) ||| ((1 : Int32) <<< ((nI i) &&& 31)))) fi) &&& (((1 : Int32) <<< ((nI i) &&& 31)) ^^^ (-1))))))) hX hZ 4 rfl fi (by omega) (by omega) dX2_whereOf_65 rfl (fun H locs hZ => ?_)
  refine lv_iload hx hb dX2_whereOf_66 (lv_at hl 0 rfl) ?_
  refine lv_iload_n hx hb dX2_whereOf_68 rfl (lv_at hl 4 rfl) ?_
  refine lv_icmp_le (tgt := 77) hx hb dX2_whereOf_69 (by decide) (fun c_5 => ?_) (fun c_5 => ?_)
  · refine lv_iload hx hb dX2_whereOf_77 (lv_at hl 5 rfl) ?_
    refine lv_istore (lv' := [(4, .int ((whF kd (vI J) (vF G pt) n_ fi y i).1)), (6, .int (liF kd (vI J) (vF G pt) n_ fi (nI i) y)), (0, .ref h), (1, .int (nI fi)), (2, .int (nI y)), (3, .int ((whF kd (vI J) (vF G pt) n_ fi y i).2)), (5, .int (nI i))]) hx hb dX2_whereOf_79 hl (by decide) rfl (fun ls hl => ?_)
    refine lv_iload hx hb dX2_whereOf_81 (lv_at hl 1 rfl) ?_
    refine lv_iload_n hx hb dX2_whereOf_83 rfl (lv_at hl 5 rfl) ?_
    refine lv_icmp_le (tgt := 92) hx hb dX2_whereOf_84 (by decide) (fun c_6 => ?_) (fun c_6 => ?_)
    · refine lv_iload_n hx hb dX2_whereOf_92 rfl (lv_at hl 5 rfl) ?_
      refine lv_istore_n (lv' := [(3, .int ((whF kd (vI J) (vF G pt) n_ fi y i).2)), (4, .int ((whF kd (vI J) (vF G pt) n_ fi y i).1)), (6, .int (liF kd (vI J) (vF G pt) n_ fi (nI i) y)), (0, .ref h), (1, .int (nI fi)), (2, .int (nI y)), (5, .int (nI i))]) hx hb dX2_whereOf_93 rfl hl (by decide) rfl (fun ls hl => ?_)
      refine lv_iinc (v := (nI (i + 1))) (lv' := [(5, .int (nI (i + 1))), (3, .int ((whF kd (vI J) (vF G pt) n_ fi y i).2)), (4, .int ((whF kd (vI J) (vF G pt) n_ fi y i).1)), (6, .int (liF kd (vI J) (vF G pt) n_ fi (nI i) y)), (0, .ref h), (1, .int (nI fi)), (2, .int (nI y))]) hx hb dX2_whereOf_94 hl (k := 6) rfl (nI_1 _) (by decide) rfl (fun ls hl => ?_)
      refine lv_goto (tgt := 13) hx hb dX2_whereOf_97 (by decide) ?_
      exact ihi (i + 1) (va_up (va_up (va_up (va_up G 5 (u_4 5)) 6 (u_4 6)) 7 (u_4 7)) 3 (upd (upd (G 3) fi (((G 3) fi) ||| ((1 : Int32) <<< ((nI i) &&& 31)))) fi (((upd (G 3) fi (((G 3) fi) ||| ((1 : Int32) <<< ((nI i) &&& 31)))) fi) &&& (((1 : Int32) <<< ((nI i) &&& 31)) ^^^ (-1))))) _ _ _ ⟨by omega, hZ.cast (by first | (rw [hbk]; rfl) | rfl), lv_cast (lv_sub (l' := [(0, .ref h), (1, .int (nI fi)), (2, .int (nI y)), (3, .int ((whF kd (vI J) (vF G pt) n_ fi y i).2)), (4, .int ((whF kd (vI J) (vF G pt) n_ fi y i).1)), (5, .int (nI (i + 1)))]) hl [4, 5, 6, 1, 2, 0] rfl) (by first | exact absurd c_5 c_6 | exact absurd c_6 c_5 | (rw [whF_m, if_neg c_3]; done) | (rw [whF_m, if_pos c_3, max_alt]; simp only [if_pos c_6]; done))⟩ (by omega)
    refine lv_iload hx hb dX2_whereOf_87 (lv_at hl 1 rfl) ?_
    refine lv_goto (tgt := 93) hx hb dX2_whereOf_89 (by decide) ?_
    refine lv_istore_n (lv' := [(3, .int (liF kd (vI J) (vF G pt) n_ fi (nI i) y)), (4, .int ((whF kd (vI J) (vF G pt) n_ fi y i).1)), (6, .int (liF kd (vI J) (vF G pt) n_ fi (nI i) y)), (0, .ref h), (1, .int (nI fi)), (2, .int (nI y)), (5, .int (nI i))]) hx hb dX2_whereOf_93 rfl hl (by decide) rfl (fun ls hl => ?_)
    refine lv_iinc (v := (nI (i + 1))) (lv' := [(5, .int (nI (i + 1))), (3, .int (liF kd (vI J) (vF G pt) n_ fi (nI i) y)), (4, .int ((whF kd (vI J) (vF G pt) n_ fi y i).1)), (6, .int (liF kd (vI J) (vF G pt) n_ fi (nI i) y)), (0, .ref h), (1, .int (nI fi)), (2, .int (nI y))]) hx hb dX2_whereOf_94 hl (k := 6) rfl (nI_1 _) (by decide) rfl (fun ls hl => ?_)
    refine lv_goto (tgt := 13) hx hb dX2_whereOf_97 (by decide) ?_
    exact ihi (i + 1) (va_up (va_up (va_up (va_up G 5 (u_4 5)) 6 (u_4 6)) 7 (u_4 7)) 3 (upd (upd (G 3) fi (((G 3) fi) ||| ((1 : Int32) <<< ((nI i) &&& 31)))) fi (((upd (G 3) fi (((G 3) fi) ||| ((1 : Int32) <<< ((nI i) &&& 31)))) fi) &&& (((1 : Int32) <<< ((nI i) &&& 31)) ^^^ (-1))))) _ _ _ ⟨by omega, hZ.cast (by first | (rw [hbk]; rfl) | rfl), lv_cast (lv_sub (l' := [(0, .ref h), (1, .int (nI fi)), (2, .int (nI y)), (3, .int (liF kd (vI J) (vF G pt) n_ fi (nI i) y)), (4, .int ((whF kd (vI J) (vF G pt) n_ fi y i).1)), (5, .int (nI (i + 1)))]) hl [4, 5, 6, 1, 2, 0] rfl) (by first | exact absurd c_5 c_6 | exact absurd c_6 c_5 | (rw [whF_m, if_neg c_3]; done) | (rw [whF_m, if_pos c_3, max_alt]; simp only [if_neg c_6]; done))⟩ (by omega)
  refine lv_iload hx hb dX2_whereOf_72 (lv_at hl 6 rfl) ?_
  refine lv_goto (tgt := 79) hx hb dX2_whereOf_74 (by decide) ?_
  refine lv_istore (lv' := [(4, .int (nI i)), (6, .int (liF kd (vI J) (vF G pt) n_ fi (nI i) y)), (0, .ref h), (1, .int (nI fi)), (2, .int (nI y)), (3, .int ((whF kd (vI J) (vF G pt) n_ fi y i).2)), (5, .int (nI i))]) hx hb dX2_whereOf_79 hl (by decide) rfl (fun ls hl => ?_)
  refine lv_iload hx hb dX2_whereOf_81 (lv_at hl 1 rfl) ?_
  refine lv_iload_n hx hb dX2_whereOf_83 rfl (lv_at hl 5 rfl) ?_
  refine lv_icmp_le (tgt := 92) hx hb dX2_whereOf_84 (by decide) (fun c_7 => ?_) (fun c_7 => ?_)
  · refine lv_iload_n hx hb dX2_whereOf_92 rfl (lv_at hl 5 rfl) ?_
    refine lv_istore_n (lv' := [(3, .int ((whF kd (vI J) (vF G pt) n_ fi y i).2)), (4, .int (nI i)), (6, .int (liF kd (vI J) (vF G pt) n_ fi (nI i) y)), (0, .ref h), (1, .int (nI fi)), (2, .int (nI y)), (5, .int (nI i))]) hx hb dX2_whereOf_93 rfl hl (by decide) rfl (fun ls hl => ?_)
    refine lv_iinc (v := (nI (i + 1))) (lv' := [(5, .int (nI (i + 1))), (3, .int ((whF kd (vI J) (vF G pt) n_ fi y i).2)), (4, .int (nI i)), (6, .int (liF kd (vI J) (vF G pt) n_ fi (nI i) y)), (0, .ref h), (1, .int (nI fi)), (2, .int (nI y))]) hx hb dX2_whereOf_94 hl (k := 6) rfl (nI_1 _) (by decide) rfl (fun ls hl => ?_)
    refine lv_goto (tgt := 13) hx hb dX2_whereOf_97 (by decide) ?_
    exact ihi (i + 1) (va_up (va_up (va_up (va_up G 5 (u_4 5)) 6 (u_4 6)) 7 (u_4 7)) 3 (upd (upd (G 3) fi (((G 3) fi) ||| ((1 : Int32) <<< ((nI i) &&& 31)))) fi (((upd (G 3) fi (((G 3) fi) ||| ((1 : Int32) <<< ((nI i) &&& 31)))) fi) &&& (((1 : Int32) <<< ((nI i) &&& 31)) ^^^ (-1))))) _ _ _ ⟨by omega, hZ.cast (by first | (rw [hbk]; rfl) | rfl), lv_cast (lv_sub (l' := [(0, .ref h), (1, .int (nI fi)), (2, .int (nI y)), (3, .int ((whF kd (vI J) (vF G pt) n_ fi y i).2)), (4, .int (nI i)), (5, .int (nI (i + 1)))]) hl [4, 5, 6, 1, 2, 0] rfl) (by first | exact absurd c_5 c_7 | exact absurd c_7 c_5 | (rw [whF_m, if_neg c_3]; done) | (rw [whF_m, if_pos c_3, max_alt]; simp only [if_pos c_7]; done))⟩ (by omega)
  refine lv_iload hx hb dX2_whereOf_87 (lv_at hl 1 rfl) ?_
  refine lv_goto (tgt := 93) hx hb dX2_whereOf_89 (by decide) ?_
  refine lv_istore_n (lv' := [(3, .int (liF kd (vI J) (vF G pt) n_ fi (nI i) y)), (4, .int (nI i)), (6, .int (liF kd (vI J) (vF G pt) n_ fi (nI i) y)), (0, .ref h), (1, .int (nI fi)), (2, .int (nI y)), (5, .int (nI i))]) hx hb dX2_whereOf_93 rfl hl (by decide) rfl (fun ls hl => ?_)
  refine lv_iinc (v := (nI (i + 1))) (lv' := [(5, .int (nI (i + 1))), (3, .int (liF kd (vI J) (vF G pt) n_ fi (nI i) y)), (4, .int (nI i)), (6, .int (liF kd (vI J) (vF G pt) n_ fi (nI i) y)), (0, .ref h), (1, .int (nI fi)), (2, .int (nI y))]) hx hb dX2_whereOf_94 hl (k := 6) rfl (nI_1 _) (by decide) rfl (fun ls hl => ?_)
  refine lv_goto (tgt := 13) hx hb dX2_whereOf_97 (by decide) ?_
  exact ihi (i + 1) (va_up (va_up (va_up (va_up G 5 (u_4 5)) 6 (u_4 6)) 7 (u_4 7)) 3 (upd (upd (G 3) fi (((G 3) fi) ||| ((1 : Int32) <<< ((nI i) &&& 31)))) fi (((upd (G 3) fi (((G 3) fi) ||| ((1 : Int32) <<< ((nI i) &&& 31)))) fi) &&& (((1 : Int32) <<< ((nI i) &&& 31)) ^^^ (-1))))) _ _ _ ⟨by omega, hZ.cast (by first | (rw [hbk]; rfl) | rfl), lv_cast (lv_sub (l' := [(0, .ref h), (1, .int (nI fi)), (2, .int (nI y)), (3, .int (liF kd (vI J) (vF G pt) n_ fi (nI i) y)), (4, .int (nI i)), (5, .int (nI (i + 1)))]) hl [4, 5, 6, 1, 2, 0] rfl) (by first | exact absurd c_5 c_7 | exact absurd c_7 c_5 | (rw [whF_m, if_neg c_3]; done) | (rw [whF_m, if_pos c_3, max_alt]; simp only [if_neg c_7]; done))⟩ (by omega)

set_option maxHeartbeats 400000 in
set_option maxRecDepth 100000 in
theorem K_X2_where (l : Launch) (g : Gx) (h : Nat) (R : Nat → Nat) (J : Nat → Int32) (hs : Int64) (G : Nat → Nat → Int32) (x : Int32) (y : Int32) (n_ : Nat) (kd : Nat → Nat) (pt : Nat → Int32) (hn : n_ ≤ 5) (hJ6 : (J 6) = nI n_) (hrow : RowsOk G n_ kd pt) (hlv : LvOk (G 3) n_) (hlo : LotsOk (G 1)) (hrk : RoK roT (wM g h R J hs G)) : EM l g yX2_where cX2_where 3 (some .int) 5 [.ref h, .int x, .int y] roT (wM g h R J hs G) (fun u => (wM g h R J hs (va_up (va_up (va_up G 5 (u 5)) 6 (u 6)) 7 (u 7)))) (some (.int (wheR kd (vI J) (vF G pt) n_ x y))) := by
  refine EM.of (own := "BurntLettersModel") (by decide) rfl (Nat.le_of_ble_eq_true rfl) hrk ?_
  intro p e s m below meth c A hX hr hlk hZ ls hl
  have hx := hX.1.1
  have hb := hX.1.2.1
  have hl : lv_has ls 3 [(0, .ref h), (1, .int x), (2, .int y)] := hl
  refine lv_aload_n hx hb dX2_where_0 rfl (lv_at hl 0 rfl) ?_
  refine lv_iload_n hx hb dX2_where_1 rfl (lv_at hl 1 rfl) ?_
  refine PM.ci (PM.runV (As := [.int x]) (rest := []) hX (K_X2_isFile l g h R J hs G x n_ (hJ6)) (cv_q952 hX ⟨Nat.le_of_ble_eq_true rfl, Nat.le_of_ble_eq_true rfl⟩) hZ.1 trivial (r_recv hX hZ.1 0 rfl rfl) rfl hl.1 rfl (Nat.le_of_ble_eq_true rfl) dX2_where_2 ⟨Nat.zero_le _, Nat.zero_le _⟩) ?_
  refine lv_bif_ne (tgt := 11) hx hb dX2_where_5 (by decide) (fun c_1 => ?_) (fun c_1 => ?_)
  · obtain ⟨f, hf, rfl⟩ := file_nat hn c_1
    refine lv_iload_n hx hb dX2_where_11 rfl (lv_at hl 2 rfl) ?_
    refine lv_i2l (v := y.toInt64) hx hb dX2_where_12 rfl ?_
    refine lv_lconst (v := 0) hx hb dX2_where_13 (by decide) ?_
    refine lv_ldc2 (v := 4) hx hb hX.1.2.2.2.1 (hX.w q943) dX2_where_14 ?_
    refine PM.ci (PM.runS (As := [.long y.toInt64, .long 0, .long 4]) (rest := []) hX (K_X2_in l g y.toInt64 0 4) (cs_q900 hX ⟨Nat.le_of_ble_eq_true rfl, Nat.le_of_ble_eq_true rfl⟩) va_P_nil trivial rfl hl.1 rfl (Nat.le_of_ble_eq_true rfl) dX2_where_17 ⟨Nat.zero_le _, Nat.zero_le _⟩) ?_
    refine lv_seti (v := (b01 (inP y 0 4))) (inL_c (a := 0) (b := 4) (by decide) (by decide)) ?_
    refine lv_bif_eq (tgt := 32) hx hb dX2_where_20 (by decide) (fun c_2 => ?_) (fun c_2 => ?_)
    · refine lv_bipush (v := (-102)) hx hb dX2_where_32 (by decide) ?_
      exact EM.iret hX hr hlk hZ (ws1 := fun u => (wM g h R J hs (va_up (va_up (va_up G 5 (u 5)) 6 (u 6)) 7 (u 7)))) G (rfl) (by first | (simp only [wheR, if_pos c_1, if_neg c_2]; done) | (simp only [wheR, if_pos c_1, if_neg c_2, ix_nI (show f < 2 ^ 31 by omega), ix_nI (show yy < 2 ^ 31 by omega)]; done)) dX2_where_34
    obtain ⟨yy, hyy, rfl⟩ := inP_nat (b := 4) (by omega) c_2
    refine lv_aload_n hx hb dX2_where_23 rfl (lv_at hl 0 rfl) ?_
    refine lv_iload_n hx hb dX2_where_24 rfl (lv_at hl 1 rfl) ?_
    refine lv_iload_n hx hb dX2_where_25 rfl (lv_at hl 2 rfl) ?_
    refine EM.ciA (EM.runV (As := [.int (nI f), .int (nI yy)]) (rest := []) hX (K_X2_whereOf l g h R J hs G f yy n_ kd pt (by omega) (hJ6) (hrow) (hlv) (hlo) (by omega) (by omega) (RoK.tt _)) (cv_q1037 hX ⟨Nat.le_of_ble_eq_true rfl, Nat.le_of_ble_eq_true rfl⟩) hZ.1 hZ.2.1 trivial (r_recv hX hZ.1 0 rfl rfl) rfl hl.1 rfl (Nat.le_of_ble_eq_true rfl) dX2_where_26 ⟨Nat.zero_le _, Nat.zero_le _⟩) hZ (fun _ => adM) (fun u_3 H locs hZ => ?_)
    refine lv_goto (tgt := 34) hx hb dX2_where_29 (by decide) ?_
    exact EM.iret hX hr hlk hZ (ws1 := fun u => (wM g h R J hs (va_up (va_up (va_up G 5 (u 5)) 6 (u 6)) 7 (u 7)))) (va_up (va_up (va_up G 5 (u_3 5)) 6 (u_3 6)) 7 (u_3 7)) (rfl) (by first | (simp only [wheR, if_pos c_1, if_pos c_2]; done) | (simp only [wheR, if_pos c_1, if_pos c_2, ix_nI (show f < 2 ^ 31 by omega), ix_nI (show yy < 2 ^ 31 by omega)]; done)) dX2_where_34
  refine lv_bipush (v := (-101)) hx hb dX2_where_8 (by decide) ?_
  exact EM.iret hX hr hlk hZ (ws1 := fun u => (wM g h R J hs (va_up (va_up (va_up G 5 (u 5)) 6 (u 6)) 7 (u 7)))) G (rfl) (by first | (simp only [wheR, if_neg c_1]; done) | (simp only [wheR, if_neg c_1, ix_nI (show f < 2 ^ 31 by omega), ix_nI (show yy < 2 ^ 31 by omega)]; done)) dX2_where_10

set_option maxHeartbeats 400000 in
set_option maxRecDepth 100000 in
theorem K_X2_nowhereOf (l : Launch) (g : Gx) (h : Nat) (R : Nat → Nat) (J : Nat → Int32) (hs : Int64) (G : Nat → Nat → Int32) (n_ : Nat) (kd : Nat → Nat) (pt : Nat → Int32) (hn : n_ ≤ 5) (hJ6 : (J 6) = nI n_) (hrow : RowsOk G n_ kd pt) (hptv : ∀ k, k < n_ → pt k = -1 ∨ ∃ j, j < 5 ∧ pt k = nI j) : PM l g yX2_nowhereOf cX2_nowhereOf 4 (some .int) 0 [.ref h] roT (wM g h R J hs G) (some (.int (nowF (vF G pt) n_))) := by
  refine PM.of (own := "BurntLettersModel") (by decide) rfl (Nat.le_of_ble_eq_true rfl) ?_
  intro p e s m below meth c hX hr hlk hP hro ls hl
  have hx := hX.1.1
  have hb := hX.1.2.1
  have hl : lv_has ls 4 [(0, .ref h)] := hl
  refine lv_iconst (v := 0) hx hb dX2_nowhereOf_0 (by decide) ?_
  refine lv_istore_n (lv' := [(1, .int 0), (0, .ref h)]) hx hb dX2_nowhereOf_1 rfl hl (by decide) rfl (fun ls hl => ?_)
  refine lv_iconst (v := 0) hx hb dX2_nowhereOf_2 (by decide) ?_
  refine lv_istore_n (lv' := [(2, .int 0), (1, .int 0), (0, .ref h)]) hx hb dX2_nowhereOf_3 rfl hl (by decide) rfl (fun ls hl => ?_)
  refine W_loopP (α := Nat) (P := fun (i : Nat) (ls : Array Slot) => i ≤ n_ ∧ lv_has ls 4 [(0, .ref h), (1, .int (nowF (vF G pt) i)), (2, .int (nI i))]) (fun i => n_ - i) 0 ⟨Nat.zero_le _, lv_cast (lv_sub (l' := [(0, .ref h), (1, .int 0), (2, .int 0)]) hl [2, 1, 0] rfl) (rfl)⟩ ?_
  rintro i ls ⟨hi, hl⟩ ihi
  refine lv_iload_n hx hb dX2_nowhereOf_4 rfl (lv_at hl 2 rfl) ?_
  refine lv_aload_n hx hb dX2_nowhereOf_5 rfl (lv_at hl 0 rfl) ?_
  refine gf_q813 (v := .int (J 6)) hX hP 0 rfl rfl dX2_nowhereOf_6 ?_
  refine lv_seti (v := (nI n_)) (hJ6) ?_
  refine lv_icmp_ge (tgt := 62) hx hb dX2_nowhereOf_9 (by decide) (fun c_1 => ?_) (fun c_1 => ?_)
  · have c_1n : n_ ≤ i := (nI_leI (a := n_) (b := i) (by omega) (by omega)).mp c_1
    have ei : n_ = i := by omega
    subst ei
    refine lv_iload_n hx hb dX2_nowhereOf_62 rfl (lv_at hl 1 rfl) ?_
    exact PM.iret hX hr hlk (rfl) dX2_nowhereOf_63
  have c_1n : ¬ n_ ≤ i := fun zz_ => c_1 ((nI_leI (a := n_) (b := i) (by omega) (by omega)).mpr zz_)
  refine lv_aload_n hx hb dX2_nowhereOf_12 rfl (lv_at hl 0 rfl) ?_
  refine gf_q814 (v := .ref (R 7)) hX hP 0 rfl rfl dX2_nowhereOf_13 ?_
  refine lv_iconst (v := 2) hx hb dX2_nowhereOf_16 (by decide) ?_
  refine lv_iload_n hx hb dX2_nowhereOf_17 rfl (lv_at hl 2 rfl) ?_
  refine lv_imul hx hb dX2_nowhereOf_18 ?_
  refine lv_seti (v := (nI (2 * i))) (pk_mul _ _) ?_
  refine lv_iconst (v := 1) hx hb dX2_nowhereOf_19 (by decide) ?_
  refine lv_iadd hx hb dX2_nowhereOf_20 ?_
  refine lv_seti (v := (nI ((2 * i) + 1))) (nI_add _ _) ?_
  refine r_iald (f := (G 2)) hX hP 3 rfl ((2 * i) + 1) (by omega) (by omega) dX2_nowhereOf_21 ?_
  refine lv_seti (v := (pt i)) ((hrow i (by omega)).2.1) ?_
  refine lv_istore_n (lv' := [(3, .int (pt i)), (0, .ref h), (1, .int (nowF (vF G pt) i)), (2, .int (nI i))]) hx hb dX2_nowhereOf_22 rfl hl (by decide) rfl (fun ls hl => ?_)
  refine lv_iload_n hx hb dX2_nowhereOf_23 rfl (lv_at hl 2 rfl) ?_
  refine lv_aload_n hx hb dX2_nowhereOf_24 rfl (lv_at hl 1 rfl) ?_
  refine gf_q815 (v := .ref (R 8)) hX hP 0 rfl rfl dX2_nowhereOf_25 ?_
  refine lv_iload_n hx hb dX2_nowhereOf_28 rfl (lv_at hl 3 rfl) ?_
  refine r_iald (f := (G 3)) hX hP 4 rfl i (by omega) (by omega) dX2_nowhereOf_29 ?_
  refine lv_if_eq (tgt := 53) hx hb dX2_nowhereOf_30 (by decide) (fun c_2 => ?_) (fun c_2 => ?_)
  · refine lv_iconst (v := 0) hx hb dX2_nowhereOf_53 (by decide) ?_
    refine lv_ior hx hb dX2_nowhereOf_54 ?_
    refine lv_istore_n (lv' := [(1, .int ((nowF (vF G pt) i) ||| 0)), (3, .int (pt i)), (0, .ref h), (2, .int (nI i))]) hx hb dX2_nowhereOf_55 rfl hl (by decide) rfl (fun ls hl => ?_)
    refine lv_iinc (v := (nI (i + 1))) (lv' := [(2, .int (nI (i + 1))), (1, .int ((nowF (vF G pt) i) ||| 0)), (3, .int (pt i)), (0, .ref h)]) hx hb dX2_nowhereOf_56 hl (k := 3) rfl (nI_1 _) (by decide) rfl (fun ls hl => ?_)
    refine lv_goto (tgt := 4) hx hb dX2_nowhereOf_59 (by decide) ?_
    exact ihi (i + 1) _ ⟨by omega, lv_cast (lv_sub (l' := [(0, .ref h), (1, .int ((nowF (vF G pt) i) ||| 0)), (2, .int (nI (i + 1)))]) hl [3, 1, 0] rfl) (by first | (simp only [nowF, vF_1, vF_2, if_neg c_1, if_pos c_2]; done) | (simp only [nowF, vF_1, vF_2, if_neg c_1, if_pos c_2, hix]; done))⟩ (by omega)
  refine lv_iload_n hx hb dX2_nowhereOf_33 rfl (lv_at hl 0 rfl) ?_
  refine lv_iconst (v := (-1)) hx hb dX2_nowhereOf_34 (by decide) ?_
  refine lv_icmp_eq (tgt := 53) hx hb dX2_nowhereOf_35 (by decide) (fun c_3 => ?_) (fun c_3 => ?_)
  · refine lv_iconst (v := 0) hx hb dX2_nowhereOf_53 (by decide) ?_
    refine lv_ior hx hb dX2_nowhereOf_54 ?_
    refine lv_istore_n (lv' := [(1, .int ((nowF (vF G pt) i) ||| 0)), (3, .int (pt i)), (0, .ref h), (2, .int (nI i))]) hx hb dX2_nowhereOf_55 rfl hl (by decide) rfl (fun ls hl => ?_)
    refine lv_iinc (v := (nI (i + 1))) (lv' := [(2, .int (nI (i + 1))), (1, .int ((nowF (vF G pt) i) ||| 0)), (3, .int (pt i)), (0, .ref h)]) hx hb dX2_nowhereOf_56 hl (k := 3) rfl (nI_1 _) (by decide) rfl (fun ls hl => ?_)
    refine lv_goto (tgt := 4) hx hb dX2_nowhereOf_59 (by decide) ?_
    exact ihi (i + 1) _ ⟨by omega, lv_cast (lv_sub (l' := [(0, .ref h), (1, .int ((nowF (vF G pt) i) ||| 0)), (2, .int (nI (i + 1)))]) hl [3, 1, 0] rfl) (by first | (simp only [nowF, vF_1, vF_2, if_neg c_1, if_neg c_2, if_pos c_3]; done) | (simp only [nowF, vF_1, vF_2, if_neg c_1, if_neg c_2, if_pos c_3, hix]; done))⟩ (by omega)
  obtain ⟨j, hj, hj2⟩ := (hptv i (by omega)).resolve_left c_3
  have hix : ix (pt i) = j := by rw [hj2]; exact ix_nI (by omega)
  refine lv_aload_n hx hb dX2_nowhereOf_38 rfl (lv_at hl 1 rfl) ?_
  refine gf_q815 (v := .ref (R 8)) hX hP 0 rfl rfl dX2_nowhereOf_39 ?_
  refine lv_iload_n hx hb dX2_nowhereOf_42 rfl (lv_at hl 0 rfl) ?_
  refine lv_seti (v := (nI j)) (hj2) ?_
  refine r_iald (f := (G 3)) hX hP 4 rfl j (by omega) (by omega) dX2_nowhereOf_43 ?_
  refine lv_if_ne (tgt := 53) hx hb dX2_nowhereOf_44 (by decide) (fun c_4 => ?_) (fun c_4 => ?_)
  · refine lv_iconst (v := 0) hx hb dX2_nowhereOf_53 (by decide) ?_
    refine lv_ior hx hb dX2_nowhereOf_54 ?_
    refine lv_istore_n (lv' := [(1, .int ((nowF (vF G pt) i) ||| 0)), (3, .int (pt i)), (0, .ref h), (2, .int (nI i))]) hx hb dX2_nowhereOf_55 rfl hl (by decide) rfl (fun ls hl => ?_)
    refine lv_iinc (v := (nI (i + 1))) (lv' := [(2, .int (nI (i + 1))), (1, .int ((nowF (vF G pt) i) ||| 0)), (3, .int (pt i)), (0, .ref h)]) hx hb dX2_nowhereOf_56 hl (k := 3) rfl (nI_1 _) (by decide) rfl (fun ls hl => ?_)
    refine lv_goto (tgt := 4) hx hb dX2_nowhereOf_59 (by decide) ?_
    exact ihi (i + 1) _ ⟨by omega, lv_cast (lv_sub (l' := [(0, .ref h), (1, .int ((nowF (vF G pt) i) ||| 0)), (2, .int (nI (i + 1)))]) hl [3, 1, 0] rfl) (by first | (simp only [nowF, vF_1, vF_2, if_neg c_1, if_neg c_2, if_neg c_3, if_neg c_4]; done) | (simp only [nowF, vF_1, vF_2, if_neg c_1, if_neg c_2, if_neg c_3, if_neg c_4, hix]; done))⟩ (by omega)
  refine lv_iconst (v := 1) hx hb dX2_nowhereOf_47 (by decide) ?_
  refine lv_iload_n hx hb dX2_nowhereOf_48 rfl (lv_at hl 3 rfl) ?_
  refine lv_ishl hx hb dX2_nowhereOf_49 ?_
  refine lv_goto (tgt := 54) hx hb dX2_nowhereOf_50 (by decide) ?_
  refine lv_ior hx hb dX2_nowhereOf_54 ?_
  refine lv_istore_n (lv' := [(1, .int ((nowF (vF G pt) i) ||| ((1 : Int32) <<< ((nI i) &&& 31)))), (3, .int (pt i)), (0, .ref h), (2, .int (nI i))]) hx hb dX2_nowhereOf_55 rfl hl (by decide) rfl (fun ls hl => ?_)
  refine lv_iinc (v := (nI (i + 1))) (lv' := [(2, .int (nI (i + 1))), (1, .int ((nowF (vF G pt) i) ||| ((1 : Int32) <<< ((nI i) &&& 31)))), (3, .int (pt i)), (0, .ref h)]) hx hb dX2_nowhereOf_56 hl (k := 3) rfl (nI_1 _) (by decide) rfl (fun ls hl => ?_)
  refine lv_goto (tgt := 4) hx hb dX2_nowhereOf_59 (by decide) ?_
  exact ihi (i + 1) _ ⟨by omega, lv_cast (lv_sub (l' := [(0, .ref h), (1, .int ((nowF (vF G pt) i) ||| ((1 : Int32) <<< ((nI i) &&& 31)))), (2, .int (nI (i + 1)))]) hl [3, 1, 0] rfl) (by first | (simp only [nowF, vF_1, vF_2, if_neg c_1, if_neg c_2, if_neg c_3, if_pos c_4]; done) | (simp only [nowF, vF_1, vF_2, if_neg c_1, if_neg c_2, if_neg c_3, if_pos c_4, hix]; done))⟩ (by omega)

set_option maxHeartbeats 400000 in
set_option maxRecDepth 100000 in
theorem K_X2_nowhere (l : Launch) (g : Gx) (h : Nat) (R : Nat → Nat) (J : Nat → Int32) (hs : Int64) (G : Nat → Nat → Int32) (n_ : Nat) (kd : Nat → Nat) (pt : Nat → Int32) (hn : n_ ≤ 5) (hJ6 : (J 6) = nI n_) (hrow : RowsOk G n_ kd pt) (hptv : ∀ k, k < n_ → pt k = -1 ∨ ∃ j, j < 5 ∧ pt k = nI j) : PM l g yX2_nowhere cX2_nowhere 1 (some .int) 1 [.ref h] roT (wM g h R J hs G) (some (.int (nowF (vF G pt) n_))) := by
  refine PM.of (own := "BurntLettersModel") (by decide) rfl (Nat.le_of_ble_eq_true rfl) ?_
  intro p e s m below meth c hX hr hlk hP hro ls hl
  have hx := hX.1.1
  have hb := hX.1.2.1
  have hl : lv_has ls 1 [(0, .ref h)] := hl
  refine lv_aload_n hx hb dX2_nowhere_0 rfl (lv_at hl 0 rfl) ?_
  refine PM.ci (PM.runV (As := []) (rest := []) hX (K_X2_nowhereOf l g h R J hs G n_ kd pt (by omega) (hJ6) (hrow) (hptv)) (cv_q1053 hX ⟨Nat.le_of_ble_eq_true rfl, Nat.le_of_ble_eq_true rfl⟩) hP trivial (r_recv hX hP 0 rfl rfl) rfl hl.1 rfl (Nat.le_of_ble_eq_true rfl) dX2_nowhere_1 ⟨Nat.zero_le _, Nat.zero_le _⟩) ?_
  exact PM.iret hX hr hlk (rfl) dX2_nowhere_4

set_option maxHeartbeats 400000 in
set_option maxRecDepth 100000 in
theorem K_X2_livesNow (l : Launch) (g : Gx) (h : Nat) (R : Nat → Nat) (J : Nat → Int32) (hs : Int64) (G : Nat → Nat → Int32) (n_ : Nat) (hn : n_ ≤ 5) (hJ6 : (J 6) = nI n_) : PM l g yX2_livesNow cX2_livesNow 3 (some .int) 0 [.ref h] roT (wM g h R J hs G) (some (.int (livF (G 5) n_))) := by
  refine PM.of (own := "BurntLettersModel") (by decide) rfl (Nat.le_of_ble_eq_true rfl) ?_
  intro p e s m below meth c hX hr hlk hP hro ls hl
  have hx := hX.1.1
  have hb := hX.1.2.1
  have hl : lv_has ls 3 [(0, .ref h)] := hl
  refine lv_iconst (v := 0) hx hb dX2_livesNow_0 (by decide) ?_
  refine lv_istore_n (lv' := [(1, .int 0), (0, .ref h)]) hx hb dX2_livesNow_1 rfl hl (by decide) rfl (fun ls hl => ?_)
  refine lv_iconst (v := 0) hx hb dX2_livesNow_2 (by decide) ?_
  refine lv_istore_n (lv' := [(2, .int 0), (1, .int 0), (0, .ref h)]) hx hb dX2_livesNow_3 rfl hl (by decide) rfl (fun ls hl => ?_)
  refine W_loopP (α := Nat) (P := fun (i : Nat) (ls : Array Slot) => i ≤ n_ ∧ lv_has ls 3 [(0, .ref h), (1, .int (livF (G 5) i)), (2, .int (nI i))]) (fun i => n_ - i) 0 ⟨Nat.zero_le _, lv_cast (lv_sub (l' := [(0, .ref h), (1, .int 0), (2, .int 0)]) hl [2, 1, 0] rfl) (rfl)⟩ ?_
  rintro i ls ⟨hi, hl⟩ ihi
  refine lv_iload_n hx hb dX2_livesNow_4 rfl (lv_at hl 2 rfl) ?_
  refine lv_aload_n hx hb dX2_livesNow_5 rfl (lv_at hl 0 rfl) ?_
  refine gf_q813 (v := .int (J 6)) hX hP 0 rfl rfl dX2_livesNow_6 ?_
  refine lv_seti (v := (nI n_)) (hJ6) ?_
  refine lv_icmp_ge (tgt := 37) hx hb dX2_livesNow_9 (by decide) (fun c_1 => ?_) (fun c_1 => ?_)
  · have c_1n : n_ ≤ i := (nI_leI (a := n_) (b := i) (by omega) (by omega)).mp c_1
    have ei : n_ = i := by omega
    subst ei
    refine lv_iload_n hx hb dX2_livesNow_37 rfl (lv_at hl 1 rfl) ?_
    exact PM.iret hX hr hlk (rfl) dX2_livesNow_38
  have c_1n : ¬ n_ ≤ i := fun zz_ => c_1 ((nI_leI (a := n_) (b := i) (by omega) (by omega)).mpr zz_)
  refine lv_iload_n hx hb dX2_livesNow_12 rfl (lv_at hl 1 rfl) ?_
  refine lv_aload_n hx hb dX2_livesNow_13 rfl (lv_at hl 0 rfl) ?_
  refine gf_q817 (v := .ref (R 10)) hX hP 0 rfl rfl dX2_livesNow_14 ?_
  refine lv_iload_n hx hb dX2_livesNow_17 rfl (lv_at hl 2 rfl) ?_
  refine r_iald (f := (G 5)) hX hP 6 rfl i (by omega) (by omega) dX2_livesNow_18 ?_
  refine lv_if_eq (tgt := 28) hx hb dX2_livesNow_19 (by decide) (fun c_2 => ?_) (fun c_2 => ?_)
  · refine lv_iconst (v := 0) hx hb dX2_livesNow_28 (by decide) ?_
    refine lv_ior hx hb dX2_livesNow_29 ?_
    refine lv_istore_n (lv' := [(1, .int ((livF (G 5) i) ||| 0)), (0, .ref h), (2, .int (nI i))]) hx hb dX2_livesNow_30 rfl hl (by decide) rfl (fun ls hl => ?_)
    refine lv_iinc (v := (nI (i + 1))) (lv' := [(2, .int (nI (i + 1))), (1, .int ((livF (G 5) i) ||| 0)), (0, .ref h)]) hx hb dX2_livesNow_31 hl (k := 2) rfl (nI_1 _) (by decide) rfl (fun ls hl => ?_)
    refine lv_goto (tgt := 4) hx hb dX2_livesNow_34 (by decide) ?_
    exact ihi (i + 1) _ ⟨by omega, lv_cast (lv_sub (l' := [(0, .ref h), (1, .int ((livF (G 5) i) ||| 0)), (2, .int (nI (i + 1)))]) hl [2, 1, 0] rfl) (by simp only [livF, if_pos c_2])⟩ (by omega)
  refine lv_iconst (v := 1) hx hb dX2_livesNow_22 (by decide) ?_
  refine lv_iload_n hx hb dX2_livesNow_23 rfl (lv_at hl 2 rfl) ?_
  refine lv_ishl hx hb dX2_livesNow_24 ?_
  refine lv_goto (tgt := 29) hx hb dX2_livesNow_25 (by decide) ?_
  refine lv_ior hx hb dX2_livesNow_29 ?_
  refine lv_istore_n (lv' := [(1, .int ((livF (G 5) i) ||| ((1 : Int32) <<< ((nI i) &&& 31)))), (0, .ref h), (2, .int (nI i))]) hx hb dX2_livesNow_30 rfl hl (by decide) rfl (fun ls hl => ?_)
  refine lv_iinc (v := (nI (i + 1))) (lv' := [(2, .int (nI (i + 1))), (1, .int ((livF (G 5) i) ||| ((1 : Int32) <<< ((nI i) &&& 31)))), (0, .ref h)]) hx hb dX2_livesNow_31 hl (k := 2) rfl (nI_1 _) (by decide) rfl (fun ls hl => ?_)
  refine lv_goto (tgt := 4) hx hb dX2_livesNow_34 (by decide) ?_
  exact ihi (i + 1) _ ⟨by omega, lv_cast (lv_sub (l' := [(0, .ref h), (1, .int ((livF (G 5) i) ||| ((1 : Int32) <<< ((nI i) &&& 31)))), (2, .int (nI (i + 1)))]) hl [2, 1, 0] rfl) (by simp only [livF, if_neg c_2])⟩ (by omega)

set_option maxHeartbeats 400000 in
set_option maxRecDepth 100000 in
theorem K_X2_isToldBy (l : Launch) (g : Gx) (h : Nat) (R : Nat → Nat) (J : Nat → Int32) (hs : Int64) (G : Nat → Nat → Int32) (code : Nat) (n_ : Nat) (kd : Nat → Nat) (pt : Nat → Int32) (am : Nat) (hn : n_ ≤ 5) (hJ6 : (J 6) = nI n_) (hrow : RowsOk G n_ kd pt) (hlv : LvOk (G 3) n_) (ham : (J 16) = nI am) (ham2 : am ≤ 5) (hc : code ≤ 7776) (hrk : RoK roT (wM g h R J hs G)) : EM l g yX2_isToldBy cX2_isToldBy 7 (some .boolean) 3 [.ref h, .int (nI code)] roT (wM g h R J hs G) (fun u => (wM g h R J hs (va_up (va_up (va_up G 5 (u 5)) 6 (u 6)) 7 (u 7)))) (some (.int (b01 (soB kd (J 2) pt n_ (G 1) (G 9) ((G 3), (G 4)) code am = true)))) := by
  refine EM.of (own := "BurntLettersModel") (by decide) rfl (Nat.le_of_ble_eq_true rfl) hrk ?_
  intro p e s m below meth c A hX hr hlk hZ ls hl
  have hx := hX.1.1
  have hb := hX.1.2.1
  have hl : lv_has ls 7 [(0, .ref h), (1, .int (nI code))] := hl
  have hk5 : ∀ f, f < n_ → kd f < 5 := fun f hf => (hrow f hf).2.2
  refine lv_aload_n hx hb dX2_isToldBy_0 rfl (lv_at hl 0 rfl) ?_
  refine MM.cvA (MM.runV (As := []) (rest := []) hX (K_X2_asItIs l g h R J hs G (RoK.tt _)) (cv_q995 hX ⟨Nat.le_of_ble_eq_true rfl, Nat.le_of_ble_eq_true rfl⟩) hZ.1 hZ.2.1 trivial (r_recv hX hZ.1 0 rfl rfl) rfl hl.1 rfl (Nat.le_of_ble_eq_true rfl) dX2_isToldBy_1 ⟨Nat.zero_le _, Nat.zero_le _⟩) hZ adM (fun H locs hZ => ?_)
  refine lv_iload_n hx hb dX2_isToldBy_4 rfl (lv_at hl 1 rfl) ?_
  refine lv_istore_n (lv' := [(2, .int (nI code)), (0, .ref h), (1, .int (nI code))]) hx hb dX2_isToldBy_5 rfl hl (by decide) rfl (fun ls hl => ?_)
  refine lv_iconst (v := 1) hx hb dX2_isToldBy_6 (by decide) ?_
  refine lv_istore_n (lv' := [(3, .int 1), (2, .int (nI code)), (0, .ref h), (1, .int (nI code))]) hx hb dX2_isToldBy_7 rfl hl (by decide) rfl (fun ls hl => ?_)
  refine lv_iconst (v := 0) hx hb dX2_isToldBy_8 (by decide) ?_
  refine lv_istore (lv' := [(4, .int 0), (3, .int 1), (2, .int (nI code)), (0, .ref h), (1, .int (nI code))]) hx hb dX2_isToldBy_9 hl (by decide) rfl (fun ls hl => ?_)
  refine W_loopU (α := Nat) (P := fun (j : Nat) (u : Nat → Nat → Int32) (H : Heap) (locs : List Loc) (ls : Array Slot) => j ≤ am ∧ Zt g A s.heap roT (wM g h R J hs (va_up (va_up (va_up G 5 ((rnS kd (J 2) pt n_ (G 3, G 4) code j).1)) 6 ((rnS kd (J 2) pt n_ (G 3, G 4) code j).2)) 7 (u 7))) H locs ∧ lv_has ls 7 [(0, .ref h), (1, .int (nI code)), (2, .int (nI (lft code j))), (3, .int (b01 (soB kd (J 2) pt n_ (G 1) (G 9) (G 3, G 4) code j = true))), (4, .int (nI j))]) (fun j => am - j) 0 (va_up (va_up G 5 (G 3)) 6 (G 4)) ⟨Nat.zero_le _, hZ.cast (rfl), lv_cast (lv_sub (l' := [(0, .ref h), (1, .int (nI code)), (2, .int (nI code)), (3, .int 1), (4, .int 0)]) hl [3, 4, 2, 1, 0] rfl) (by simp [b01, soB, nI, lft])⟩ ?_
  rintro j u H locs ls ⟨hj, hZ, hl⟩ ihj
  have hlf := lft_le code j
  refine lv_iload hx hb dX2_isToldBy_11 (lv_at hl 4 rfl) ?_
  refine lv_aload_n hx hb dX2_isToldBy_13 rfl (lv_at hl 0 rfl) ?_
  refine gf_q823 (v := .int (J 16)) hX hZ.1 0 rfl rfl dX2_isToldBy_14 ?_
  refine lv_seti (v := (nI am)) (ham) ?_
  refine lv_icmp_ge (tgt := 90) hx hb dX2_isToldBy_17 (by decide) (fun c_1 => ?_) (fun c_1 => ?_)
  · have c_1n : am ≤ j := (nI_leI (a := am) (b := j) (by omega) (by omega)).mp c_1
    have ej : am = j := by omega
    subst ej
    refine lv_iload_n hx hb dX2_isToldBy_90 rfl (lv_at hl 3 rfl) ?_
    exact EM.zret hX hr hlk hZ (ws1 := fun u => (wM g h R J hs (va_up (va_up (va_up G 5 (u 5)) 6 (u 6)) 7 (u 7)))) (va_up (va_up (va_up G 5 ((rnS kd (J 2) pt n_ (G 3, G 4) code am).1)) 6 ((rnS kd (J 2) pt n_ (G 3, G 4) code am).2)) 7 (u 7)) (rfl) (by first | rfl | exact b01_congr ⟨fun q => absurd q c_none, fun q => absurd (soB_mono _ hj q) c_none⟩) (b01_or _) dX2_isToldBy_91
  have c_1n : ¬ am ≤ j := fun zz_ => c_1 ((nI_leI (a := am) (b := j) (by omega) (by omega)).mpr zz_)
  refine lv_iload_n hx hb dX2_isToldBy_20 rfl (lv_at hl 3 rfl) ?_
  refine lv_bif_eq (tgt := 90) hx hb dX2_isToldBy_21 (by decide) (fun c_2 => ?_) (fun c_2 => ?_)
  · refine lv_iload_n hx hb dX2_isToldBy_90 rfl (lv_at hl 3 rfl) ?_
    exact EM.zret hX hr hlk hZ (ws1 := fun u => (wM g h R J hs (va_up (va_up (va_up G 5 (u 5)) 6 (u 6)) 7 (u 7)))) (va_up (va_up (va_up G 5 ((rnS kd (J 2) pt n_ (G 3, G 4) code j).1)) 6 ((rnS kd (J 2) pt n_ (G 3, G 4) code j).2)) 7 (u 7)) (rfl) (by first | rfl | exact b01_congr ⟨fun q => absurd q c_2, fun q => absurd (soB_mono _ hj q) c_2⟩) (b01_or _) dX2_isToldBy_91
  refine lv_iload_n hx hb dX2_isToldBy_24 rfl (lv_at hl 2 rfl) ?_
  refine lv_bipush (v := 6) hx hb dX2_isToldBy_25 (by decide) ?_
  refine lv_irem hx hb dX2_isToldBy_27 (by decide) ?_
  refine lv_seti (v := (nI ((lft code j) % 6))) (pk_rem (a := (lft code j)) (d := 6) (by omega) (by omega) (by omega)) ?_
  refine lv_istore (lv' := [(5, .int (nI ((lft code j) % 6))), (0, .ref h), (1, .int (nI code)), (2, .int (nI (lft code j))), (3, .int (b01 (soB kd (J 2) pt n_ (G 1) (G 9) (G 3, G 4) code j = true))), (4, .int (nI j))]) hx hb dX2_isToldBy_28 hl (by decide) rfl (fun ls hl => ?_)
  refine lv_iload_n hx hb dX2_isToldBy_30 rfl (lv_at hl 3 rfl) ?_
  refine lv_bipush (v := 6) hx hb dX2_isToldBy_31 (by decide) ?_
  refine lv_idiv hx hb dX2_isToldBy_33 (by decide) ?_
  refine lv_seti (v := (nI ((lft code j) / 6))) (pk_div (a := (lft code j)) (d := 6) (by omega) (by omega) (by omega)) ?_
  refine lv_istore_n (lv' := [(2, .int (nI ((lft code j) / 6))), (5, .int (nI ((lft code j) % 6))), (0, .ref h), (1, .int (nI code)), (3, .int (b01 (soB kd (J 2) pt n_ (G 1) (G 9) (G 3, G 4) code j = true))), (4, .int (nI j))]) hx hb dX2_isToldBy_34 rfl hl (by decide) rfl (fun ls hl => ?_)
  refine lv_aload_n hx hb dX2_isToldBy_35 rfl (lv_at hl 2 rfl) ?_
  refine lv_iload hx hb dX2_isToldBy_36 (lv_at hl 1 rfl) ?_
  refine EM.ciA (EM.runV (As := [.int (nI ((lft code j) % 6))]) (rest := []) hX (K_X2_pass l g h R J hs (va_up (va_up (va_up G 5 ((rnS kd (J 2) pt n_ (G 3, G 4) code j).1)) 6 ((rnS kd (J 2) pt n_ (G 3, G 4) code j).2)) 7 (u 7)) ((lft code j) % 6) n_ kd pt (by omega) (hJ6) (hrow) (Nat.mod_lt _ (by decide)) (rnS_ok hn hlv hk5 j) (RoK.tt _)) (cv_q999 hX ⟨Nat.le_of_ble_eq_true rfl, Nat.le_of_ble_eq_true rfl⟩) hZ.1 hZ.2.1 trivial (r_recv hX hZ.1 0 rfl rfl) rfl hl.1 rfl (Nat.le_of_ble_eq_true rfl) dX2_isToldBy_38 ⟨Nat.zero_le _, Nat.zero_le _⟩) hZ (fun _ => adM) (fun u_3 H locs hZ => ?_)
  refine lv_seti (v := (brR kd pt ((rnS kd (J 2) pt n_ (G 3, G 4) code j).1) ((rnS kd (J 2) pt n_ (G 3, G 4) code j).2) (nI ((lft code j) % 6)) n_)) (rfl) ?_
  refine lv_istore (lv' := [(6, .int (brR kd pt ((rnS kd (J 2) pt n_ (G 3, G 4) code j).1) ((rnS kd (J 2) pt n_ (G 3, G 4) code j).2) (nI ((lft code j) % 6)) n_)), (2, .int (nI ((lft code j) / 6))), (5, .int (nI ((lft code j) % 6))), (0, .ref h), (1, .int (nI code)), (3, .int (b01 (soB kd (J 2) pt n_ (G 1) (G 9) (G 3, G 4) code j = true))), (4, .int (nI j))]) hx hb dX2_isToldBy_41 hl (by decide) rfl (fun ls hl => ?_)
  refine lv_aload_n hx hb dX2_isToldBy_43 rfl (lv_at hl 3 rfl) ?_
  refine gf_q812 (v := .ref (R 5)) hX hZ.1 0 rfl rfl dX2_isToldBy_44 ?_
  refine lv_iload hx hb dX2_isToldBy_47 (lv_at hl 2 rfl) ?_
  refine r_iald (f := (G 1)) hX hZ.1 2 rfl ((lft code j) % 6) (by omega) (by omega) dX2_isToldBy_49 ?_
  refine lv_if_le (tgt := 82) hx hb dX2_isToldBy_50 (by decide) (fun c_4 => ?_) (fun c_4 => ?_)
  · refine lv_iconst (v := 0) hx hb dX2_isToldBy_82 (by decide) ?_
    refine lv_istore_n (lv' := [(3, .int 0), (6, .int (brR kd pt ((rnS kd (J 2) pt n_ (G 3, G 4) code j).1) ((rnS kd (J 2) pt n_ (G 3, G 4) code j).2) (nI ((lft code j) % 6)) n_)), (2, .int (nI ((lft code j) / 6))), (5, .int (nI ((lft code j) % 6))), (0, .ref h), (1, .int (nI code)), (4, .int (nI j))]) hx hb dX2_isToldBy_83 rfl hl (by decide) rfl (fun ls hl => ?_)
    refine lv_iinc (v := (nI (j + 1))) (lv' := [(4, .int (nI (j + 1))), (3, .int 0), (6, .int (brR kd pt ((rnS kd (J 2) pt n_ (G 3, G 4) code j).1) ((rnS kd (J 2) pt n_ (G 3, G 4) code j).2) (nI ((lft code j) % 6)) n_)), (2, .int (nI ((lft code j) / 6))), (5, .int (nI ((lft code j) % 6))), (0, .ref h), (1, .int (nI code))]) hx hb dX2_isToldBy_84 hl (k := 6) rfl (nI_1 _) (by decide) rfl (fun ls hl => ?_)
    refine lv_goto (tgt := 11) hx hb dX2_isToldBy_87 (by decide) ?_
    exact ihj (j + 1) (va_up (va_up (va_up G 5 (brL kd (J 2) pt ((rnS kd (J 2) pt n_ (G 3, G 4) code j).1) ((rnS kd (J 2) pt n_ (G 3, G 4) code j).2) (nI ((lft code j) % 6)) n_)) 6 (brK kd pt ((rnS kd (J 2) pt n_ (G 3, G 4) code j).1) ((rnS kd (J 2) pt n_ (G 3, G 4) code j).2) (nI ((lft code j) % 6)) n_)) 7 (u_3 7)) _ _ _ ⟨by omega, hZ.cast (rfl), lv_cast (lv_sub (l' := [(0, .ref h), (1, .int (nI code)), (2, .int (nI ((lft code j) / 6))), (3, .int 0), (4, .int (nI (j + 1)))]) hl [5, 6, 3, 1, 0] rfl) (by simp [b01, soB, lft, c_1, c_2, c_4])⟩ (by omega)
  refine lv_aload_n hx hb dX2_isToldBy_53 rfl (lv_at hl 3 rfl) ?_
  refine gf_q824 (v := .ref (R 17)) hX hZ.1 0 rfl rfl dX2_isToldBy_54 ?_
  refine lv_iload hx hb dX2_isToldBy_57 (lv_at hl 6 rfl) ?_
  refine r_iald (f := (G 9)) hX hZ.1 10 rfl j (by omega) (by omega) dX2_isToldBy_59 ?_
  refine lv_iconst (v := (-1)) hx hb dX2_isToldBy_60 (by decide) ?_
  refine lv_icmp_eq (tgt := 78) hx hb dX2_isToldBy_61 (by decide) (fun c_5 => ?_) (fun c_5 => ?_)
  · refine lv_iconst (v := 1) hx hb dX2_isToldBy_78 (by decide) ?_
    refine lv_goto (tgt := 83) hx hb dX2_isToldBy_79 (by decide) ?_
    refine lv_istore_n (lv' := [(3, .int 1), (6, .int (brR kd pt ((rnS kd (J 2) pt n_ (G 3, G 4) code j).1) ((rnS kd (J 2) pt n_ (G 3, G 4) code j).2) (nI ((lft code j) % 6)) n_)), (2, .int (nI ((lft code j) / 6))), (5, .int (nI ((lft code j) % 6))), (0, .ref h), (1, .int (nI code)), (4, .int (nI j))]) hx hb dX2_isToldBy_83 rfl hl (by decide) rfl (fun ls hl => ?_)
    refine lv_iinc (v := (nI (j + 1))) (lv' := [(4, .int (nI (j + 1))), (3, .int 1), (6, .int (brR kd pt ((rnS kd (J 2) pt n_ (G 3, G 4) code j).1) ((rnS kd (J 2) pt n_ (G 3, G 4) code j).2) (nI ((lft code j) % 6)) n_)), (2, .int (nI ((lft code j) / 6))), (5, .int (nI ((lft code j) % 6))), (0, .ref h), (1, .int (nI code))]) hx hb dX2_isToldBy_84 hl (k := 6) rfl (nI_1 _) (by decide) rfl (fun ls hl => ?_)
    refine lv_goto (tgt := 11) hx hb dX2_isToldBy_87 (by decide) ?_
    exact ihj (j + 1) (va_up (va_up (va_up G 5 (brL kd (J 2) pt ((rnS kd (J 2) pt n_ (G 3, G 4) code j).1) ((rnS kd (J 2) pt n_ (G 3, G 4) code j).2) (nI ((lft code j) % 6)) n_)) 6 (brK kd pt ((rnS kd (J 2) pt n_ (G 3, G 4) code j).1) ((rnS kd (J 2) pt n_ (G 3, G 4) code j).2) (nI ((lft code j) % 6)) n_)) 7 (u_3 7)) _ _ _ ⟨by omega, hZ.cast (rfl), lv_cast (lv_sub (l' := [(0, .ref h), (1, .int (nI code)), (2, .int (nI ((lft code j) / 6))), (3, .int 1), (4, .int (nI (j + 1)))]) hl [5, 6, 3, 1, 0] rfl) (by simp [b01, soB, lft, c_1, c_2, c_4, c_5])⟩ (by omega)
  refine lv_aload_n hx hb dX2_isToldBy_64 rfl (lv_at hl 3 rfl) ?_
  refine gf_q824 (v := .ref (R 17)) hX hZ.1 0 rfl rfl dX2_isToldBy_65 ?_
  refine lv_iload hx hb dX2_isToldBy_68 (lv_at hl 6 rfl) ?_
  refine r_iald (f := (G 9)) hX hZ.1 10 rfl j (by omega) (by omega) dX2_isToldBy_70 ?_
  refine lv_aload_n hx hb dX2_isToldBy_71 rfl (lv_at hl 3 rfl) ?_
  refine PM.ci (PM.runV (As := []) (rest := [.int ((G 9) j)]) hX (K_X2_livesNow l g h R J hs (va_up (va_up (va_up G 5 (brL kd (J 2) pt ((rnS kd (J 2) pt n_ (G 3, G 4) code j).1) ((rnS kd (J 2) pt n_ (G 3, G 4) code j).2) (nI ((lft code j) % 6)) n_)) 6 (brK kd pt ((rnS kd (J 2) pt n_ (G 3, G 4) code j).1) ((rnS kd (J 2) pt n_ (G 3, G 4) code j).2) (nI ((lft code j) % 6)) n_)) 7 (u_3 7)) n_ (by omega) (hJ6)) (cv_q1094 hX ⟨Nat.le_of_ble_eq_true rfl, Nat.le_of_ble_eq_true rfl⟩) hZ.1 trivial (r_recv hX hZ.1 0 rfl rfl) rfl hl.1 rfl (Nat.le_of_ble_eq_true rfl) dX2_isToldBy_72 ⟨Nat.zero_le _, Nat.zero_le _⟩) ?_
  refine lv_seti (v := (livF (brL kd (J 2) pt ((rnS kd (J 2) pt n_ (G 3, G 4) code j).1) ((rnS kd (J 2) pt n_ (G 3, G 4) code j).2) (nI ((lft code j) % 6)) n_) n_)) (rfl) ?_
  refine lv_seti (v := (livF (rnS kd (J 2) pt n_ (G 3, G 4) code (j + 1)).1 n_)) (rfl) ?_
  refine lv_icmp_ne (tgt := 82) hx hb dX2_isToldBy_75 (by decide) (fun c_6 => ?_) (fun c_6 => ?_)
  · refine lv_iconst (v := 0) hx hb dX2_isToldBy_82 (by decide) ?_
    refine lv_istore_n (lv' := [(3, .int 0), (6, .int (brR kd pt ((rnS kd (J 2) pt n_ (G 3, G 4) code j).1) ((rnS kd (J 2) pt n_ (G 3, G 4) code j).2) (nI ((lft code j) % 6)) n_)), (2, .int (nI ((lft code j) / 6))), (5, .int (nI ((lft code j) % 6))), (0, .ref h), (1, .int (nI code)), (4, .int (nI j))]) hx hb dX2_isToldBy_83 rfl hl (by decide) rfl (fun ls hl => ?_)
    refine lv_iinc (v := (nI (j + 1))) (lv' := [(4, .int (nI (j + 1))), (3, .int 0), (6, .int (brR kd pt ((rnS kd (J 2) pt n_ (G 3, G 4) code j).1) ((rnS kd (J 2) pt n_ (G 3, G 4) code j).2) (nI ((lft code j) % 6)) n_)), (2, .int (nI ((lft code j) / 6))), (5, .int (nI ((lft code j) % 6))), (0, .ref h), (1, .int (nI code))]) hx hb dX2_isToldBy_84 hl (k := 6) rfl (nI_1 _) (by decide) rfl (fun ls hl => ?_)
    refine lv_goto (tgt := 11) hx hb dX2_isToldBy_87 (by decide) ?_
    exact ihj (j + 1) (va_up (va_up (va_up G 5 (brL kd (J 2) pt ((rnS kd (J 2) pt n_ (G 3, G 4) code j).1) ((rnS kd (J 2) pt n_ (G 3, G 4) code j).2) (nI ((lft code j) % 6)) n_)) 6 (brK kd pt ((rnS kd (J 2) pt n_ (G 3, G 4) code j).1) ((rnS kd (J 2) pt n_ (G 3, G 4) code j).2) (nI ((lft code j) % 6)) n_)) 7 (u_3 7)) _ _ _ ⟨by omega, hZ.cast (rfl), lv_cast (lv_sub (l' := [(0, .ref h), (1, .int (nI code)), (2, .int (nI ((lft code j) / 6))), (3, .int 0), (4, .int (nI (j + 1)))]) hl [5, 6, 3, 1, 0] rfl) (by simp [b01, soB, lft, c_1, c_2, c_4, c_5, c_6])⟩ (by omega)
  refine lv_iconst (v := 1) hx hb dX2_isToldBy_78 (by decide) ?_
  refine lv_goto (tgt := 83) hx hb dX2_isToldBy_79 (by decide) ?_
  refine lv_istore_n (lv' := [(3, .int 1), (6, .int (brR kd pt ((rnS kd (J 2) pt n_ (G 3, G 4) code j).1) ((rnS kd (J 2) pt n_ (G 3, G 4) code j).2) (nI ((lft code j) % 6)) n_)), (2, .int (nI ((lft code j) / 6))), (5, .int (nI ((lft code j) % 6))), (0, .ref h), (1, .int (nI code)), (4, .int (nI j))]) hx hb dX2_isToldBy_83 rfl hl (by decide) rfl (fun ls hl => ?_)
  refine lv_iinc (v := (nI (j + 1))) (lv' := [(4, .int (nI (j + 1))), (3, .int 1), (6, .int (brR kd pt ((rnS kd (J 2) pt n_ (G 3, G 4) code j).1) ((rnS kd (J 2) pt n_ (G 3, G 4) code j).2) (nI ((lft code j) % 6)) n_)), (2, .int (nI ((lft code j) / 6))), (5, .int (nI ((lft code j) % 6))), (0, .ref h), (1, .int (nI code))]) hx hb dX2_isToldBy_84 hl (k := 6) rfl (nI_1 _) (by decide) rfl (fun ls hl => ?_)
  refine lv_goto (tgt := 11) hx hb dX2_isToldBy_87 (by decide) ?_
  exact ihj (j + 1) (va_up (va_up (va_up G 5 (brL kd (J 2) pt ((rnS kd (J 2) pt n_ (G 3, G 4) code j).1) ((rnS kd (J 2) pt n_ (G 3, G 4) code j).2) (nI ((lft code j) % 6)) n_)) 6 (brK kd pt ((rnS kd (J 2) pt n_ (G 3, G 4) code j).1) ((rnS kd (J 2) pt n_ (G 3, G 4) code j).2) (nI ((lft code j) % 6)) n_)) 7 (u_3 7)) _ _ _ ⟨by omega, hZ.cast (rfl), lv_cast (lv_sub (l' := [(0, .ref h), (1, .int (nI code)), (2, .int (nI ((lft code j) / 6))), (3, .int 1), (4, .int (nI (j + 1)))]) hl [5, 6, 3, 1, 0] rfl) (by simp [b01, soB, lft, c_1, c_2, c_4, c_5, c_6])⟩ (by omega)

set_option maxHeartbeats 400000 in
set_option maxRecDepth 100000 in
theorem K_X2_layFits (l : Launch) (g : Gx) (h : Nat) (R : Nat → Nat) (J : Nat → Int32) (hs : Int64) (G : Nat → Nat → Int32) (n_ : Nat) (kd : Nat → Nat) (pt : Nat → Int32) (am : Nat) (hn : n_ ≤ 5) (hJ6 : (J 6) = nI n_) (hrow : RowsOk G n_ kd pt) (hlv : LvOk (G 3) n_) (ham : (J 16) = nI am) (ham2 : am ≤ 5) (hrk : RoK roT (wM g h R J hs G)) : EM l g yX2_layFits cX2_layFits 5 (some .int) 4 [.ref h] roT (wM g h R J hs G) (fun u => (wM g h R J hs (va_up (va_up (va_up (va_up G 5 (u 5)) 6 (u 6)) 7 (u 7)) 10 (ftB kd (vI J) (vF G pt) n_ am (p6 am))))) (some (.int (ftC kd (vI J) (vF G pt) n_ am (p6 am)))) := by
  refine EM.of (own := "BurntLettersModel") (by decide) rfl (Nat.le_of_ble_eq_true rfl) hrk ?_
  intro p e s m below meth c A hX hr hlk hZ ls hl
  have hx := hX.1.1
  have hb := hX.1.2.1
  have hl : lv_has ls 5 [(0, .ref h)] := hl
  have hp6 := p6_le ham2
  refine lv_iconst (v := 0) hx hb dX2_layFits_0 (by decide) ?_
  refine lv_istore_n (lv' := [(1, .int 0), (0, .ref h)]) hx hb dX2_layFits_1 rfl hl (by decide) rfl (fun ls hl => ?_)
  refine W_loop (α := Nat) (P := fun (z : Nat) (H : Heap) (locs : List Loc) (ls : Array Slot) => z ≤ 5 ∧ Zt g A s.heap roT (wM g h R J hs (va_up G 10 (zrF (G 10) z))) H locs ∧ lv_has ls 5 [(0, .ref h), (1, .int (nI z))]) (fun z => 5 - z) 0 ⟨Nat.zero_le _, hZ.cast (rfl), lv_cast (lv_sub (l' := [(0, .ref h), (1, .int 0)]) hl [1, 0] rfl) (rfl)⟩ ?_
  rintro z H locs ls ⟨hz, hZ, hl⟩ ihz
  refine lv_iload_n hx hb dX2_layFits_2 rfl (lv_at hl 1 rfl) ?_
  refine lv_iconst (v := 5) hx hb dX2_layFits_3 (by decide) ?_
  refine lv_icmp_ge (tgt := 20) hx hb dX2_layFits_4 (by decide) (fun c_1 => ?_) (fun c_1 => ?_)
  · have c_1n : 5 ≤ z := (nI_leI (a := 5) (b := z) (by omega) (by omega)).mp c_1
    have eiz : z = 5 := by omega
    subst eiz
    have hZ := hZ.arr 11 (fun _ => 0) rfl (fun j hj => zrF_in (G 10) 5 j hj)
    have hZ : Zt g A s.heap roT (wM g h R J hs (va_up G 10 (fun _ => 0))) H locs := hZ
    refine lv_iconst (v := 0) hx hb dX2_layFits_20 (by decide) ?_
    refine lv_istore_n (lv' := [(1, .int 0), (0, .ref h)]) hx hb dX2_layFits_21 rfl hl (by decide) rfl (fun ls hl => ?_)
    refine lv_iconst (v := 0) hx hb dX2_layFits_22 (by decide) ?_
    refine lv_istore_n (lv' := [(2, .int 0), (1, .int 0), (0, .ref h)]) hx hb dX2_layFits_23 rfl hl (by decide) rfl (fun ls hl => ?_)
    refine W_loopU (α := Nat) (P := fun (i : Nat) (u : Nat → Nat → Int32) (H : Heap) (locs : List Loc) (ls : Array Slot) => i ≤ p6 am ∧ Zt g A s.heap roT (wM g h R J hs (va_up (va_up (va_up (va_up G 5 (u 5)) 6 (u 6)) 7 (u 7)) 10 (ftB kd (vI J) (vF G pt) n_ am i))) H locs ∧ lv_has ls 5 [(0, .ref h), (1, .int (ftC kd (vI J) (vF G pt) n_ am i)), (2, .int (nI i))]) (fun i => p6 am - i) 0 (va_up G 10 (fun _ => 0)) ⟨Nat.zero_le _, hZ.cast (rfl), lv_cast (lv_sub (l' := [(0, .ref h), (1, .int 0), (2, .int 0)]) hl [2, 1, 0] rfl) (rfl)⟩ ?_
    rintro i u H locs ls ⟨hi, hZ, hl⟩ ihi
    refine lv_iload_n hx hb dX2_layFits_24 rfl (lv_at hl 2 rfl) ?_
    refine lv_bipush (v := 6) hx hb dX2_layFits_25 (by decide) ?_
    refine lv_aload_n hx hb dX2_layFits_27 rfl (lv_at hl 0 rfl) ?_
    refine gf_q823 (v := .int (J 16)) hX hZ.1 0 rfl rfl dX2_layFits_28 ?_
    refine lv_seti (v := (nI am)) (ham) ?_
    refine PM.ci (PM.runS (As := [.int 6, .int (nI am)]) (rest := [.int (nI i)]) hX (K_X2_power l g 6 am (by omega)) (cs_q1027 hX ⟨Nat.le_of_ble_eq_true rfl, Nat.le_of_ble_eq_true rfl⟩) va_P_nil trivial rfl hl.1 rfl (Nat.le_of_ble_eq_true rfl) dX2_layFits_31 ⟨Nat.zero_le _, Nat.zero_le _⟩) ?_
    refine lv_seti (v := (nI (p6 am))) (hp6.1) ?_
    refine lv_icmp_ge (tgt := 95) hx hb dX2_layFits_34 (by decide) (fun c_2 => ?_) (fun c_2 => ?_)
    · have c_2n : (p6 am) ≤ i := (nI_leI (a := (p6 am)) (b := i) (by omega) (by omega)).mp c_2
      have ei : p6 am = i := by omega
      subst ei
      refine lv_iload_n hx hb dX2_layFits_95 rfl (lv_at hl 1 rfl) ?_
      exact EM.iret hX hr hlk hZ (ws1 := fun u => (wM g h R J hs (va_up (va_up (va_up (va_up G 5 (u 5)) 6 (u 6)) 7 (u 7)) 10 (ftB kd (vI J) (vF G pt) n_ am (p6 am))))) (va_up (va_up (va_up (va_up G 5 (u 5)) 6 (u 6)) 7 (u 7)) 10 (ftB kd (vI J) (vF G pt) n_ am (p6 am))) (rfl) (rfl) dX2_layFits_96
    have c_2n : ¬ (p6 am) ≤ i := fun zz_ => c_2 ((nI_leI (a := (p6 am)) (b := i) (by omega) (by omega)).mpr zz_)
    refine lv_aload_n hx hb dX2_layFits_37 rfl (lv_at hl 0 rfl) ?_
    refine lv_iload_n hx hb dX2_layFits_38 rfl (lv_at hl 2 rfl) ?_
    refine EM.ciA (EM.runV (As := [.int (nI i)]) (rest := []) hX (K_X2_isToldBy l g h R J hs (va_up (va_up (va_up (va_up G 5 (u 5)) 6 (u 6)) 7 (u 7)) 10 (ftB kd (vI J) (vF G pt) n_ am i)) i n_ kd pt am (by omega) (hJ6) (hrow) (hlv) (ham) (by omega) (by omega) (RoK.tt _)) (cv_q1090 hX ⟨Nat.le_of_ble_eq_true rfl, Nat.le_of_ble_eq_true rfl⟩) hZ.1 hZ.2.1 trivial (r_recv hX hZ.1 0 rfl rfl) rfl hl.1 rfl (Nat.le_of_ble_eq_true rfl) dX2_layFits_39 ⟨Nat.zero_le _, Nat.zero_le _⟩) hZ (fun _ => adM) (fun u_3 H locs hZ => ?_)
    refine lv_seti (v := (b01 (soB kd (J 2) pt n_ (G 1) (G 9) ((G 3), (G 4)) i am = true))) (rfl) ?_
    refine lv_bif_eq (tgt := 89) hx hb dX2_layFits_42 (by decide) (fun c_4 => ?_) (fun c_4 => ?_)
    · refine lv_iinc (v := (nI (i + 1))) (lv' := [(2, .int (nI (i + 1))), (0, .ref h), (1, .int (ftC kd (vI J) (vF G pt) n_ am i))]) hx hb dX2_layFits_89 hl (k := 2) rfl (nI_1 _) (by decide) rfl (fun ls hl => ?_)
      refine lv_goto (tgt := 24) hx hb dX2_layFits_92 (by decide) ?_
      exact ihi (i + 1) (va_up (va_up (va_up (va_up G 10 (ftB kd (vI J) (vF G pt) n_ am i)) 5 (u_3 5)) 6 (u_3 6)) 7 (u_3 7)) _ _ _ ⟨by omega, hZ.cast (by first | (simp only [ftB, vI_3, vF_0, vF_1, vF_2, vF_3, vF_11, if_pos c_1, if_neg c_2, if_neg c_4]; done) | (simp only [ftB, vI_3, vF_0, vF_1, vF_2, vF_3, vF_11, if_pos c_1, if_neg c_2, if_neg c_4]; rfl)), lv_cast (lv_sub (l' := [(0, .ref h), (1, .int (ftC kd (vI J) (vF G pt) n_ am i)), (2, .int (nI (i + 1)))]) hl [1, 2, 0] rfl) (by simp only [ftC, vI_3, vF_0, vF_1, vF_2, vF_3, vF_11, if_pos c_1, if_neg c_2, if_neg c_4])⟩ (by omega)
    refine lv_iinc (v := ((ftC kd (vI J) (vF G pt) n_ am i) + 1)) (lv' := [(1, .int ((ftC kd (vI J) (vF G pt) n_ am i) + 1)), (0, .ref h), (2, .int (nI i))]) hx hb dX2_layFits_45 hl (k := 1) rfl (rfl) (by decide) rfl (fun ls hl => ?_)
    refine lv_iload_n hx hb dX2_layFits_48 rfl (lv_at hl 2 rfl) ?_
    refine lv_istore_n (lv' := [(3, .int (nI i)), (1, .int ((ftC kd (vI J) (vF G pt) n_ am i) + 1)), (0, .ref h), (2, .int (nI i))]) hx hb dX2_layFits_49 rfl hl (by decide) rfl (fun ls hl => ?_)
    refine lv_iconst (v := 0) hx hb dX2_layFits_50 (by decide) ?_
    refine lv_istore (lv' := [(4, .int 0), (3, .int (nI i)), (1, .int ((ftC kd (vI J) (vF G pt) n_ am i) + 1)), (0, .ref h), (2, .int (nI i))]) hx hb dX2_layFits_51 hl (by decide) rfl (fun ls hl => ?_)
    refine W_loop (α := Nat) (P := fun (j : Nat) (H : Heap) (locs : List Loc) (ls : Array Slot) => j ≤ am ∧ Zt g A s.heap roT (wM g h R J hs (va_up (va_up (va_up (va_up G 5 (u_3 5)) 6 (u_3 6)) 7 (u_3 7)) 10 (oneB (ftB kd (vI J) (vF G pt) n_ am i) i j))) H locs ∧ lv_has ls 5 [(0, .ref h), (1, .int ((ftC kd (vI J) (vF G pt) n_ am i) + 1)), (2, .int (nI i)), (3, .int (nI (lft i j))), (4, .int (nI j))]) (fun j => am - j) 0 ⟨Nat.zero_le _, hZ.cast (rfl), lv_cast (lv_sub (l' := [(0, .ref h), (1, .int ((ftC kd (vI J) (vF G pt) n_ am i) + 1)), (2, .int (nI i)), (3, .int (nI i)), (4, .int 0)]) hl [3, 2, 4, 1, 0] rfl) (rfl)⟩ ?_
    rintro j H locs ls ⟨hj, hZ, hl⟩ ihj
    have hlf := lft_le i j
    refine lv_iload hx hb dX2_layFits_53 (lv_at hl 4 rfl) ?_
    refine lv_aload_n hx hb dX2_layFits_55 rfl (lv_at hl 0 rfl) ?_
    refine gf_q823 (v := .int (J 16)) hX hZ.1 0 rfl rfl dX2_layFits_56 ?_
    refine lv_seti (v := (nI am)) (ham) ?_
    refine lv_icmp_ge (tgt := 89) hx hb dX2_layFits_59 (by decide) (fun c_5 => ?_) (fun c_5 => ?_)
    · have c_5n : am ≤ j := (nI_leI (a := am) (b := j) (by omega) (by omega)).mp c_5
      have ej : am = j := by omega
      subst ej
      refine lv_iinc (v := (nI (i + 1))) (lv' := [(2, .int (nI (i + 1))), (0, .ref h), (1, .int ((ftC kd (vI J) (vF G pt) n_ am i) + 1)), (3, .int (nI (lft i am))), (4, .int (nI am))]) hx hb dX2_layFits_89 hl (k := 2) rfl (nI_1 _) (by decide) rfl (fun ls hl => ?_)
      refine lv_goto (tgt := 24) hx hb dX2_layFits_92 (by decide) ?_
      exact ihi (i + 1) (va_up (va_up (va_up (va_up G 5 (u_3 5)) 6 (u_3 6)) 7 (u_3 7)) 10 (oneB (ftB kd (vI J) (vF G pt) n_ am i) i am)) _ _ _ ⟨by omega, hZ.cast (by first | (simp only [ftB, vI_3, vF_0, vF_1, vF_2, vF_3, vF_11, if_pos c_1, if_neg c_2, if_pos c_4, if_pos c_5]; done) | (simp only [ftB, vI_3, vF_0, vF_1, vF_2, vF_3, vF_11, if_pos c_1, if_neg c_2, if_pos c_4, if_pos c_5]; rfl)), lv_cast (lv_sub (l' := [(0, .ref h), (1, .int ((ftC kd (vI J) (vF G pt) n_ am i) + 1)), (2, .int (nI (i + 1)))]) hl [1, 2, 0] rfl) (by simp only [ftC, vI_3, vF_0, vF_1, vF_2, vF_3, vF_11, if_pos c_1, if_neg c_2, if_pos c_4, if_pos c_5])⟩ (by omega)
    have c_5n : ¬ am ≤ j := fun zz_ => c_5 ((nI_leI (a := am) (b := j) (by omega) (by omega)).mpr zz_)
    refine lv_aload_n hx hb dX2_layFits_62 rfl (lv_at hl 0 rfl) ?_
    refine gf_q825 (v := .ref (R 18)) hX hZ.1 0 rfl rfl dX2_layFits_63 ?_
    refine lv_iload hx hb dX2_layFits_66 (lv_at hl 4 rfl) ?_
    refine lv_dup2_11 hx hb dX2_layFits_68 rfl rfl ?_
    refine r_iald (f := (oneB (ftB kd (vI J) (vF G pt) n_ am i) i j)) hX hZ.1 11 rfl j (by omega) (by omega) dX2_layFits_69 ?_
    refine lv_iconst (v := 1) hx hb dX2_layFits_70 (by decide) ?_
    refine lv_iload_n hx hb dX2_layFits_71 rfl (lv_at hl 3 rfl) ?_
    refine lv_bipush (v := 6) hx hb dX2_layFits_72 (by decide) ?_
    refine lv_irem hx hb dX2_layFits_74 (by decide) ?_
    refine lv_seti (v := (nI ((lft i j) % 6))) (pk_rem (a := (lft i j)) (d := 6) (by omega) (by omega) (by omega)) ?_
    refine lv_ishl hx hb dX2_layFits_75 ?_
    refine lv_ior hx hb dX2_layFits_76 ?_
    refine r_iast (f := (oneB (ftB kd (vI J) (vF G pt) n_ am i) i j)) (x := (((oneB (ftB kd (vI J) (vF G pt) n_ am i) i j) j) ||| ((1 : Int32) <<< ((nI ((lft i j) % 6)) &&& 31)))) (ws1 := (wM g h R J hs (va_up (va_up (va_up (va_up G 5 (u_3 5)) 6 (u_3 6)) 7 (u_3 7)) 10 (upd (oneB (ftB kd (vI J) (vF G pt) n_ am i) i j) j (((oneB (ftB kd (vI J) (vF G pt) n_ am i) i j) j) ||| ((1 : Int32) <<< ((nI ((lft i j) % 6)) &&& 31))))))) hX hZ 11 rfl j (by omega) (by omega) dX2_layFits_77 rfl (fun H locs hZ => ?_)
    refine lv_iload_n hx hb dX2_layFits_78 rfl (lv_at hl 3 rfl) ?_
    refine lv_bipush (v := 6) hx hb dX2_layFits_79 (by decide) ?_
    refine lv_idiv hx hb dX2_layFits_81 (by decide) ?_
    refine lv_seti (v := (nI ((lft i j) / 6))) (pk_div (a := (lft i j)) (d := 6) (by omega) (by omega) (by omega)) ?_
    refine lv_istore_n (lv' := [(3, .int (nI ((lft i j) / 6))), (0, .ref h), (1, .int ((ftC kd (vI J) (vF G pt) n_ am i) + 1)), (2, .int (nI i)), (4, .int (nI j))]) hx hb dX2_layFits_82 rfl hl (by decide) rfl (fun ls hl => ?_)
    refine lv_iinc (v := (nI (j + 1))) (lv' := [(4, .int (nI (j + 1))), (3, .int (nI ((lft i j) / 6))), (0, .ref h), (1, .int ((ftC kd (vI J) (vF G pt) n_ am i) + 1)), (2, .int (nI i))]) hx hb dX2_layFits_83 hl (k := 4) rfl (nI_1 _) (by decide) rfl (fun ls hl => ?_)
    refine lv_goto (tgt := 53) hx hb dX2_layFits_86 (by decide) ?_
    exact ihj (j + 1) _ _ _ ⟨by omega, hZ.cast (rfl), lv_cast (lv_sub (l' := [(0, .ref h), (1, .int ((ftC kd (vI J) (vF G pt) n_ am i) + 1)), (2, .int (nI i)), (3, .int (nI ((lft i j) / 6))), (4, .int (nI (j + 1)))]) hl [2, 3, 4, 1, 0] rfl) (by rfl)⟩ (by omega)
  have c_1n : ¬ 5 ≤ z := fun zz_ => c_1 ((nI_leI (a := 5) (b := z) (by omega) (by omega)).mpr zz_)
  refine lv_aload_n hx hb dX2_layFits_7 rfl (lv_at hl 0 rfl) ?_
  refine gf_q825 (v := .ref (R 18)) hX hZ.1 0 rfl rfl dX2_layFits_8 ?_
  refine lv_iload_n hx hb dX2_layFits_11 rfl (lv_at hl 1 rfl) ?_
  refine lv_iconst (v := 0) hx hb dX2_layFits_12 (by decide) ?_
  refine r_iast (f := (zrF (G 10) z)) (x := 0) (ws1 := (wM g h R J hs (va_up G 10 (upd (zrF (G 10) z) z 0)))) hX hZ 11 rfl z (by omega) (by omega) dX2_layFits_13 rfl (fun H locs hZ => ?_)
  refine lv_iinc (v := (nI (z + 1))) (lv' := [(1, .int (nI (z + 1))), (0, .ref h)]) hx hb dX2_layFits_14 hl (k := 1) rfl (nI_1 _) (by decide) rfl (fun ls hl => ?_)
  refine lv_goto (tgt := 2) hx hb dX2_layFits_17 (by decide) ?_
  exact ihz (z + 1) _ _ _ ⟨by omega, hZ.cast (rfl), lv_cast (lv_sub (l' := [(0, .ref h), (1, .int (nI (z + 1)))]) hl [1, 0] rfl) (by rfl)⟩ (by omega)

set_option maxHeartbeats 400000 in
set_option maxRecDepth 100000 in
theorem K_X2_fits (l : Launch) (g : Gx) (h : Nat) (R : Nat → Nat) (J : Nat → Int32) (hs : Int64) (G : Nat → Nat → Int32) (n_ : Nat) (kd : Nat → Nat) (pt : Nat → Int32) (am : Nat) (hn : n_ ≤ 5) (hJ6 : (J 6) = nI n_) (hrow : RowsOk G n_ kd pt) (hlv : LvOk (G 3) n_) (ham : (J 16) = nI am) (ham2 : am ≤ 5) (hrk : RoK roT (wM g h R J hs G)) : EM l g yX2_fits cX2_fits 1 (some .int) 5 [.ref h] roT (wM g h R J hs G) (fun u => (wM g h R J hs (va_up (va_up (va_up (va_up G 5 (u 5)) 6 (u 6)) 7 (u 7)) 10 (u 10)))) (some (.int (fitR kd (vI J) (vF G pt) n_ am))) := by
  refine EM.of (own := "BurntLettersModel") (by decide) rfl (Nat.le_of_ble_eq_true rfl) hrk ?_
  intro p e s m below meth c A hX hr hlk hZ ls hl
  have hx := hX.1.1
  have hb := hX.1.2.1
  have hl : lv_has ls 1 [(0, .ref h)] := hl
  refine lv_aload_n hx hb dX2_fits_0 rfl (lv_at hl 0 rfl) ?_
  refine PM.ci (PM.runV (As := []) (rest := []) hX (K_X2_lacks l g h R J hs G) (cv_q944 hX ⟨Nat.le_of_ble_eq_true rfl, Nat.le_of_ble_eq_true rfl⟩) hZ.1 trivial (r_recv hX hZ.1 0 rfl rfl) rfl hl.1 rfl (Nat.le_of_ble_eq_true rfl) dX2_fits_1 ⟨Nat.zero_le _, Nat.zero_le _⟩) ?_
  refine lv_bif_eq (tgt := 12) hx hb dX2_fits_4 (by decide) (fun c_1 => ?_) (fun c_1 => ?_)
  · refine lv_aload_n hx hb dX2_fits_12 rfl (lv_at hl 0 rfl) ?_
    refine EM.ciA (EM.runV (As := []) (rest := []) hX (K_X2_layFits l g h R J hs G n_ kd pt am (by omega) (hJ6) (hrow) (hlv) (ham) (by omega) (RoK.tt _)) (cv_q1086 hX ⟨Nat.le_of_ble_eq_true rfl, Nat.le_of_ble_eq_true rfl⟩) hZ.1 hZ.2.1 trivial (r_recv hX hZ.1 0 rfl rfl) rfl hl.1 rfl (Nat.le_of_ble_eq_true rfl) dX2_fits_13 ⟨Nat.zero_le _, Nat.zero_le _⟩) hZ (fun _ => adM) (fun u_2 H locs hZ => ?_)
    exact EM.iret hX hr hlk hZ (ws1 := fun u => (wM g h R J hs (va_up (va_up (va_up (va_up G 5 (u 5)) 6 (u 6)) 7 (u 7)) 10 (u 10)))) (va_up (va_up (va_up (va_up G 5 (u_2 5)) 6 (u_2 6)) 7 (u_2 7)) 10 (ftB kd (vI J) (vF G pt) n_ am (p6 am))) (rfl) (by first | (rw [fitR, if_pos (vI1.mpr c_1)]; done) | (rw [fitR, if_neg (fun q => c_1 (vI1.mp q))]; done)) dX2_fits_16
  refine lv_bipush (v := (-103)) hx hb dX2_fits_7 (by decide) ?_
  refine lv_goto (tgt := 16) hx hb dX2_fits_9 (by decide) ?_
  exact EM.iret hX hr hlk hZ (ws1 := fun u => (wM g h R J hs (va_up (va_up (va_up (va_up G 5 (u 5)) 6 (u 6)) 7 (u 7)) 10 (u 10)))) G (rfl) (by first | (rw [fitR, if_pos (vI1.mpr c_1)]; done) | (rw [fitR, if_neg (fun q => c_1 (vI1.mp q))]; done)) dX2_fits_16

set_option maxHeartbeats 400000 in
set_option maxRecDepth 100000 in
theorem K_X2_ashes (l : Launch) (g : Gx) (h : Nat) (R : Nat → Nat) (J : Nat → Int32) (hs : Int64) (G : Nat → Nat → Int32) (x : Int32) (n_ : Nat) (am : Nat) (hn : n_ ≤ 5) (hJ6 : (J 6) = nI n_) (ham : (J 16) = nI am) (ham2 : am ≤ 5) (hrk : RoK roT (wM g h R J hs G)) : MM l g yX2_ashes cX2_ashes 2 (some .int) 1 [.ref h, .int x] roT (wM g h R J hs G) (wM g h R (masJ J n_ x) hs (masG J G n_ x)) (some (.int (masR J n_ x))) := by
  refine MM.of (own := "BurntLettersModel") (by decide) rfl (Nat.le_of_ble_eq_true rfl) hrk ?_
  intro p e s m below meth c A hX hr hlk hZ ls hl
  have hx := hX.1.1
  have hb := hX.1.2.1
  have hl : lv_has ls 2 [(0, .ref h), (1, .int x)] := hl
  refine lv_iload_n hx hb dX2_ashes_0 rfl (lv_at hl 1 rfl) ?_
  refine lv_i2l (v := x.toInt64) hx hb dX2_ashes_1 rfl ?_
  refine lv_ldc2 (v := -1) hx hb hX.1.2.2.2.1 (hX.w q1077) dX2_ashes_2 ?_
  refine lv_iconst (v := 1) hx hb dX2_ashes_5 (by decide) ?_
  refine lv_aload_n hx hb dX2_ashes_6 rfl (lv_at hl 0 rfl) ?_
  refine gf_q813 (v := .int (J 6)) hX hZ.1 0 rfl rfl dX2_ashes_7 ?_
  refine lv_seti (v := (nI n_)) (hJ6) ?_
  refine lv_ishl hx hb dX2_ashes_10 ?_
  refine lv_iconst (v := 1) hx hb dX2_ashes_11 (by decide) ?_
  refine lv_isub hx hb dX2_ashes_12 ?_
  refine lv_i2l (v := (((1 : Int32) <<< ((nI n_) &&& 31)) - 1).toInt64) hx hb dX2_ashes_13 rfl ?_
  refine PM.ci (PM.runS (As := [.long x.toInt64, .long (-1), .long ((((1 : Int32) <<< ((nI n_) &&& 31)) - 1).toInt64)]) (rest := []) hX (K_X2_in l g x.toInt64 (-1) ((((1 : Int32) <<< ((nI n_) &&& 31)) - 1).toInt64)) (cs_q900 hX ⟨Nat.le_of_ble_eq_true rfl, Nat.le_of_ble_eq_true rfl⟩) va_P_nil trivial rfl hl.1 rfl (Nat.le_of_ble_eq_true rfl) dX2_ashes_14 ⟨Nat.zero_le _, Nat.zero_le _⟩) ?_
  refine lv_seti (v := (b01 (inP x (-1) (((1 : Int32) <<< ((nI n_) &&& 31)) - 1)))) (inL_c (a := (-1)) (b := (((1 : Int32) <<< ((nI n_) &&& 31)) - 1)) (by decide) (rfl)) ?_
  refine lv_bif_ne (tgt := 23) hx hb dX2_ashes_17 (by decide) (fun c_1 => ?_) (fun c_1 => ?_)
  · refine lv_aload_n hx hb dX2_ashes_23 rfl (lv_at hl 0 rfl) ?_
    refine gf_q823 (v := .int (J 16)) hX hZ.1 0 rfl rfl dX2_ashes_24 ?_
    refine lv_seti (v := (nI am)) (ham) ?_
    refine lv_iconst (v := 5) hx hb dX2_ashes_27 (by decide) ?_
    refine lv_icmp_ne (tgt := 34) hx hb dX2_ashes_28 (by decide) (fun c_2 => ?_) (fun c_2 => ?_)
    · have c_2n : ¬ am = 5 := fun zz_ => c_2 ((nI_eq (a := am) (b := 5) (by omega) (by omega)).mpr zz_)
      refine lv_aload_n hx hb dX2_ashes_34 rfl (lv_at hl 0 rfl) ?_
      refine gf_q824 (v := .ref (R 17)) hX hZ.1 0 rfl rfl dX2_ashes_35 ?_
      refine lv_aload_n hx hb dX2_ashes_38 rfl (lv_at hl 0 rfl) ?_
      refine gf_q823 (v := .int (J 16)) hX hZ.1 0 rfl rfl dX2_ashes_39 ?_
      refine lv_seti (v := (nI am)) (ham) ?_
      refine lv_iload_n hx hb dX2_ashes_42 rfl (lv_at hl 1 rfl) ?_
      refine r_iast (f := (G 9)) (x := x) (ws1 := (wM g h R J hs (va_up G 9 (upd (G 9) am x)))) hX hZ 10 rfl am (by omega) (by omega) dX2_ashes_43 rfl (fun H locs hZ => ?_)
      refine lv_aload_n hx hb dX2_ashes_44 rfl (lv_at hl 0 rfl) ?_
      refine lv_dup hx hb dX2_ashes_45 rfl ?_
      refine gf_q823 (v := .int (J 16)) hX hZ.1 0 rfl rfl dX2_ashes_46 ?_
      refine lv_seti (v := (nI am)) (ham) ?_
      refine lv_iconst (v := 1) hx hb dX2_ashes_49 (by decide) ?_
      refine lv_iadd hx hb dX2_ashes_50 ?_
      refine lv_seti (v := (nI (am + 1))) (nI_add _ _) ?_
      refine pf_q823 (ws1 := (wM g h R (upd J 16 (nI (am + 1))) hs (va_up G 9 (upd (G 9) am x)))) hX hZ 0 rfl (Nat.le_of_ble_eq_true rfl) rfl dX2_ashes_51 (fun H locs hZ => ?_)
      refine lv_aload_n hx hb dX2_ashes_54 rfl (lv_at hl 0 rfl) ?_
      refine gf_q823 (v := .int (nI (am + 1))) hX hZ.1 0 rfl rfl dX2_ashes_55 ?_
      exact MM.iret hX hr hlk hZ (by simp only [masJ, masG, if_pos c_1, if_neg c_2, ham, nI_1, ix_nI (show am < 2 ^ 31 by omega)]) (by simp only [masR, if_pos c_1, if_neg c_2, ham, nI_1]) dX2_ashes_58
    have c_2n : am = 5 := (nI_eq (a := am) (b := 5) (by omega) (by omega)).mp c_2
    refine lv_bipush (v := (-104)) hx hb dX2_ashes_31 (by decide) ?_
    exact MM.iret hX hr hlk hZ (by simp only [masJ, masG, if_pos c_1, if_pos c_2, ham, nI_1, ix_nI (show am < 2 ^ 31 by omega)]) (by simp only [masR, if_pos c_1, if_pos c_2, ham, nI_1]) dX2_ashes_33
  refine lv_bipush (v := (-102)) hx hb dX2_ashes_20 (by decide) ?_
  exact MM.iret hX hr hlk hZ (by simp only [masJ, masG, if_neg c_1, ham, nI_1, ix_nI (show am < 2 ^ 31 by omega)]) (by simp only [masR, if_neg c_1, ham, nI_1]) dX2_ashes_22
