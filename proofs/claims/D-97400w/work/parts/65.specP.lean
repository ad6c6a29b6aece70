/-! SPEC of the model: what would be, ashes -/
theorem rnS_ok {kd : Nat → Nat} {rm : Int32} {pt : Nat → Int32} {n : Nat} {s : Sx} {code : Nat} (hn : n ≤ 5) (hl : LvOk s.1 n) (hk : ∀ f, f < n → kd f < 5) : ∀ y, LvOk (rnS kd rm pt n s code y).1 n
  | 0 => hl
  | y + 1 => br_ok hn (rnS_ok hn hl hk y) (lft_mod code y) hk
theorem shF_0 {lots : Nat → Int32} (h : LotsOk lots) {c y : Nat} (hy : y ≤ 4) (q : shF lots c y ≤ 0) : shF lots c y = 0 := by
  obtain ⟨m, hm, e⟩ := shF_nat h c y hy
  have h3 := (p10_le hy).2.1
  rw [e] at q ⊢
  have := (nI_leI (a := m) (b := 0) (by omega) (by omega)).mp q
  have e0 : m = 0 := by omega
  rw [e0]
  rfl
theorem cpl_m1 (lv : Nat → Int32) (f : Nat) : cpl lv f (-1) = lv := by
  rw [cpl, if_pos rfl]
  exact upd_same lv f Int32.or_zero
theorem cpl_n (lv : Nat → Int32) (f : Nat) {t : Nat} (ht : t < 6) : cpl lv f (nI t) = upd lv f (lv f ||| (1 : Int32) <<< (nI t &&& 31)) := by
  rw [cpl, if_neg]
  intro q
  have h1 := nI_pos (n := t) (by omega)
  rw [q] at h1
  exact h1 (by decide)
theorem liF_m {kd : Nat → Nat} {J : Nat → Int32} {G : Nat → Nat → Int32} {pt : Nat → Int32} {n f y : Nat} : lvF kd (J 2) pt n (G 1) (G 3, G 4) f y (p6 y) = liF kd (vI J) (vF G pt) n f (-1) y := by
  show _ = lvF kd (J 2) pt n (G 1) (cpl (G 3) f (-1), G 4) f y (p6 y)
  rw [cpl_m1]
theorem liF_c {kd : Nat → Nat} {J : Nat → Int32} {G : Nat → Nat → Int32} {pt : Nat → Int32} {n f y t : Nat} (ht : t < 6) : lvF kd (J 2) pt n (G 1) (upd (G 3) f (G 3 f ||| (1 : Int32) <<< (nI t &&& 31)), G 4) f y (p6 y) = liF kd (vI J) (vF G pt) n f (nI t) y := by
  show _ = lvF kd (J 2) pt n (G 1) (cpl (G 3) f (nI t), G 4) f y (p6 y)
  rw [cpl_n (G 3) f ht]
theorem wh_fin : ∀ m, m < 64 → ∀ t, t < 6 → ¬ isInP (nI m) (nI t) → (nI m ||| (1 : Int32) <<< (nI t &&& 31)) &&& (((1 : Int32) <<< (nI t &&& 31)) ^^^ (-1)) = nI m := by
  have key : ∀ m : Fin 64, ∀ t : Fin 6, ¬ isInP (nI m.val) (nI t.val) → (nI m.val ||| (1 : Int32) <<< (nI t.val &&& 31)) &&& (((1 : Int32) <<< (nI t.val &&& 31)) ^^^ (-1)) = nI m.val := by decide +kernel
  exact fun m hm t ht => key ⟨m, hm⟩ ⟨t, ht⟩
theorem wh_back {lv : Nat → Int32} {n f t : Nat} (hl : LvOk lv n) (hf : f < n) (ht : t < 6) (h : ¬ isInP (lv f) (nI t)) : upd (upd lv f (lv f ||| (1 : Int32) <<< (nI t &&& 31))) f (upd lv f (lv f ||| (1 : Int32) <<< (nI t &&& 31)) f &&& (((1 : Int32) <<< (nI t &&& 31)) ^^^ (-1))) = lv := by
  obtain ⟨m, hm, e⟩ := hl f hf
  funext j
  by_cases q : j = f
  · subst q
    rw [pk_us, pk_us, e]
    rw [e] at h
    exact wh_fin m hm t ht h
  · rw [pk_un q, pk_un q]
theorem max_alt (a b : Int32) : (if a < b then b else a) = (if b ≤ a then a else b) := by
  by_cases h : a < b
  · rw [if_pos h, if_neg (Int32.not_le.mpr h)]
  · rw [if_neg h, if_pos (Int32.not_lt.mp h)]
def masJ (J : Nat → Int32) (n : Nat) (x : Int32) : Nat → Int32 := if inP x (-1) ((1 : Int32) <<< (nI n &&& 31) - 1) then (if J 16 = 5 then J else upd J 16 (J 16 + 1)) else J
def masG (J : Nat → Int32) (G : Nat → Nat → Int32) (n : Nat) (x : Int32) : Nat → Nat → Int32 := if inP x (-1) ((1 : Int32) <<< (nI n &&& 31) - 1) then (if J 16 = 5 then G else va_up G 9 (upd (G 9) (ix (J 16)) x)) else G
def masR (J : Nat → Int32) (n : Nat) (x : Int32) : Int32 := if inP x (-1) ((1 : Int32) <<< (nI n &&& 31) - 1) then (if J 16 = 5 then -104 else J 16 + 1) else -102
theorem whF_m {kd : Nat → Nat} {J : Nat → Int32} {G : Nat → Nat → Int32} {pt : Nat → Int32} {n f y k : Nat} : whF kd (vI J) (vF G pt) n f y (k + 1) = if mcP kd (G 3) (J 2) n f (nI k) then (if liF kd (vI J) (vF G pt) n f (nI k) y ≤ (whF kd (vI J) (vF G pt) n f y k).2 then (whF kd (vI J) (vF G pt) n f y k).1 else nI k, if (whF kd (vI J) (vF G pt) n f y k).2 < liF kd (vI J) (vF G pt) n f (nI k) y then liF kd (vI J) (vF G pt) n f (nI k) y else (whF kd (vI J) (vF G pt) n f y k).2) else whF kd (vI J) (vF G pt) n f y k := rfl
