/-! SPEC of the model: counts, years by a seed, an image, the digest -/
def cnF (lv : Nat → Int32) : Nat → Int32
  | 0 => 0
  | k + 1 => cnF lv k + (if lv k = 0 then 0 else 1)
def cnB (b : Nat → Bool) : Nat → Int32
  | 0 => 0
  | k + 1 => cnB b k + (if b k = true then 1 else 0)
theorem cnF_b (lv : Nat → Int32) : ∀ n, cnF lv n = cnB (fun g => decide (¬ lv g = 0)) n
  | 0 => rfl
  | n + 1 => by
    rw [cnF, cnB, cnF_b lv n]
    by_cases h : lv n = 0 <;> simp [h]
theorem cnB_bc (b : Nat → Bool) {n : Nat} (hn : n ≤ 5) : cnB b n = bcF (lvB b n) := by
  rcases (show n = 0 ∨ n = 1 ∨ n = 2 ∨ n = 3 ∨ n = 4 ∨ n = 5 by omega) with rfl | rfl | rfl | rfl | rfl | rfl
  · simp only [cnB, lvB]
    decide
  · simp only [cnB, lvB]
    generalize b 0 = b0
    revert b0
    decide +kernel
  · simp only [cnB, lvB]
    generalize b 0 = b0
    generalize b 1 = b1
    revert b0 b1
    decide +kernel
  · simp only [cnB, lvB]
    generalize b 0 = b0
    generalize b 1 = b1
    generalize b 2 = b2
    revert b0 b1 b2
    decide +kernel
  · simp only [cnB, lvB]
    generalize b 0 = b0
    generalize b 1 = b1
    generalize b 2 = b2
    generalize b 3 = b3
    revert b0 b1 b2 b3
    decide +kernel
  · simp only [cnB, lvB]
    generalize b 0 = b0
    generalize b 1 = b1
    generalize b 2 = b2
    generalize b 3 = b3
    generalize b 4 = b4
    revert b0 b1 b2 b3 b4
    decide +kernel
theorem cn_bc (lv : Nat → Int32) {n : Nat} (hn : n ≤ 5) : cnF lv n = bcF (livF lv n) := by
  rw [cnF_b, livF_b]
  exact cnB_bc _ hn
def oaF (lv : Nat → Int32) : Nat → Int32
  | 0 => 0
  | k + 1 => oaF lv k + onF (lv k) 6
theorem oa_all {lv : Nat → Int32} {N : Nat} (h : LvOk lv N) : ∀ n, n ≤ N → oaF lv n = allF lv n
  | 0, _ => rfl
  | n + 1, hn => by rw [oaF, allF, oa_all h n (by omega), ones_ok h (by omega)]
theorem drF_l (x : Int64) : ∃ m : Nat, m < 2 ^ 31 ∧ drF x = lN m := by
  refine ⟨(1103515245 * x + 12345).toBitVec.toNat % 2 ^ 31, Nat.mod_lt _ (by decide), ?_⟩
  unfold drF
  apply Int64.toBitVec_inj.mp
  apply BitVec.eq_of_toNat_eq
  have h1 : (2147483647 : Int64).toBitVec.toNat = 2 ^ 31 - 1 := by decide
  have h2 : ∀ a b : Int64, (a &&& b).toBitVec = a.toBitVec &&& b.toBitVec := fun a b => rfl
  rw [h2, BitVec.toNat_and, h1, Nat.and_two_pow_sub_one_eq_mod]
  have h4 : (1103515245 * x + 12345).toBitVec.toNat % 2 ^ 31 < 2 ^ 31 := Nat.mod_lt _ (by decide)
  generalize (1103515245 * x + 12345).toBitVec.toNat % 2 ^ 31 = k at h4
  show k = (Int64.ofNat k).toBitVec.toNat
  rw [Int64.toBitVec_ofNat', BitVec.toNat_ofNat]
  exact (Nat.mod_eq_of_lt (by omega)).symm
theorem dr_m (x : Int64) : (drF x).toInt32 / 65536 - (drF x).toInt32 / 65536 / 10 * 10 = drR x 10 := by
  obtain ⟨m, hm, e⟩ := drF_l x
  have h10 : (10 : Int32).toInt64 = lN 10 := by decide
  have h65 : (65536 : Int64) = lN 65536 := by decide
  have k65 : (65536 : Int32) = nI 65536 := by decide
  have k10 : (10 : Int32) = nI 10 := by decide
  unfold drR
  rw [h10, e, h65, pk_lDiv (by omega) (by omega) (by omega), pk_lRem (by omega) (by omega) (by omega), lN_i, lN_i, k65, pk_div (by omega) (by omega) (by omega), k10, pk_rem (by omega) (by omega) (by omega)]
theorem drI_rt (s : Int32) : ∀ k, (drI s.toInt64 k).toInt32.toInt64 = drI s.toInt64 k
  | 0 => by rw [drI, Int32.toInt32_toInt64]
  | k + 1 => by
    obtain ⟨m, hm, e⟩ := drF_l (drI s.toInt64 k)
    rw [drI, e, lN_i, nI_l hm]
theorem drI_0 (s : Int32) : (drI s.toInt64 0).toInt32 = s := by rw [drI, Int32.toInt32_toInt64]
theorem sub_ge {a b : Nat} (ha : a < 1000) (hb : b < 1000) : 0 ≤ nI a - nI b ↔ b ≤ a := by
  rw [Int32.le_iff_toInt_le, pk_sub_toInt (by omega) (by omega)]
  have q3 : (0 : Int32).toInt = 0 := by decide
  omega
theorem ysF_ok {kd : Nat → Nat} {rm : Int32} {pt : Nat → Int32} {n : Nat} {lo : Nat → Nat} {s : Sx} {s0 : Int64} (hn : n ≤ 5) (hl : LvOk s.1 n) (hk : ∀ f, f < n → kd f < 5) (hlb : ∀ t, t < 10 → lbG lo t 6 0 < 6) : ∀ y, LvOk (ysF kd rm pt n lo s s0 y).1 n
  | 0 => hl
  | y + 1 => br_ok hn (ysF_ok hn hl hk hlb y) (hlb _ (drR_nat _).2) hk
theorem lbG_lt {lo : Nat → Nat} (hs : psN lo 6 = 10) {t : Nat} (ht : t < 10) : lbG lo t 6 0 < 6 := by
  have h6 : t < psN lo (5 + 1) := by rw [show 5 + 1 = 6 by rfl, hs]; exact ht
  simp only [lbG]
  repeat' split
  all_goals first | omega | (exfalso; omega)
def myJ (J : Nat → Int32) (x seed w : Int32) : Nat → Int32 :=
  if inP x 1 60 then (if seed < 0 then J else if inP w 0 2 then (if J 2 = 0 then J else upd J 19 (drI seed.toInt64 (ix x)).toInt32) else J) else J
def mimJ (J : Nat → Int32) (n : Nat) : Nat → Int32 := if J 2 = 0 then J else upd (upd (upd (upd J 21 (nI n)) 22 (J 3)) 23 (J 16)) 20 (J 4)
def mimG (J : Nat → Int32) (G : Nat → Nat → Int32) : Nat → Nat → Int32 := if J 2 = 0 then G else va_up (va_up (va_up (va_up G 11 (G 2)) 12 (G 3)) 13 (G 4)) 14 (G 9)
def mreR (J : Nat → Int32) : Int32 := if J 20 = J 4 then J 22 else -103
def mreJ (J : Nat → Int32) : Nat → Int32 := if J 20 = J 4 then upd (upd (upd J 6 (J 21)) 3 (J 22)) 16 (J 23) else J
def mreG (J : Nat → Int32) (G : Nat → Nat → Int32) : Nat → Nat → Int32 := if J 20 = J 4 then va_up (va_up (va_up (va_up G 2 (G 11)) 3 (G 12)) 4 (G 13)) 9 (G 14) else G
theorem tell_told {kd : Nat → Nat} {F : Nat → Nat → Int32} {f i : Nat} (hi : i < 6) : tellF kd F f (nI i) = toldF kd F f (nI i) := by
  rw [tellF, if_pos]
  rcases (show i = 0 ∨ i = 1 ∨ i = 2 ∨ i = 3 ∨ i = 4 ∨ i = 5 by omega) with rfl | rfl | rfl | rfl | rfl | rfl <;> decide
