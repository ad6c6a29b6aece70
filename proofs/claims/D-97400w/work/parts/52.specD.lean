/-! SPEC of the component: what would be, rows of letters, renamings, ashes, years, the digest -/
abbrev Sx : Type := (Nat → Int32) × (Nat → Int32)
def p6 : Nat → Nat
  | 0 => 1
  | k + 1 => p6 k * 6
def p10 : Nat → Nat
  | 0 => 1
  | k + 1 => p10 k * 10
theorem p6_le {y : Nat} (h : y ≤ 5) : powF 6 y = nI (p6 y) ∧ p6 y ≤ 7776 := by
  rcases (show y = 0 ∨ y = 1 ∨ y = 2 ∨ y = 3 ∨ y = 4 ∨ y = 5 by omega) with rfl | rfl | rfl | rfl | rfl | rfl <;> exact ⟨by decide, by decide⟩
theorem p10_le {y : Nat} (h : y ≤ 4) : powF 10 y = nI (p10 y) ∧ p10 y ≤ 10000 ∧ 0 < p10 y := by
  rcases (show y = 0 ∨ y = 1 ∨ y = 2 ∨ y = 3 ∨ y = 4 by omega) with rfl | rfl | rfl | rfl | rfl <;> exact ⟨by decide, by decide, by decide⟩
/-- a year, by its letter -/
def stp (kd : Nat → Nat) (rm : Int32) (pt : Nat → Int32) (n : Nat) (s : Sx) (t : Nat) : Sx := (brL kd rm pt s.1 s.2 (nI t) n, brK kd pt s.1 s.2 (nI t) n)
def lft (code : Nat) : Nat → Nat
  | 0 => code
  | y + 1 => lft code y / 6
theorem lft_le (code : Nat) : ∀ y, lft code y ≤ code
  | 0 => Nat.le_refl _
  | y + 1 => Nat.le_trans (Nat.div_le_self _ _) (lft_le code y)
def rnS (kd : Nat → Nat) (rm : Int32) (pt : Nat → Int32) (n : Nat) (s : Sx) (code : Nat) : Nat → Sx
  | 0 => s
  | y + 1 => stp kd rm pt n (rnS kd rm pt n s code y) (lft code y % 6)
def shF (lots : Nat → Int32) (code : Nat) : Nat → Int32
  | 0 => 1
  | y + 1 => shF lots code y * lots (lft code y % 6)
def cpl (lv : Nat → Int32) (f : Nat) (c : Int32) : Nat → Int32 := upd lv f (lv f ||| (if c = -1 then 0 else (1 : Int32) <<< (c &&& 31)))
def lvF (kd : Nat → Nat) (rm : Int32) (pt : Nat → Int32) (n : Nat) (lots : Nat → Int32) (s : Sx) (f y : Nat) : Nat → Int32
  | 0 => 0
  | k + 1 => lvF kd rm pt n lots s f y k + (if (rnS kd rm pt n s k y).1 f = 0 then 0 else shF lots k y)
/-- of all rows of y letters, the weight of those in which f lives; c: a letter copied to ahead -/
def liF (kd : Nat → Nat) (I : Nat → Int32) (F : Nat → Nat → Int32) (n f : Nat) (c : Int32) (y : Nat) : Int32 := lvF kd (I 3) (F 2) n (F 0) (cpl (F 1) f c, F 3) f y (p6 y)
abbrev LotsOk (f : Nat → Int32) : Prop := ∀ i, i < 6 → ∃ m, m ≤ 10 ∧ f i = nI m
theorem lft_mod (c y : Nat) : lft c y % 6 < 6 := Nat.mod_lt _ (by decide)
theorem shF_nat {lots : Nat → Int32} (h : LotsOk lots) (c : Nat) : ∀ y, y ≤ 4 → ∃ m, m ≤ p10 y ∧ shF lots c y = nI m
  | 0, _ => ⟨1, Nat.le_refl _, rfl⟩
  | y + 1, hy => by
    obtain ⟨m, hm, e⟩ := shF_nat h c y (by omega)
    obtain ⟨k, hk, e2⟩ := h _ (lft_mod c y)
    exact ⟨m * k, Nat.mul_le_mul hm hk, by rw [shF, e, e2, pk_mul]⟩
theorem lvF_nat {kd : Nat → Nat} {rm : Int32} {pt : Nat → Int32} {n : Nat} {lots : Nat → Int32} {s : Sx} {f y : Nat} (h : LotsOk lots) (hy : y ≤ 4) : ∀ k, ∃ m, m ≤ k * 10000 ∧ lvF kd rm pt n lots s f y k = nI m
  | 0 => ⟨0, Nat.zero_le _, rfl⟩
  | k + 1 => by
    obtain ⟨m, hm, e⟩ := lvF_nat (kd := kd) (rm := rm) (pt := pt) (n := n) (s := s) (f := f) h hy k
    obtain ⟨w, hw, e2⟩ := shF_nat h k y hy
    have h3 := (p10_le hy).2.1
    by_cases q : (rnS kd rm pt n s k y).1 f = 0
    · refine ⟨m, Nat.le_trans hm (Nat.mul_le_mul_right _ (Nat.le_succ k)), ?_⟩
      rw [lvF, if_pos q, e]
      exact Int32.add_zero _
    · refine ⟨m + w, ?_, ?_⟩
      · rw [Nat.succ_mul]
        exact Nat.add_le_add hm (Nat.le_trans hw h3)
      · rw [lvF, if_neg q, e, e2, nI_add]
theorem liF_nat {kd : Nat → Nat} {I : Nat → Int32} {F : Nat → Nat → Int32} {n f y : Nat} {c : Int32} (h : LotsOk (F 0)) (hy : y ≤ 4) : liF kd I F n f c y = nI (ix (liF kd I F n f c y)) ∧ ix (liF kd I F n f c y) < 2 ^ 31 := by
  obtain ⟨m, hm, e⟩ := lvF_nat (kd := kd) (rm := I 3) (pt := F 2) (n := n) (s := (cpl (F 1) f c, F 3)) (f := f) h hy (p6 y)
  have h6 := (p6_le (show y ≤ 5 by omega)).2
  have hm2 : m < 2 ^ 31 := by
    have : p6 y * 10000 ≤ 7776 * 10000 := Nat.mul_le_mul_right _ h6
    omega
  have e2 : liF kd I F n f c y = nI m := e
  rw [e2, ix_nI hm2]
  exact ⟨rfl, hm2⟩
def lwF (a b : Nat) (part : Int32) : Int32 := if part = 0 then nI (a / Nat.gcd a b) else nI (b / Nat.gcd a b)
def odF (kd : Nat → Nat) (I : Nat → Int32) (F : Nat → Nat → Int32) (n f y : Nat) (part : Int32) : Int32 := lwF (ix (liF kd I F n f (-1) y)) (p10 y) part
def oddR (kd : Nat → Nat) (I : Nat → Int32) (F : Nat → Nat → Int32) (n : Nat) (x y part : Int32) : Int32 :=
  if isFileP n x then (if inP y 0 4 then (if inP part 0 1 then odF kd I F n (ix x) (ix y) part else -102) else -102) else -101
def whF (kd : Nat → Nat) (I : Nat → Int32) (F : Nat → Nat → Int32) (n f y : Nat) : Nat → Int32 × Int32
  | 0 => (-1, liF kd I F n f (-1) y)
  | k + 1 => if mcP kd (F 1) (I 3) n f (nI k) then (if liF kd I F n f (nI k) y ≤ (whF kd I F n f y k).2 then (whF kd I F n f y k).1 else nI k, if (whF kd I F n f y k).2 < liF kd I F n f (nI k) y then liF kd I F n f (nI k) y else (whF kd I F n f y k).2) else whF kd I F n f y k
def wheR (kd : Nat → Nat) (I : Nat → Int32) (F : Nat → Nat → Int32) (n : Nat) (x y : Int32) : Int32 :=
  if isFileP n x then (if inP y 0 4 then (whF kd I F n (ix x) (ix y) 6).1 else -102) else -101
