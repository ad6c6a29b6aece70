/-! SPEC of the component's own methods, over its ints I, its rows F, n files of kinds kd -/
abbrev isFileP (n : Nat) (x : Int32) : Prop := inP x 0 (nI n - 1)
theorem inP_nat {x : Int32} {b : Nat} (hb : b < 1000) (h : inP x 0 (nI b)) : ∃ j : Nat, j ≤ b ∧ x = nI j := by
  obtain ⟨h1, h2⟩ := h
  obtain ⟨j, hj, rfl⟩ := nI_of h1
  refine ⟨j, ?_, rfl⟩
  by_cases q : b < j
  · exact absurd (nI_lt q hj) h2
  · omega
theorem file_nat {n : Nat} {x : Int32} (hn : n ≤ 5) (h : isFileP n x) : ∃ f : Nat, f < n ∧ x = nI f := by
  rcases Nat.eq_zero_or_pos n with rfl | hp
  · obtain ⟨h1, h2⟩ := h
    exfalso
    apply h2
    have h3 : (nI 0 - 1 : Int32) = -1 := by decide
    rw [h3]
    have h4 : (0 : Int32) ≤ x := Int32.not_lt.mp h1
    have h5 : (-1 : Int32) < 0 := by decide
    exact Int32.lt_of_lt_of_le h5 h4
  · obtain ⟨k, rfl⟩ : ∃ k, n = k + 1 := ⟨n - 1, by omega⟩
    have h' : inP x 0 (nI k) := by
      have e : nI (k + 1) - 1 = nI k := nI_pred k
      unfold isFileP at h
      rw [e] at h
      exact h
    obtain ⟨j, hj, rfl⟩ := inP_nat (by omega) h'
    exact ⟨j, by omega, rfl⟩
def toldF (kd : Nat → Nat) (F : Nat → Nat → Int32) (f : Nat) (w : Int32) : Int32 :=
  if w = 0 then nI (kd f) else if w = 1 then F 1 f else if w = 2 then F 2 f else if w = 3 then F 3 f else if w = 4 then (if F 1 f = 0 then 0 else 1) else nmF (kd f)
def aboutF (kd : Nat → Nat) (F : Nat → Nat → Int32) (n : Nat) (x w : Int32) : Int32 :=
  if isFileP n x then (if inP w 0 5 then toldF kd F (ix x) w else -102) else -101
def asF (kd : Nat → Nat) (n : Nat) (x k : Int32) : Int32 :=
  if isFileP n x then (if inP k 0 4 then (if ofP (kd (ix x)) k then x else -1) else -102) else -101
def underF (F : Nat → Nat → Int32) (n : Nat) (x w : Int32) : Int32 :=
  if inP x 0 5 then (if inP w 0 1 then (if w = 0 then F 0 (ix x) else undF (F 1) x n) else -102) else -101
def nowF (F : Nat → Nat → Int32) : Nat → Int32
  | 0 => 0
  | k + 1 => nowF F k ||| (if F 1 k = 0 then 0 else if F 2 k = -1 then 0 else if F 1 (ix (F 2 k)) = 0 then (1 : Int32) <<< (nI k &&& 31) else 0)
theorem nowF_congr {F G : Nat → Nat → Int32} (h1 : F 1 = G 1) (h2 : F 2 = G 2) : ∀ n, nowF F n = nowF G n
  | 0 => rfl
  | n + 1 => by rw [nowF, nowF, nowF_congr h1 h2 n, h1, h2]
def countF (I : Nat → Int32) (F : Nat → Nat → Int32) (n : Nat) (w : Int32) : Int32 :=
  if w = 0 then I 3 else if w = 1 then nI n else if w = 2 then bcF (livF (F 1) n) else if w = 3 then allF (F 1) n else if w = 4 then I 5 else if w = 5 then I 13 else if w = 6 then I 10 else if w = 7 then I 2 else if w = 8 then I 11 else if w = 9 then I 12 else -102
/-- letter: answer, length of the page, the page -/
def ltrR (I : Nat → Int32) (x : Int32) : Int32 := if inP x 1 126 then (if I 10 = 10 then -104 else I 10 + 1) else -102
def ltrI (I : Nat → Int32) (x : Int32) : Nat → Int32 := if inP x 1 126 then (if I 10 = 10 then I else upd I 10 (I 10 + 1)) else I
def ltrF (I : Nat → Int32) (F : Nat → Nat → Int32) (x : Int32) : Nat → Nat → Int32 := if inP x 1 126 then (if I 10 = 10 then F else va_up F 10 (upd (F 10) (ix (I 10)) (vp_nar .byte x.toInt8.toInt32))) else F
def cpyR (kd : Nat → Nat) (I : Nat → Int32) (F : Nat → Nat → Int32) (n : Nat) (x t : Int32) : Int32 :=
  if isFileP n x then (if inP t 0 5 then (if mcP kd (F 1) (I 3) n (ix x) t then bcF (F 1 (ix x) ||| (1 : Int32) <<< (t &&& 31)) else -103) else -101) else -101
def cpyF (kd : Nat → Nat) (I : Nat → Int32) (F : Nat → Nat → Int32) (n : Nat) (x t : Int32) : Nat → Nat → Int32 :=
  if isFileP n x then (if inP t 0 5 then (if mcP kd (F 1) (I 3) n (ix x) t then va_up F 1 (upd (F 1) (ix x) (F 1 (ix x) ||| (1 : Int32) <<< (t &&& 31))) else F) else F) else F
def renR (I : Nat → Int32) (F : Nat → Nat → Int32) (n : Nat) (x a b : Int32) : Int32 :=
  if isFileP n x then (if inP a 0 5 then (if inP b 0 5 then (if a = b then -101 else if mrP (F 1) (I 3) n (ix x) a b then undF (rnF (F 1) (ix x) a b) b n else -103) else -101) else -101) else -101
def renF (I : Nat → Int32) (F : Nat → Nat → Int32) (n : Nat) (x a b : Int32) : Nat → Nat → Int32 :=
  if isFileP n x then (if inP a 0 5 then (if inP b 0 5 then (if a = b then F else if mrP (F 1) (I 3) n (ix x) a b then va_up F 1 (rnF (F 1) (ix x) a b) else F) else F) else F) else F
def poiR (F : Nat → Nat → Int32) (n : Nat) (x t : Int32) : Int32 :=
  if isFileP n x then (if t = -1 then (if t = x then -101 else if F 1 (ix x) = 0 then -103 else F 2 (ix x)) else if isFileP n t then (if t = x then -101 else if F 1 (ix x) = 0 then -103 else F 2 (ix x)) else -101) else -101
def poiF (F : Nat → Nat → Int32) (n : Nat) (x t : Int32) : Nat → Nat → Int32 :=
  if isFileP n x then (if t = -1 then (if t = x then F else if F 1 (ix x) = 0 then F else va_up F 2 (upd (F 2) (ix x) t)) else if isFileP n t then (if t = x then F else if F 1 (ix x) = 0 then F else va_up F 2 (upd (F 2) (ix x) t)) else F) else F
def burR (kd : Nat → Nat) (I : Nat → Int32) (F : Nat → Nat → Int32) (n : Nat) (t : Int32) : Int32 :=
  if inP t 0 5 then (if I 1 = 0 then -103 else brR kd (F 2) (F 1) (F 3) t n) else -101
def burI (I : Nat → Int32) (t : Int32) : Nat → Int32 := if inP t 0 5 then (if I 1 = 0 then I else upd I 5 (I 5 + 1)) else I
def burF (kd : Nat → Nat) (I : Nat → Int32) (F : Nat → Nat → Int32) (n : Nat) (t : Int32) : Nat → Nat → Int32 :=
  if inP t 0 5 then (if I 1 = 0 then F else va_up (va_up F 1 (brL kd (I 3) (F 2) (F 1) (F 3) t n)) 3 (brK kd (F 2) (F 1) (F 3) t n)) else F
def ashR (I : Nat → Int32) (n : Nat) (x : Int32) : Int32 :=
  if x = -1 then (if I 13 = 5 then -104 else I 13 + 1) else if inP x 0 ((1 : Int32) <<< (nI n &&& 31) - 1) then (if I 13 = 5 then -104 else I 13 + 1) else -102
def ashI (I : Nat → Int32) (n : Nat) (x : Int32) : Nat → Int32 :=
  if x = -1 then (if I 13 = 5 then I else upd I 13 (I 13 + 1)) else if inP x 0 ((1 : Int32) <<< (nI n &&& 31) - 1) then (if I 13 = 5 then I else upd I 13 (I 13 + 1)) else I
def ashF (I : Nat → Int32) (F : Nat → Nat → Int32) (n : Nat) (x : Int32) : Nat → Nat → Int32 :=
  if x = -1 then (if I 13 = 5 then F else va_up F 11 (upd (F 11) (ix (I 13)) x)) else if inP x 0 ((1 : Int32) <<< (nI n &&& 31) - 1) then (if I 13 = 5 then F else va_up F 11 (upd (F 11) (ix (I 13)) x)) else F
def psN (lo : Nat → Nat) : Nat → Nat
  | 0 => 0
  | k + 1 => psN lo k + lo k
def lbG (lo : Nat → Nat) (t : Nat) : Nat → Nat → Nat
  | 0, i => i
  | k + 1, i => if t < psN lo (i + 1) then i else lbG lo t k (i + 1)
def drF (x : Int64) : Int64 := 1103515245 * x + 12345 &&& 2147483647
def drR (x : Int64) (d : Int32) : Int32 := (drF x / 65536 - drF x / 65536 / d.toInt64 * d.toInt64).toInt32
def imgR (I : Nat → Int32) : Int32 := if I 1 = 0 then -103 else I 5
def imgI (I : Nat → Int32) (n : Nat) : Nat → Int32 := if I 1 = 0 then I else upd (upd (upd (upd I 17 (I 2)) 18 (nI n)) 19 (I 5)) 20 (I 13)
def imgF (I : Nat → Int32) (F : Nat → Nat → Int32) : Nat → Nat → Int32 := if I 1 = 0 then F else va_up (va_up (va_up (va_up F 7 (F 1)) 8 (F 2)) 9 (F 3)) 13 (F 11)
