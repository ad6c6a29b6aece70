/-! SPEC of the model: its state seen as the component's -/
abbrev inL (v a b : Int64) : Prop := ¬ v < a ∧ ¬ b < v
theorem inL_c {x a b : Int32} {A B : Int64} (ha : A = a.toInt64) (hb : B = b.toInt64) : b01 (inL x.toInt64 A B) = b01 (inP x a b) := by
  subst ha; subst hb
  refine b01_congr ?_
  have key : ∀ p q : Int32, p.toInt64 < q.toInt64 ↔ p < q := by
    intro p q
    rw [Int64.lt_iff_toInt_lt, Int32.lt_iff_toInt_lt, Int32.toInt_toInt64, Int32.toInt_toInt64]
  simp only [inL, inP, key]
def onF (x : Int32) : Nat → Int32
  | 0 => 0
  | k + 1 => onF x k + (x >>> (nI k &&& 31) &&& 1)
theorem ones_fin : ∀ m, m < 64 → onF (nI m) 6 = bcF (nI m) := by
  have key : ∀ m : Fin 64, onF (nI m.val) 6 = bcF (nI m.val) := by decide +kernel
  exact fun m hm => key ⟨m, hm⟩
theorem ones_ok {lv : Nat → Int32} {n f : Nat} (h : LvOk lv n) (hf : f < n) : onF (lv f) 6 = bcF (lv f) := by
  obtain ⟨m, hm, e⟩ := h f hf
  rw [e]
  exact ones_fin m hm
abbrev vI (J : Nat → Int32) : Nat → Int32 := fun k => match k with
  | 1 => b01 (¬ J 2 = 0)
  | 2 => J 4
  | 3 => J 2
  | 5 => J 3
  | 10 => J 1
  | 11 => J 13
  | 12 => J 14
  | 13 => J 16
  | 17 => J 20
  | 18 => J 21
  | 19 => J 22
  | 20 => J 23
  | _ => 0
abbrev vF (G : Nat → Nat → Int32) (pt : Nat → Int32) : Nat → Nat → Int32 := fun k => match k with
  | 0 => G 1
  | 1 => G 3
  | 2 => pt
  | 3 => G 4
  | 7 => G 12
  | 9 => G 13
  | 10 => G 0
  | 11 => G 9
  | 12 => G 10
  | 13 => G 14
  | _ => fun _ => 0
theorem vF_0 (G : Nat → Nat → Int32) (pt : Nat → Int32) : vF G pt 0 = G 1 := rfl
theorem vF_1 (G : Nat → Nat → Int32) (pt : Nat → Int32) : vF G pt 1 = G 3 := rfl
theorem vF_2 (G : Nat → Nat → Int32) (pt : Nat → Int32) : vF G pt 2 = pt := rfl
theorem vF_3 (G : Nat → Nat → Int32) (pt : Nat → Int32) : vF G pt 3 = G 4 := rfl
theorem vF_10 (G : Nat → Nat → Int32) (pt : Nat → Int32) : vF G pt 10 = G 0 := rfl
theorem vF_11 (G : Nat → Nat → Int32) (pt : Nat → Int32) : vF G pt 11 = G 9 := rfl
theorem vI_3 (J : Nat → Int32) : vI J 3 = J 2 := rfl
theorem vI_5 (J : Nat → Int32) : vI J 5 = J 3 := rfl
theorem vI_10 (J : Nat → Int32) : vI J 10 = J 1 := rfl
theorem vI_11 (J : Nat → Int32) : vI J 11 = J 13 := rfl
theorem vI_12 (J : Nat → Int32) : vI J 12 = J 14 := rfl
theorem vI_13 (J : Nat → Int32) : vI J 13 = J 16 := rfl
theorem vI_2 (J : Nat → Int32) : vI J 2 = J 4 := rfl
theorem vI1 {J : Nat → Int32} : vI J 1 = 0 ↔ J 2 = 0 := by
  show b01 (¬ J 2 = 0) = 0 ↔ J 2 = 0
  rw [b01_eq0]
  exact Decidable.not_not
theorem and1_01 (x : Int32) : x &&& 1 = 0 ∨ x &&& 1 = 1 := by
  obtain ⟨h1, h2⟩ := and1_nat x
  rcases (show ix (x &&& 1) = 0 ∨ ix (x &&& 1) = 1 by omega) with h | h
  · exact Or.inl (by rw [h1, h]; rfl)
  · exact Or.inr (by rw [h1, h]; rfl)
theorem in0 {x k : Int32} (h : x >>> (k &&& 31) &&& 1 = 0) : ¬ isInP x k := fun q => by
  have : (0 : Int32) = 1 := h.symm.trans q
  exact absurd this (by decide)
theorem in1' {x k : Int32} (h : ¬ x >>> (k &&& 31) &&& 1 = 0) : isInP x k := (and1_01 _).resolve_left h
abbrev RowsOk (G : Nat → Nat → Int32) (n : Nat) (kd : Nat → Nat) (pt : Nat → Int32) : Prop := ∀ f, f < n → G 2 (2 * f) = nI (kd f) ∧ G 2 (2 * f + 1) = pt f ∧ kd f < 5
def tellF (kd : Nat → Nat) (F : Nat → Nat → Int32) (f : Nat) (w : Int32) : Int32 := if inP w 0 5 then toldF kd F f w else -102
theorem aboutF_tell (kd : Nat → Nat) (F : Nat → Nat → Int32) (n : Nat) (x w : Int32) : aboutF kd F n x w = if isFileP n x then tellF kd F (ix x) w else -101 := rfl
theorem in_05 {w : Int32} (h0 : ¬ w = 0) (h1 : ¬ w = 1) (h2 : ¬ w = 2) (h3 : ¬ w = 3) (h4 : ¬ w = 4) (h5 : ¬ w = 5) : ¬ inP w 0 5 := by
  intro h
  obtain ⟨j, hj, rfl⟩ := inP_nat (b := 5) (by omega) h
  rcases (show j = 0 ∨ j = 1 ∨ j = 2 ∨ j = 3 ∨ j = 4 ∨ j = 5 by omega) with rfl | rfl | rfl | rfl | rfl | rfl
  · exact h0 rfl
  · exact h1 rfl
  · exact h2 rfl
  · exact h3 rfl
  · exact h4 rfl
  · exact h5 rfl
theorem nmF_i (k : Nat) (hk : k < 5) : (if nI k = 1 then (6 : Int32) else if nI k ≤ 2 then 2 else 3) = nmF k := by
  rcases (show k = 0 ∨ k = 1 ∨ k = 2 ∨ k = 3 ∨ k = 4 by omega) with rfl | rfl | rfl | rfl | rfl <;> decide
theorem ofP_m {k : Nat} (hk : k < 5) {x : Int32} (h0 : ¬ x = 0) (h1 : ¬ x = nI k) (h2 : ¬ (x = 3 ∧ nI k = 4)) : ¬ ofP k x := by
  rintro (h | h | ⟨h, h'⟩)
  · exact h0 h
  · exact h1 h
  · exact h2 ⟨h, by rw [h']; rfl⟩
theorem ofP_4' {k : Nat} (hk : k < 5) {x : Int32} (h : x = 3) (h' : nI k = 4) : ofP k x := Or.inr (Or.inr ⟨h, (nI_eq (a := k) (b := 4) (by omega) (by omega)).mp h'⟩)
def mltG (J : Nat → Int32) (G : Nat → Nat → Int32) (x : Int32) : Nat → Nat → Int32 := if inP x 1 126 then (if J 1 = 10 then G else va_up G 0 (upd (G 0) (ix (J 1)) x)) else G
def mltJ (J : Nat → Int32) (x : Int32) : Nat → Int32 := if inP x 1 126 then (if J 1 = 10 then J else upd J 1 (J 1 + 1)) else J
def mltR (J : Nat → Int32) (x : Int32) : Int32 := if inP x 1 126 then (if J 1 = 10 then -104 else J 1 + 1) else -102
def mcpG (kd : Nat → Nat) (J : Nat → Int32) (G : Nat → Nat → Int32) (n : Nat) (x t : Int32) : Nat → Nat → Int32 :=
  if isFileP n x then (if inP t 0 5 then (if mcP kd (G 3) (J 2) n (ix x) t then va_up G 3 (upd (G 3) (ix x) (G 3 (ix x) ||| (1 : Int32) <<< (t &&& 31))) else G) else G) else G
def mrnG (J : Nat → Int32) (G : Nat → Nat → Int32) (n : Nat) (x a b : Int32) : Nat → Nat → Int32 :=
  if isFileP n x then (if inP a 0 5 then (if inP b 0 5 then (if a = b then G else if mrP (G 3) (J 2) n (ix x) a b then va_up G 3 (rnF (G 3) (ix x) a b) else G) else G) else G) else G
def mpoG (G : Nat → Nat → Int32) (n : Nat) (x t : Int32) : Nat → Nat → Int32 :=
  if isFileP n x then (if t = -1 then (if t = x then G else if G 3 (ix x) = 0 then G else va_up G 2 (upd (G 2) (2 * ix x + 1) t)) else if isFileP n t then (if t = x then G else if G 3 (ix x) = 0 then G else va_up G 2 (upd (G 2) (2 * ix x + 1) t)) else G) else G
def mfiR (J : Nat → Int32) (G : Nat → Nat → Int32) (n : Nat) (k t : Int32) : Int32 :=
  if inP k 0 4 then (if inP t 0 5 then (if J 2 = 0 then -103 else if undF (G 3) t n < J 2 then (if nI n = 5 then -104 else nI n) else -103) else -101) else -102
def mfiJ (J : Nat → Int32) (G : Nat → Nat → Int32) (n : Nat) (k t : Int32) : Nat → Int32 :=
  if inP k 0 4 then (if inP t 0 5 then (if J 2 = 0 then J else if undF (G 3) t n < J 2 then (if nI n = 5 then J else upd J 6 (nI (n + 1))) else J) else J) else J
def mfiG (J : Nat → Int32) (G : Nat → Nat → Int32) (n : Nat) (k t : Int32) : Nat → Nat → Int32 :=
  if inP k 0 4 then (if inP t 0 5 then (if J 2 = 0 then G else if undF (G 3) t n < J 2 then (if nI n = 5 then G else va_up (va_up (va_up G 2 (upd (upd (G 2) (2 * n) k) (2 * n + 1) (-1))) 3 (upd (G 3) n ((1 : Int32) <<< (t &&& 31)))) 4 (upd (G 4) n 0)) else G) else G) else G
theorem cpyR_post {G : Nat → Int32} {n f : Nat} (h : LvOk G n) (hf : f < n) {t : Nat} (ht : t ≤ 5) : onF (G f ||| (1 : Int32) <<< (nI t &&& 31)) 6 = bcF (G f ||| (1 : Int32) <<< (nI t &&& 31)) := by
  obtain ⟨m, hm, e⟩ := h f hf
  rw [e]
  have key : ∀ m : Fin 64, ∀ t : Fin 6, onF (nI m.val ||| (1 : Int32) <<< (nI t.val &&& 31)) 6 = bcF (nI m.val ||| (1 : Int32) <<< (nI t.val &&& 31)) := by decide +kernel
  exact key ⟨m, hm⟩ ⟨t, by omega⟩
