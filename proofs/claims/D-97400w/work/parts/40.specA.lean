/-! SPEC of an archive, as the component computes it -/
def undF (lv : Nat → Int32) (p : Int32) : Nat → Int32
  | 0 => 0
  | k + 1 => undF lv p k + (lv k >>> (p &&& 31) &&& 1)
def livF (lv : Nat → Int32) : Nat → Int32
  | 0 => 0
  | k + 1 => livF lv k ||| (if lv k = 0 then 0 else (1 : Int32) <<< (nI k &&& 31))
def allF (lv : Nat → Int32) : Nat → Int32
  | 0 => 0
  | k + 1 => allF lv k + bcF (lv k)
abbrev mcP (kd : Nat → Nat) (lv : Nat → Int32) (rm : Int32) (n f : Nat) (t : Int32) : Prop := ¬ lv f = 0 ∧ ¬ isInP (lv f) t ∧ ¬ rm ≤ undF lv t n ∧ ¬ nmF (kd f) ≤ bcF (lv f)
abbrev mrP (lv : Nat → Int32) (rm : Int32) (n f : Nat) (a b : Int32) : Prop := isInP (lv f) a ∧ ¬ isInP (lv f) b ∧ ¬ rm ≤ undF lv b n
def rnF (lv : Nat → Int32) (f : Nat) (a b : Int32) : Nat → Int32 := upd lv f (lv f &&& (((1 : Int32) <<< (a &&& 31)) ^^^ (-1)) ||| (1 : Int32) <<< (b &&& 31))
def ptF (pt : Nat → Int32) (lived x : Int32) : Nat → Int32
  | 0 => 0
  | k + 1 => ptF pt lived x k ||| b01 (isInP lived (nI k) ∧ pt k = x)
theorem ptF01 (pt : Nat → Int32) (lived x : Int32) : ∀ n, ptF pt lived x n = 0 ∨ ptF pt lived x n = 1
  | 0 => Or.inl rfl
  | n + 1 => by
    rcases ptF01 pt lived x n with h | h <;> rcases b01_or (isInP lived (nI n) ∧ pt n = x) with q | q <;> simp only [ptF, h, q] <;> decide
def spF (kd : Nat → Nat) (lv : Nat → Int32) (rm : Int32) (n f : Nat) : Nat → Nat → Int32
  | 0 => lv
  | r + 1 => if mcP kd lv rm n f (nI (5 - r)) then upd lv f (lv f ||| (1 : Int32) <<< (nI (5 - r) &&& 31)) else spF kd lv rm n f r
def bnS (kd : Nat → Nat) (pt : Nat → Int32) (lived t : Int32) (n : Nat) (s : (Nat → Int32) × (Nat → Int32)) (f : Nat) : (Nat → Int32) × (Nat → Int32) :=
  if (s.1 f = (1 : Int32) <<< (t &&& 31) ∧ ¬ ptF pt lived (nI f) n = 0) ∧ ¬ kpF (kd f) ≤ s.2 f then (s.1, upd s.2 f (s.2 f + 1)) else (upd s.1 f (s.1 f &&& (bbF (kd f) (s.1 f) t ^^^ (-1))), s.2)
def bnF (kd : Nat → Nat) (pt lv kp : Nat → Int32) (lived t : Int32) (n : Nat) : Nat → (Nat → Int32) × (Nat → Int32)
  | 0 => (lv, kp)
  | k + 1 => bnS kd pt lived t n (bnF kd pt lv kp lived t n k) k
def spA (kd : Nat → Nat) (rm : Int32) (n : Nat) (lv : Nat → Int32) : Nat → Nat → Int32
  | 0 => lv
  | k + 1 => if kd k = 1 ∧ ¬ spA kd rm n lv k k = 0 then spF kd (spA kd rm n lv k) rm n k 6 else spA kd rm n lv k
def bnP (kd : Nat → Nat) (pt lv kp : Nat → Int32) (t : Int32) (n : Nat) : (Nat → Int32) × (Nat → Int32) := bnF kd pt lv kp (livF lv n) t n n
/-- leaves behind a year -/
def brL (kd : Nat → Nat) (rm : Int32) (pt lv kp : Nat → Int32) (t : Int32) (n : Nat) : Nat → Int32 := spA kd rm n (bnP kd pt lv kp t n).1 n
/-- how often each was kept, behind a year -/
def brK (kd : Nat → Nat) (pt lv kp : Nat → Int32) (t : Int32) (n : Nat) : Nat → Int32 := (bnP kd pt lv kp t n).2
/-- how many leaves a year burns -/
def brR (kd : Nat → Nat) (pt lv kp : Nat → Int32) (t : Int32) (n : Nat) : Int32 := allF lv n - allF (bnP kd pt lv kp t n).1 n
/-- the first k places of another row -/
def cpF (f f0 : Nat → Int32) : Nat → Nat → Int32
  | 0 => f0
  | k + 1 => upd (cpF f f0 k) k (f k)
theorem cpF_in (f f0 : Nat → Int32) : ∀ (n j : Nat), j < n → cpF f f0 n j = f j
  | 0, _, h => absurd h (Nat.not_lt_zero _)
  | n + 1, j, h => by
    by_cases e : j = n
    · subst e
      rw [cpF, pk_us]
    · rw [cpF, pk_un e]
      exact cpF_in f f0 n j (by omega)
/-- a row may be told by any function that agrees with it inside its length -/
theorem Zt.arr {g : Gx} {A : Nat → Prop} {H0 : Heap} {ro : Heap → Prop} {ws : va_W} {H : Heap} {locs : List Loc} (hZ : Zt g A H0 ro ws H locs) (q0 : Nat) {a n : Nat} {cA : ClassId} {f : Nat → Int32} (f' : Nat → Int32) (ha : ws[q0]? = some (a, .inl (cA, n, .inl f))) (hf : ∀ j, j < n → f j = f' j) : Zt g A H0 ro (ws.set q0 (a, .inl (cA, n, .inl f'))) H locs := by
  refine ⟨hZ.1.set hZ.2.1 ha ?_ (fun _ _ => rfl), hZ.2.1.set ha, hZ.2.2⟩
  have h1 : H[a]? = some (vp_cell cA (n, .inl f)) := hZ.1 q0 _ ha
  show H[a]? = some (vp_cell cA (n, .inl f'))
  rw [h1, vp_cell_i, vp_cell_i]
  refine congrArg some ?_
  have e : (fun j : Fin n => Value.int (f j.val)) = (fun j : Fin n => Value.int (f' j.val)) := funext fun j => by rw [hf j.val j.isLt]
  simp only [arrV, e]
