/-! SPEC of the model: a letter that burnt, filing, the page -/
def sbF (b : Int32) : Nat → Nat → Int32
  | 0, _ => -1
  | k + 1, i => if b = (1 : Int32) <<< (nI i &&& 31) then nI i else sbF b k (i + 1)
theorem sb_fin : ∀ m, m < 64 → sbF (nI m) 6 0 = (if bcF (nI m) = 1 then ntF (nI m) else -1) := by
  have key : ∀ m : Fin 64, sbF (nI m.val) 6 0 = (if bcF (nI m.val) = 1 then ntF (nI m.val) else -1) := by decide +kernel
  exact fun m hm => key ⟨m, hm⟩
abbrev RowOk (b : Nat → Int32) : Prop := ∀ j, ∃ m, m < 64 ∧ b j = nI m
theorem oneB_ok {b : Nat → Int32} {code : Nat} (h : RowOk b) : ∀ y, RowOk (oneB b code y)
  | 0 => h
  | y + 1 => by
    intro j
    by_cases e : j = y
    · subst e
      obtain ⟨m, hm, e1⟩ := oneB_ok h j j
      obtain ⟨w, hw, e2⟩ := or_fin m hm (lft code j % 6) (lft_mod code j)
      exact ⟨w, hw, by rw [oneB, pk_us, e1, e2]⟩
    · obtain ⟨m, hm, e1⟩ := oneB_ok h y j
      exact ⟨m, hm, by rw [oneB, pk_un e, e1]⟩
theorem ftB_ok {kd : Nat → Nat} {I : Nat → Int32} {F : Nat → Nat → Int32} {n am : Nat} : ∀ k, RowOk (ftB kd I F n am k)
  | 0 => fun _ => ⟨0, by omega, rfl⟩
  | k + 1 => by
    rw [ftB]
    by_cases q : soB kd (I 3) (F 2) n (F 0) (F 11) (F 1, F 3) k am = true
    · rw [if_pos q]
      exact oneB_ok (ftB_ok k) am
    · rw [if_neg q]
      exact ftB_ok k
theorem sb_bo {kd : Nat → Nat} {I : Nat → Int32} {F : Nat → Nat → Int32} {n am y : Nat} : sbF (ftB kd I F n am (p6 am) y) 6 0 = boF kd I F n am y := by
  obtain ⟨m, hm, e⟩ := ftB_ok (kd := kd) (I := I) (F := F) (n := n) (am := am) (p6 am) y
  rw [boF, e]
  exact sb_fin m hm
/-- whether a sign is good at its place: at, the sign, the sum of the lots ahead -/
def goodB (at_ : Nat) (c sum : Int32) : Bool :=
  if at_ < 6 then decide (inP (c - 48) 0 9) && (decide (¬ 10 < sum + (c - 48)) && (decide (at_ < 5) || decide (sum + (c - 48) = 10)))
  else if at_ = 6 then decide (c = 59) else decide (at_ = 7) && decide (inP (c - 48) 1 9)
def sumF (pg : Nat → Int32) : Nat → Int32
  | 0 => 0
  | k + 1 => sumF pg k + (if k < 6 then pg k - 48 else 0)
def fkF (pg : Nat → Int32) (pl : Nat) : Nat → Nat → Nat
  | 0, i => i
  | m + 1, i => if i < pl ∧ goodB i (pg i) (sumF pg i) = true then fkF pg pl m (i + 1) else i
/-- the place of the page's fault (its length, if there is none) -/
def fauF (pg : Nat → Int32) (pl : Nat) : Nat := fkF pg pl 11 0
theorem good_le {at_ : Nat} {c sum : Int32} (h : goodB at_ c sum = true) : at_ < 8 := by
  unfold goodB at h
  by_cases h6 : at_ < 6
  · omega
  · rw [if_neg h6] at h
    by_cases h7 : at_ = 6
    · omega
    · rw [if_neg h7, Bool.and_eq_true, decide_eq_true_iff] at h
      omega
def mlaR (pg : Nat → Int32) (pl : Nat) : Int32 := if pl = 8 ∧ 8 ≤ fauF pg pl then pg 7 - 48 else -103
def mlaJ (J : Nat → Int32) (pg : Nat → Int32) (pl : Nat) : Nat → Int32 := if pl = 8 ∧ 8 ≤ fauF pg pl then upd (upd (upd (upd (upd (upd J 2 (pg 7 - 48)) 6 0) 3 0) 16 0) 4 (J 4 + 1)) 1 0 else J
def mlaG (G : Nat → Nat → Int32) (pl : Nat) : Nat → Nat → Int32 := if pl = 8 ∧ 8 ≤ fauF (G 0) pl then va_up G 1 (fun k => G 0 k - 48) else G
def ltF (pg f0 : Nat → Int32) : Nat → Nat → Int32
  | 0 => f0
  | k + 1 => upd (ltF pg f0 k) k (pg k - 48)
theorem ltF_in (pg f0 : Nat → Int32) : ∀ (n j : Nat), j < n → ltF pg f0 n j = pg j - 48
  | 0, _, h => absurd h (Nat.not_lt_zero _)
  | n + 1, j, h => by
    by_cases e : j = n
    · subst e
      rw [ltF, pk_us]
    · rw [ltF, pk_un e]
      exact ltF_in pg f0 n j (by omega)
theorem fkF_le {pg : Nat → Int32} {pl : Nat} : ∀ m i, i ≤ pl → fkF pg pl m i ≤ pl
  | 0, i, h => h
  | m + 1, i, h => by
    rw [fkF]
    by_cases q : i < pl ∧ goodB i (pg i) (sumF pg i) = true
    · rw [if_pos q]
      exact fkF_le m (i + 1) (by omega)
    · rw [if_neg q]
      exact h
theorem fau_le (pg : Nat → Int32) (pl : Nat) : fauF pg pl ≤ pl := fkF_le 11 0 (Nat.zero_le _)
