/-! WHAT IS SURE: a paper alone, over all rows of letters -/
/-- the leaves of a paper of a kind after so many years of a row -/
def snF (k : Nat) (set : Int32) (code : Nat) : Nat → Int32
  | 0 => set
  | y + 1 => snF k set code y &&& (bbF k (snF k set code y) (nI (lft code y % 6)) ^^^ (-1))
def myB (lo : Nat → Int32) (code : Nat) : Nat → Bool
  | 0 => true
  | y + 1 => myB lo code y && decide (0 < lo (lft code y % 6))
def srB (k : Nat) (lo : Nat → Int32) (set : Int32) (y : Nat) : Nat → Bool
  | 0 => true
  | c + 1 => srB k lo set y c && !(myB lo c y && decide (snF k set c y = 0))
theorem srB_mono {k : Nat} {lo : Nat → Int32} {set : Int32} {y j : Nat} : ∀ i, j ≤ i → srB k lo set y i = true → srB k lo set y j = true
  | 0, h, q => by
    have : j = 0 := by omega
    subst this; exact q
  | i + 1, h, q => by
    by_cases e : j = i + 1
    · subst e; exact q
    · rw [srB, Bool.and_eq_true] at q
      exact srB_mono i (by omega) q.1
theorem sn_ok {k set : Nat} (hs : set < 64) (hk : k < 5) (code : Nat) : ∀ y, ∃ w, w < 64 ∧ snF k (nI set) code y = nI w
  | 0 => ⟨set, hs, rfl⟩
  | y + 1 => by
    obtain ⟨w, hw, e⟩ := sn_ok hs hk code y
    rw [snF, e]
    exact (bb_fin w hw _ (Nat.mod_lt _ (by decide)) k hk).2
theorem sn_fin : ∀ m, m < 64 → ∀ t, t < 6 → (isInP (nI m) (nI t) → nI m &&& ((1 : Int32) <<< (nI t &&& 31) ^^^ (-1)) &&& (-1) = nI m &&& (bbF 0 (nI m) (nI t) ^^^ (-1)) ∧ nI m &&& ((1 : Int32) <<< (nI t &&& 31) ^^^ (-1)) &&& ((1 : Int32) <<< (nI ((t + 1) % 6) &&& 31) ^^^ (-1)) = nI m &&& (bbF 4 (nI m) (nI t) ^^^ (-1))) ∧ (¬ isInP (nI m) (nI t) → nI m &&& (-1) &&& (-1) = nI m &&& (bbF 0 (nI m) (nI t) ^^^ (-1)) ∧ nI m &&& (-1) &&& (-1) = nI m &&& (bbF 4 (nI m) (nI t) ^^^ (-1))) := by
  have key : ∀ m : Fin 64, ∀ t : Fin 6, (isInP (nI m.val) (nI t.val) → nI m.val &&& ((1 : Int32) <<< (nI t.val &&& 31) ^^^ (-1)) &&& (-1) = nI m.val &&& (bbF 0 (nI m.val) (nI t.val) ^^^ (-1)) ∧ nI m.val &&& ((1 : Int32) <<< (nI t.val &&& 31) ^^^ (-1)) &&& ((1 : Int32) <<< (nI ((t.val + 1) % 6) &&& 31) ^^^ (-1)) = nI m.val &&& (bbF 4 (nI m.val) (nI t.val) ^^^ (-1))) ∧ (¬ isInP (nI m.val) (nI t.val) → nI m.val &&& (-1) &&& (-1) = nI m.val &&& (bbF 0 (nI m.val) (nI t.val) ^^^ (-1)) ∧ nI m.val &&& (-1) &&& (-1) = nI m.val &&& (bbF 4 (nI m.val) (nI t.val) ^^^ (-1))) := by decide +kernel
  exact fun m hm t ht => key ⟨m, hm⟩ ⟨t, ht⟩
theorem bb_n4 {k : Nat} (h : ¬ k = 4) (x t : Int32) : bbF 0 x t = bbF k x t := by rw [bbF, bbF, if_neg h]; rfl
/-- one year, told by the model -/
theorem sn_h4 {k set code y : Nat} (hs : set < 64) (hk : k < 5) (q : isInP (snF k (nI set) code y) (nI (lft code y % 6))) (h4 : k = 4) : snF k (nI set) code y &&& ((1 : Int32) <<< (nI (lft code y % 6) &&& 31) ^^^ (-1)) &&& ((1 : Int32) <<< (nI ((lft code y % 6 + 1) % 6) &&& 31) ^^^ (-1)) = snF k (nI set) code (y + 1) := by
  obtain ⟨w, hw, e⟩ := sn_ok hs hk code y
  rw [snF, e]; rw [e] at q
  subst h4
  exact ((sn_fin w hw _ (Nat.mod_lt _ (by decide))).1 q).2
theorem sn_h0 {k set code y : Nat} (hs : set < 64) (hk : k < 5) (q : isInP (snF k (nI set) code y) (nI (lft code y % 6))) (h4 : ¬ k = 4) : snF k (nI set) code y &&& ((1 : Int32) <<< (nI (lft code y % 6) &&& 31) ^^^ (-1)) &&& (-1) = snF k (nI set) code (y + 1) := by
  obtain ⟨w, hw, e⟩ := sn_ok hs hk code y
  rw [snF, e]; rw [e] at q
  rw [← bb_n4 h4]
  exact ((sn_fin w hw _ (Nat.mod_lt _ (by decide))).1 q).1
theorem sn_n {k set code y : Nat} (hs : set < 64) (hk : k < 5) (q : ¬ isInP (snF k (nI set) code y) (nI (lft code y % 6))) : snF k (nI set) code y &&& (-1) &&& (-1) = snF k (nI set) code (y + 1) := by
  obtain ⟨w, hw, e⟩ := sn_ok hs hk code y
  rw [snF, e]; rw [e] at q
  have z := (sn_fin w hw _ (Nat.mod_lt (lft code y) (show 0 < 6 by decide))).2 q
  by_cases h4 : k = 4
  · subst h4; exact z.2
  · rw [← bb_n4 h4]; exact z.1
/-- the first of the numbers from s that is so, of m -/
def suS (ok : Nat → Bool) : Nat → Nat → Option Nat
  | 0, _ => none
  | m + 1, s => if ok s = true then some s else suS ok m (s + 1)
def suM (ok : Nat → Nat → Bool) : Nat → Nat → Option (Nat × Nat)
  | 0, _ => none
  | m + 1, k => match suS (ok k) 63 1 with
    | some s => some (k, s)
    | none => suM ok m (k + 1)
def suK (k : Nat) (lo : Nat → Int32) (y : Nat) (many set : Nat) : Bool := decide (bcF (nI set) = nI many) && srB k lo (nI set) y (p6 y)
def nmN (k : Nat) : Nat := if k = 1 then 6 else if k = 3 ∨ k = 4 then 3 else 2
def suV (o : Option (Nat × Nat)) (what : Int32) : Int32 := match o with
  | none => -1
  | some r => if what = 0 then nI r.1 else nI r.2
/-- the least many of leaves that are sure, or their set -/
def suT (k : Nat) (lo : Nat → Int32) (y : Nat) (what : Int32) : Int32 := suV (suM (suK k lo y) (nmN k) 1) what
abbrev suP (k y w : Int32) : Prop := (k = 0 ∨ k = 3 ∨ k = 4) ∧ inP y 0 4 ∧ inP w 0 1
def sureR (I : Nat → Int32) (lo : Nat → Int32) (k y w : Int32) : Int32 := if suP k y w then (if I 1 = 0 ∨ I 11 = 30 then -103 else suT (ix k) lo (ix y) w) else -102
def sureI (I : Nat → Int32) (k y w : Int32) : Nat → Int32 := if suP k y w then (if I 1 = 0 ∨ I 11 = 30 then I else upd I 11 (I 11 + 1)) else I
theorem suS_step {ok : Nat → Bool} {m s : Nat} (h : ¬ ok s = true) : suS ok (m + 1) s = suS ok m (s + 1) := by rw [suS, if_neg h]
theorem suM_none {ok : Nat → Nat → Bool} {m k : Nat} (h : suS (ok k) 63 1 = none) : suM ok (m + 1) k = suM ok m (k + 1) := by rw [suM, h]
theorem suM_some {ok : Nat → Nat → Bool} {m k s : Nat} (h : suS (ok k) 63 1 = some s) : suM ok (m + 1) k = some (k, s) := by rw [suM, h]
