/-! THE PLAIN LAW of a year: the model's way and the component's are one -/
def ahF (lv : Nat → Int32) (n : Nat) : Nat → Int32 := fun f => if f < n then lv f else 0
def paB (a pt : Nat → Int32) (x : Int32) : Nat → Bool
  | 0 => false
  | k + 1 => paB a pt x k || (decide (¬ a k = 0) && decide (pt k = x))
def lvB (b : Nat → Bool) : Nat → Int32
  | 0 => 0
  | k + 1 => lvB b k ||| (if b k = true then (1 : Int32) <<< (nI k &&& 31) else 0)
theorem livF_b (lv : Nat → Int32) : ∀ n, livF lv n = lvB (fun g => decide (¬ lv g = 0)) n
  | 0 => rfl
  | n + 1 => by
    rw [livF, lvB, livF_b lv n]
    by_cases h : lv n = 0 <;> simp [h]
theorem lvB_in {b : Nat → Bool} {n g : Nat} (hn : n ≤ 5) (hg : g < n) : isInP (lvB b n) (nI g) ↔ b g = true := by
  rcases (show n = 1 ∨ n = 2 ∨ n = 3 ∨ n = 4 ∨ n = 5 by omega) with rfl | rfl | rfl | rfl | rfl
  · rcases (show g = 0 by omega) with rfl
    simp only [lvB]
    generalize b 0 = b0
    revert b0
    decide
  · rcases (show g = 0 ∨ g = 1 by omega) with rfl | rfl <;>
    · simp only [lvB]
      generalize b 0 = b0
      generalize b 1 = b1
      revert b0 b1
      decide
  · rcases (show g = 0 ∨ g = 1 ∨ g = 2 by omega) with rfl | rfl | rfl <;>
    · simp only [lvB]
      generalize b 0 = b0
      generalize b 1 = b1
      generalize b 2 = b2
      revert b0 b1 b2
      decide
  · rcases (show g = 0 ∨ g = 1 ∨ g = 2 ∨ g = 3 by omega) with rfl | rfl | rfl | rfl <;>
    · simp only [lvB]
      generalize b 0 = b0
      generalize b 1 = b1
      generalize b 2 = b2
      generalize b 3 = b3
      revert b0 b1 b2 b3
      decide
  · rcases (show g = 0 ∨ g = 1 ∨ g = 2 ∨ g = 3 ∨ g = 4 by omega) with rfl | rfl | rfl | rfl | rfl <;>
    · simp only [lvB]
      generalize b 0 = b0
      generalize b 1 = b1
      generalize b 2 = b2
      generalize b 3 = b3
      generalize b 4 = b4
      revert b0 b1 b2 b3 b4
      decide
theorem livF_in {lv : Nat → Int32} {n g : Nat} (hn : n ≤ 5) (hg : g < n) : isInP (livF lv n) (nI g) ↔ ¬ lv g = 0 := by
  rw [livF_b]
  exact (lvB_in hn hg).trans decide_eq_true_iff
theorem or01 {a b : Int32} (ha : a = 0 ∨ a = 1) (hb : b = 0 ∨ b = 1) : ¬ a ||| b = 0 ↔ (¬ a = 0 ∨ ¬ b = 0) := by
  rcases ha with rfl | rfl <;> rcases hb with rfl | rfl <;> decide
theorem ptF_pa {lv pt : Nat → Int32} {N : Nat} (hN : N ≤ 5) (x : Int32) : ∀ n, n ≤ N → (¬ ptF pt (livF lv N) x n = 0 ↔ paB (ahF lv N) pt x n = true)
  | 0, _ => by simp [ptF, paB]
  | n + 1, h => by
    have ih := ptF_pa (lv := lv) (pt := pt) hN x n (by omega)
    rw [ptF, paB, or01 (ptF01 _ _ _ n) (b01_or _), Bool.or_eq_true, ih, Bool.and_eq_true, decide_eq_true_iff, decide_eq_true_iff, b01_eq0, Decidable.not_not]
    have h1 := livF_in (lv := lv) (g := n) hN (by omega)
    have h2 : ahF lv N n = lv n := if_pos (by omega)
    rw [h1, h2]
/-- whether a file is kept, by the model's words -/
abbrev svP (kd : Nat → Nat) (pt a kp : Nat → Int32) (t : Int32) (n f : Nat) : Prop := (a f = (1 : Int32) <<< (t &&& 31) ∧ paB a pt (nI f) n = true) ∧ ¬ kpF (kd f) ≤ kp f
def nlF (kd : Nat → Nat) (pt lv kp : Nat → Int32) (t : Int32) (n f : Nat) : Int32 := if svP kd pt (ahF lv n) kp t n f then lv f else lv f &&& (bbF (kd f) (lv f) t ^^^ (-1))
def nkF (kd : Nat → Nat) (pt lv kp : Nat → Int32) (t : Int32) (n f : Nat) : Int32 := if svP kd pt (ahF lv n) kp t n f then kp f + 1 else kp f
theorem bn_pt {kd : Nat → Nat} {pt lv kp : Nat → Int32} {t : Int32} {n : Nat} (hn : n ≤ 5) : ∀ k, k ≤ n → bnF kd pt lv kp (livF lv n) t n k = (fun j => if j < k then nlF kd pt lv kp t n j else lv j, fun j => if j < k then nkF kd pt lv kp t n j else kp j)
  | 0, _ => by
    rw [bnF]
    simp
  | k + 1, h => by
    rw [bnF, bn_pt hn k (by omega)]
    have ha : ahF lv n k = lv k := if_pos (by omega)
    have hc : ((if k < k then nlF kd pt lv kp t n k else lv k) = (1 : Int32) <<< (t &&& 31) ∧ ¬ ptF pt (livF lv n) (nI k) n = 0) ∧ ¬ kpF (kd k) ≤ (if k < k then nkF kd pt lv kp t n k else kp k) ↔ svP kd pt (ahF lv n) kp t n k := by
      rw [if_neg (Nat.lt_irrefl k), if_neg (Nat.lt_irrefl k), ptF_pa hn (nI k) n (Nat.le_refl n), svP, ha]
    by_cases q : svP kd pt (ahF lv n) kp t n k
    · rw [bnS]
      rw [if_pos (hc.mpr q)]
      refine Prod.ext ?_ ?_
      · funext j
        show (if j < k then _ else _) = (if j < k + 1 then _ else _)
        by_cases e : j = k
        · subst e
          rw [if_neg (Nat.lt_irrefl j), if_pos (Nat.lt_succ_self j), nlF, if_pos q]
        · by_cases e2 : j < k
          · rw [if_pos e2, if_pos (by omega)]
          · rw [if_neg e2, if_neg (by omega)]
      · funext j
        show upd _ k _ j = (if j < k + 1 then _ else _)
        by_cases e : j = k
        · subst e
          rw [pk_us]
          dsimp only
          rw [if_neg (Nat.lt_irrefl j), if_pos (Nat.lt_succ_self j), nkF, if_pos q]
        · rw [pk_un e]
          dsimp only
          by_cases e2 : j < k
          · rw [if_pos e2, if_pos (by omega)]
          · rw [if_neg e2, if_neg (by omega)]
    · rw [bnS]
      rw [if_neg (fun z => q (hc.mp z))]
      refine Prod.ext ?_ ?_
      · funext j
        show upd _ k _ j = (if j < k + 1 then _ else _)
        by_cases e : j = k
        · subst e
          rw [pk_us]
          dsimp only
          rw [if_neg (Nat.lt_irrefl j), if_pos (Nat.lt_succ_self j), nlF, if_neg q]
        · rw [pk_un e]
          dsimp only
          by_cases e2 : j < k
          · rw [if_pos e2, if_pos (by omega)]
          · rw [if_neg e2, if_neg (by omega)]
      · funext j
        show (if j < k then _ else _) = (if j < k + 1 then _ else _)
        by_cases e : j = k
        · subst e
          rw [if_neg (Nat.lt_irrefl j), if_pos (Nat.lt_succ_self j), nkF, if_neg q]
        · by_cases e2 : j < k
          · rw [if_pos e2, if_pos (by omega)]
          · rw [if_neg e2, if_neg (by omega)]
/-- what burns of one, by the model -/
def bsF (kd : Nat → Nat) (pt lv kp : Nat → Int32) (t : Int32) (n f : Nat) : Int32 := if svP kd pt (ahF lv n) kp t n f then 0 else bbF (kd f) (lv f) t
def mnF (kd : Nat → Nat) (pt lv kp : Nat → Int32) (t : Int32) (n : Nat) : Nat → Int32
  | 0 => 0
  | k + 1 => mnF kd pt lv kp t n k + onF (bsF kd pt lv kp t n k) 6
theorem bb_fin : ∀ m, m < 64 → ∀ t, t < 6 → ∀ k, k < 5 → onF (bbF k (nI m) (nI t)) 6 = bcF (nI m) - bcF (nI m &&& (bbF k (nI m) (nI t) ^^^ (-1))) ∧ ∃ w, w < 64 ∧ nI m &&& (bbF k (nI m) (nI t) ^^^ (-1)) = nI w := by
  have key : ∀ m : Fin 64, ∀ t : Fin 6, ∀ k : Fin 5, onF (bbF k.val (nI m.val) (nI t.val)) 6 = bcF (nI m.val) - bcF (nI m.val &&& (bbF k.val (nI m.val) (nI t.val) ^^^ (-1))) ∧ (nI m.val &&& (bbF k.val (nI m.val) (nI t.val) ^^^ (-1)) = nI (ix (nI m.val &&& (bbF k.val (nI m.val) (nI t.val) ^^^ (-1)))) ∧ ix (nI m.val &&& (bbF k.val (nI m.val) (nI t.val) ^^^ (-1))) < 64) := by decide +kernel
  intro m hm t ht k hk
  obtain ⟨h1, h2, h3⟩ := key ⟨m, hm⟩ ⟨t, ht⟩ ⟨k, hk⟩
  exact ⟨h1, _, h3, h2⟩
theorem sub_add (a b c d : Int32) : a + c - (b + d) = (a - b) + (c - d) := by grind
theorem mn_all {kd : Nat → Nat} {pt lv kp : Nat → Int32} {t n : Nat} (hl : LvOk lv n) (ht : t < 6) (hk : ∀ f, f < n → kd f < 5) (w : Nat → Int32) (hw : ∀ j, j < n → w j = nlF kd pt lv kp (nI t) n j) : ∀ k, k ≤ n → mnF kd pt lv kp (nI t) n k = allF lv k - allF w k
  | 0, _ => by simp [mnF, allF]
  | k + 1, h => by
    rw [mnF, allF, allF, mn_all hl ht hk w hw k (by omega), sub_add, hw k (by omega)]
    refine congrArg _ ?_
    obtain ⟨m, hm, e⟩ := hl k (by omega)
    by_cases q : svP kd pt (ahF lv n) kp (nI t) n k
    · rw [bsF, if_pos q, nlF, if_pos q, e]
      have h0 : onF 0 6 = 0 := by decide
      rw [h0]
      exact (Int32.sub_self _).symm
    · rw [bsF, if_neg q, nlF, if_neg q, e]
      exact (bb_fin m hm t ht (kd k) (hk k (by omega))).1
theorem mn_brR {kd : Nat → Nat} {pt lv kp : Nat → Int32} {t n : Nat} (hn : n ≤ 5) (hl : LvOk lv n) (ht : t < 6) (hk : ∀ f, f < n → kd f < 5) : mnF kd pt lv kp (nI t) n n = brR kd pt lv kp (nI t) n := by
  rw [brR, bnP, bn_pt hn n (Nat.le_refl n)]
  refine mn_all hl ht hk _ (fun j hj => ?_) n (Nat.le_refl n)
  exact if_pos hj
theorem nl_ok {kd : Nat → Nat} {pt lv kp : Nat → Int32} {t n : Nat} (hl : LvOk lv n) (ht : t < 6) (hk : ∀ f, f < n → kd f < 5) {f : Nat} (hf : f < n) : ∃ m, m < 64 ∧ nlF kd pt lv kp (nI t) n f = nI m := by
  obtain ⟨m, hm, e⟩ := hl f hf
  by_cases q : svP kd pt (ahF lv n) kp (nI t) n f
  · exact ⟨m, hm, by rw [nlF, if_pos q, e]⟩
  · obtain ⟨w, hw, e2⟩ := (bb_fin m hm t ht (kd f) (hk f hf)).2
    exact ⟨w, hw, by rw [nlF, if_neg q, e, e2]⟩
theorem bn_ok {kd : Nat → Nat} {pt lv kp : Nat → Int32} {t n : Nat} (hn : n ≤ 5) (hl : LvOk lv n) (ht : t < 6) (hk : ∀ f, f < n → kd f < 5) {k : Nat} (h : k ≤ n) : LvOk (bnF kd pt lv kp (livF lv n) (nI t) n k).1 n := by
  intro f hf
  rw [bn_pt hn k h]
  by_cases q : f < k
  · obtain ⟨m, hm, e⟩ := nl_ok (pt := pt) (kp := kp) hl ht hk hf
    exact ⟨m, hm, by show (if f < k then _ else _) = _; rw [if_pos q, e]⟩
  · obtain ⟨m, hm, e⟩ := hl f hf
    exact ⟨m, hm, by show (if f < k then _ else _) = _; rw [if_neg q, e]⟩
theorem or_fin : ∀ m, m < 64 → ∀ t, t < 6 → ∃ w, w < 64 ∧ nI m ||| (1 : Int32) <<< (nI t &&& 31) = nI w := by
  have key : ∀ m : Fin 64, ∀ t : Fin 6, nI m.val ||| (1 : Int32) <<< (nI t.val &&& 31) = nI (ix (nI m.val ||| (1 : Int32) <<< (nI t.val &&& 31))) ∧ ix (nI m.val ||| (1 : Int32) <<< (nI t.val &&& 31)) < 64 := by decide +kernel
  intro m hm t ht
  obtain ⟨h1, h2⟩ := key ⟨m, hm⟩ ⟨t, ht⟩
  exact ⟨_, h2, h1⟩
theorem up_ok {lv : Nat → Int32} {n f t : Nat} (hl : LvOk lv n) (hf : f < n) (ht : t < 6) : LvOk (upd lv f (lv f ||| (1 : Int32) <<< (nI t &&& 31))) n := by
  intro k hk
  by_cases e : k = f
  · subst e
    obtain ⟨m, hm, e1⟩ := hl k hk
    obtain ⟨w, hw, e2⟩ := or_fin m hm t ht
    exact ⟨w, hw, by rw [pk_us, e1, e2]⟩
  · obtain ⟨m, hm, e1⟩ := hl k hk
    exact ⟨m, hm, by rw [pk_un e, e1]⟩
theorem sp_ok {kd : Nat → Nat} {lv : Nat → Int32} {rm : Int32} {n f : Nat} (hl : LvOk lv n) (hf : f < n) : ∀ r, r ≤ 6 → LvOk (spF kd lv rm n f r) n
  | 0, _ => hl
  | r + 1, h => by
    rw [spF]
    by_cases q : mcP kd lv rm n f (nI (5 - r))
    · rw [if_pos q]
      exact up_ok hl hf (by omega)
    · rw [if_neg q]
      exact sp_ok hl hf r (by omega)
theorem spA_ok {kd : Nat → Nat} {lv : Nat → Int32} {rm : Int32} {n : Nat} (hl : LvOk lv n) : ∀ k, k ≤ n → LvOk (spA kd rm n lv k) n
  | 0, _ => hl
  | k + 1, h => by
    rw [spA]
    by_cases q : kd k = 1 ∧ ¬ spA kd rm n lv k k = 0
    · rw [if_pos q]
      exact sp_ok (spA_ok hl k (by omega)) (by omega) 6 (by omega)
    · rw [if_neg q]
      exact spA_ok hl k (by omega)
theorem br_ok {kd : Nat → Nat} {rm : Int32} {pt lv kp : Nat → Int32} {t n : Nat} (hn : n ≤ 5) (hl : LvOk lv n) (ht : t < 6) (hk : ∀ f, f < n → kd f < 5) : LvOk (brL kd rm pt lv kp (nI t) n) n :=
  spA_ok (bn_ok hn hl ht hk (Nat.le_refl n)) n (Nat.le_refl n)
theorem bc_lt6 : ∀ m, m < 64 → ∀ t, t < 6 → ¬ isInP (nI m) (nI t) → ¬ (6 : Int32) ≤ bcF (nI m) := by
  have key : ∀ m : Fin 64, ∀ t : Fin 6, ¬ isInP (nI m.val) (nI t.val) → ¬ (6 : Int32) ≤ bcF (nI m.val) := by decide +kernel
  exact fun m hm t ht => key ⟨m, hm⟩ ⟨t, ht⟩
/-- a rumour's next letter, by the model's test -/
theorem mc_sp {kd : Nat → Nat} {lv : Nat → Int32} {rm : Int32} {n f t : Nat} (hl : LvOk lv n) (hf : f < n) (ht : t < 6) (hk : kd f = 1) (h0 : ¬ lv f = 0) : mcP kd lv rm n f (nI t) ↔ (¬ isInP (lv f) (nI t) ∧ ¬ rm ≤ undF lv (nI t) n) := by
  constructor
  · rintro ⟨-, h2, h3, -⟩
    exact ⟨h2, h3⟩
  · rintro ⟨h2, h3⟩
    refine ⟨h0, h2, h3, ?_⟩
    obtain ⟨m, hm, e⟩ := hl f hf
    rw [e] at h2
    rw [e, hk]
    exact bc_lt6 m hm t ht h2
theorem here_fin : ∀ m, m < 64 → ∀ t, t < 6 → (isInP (nI m) (nI t) → bb0 (nI m) (nI t) = (1 : Int32) <<< (nI t &&& 31)) ∧ (¬ isInP (nI m) (nI t) → bb0 (nI m) (nI t) = 0) ∧ (nI m = (1 : Int32) <<< (nI t &&& 31) → isInP (nI m) (nI t)) ∧ ¬ (1 : Int32) <<< (nI t &&& 31) = 0 := by
  have key : ∀ m : Fin 64, ∀ t : Fin 6, (isInP (nI m.val) (nI t.val) → bb0 (nI m.val) (nI t.val) = (1 : Int32) <<< (nI t.val &&& 31)) ∧ (¬ isInP (nI m.val) (nI t.val) → bb0 (nI m.val) (nI t.val) = 0) ∧ (nI m.val = (1 : Int32) <<< (nI t.val &&& 31) → isInP (nI m.val) (nI t.val)) ∧ ¬ (1 : Int32) <<< (nI t.val &&& 31) = 0 := by decide +kernel
  exact fun m hm t ht => key ⟨m, hm⟩ ⟨t, ht⟩
theorem bb_here {k m t : Nat} (hm : m < 64) (ht : t < 6) (h : isInP (nI m) (nI t)) : bbF k (nI m) (nI t) = (1 : Int32) <<< (nI t &&& 31) ||| (if k = 4 then nI m &&& ((1 : Int32) <<< (nI ((t + 1) % 6) &&& 31)) else 0) := by
  obtain ⟨h1, -, -, h4⟩ := here_fin m hm t ht
  have e1 := h1 h
  have e2 : nI t + 1 - (nI t + 1) / 6 * 6 = nI ((t + 1) % 6) := by
    have := pk_rem (a := t + 1) (d := 6) (by omega) (by omega) (by omega)
    rw [nI_1]
    exact this
  by_cases q : k = 4
  · rw [bbF, if_pos q, e1, if_neg h4, if_pos q, e2]
    rfl
  · rw [bbF, if_neg q, e1, if_neg q]
    exact (Int32.or_zero).symm
theorem bb_nhere {k m t : Nat} (hm : m < 64) (ht : t < 6) (h : ¬ isInP (nI m) (nI t)) : bbF k (nI m) (nI t) = 0 := by
  have e1 := (here_fin m hm t ht).2.1 h
  by_cases q : k = 4
  · rw [bbF, if_pos q, if_pos e1]
  · rw [bbF, if_neg q, e1]
theorem upd_same (f : Nat → Int32) (k : Nat) {x : Int32} (h : x = f k) : upd f k x = f := by
  funext j
  by_cases e : j = k
  · subst e
    rw [pk_us, h]
  · rw [pk_un e]
