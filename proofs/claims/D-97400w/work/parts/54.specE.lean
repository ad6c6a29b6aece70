/-! SPEC of the component: renamings, ashes, years, the digest -/
theorem and1_nat (x : Int32) : x &&& 1 = nI (ix (x &&& 1)) ∧ ix (x &&& 1) ≤ 1 := by
  obtain ⟨j, hj, e⟩ := pk_andE x (m := 1) 1 (by decide)
  rw [e, ix_nI (by omega)]
  exact ⟨rfl, by omega⟩
def bN (x : Int32) (t : Nat) : Nat := ix (x >>> (nI t &&& 31) &&& 1)
def undN (lv : Nat → Int32) (t : Nat) : Nat → Nat
  | 0 => 0
  | k + 1 => undN lv t k + bN (lv k) t
theorem undF_nat (lv : Nat → Int32) (t : Nat) : ∀ n, undF lv (nI t) n = nI (undN lv t n) ∧ undN lv t n ≤ n
  | 0 => ⟨rfl, Nat.le_refl _⟩
  | n + 1 => by
    obtain ⟨h1, h2⟩ := undF_nat lv t n
    obtain ⟨h3, h4⟩ := and1_nat (lv n >>> (nI t &&& 31))
    refine ⟨?_, Nat.add_le_add h2 h4⟩
    rw [undF, h1, h3, nI_add]
    rfl
def abN (lv : Nat → Int32) (n x : Nat) : Nat → Nat
  | 0 => 0
  | k + 1 => abN lv n x k + (undN lv k n - x)
theorem abN_le (lv : Nat → Int32) (n x : Nat) : ∀ k, abN lv n x k ≤ k * n
  | 0 => Nat.zero_le _
  | k + 1 => by
    have h1 := abN_le lv n x k
    have h2 := (undF_nat lv k n).2
    rw [abN, Nat.succ_mul]
    omega
theorem mx0 {a b : Nat} (ha : a < 1000) (hb : b < 1000) : (if 0 < nI a - nI b then nI a - nI b else 0) = nI (a - b) := by
  by_cases h : b < a
  · have e : nI a - nI b = nI (a - b) := pk_sub (by omega)
    rw [e, if_pos (show (0 : Int32) < nI (a - b) from nI_lt (a := 0) (by omega) (by omega))]
  · have e1 : ¬ (0 : Int32) < nI a - nI b := by
      intro q
      have q2 := Int32.lt_iff_toInt_lt.mp q
      rw [pk_sub_toInt (by omega) (by omega)] at q2
      have q3 : (0 : Int32).toInt = 0 := by decide
      omega
    rw [if_neg e1, show a - b = 0 by omega]
    rfl
def okK (rm : Int32) (n : Nat) (lv : Nat → Int32) (k : Nat) : Bool := decide (¬ k / 6 % 6 = k % 6) && decide (mrP lv rm n (k / 36) (nI (k / 6 % 6)) (nI (k % 6)))
def rnK (lv : Nat → Int32) (k : Nat) : Nat → Int32 := rnF lv (k / 36) (nI (k / 6 % 6)) (nI (k % 6))
def anyK (p : Nat → Bool) : Nat → Bool
  | 0 => false
  | k + 1 => anyK p k || p k
theorem anyK_of {p : Nat → Bool} {i : Nat} (h : p i = true) : ∀ n, i < n → anyK p n = true
  | 0, hn => absurd hn (Nat.not_lt_zero _)
  | n + 1, hn => by
    rw [anyK]
    by_cases e : i = n
    · subst e
      rw [h, Bool.or_true]
    · rw [anyK_of h n (by omega), Bool.true_or]
theorem anyK_iff {p : Nat → Bool} : ∀ n, anyK p n = true ↔ ∃ i, i < n ∧ p i = true
  | 0 => ⟨fun h => by simp [anyK] at h, fun ⟨i, h, _⟩ => absurd h (Nat.not_lt_zero _)⟩
  | n + 1 => by
    constructor
    · intro h
      rw [anyK, Bool.or_eq_true] at h
      rcases h with h | h
      · obtain ⟨i, h1, h2⟩ := (anyK_iff n).mp h
        exact ⟨i, by omega, h2⟩
      · exact ⟨n, by omega, h⟩
    · rintro ⟨i, h1, h2⟩
      exact anyK_of h2 _ h1
/-- whether so many renamings are enough -/
def enB (rm : Int32) (n x : Nat) : Nat → (Nat → Int32) → Bool
  | 0, lv => decide (abN lv n x 6 = 0)
  | m + 1, lv => decide (abN lv n x 6 = 0) || (!decide (m + 1 < abN lv n x 6) && anyK (fun k => okK rm n lv k && enB rm n x m (rnK lv k)) (n * 6 * 6))
theorem enB_z {rm : Int32} {n x : Nat} {lv : Nat → Int32} (h : abN lv n x 6 = 0) : ∀ mv, enB rm n x mv lv = true
  | 0 => by rw [enB]; exact decide_eq_true h
  | m + 1 => by rw [enB, decide_eq_true h, Bool.true_or]
theorem enB_big {rm : Int32} {n x : Nat} {lv : Nat → Int32} (h0 : ¬ abN lv n x 6 = 0) : ∀ mv, mv < abN lv n x 6 → ¬ enB rm n x mv lv = true
  | 0, _ => by rw [enB]; simp [h0]
  | m + 1, h => by rw [enB]; simp [h0, h]
theorem enB_yes {rm : Int32} {n x m i : Nat} {lv : Nat → Int32} (h : abN lv n x 6 ≤ m + 1) (hi : i < n * 6 * 6) (h1 : okK rm n lv i = true) (h2 : enB rm n x m (rnK lv i) = true) : enB rm n x (m + 1) lv = true := by
  rw [enB, anyK_of (i := i) (by simp [h1, h2]) _ hi]
  simp [show ¬ m + 1 < abN lv n x 6 by omega]
theorem enB_no {rm : Int32} {n x m : Nat} {lv : Nat → Int32} (h0 : ¬ abN lv n x 6 = 0) (h : anyK (fun k => okK rm n lv k && enB rm n x m (rnK lv k)) (n * 6 * 6) = false) : ¬ enB rm n x (m + 1) lv = true := by
  rw [enB, h]
  simp [h0]
theorem any_1 {rm : Int32} {n x m i : Nat} {lv : Nat → Int32} (hno : anyK (fun k => okK rm n lv k && enB rm n x m (rnK lv k)) i = false) (h : i / 6 % 6 = i % 6) : anyK (fun k => okK rm n lv k && enB rm n x m (rnK lv k)) (i + 1) = false := by
  rw [anyK, hno, Bool.false_or]
  have : okK rm n lv i = false := by rw [okK, decide_eq_false (fun q => q h), Bool.false_and]
  rw [this, Bool.false_and]
theorem any_2 {rm : Int32} {n x m i : Nat} {lv : Nat → Int32} (hno : anyK (fun k => okK rm n lv k && enB rm n x m (rnK lv k)) i = false) (h : ¬ mrP lv rm n (i / 36) (nI (i / 6 % 6)) (nI (i % 6))) : anyK (fun k => okK rm n lv k && enB rm n x m (rnK lv k)) (i + 1) = false := by
  rw [anyK, hno, Bool.false_or]
  have : okK rm n lv i = false := by rw [okK, decide_eq_false h, Bool.and_false]
  rw [this, Bool.false_and]
theorem any_3 {rm : Int32} {n x m i : Nat} {lv : Nat → Int32} (hno : anyK (fun k => okK rm n lv k && enB rm n x m (rnK lv k)) i = false) (h : ¬ enB rm n x m (rnK lv i) = true) : anyK (fun k => okK rm n lv k && enB rm n x m (rnK lv k)) (i + 1) = false := by
  rw [anyK, hno, Bool.false_or, Bool.eq_false_iff.mpr h, Bool.and_false]
theorem okK_t {rm : Int32} {n i : Nat} {lv : Nat → Int32} (h1 : ¬ i / 6 % 6 = i % 6) (h2 : mrP lv rm n (i / 36) (nI (i / 6 % 6)) (nI (i % 6))) : okK rm n lv i = true := by
  rw [okK, decide_eq_true h1, decide_eq_true h2]
  rfl
abbrev LvOk (lv : Nat → Int32) (n : Nat) : Prop := ∀ f, f < n → ∃ m, m < 64 ∧ lv f = nI m
theorem rn_fin : ∀ m, m < 64 → ∀ a, a < 6 → ∀ b, b < 6 → (∃ k : Nat, k < 64 ∧ nI m &&& (((1 : Int32) <<< (nI a &&& 31)) ^^^ (-1)) ||| (1 : Int32) <<< (nI b &&& 31) = nI k) := by
  have key : ∀ m : Fin 64, ∀ a : Fin 6, ∀ b : Fin 6, nI m.val &&& (((1 : Int32) <<< (nI a.val &&& 31)) ^^^ (-1)) ||| (1 : Int32) <<< (nI b.val &&& 31) = nI (ix (nI m.val &&& (((1 : Int32) <<< (nI a.val &&& 31)) ^^^ (-1)) ||| (1 : Int32) <<< (nI b.val &&& 31))) ∧ ix (nI m.val &&& (((1 : Int32) <<< (nI a.val &&& 31)) ^^^ (-1)) ||| (1 : Int32) <<< (nI b.val &&& 31)) < 64 := by decide +kernel
  intro m hm a ha b hb
  have := key ⟨m, hm⟩ ⟨a, ha⟩ ⟨b, hb⟩
  exact ⟨_, this.2, this.1⟩
theorem rn_ok {lv : Nat → Int32} {n f a b : Nat} (h : LvOk lv n) (ha : a < 6) (hb : b < 6) : LvOk (rnF lv f (nI a) (nI b)) n := by
  intro k hk
  obtain ⟨m, hm, e⟩ := h k hk
  by_cases q : k = f
  · subst q
    obtain ⟨w, hw, e2⟩ := rn_fin m hm a ha b hb
    exact ⟨w, hw, by rw [rnF, pk_us, e]; exact e2⟩
  · exact ⟨m, hm, by rw [rnF, pk_un q]; exact e⟩
theorem rn_bk : ∀ m, m < 64 → ∀ a, a < 6 → ∀ b, b < 6 → isInP (nI m) (nI a) → ¬ isInP (nI m) (nI b) → (nI m &&& (((1 : Int32) <<< (nI a &&& 31)) ^^^ (-1)) ||| (1 : Int32) <<< (nI b &&& 31)) &&& (((1 : Int32) <<< (nI b &&& 31)) ^^^ (-1)) ||| (1 : Int32) <<< (nI a &&& 31) = nI m := by
  have key : ∀ m : Fin 64, ∀ a : Fin 6, ∀ b : Fin 6, isInP (nI m.val) (nI a.val) → ¬ isInP (nI m.val) (nI b.val) → (nI m.val &&& (((1 : Int32) <<< (nI a.val &&& 31)) ^^^ (-1)) ||| (1 : Int32) <<< (nI b.val &&& 31)) &&& (((1 : Int32) <<< (nI b.val &&& 31)) ^^^ (-1)) ||| (1 : Int32) <<< (nI a.val &&& 31) = nI m.val := by decide +kernel
  intro m hm a ha b hb
  exact key ⟨m, hm⟩ ⟨a, ha⟩ ⟨b, hb⟩
theorem rn_back {lv : Nat → Int32} {n f a b : Nat} (h : LvOk lv n) (hf : f < n) (ha : a < 6) (hb : b < 6) (h1 : isInP (lv f) (nI a)) (h2 : ¬ isInP (lv f) (nI b)) : rnF (rnF lv f (nI a) (nI b)) f (nI b) (nI a) = lv := by
  obtain ⟨m, hm, e⟩ := h f hf
  rw [e] at h1 h2
  funext k
  by_cases q : k = f
  · subst q
    rw [rnF, pk_us, rnF, pk_us, e]
    exact rn_bk m hm a ha b hb h1 h2
  · rw [rnF, pk_un q, rnF, pk_un q]
def mvG (rm : Int32) (n x : Nat) (lv : Nat → Int32) : Nat → Nat → Int32
  | 0, _ => -1
  | k + 1, i => if enB rm n x i lv = true then nI i else mvG rm n x lv k (i + 1)
def mvF (rm : Int32) (n x : Nat) (lv : Nat → Int32) : Int32 := if allF lv n ≤ 6 * nI x then mvG rm n x lv 4 0 else -1
def movR (I : Nat → Int32) (F : Nat → Nat → Int32) (n : Nat) (x : Int32) : Int32 :=
  if inP x 1 9 then (if I 1 = 0 then -103 else if I 12 = 10 then -103 else mvF (I 3) n (ix x) (F 1)) else -102
def movI (I : Nat → Int32) (x : Int32) : Nat → Int32 :=
  if inP x 1 9 then (if I 1 = 0 then I else if I 12 = 10 then I else upd I 12 (I 12 + 1)) else I
theorem inP_nat1 {x : Int32} {b : Nat} (hb : b < 1000) (h : inP x 1 (nI b)) : ∃ j : Nat, (1 ≤ j ∧ j ≤ b) ∧ x = nI j := by
  obtain ⟨h1, h2⟩ := h
  have h0 : ¬ x < 0 := fun q => h1 (Int32.lt_of_lt_of_le q (by decide))
  obtain ⟨j, hj, rfl⟩ := inP_nat hb ⟨h0, h2⟩
  refine ⟨j, ⟨?_, hj⟩, rfl⟩
  rcases Nat.eq_zero_or_pos j with rfl | q
  · exact absurd (by decide) h1
  · exact q
/-- whether a row of letters is so as the ashes tell -/
def soB (kd : Nat → Nat) (rm : Int32) (pt : Nat → Int32) (n : Nat) (lots ash : Nat → Int32) (s : Sx) (code : Nat) : Nat → Bool
  | 0 => true
  | k + 1 => soB kd rm pt n lots ash s code k && (decide (¬ lots (lft code k % 6) ≤ 0) && (decide (ash k = -1) || decide (ash k = livF (rnS kd rm pt n s code (k + 1)).1 n)))
theorem soB_mono {kd : Nat → Nat} {rm : Int32} {pt : Nat → Int32} {n : Nat} {lots ash : Nat → Int32} {s : Sx} {code : Nat} {j : Nat} : ∀ k, j ≤ k → soB kd rm pt n lots ash s code k = true → soB kd rm pt n lots ash s code j = true
  | 0, h, q => by
    have : j = 0 := by omega
    subst this
    rfl
  | k + 1, h, q => by
    by_cases e : j = k + 1
    · subst e
      exact q
    · rw [soB, Bool.and_eq_true] at q
      exact soB_mono k (by omega) q.1
def zrF (f : Nat → Int32) : Nat → Nat → Int32
  | 0 => f
  | k + 1 => upd (zrF f k) k 0
theorem zrF_in (f : Nat → Int32) : ∀ (n j : Nat), j < n → zrF f n j = 0
  | 0, _, h => absurd h (Nat.not_lt_zero _)
  | n + 1, j, h => by
    by_cases e : j = n
    · subst e
      rw [zrF, pk_us]
    · rw [zrF, pk_un e]
      exact zrF_in f n j (by omega)
def oneB (b : Nat → Int32) (code : Nat) : Nat → Nat → Int32
  | 0 => b
  | y + 1 => upd (oneB b code y) y (oneB b code y y ||| (1 : Int32) <<< (nI (lft code y % 6) &&& 31))
def ftC (kd : Nat → Nat) (I : Nat → Int32) (F : Nat → Nat → Int32) (n am : Nat) : Nat → Int32
  | 0 => 0
  | k + 1 => if soB kd (I 3) (F 2) n (F 0) (F 11) (F 1, F 3) k am = true then ftC kd I F n am k + 1 else ftC kd I F n am k
def ftB (kd : Nat → Nat) (I : Nat → Int32) (F : Nat → Nat → Int32) (n am : Nat) : Nat → Nat → Int32
  | 0 => fun _ => 0
  | k + 1 => if soB kd (I 3) (F 2) n (F 0) (F 11) (F 1, F 3) k am = true then oneB (ftB kd I F n am k) k am else ftB kd I F n am k
theorem ftC_congr {kd : Nat → Nat} {I : Nat → Int32} {F G : Nat → Nat → Int32} {n am : Nat} (h0 : F 0 = G 0) (h1 : F 1 = G 1) (h2 : F 2 = G 2) (h3 : F 3 = G 3) (h4 : F 11 = G 11) : ∀ k, ftC kd I F n am k = ftC kd I G n am k
  | 0 => rfl
  | k + 1 => by rw [ftC, ftC, ftC_congr h0 h1 h2 h3 h4 k, h0, h1, h2, h3, h4]
def fitR (kd : Nat → Nat) (I : Nat → Int32) (F : Nat → Nat → Int32) (n am : Nat) : Int32 := if I 1 = 0 then -103 else ftC kd I F n am (p6 am)
def nt0 (x : Int32) : Int32 := (x ^^^ (-1)) &&& (x - 1)
def nt4 (i n : Int32) : Int32 := n + ush i 1
def nt3 (i n : Int32) : Int32 := if i ≤ 4 then nt4 i n else nt4 (ush i 2) (n + 2)
def nt2 (i n : Int32) : Int32 := if i ≤ 16 then nt3 i n else nt3 (ush i 4) (n + 4)
def nt1 (i n : Int32) : Int32 := if i ≤ 256 then nt2 i n else nt2 (ush i 8) (n + 8)
/-- Integer.numberOfTrailingZeros -/
def ntF (x : Int32) : Int32 := if 0 < nt0 x then (if nt0 x ≤ 65536 then nt1 (nt0 x) 1 else nt1 (ush (nt0 x) 16) (1 + 16)) else nt0 x &&& 32
def boF (kd : Nat → Nat) (I : Nat → Int32) (F : Nat → Nat → Int32) (n am y : Nat) : Int32 :=
  if bcF (ftB kd I F n am (p6 am) y) = 1 then ntF (ftB kd I F n am (p6 am) y) else -1
def bntR (kd : Nat → Nat) (I : Nat → Int32) (F : Nat → Nat → Int32) (n am : Nat) (x : Int32) : Int32 :=
  if inP x 0 (nI am - 1) then (if I 1 = 0 then -103 else boF kd I F n am (ix x)) else -101
def drI (s0 : Int64) : Nat → Int64
  | 0 => s0
  | k + 1 => drF (drI s0 k)
def ysF (kd : Nat → Nat) (rm : Int32) (pt : Nat → Int32) (n : Nat) (lo : Nat → Nat) (s : Sx) (s0 : Int64) : Nat → Sx
  | 0 => s
  | k + 1 => stp kd rm pt n (ysF kd rm pt n lo s s0 k) (lbG lo (ix (drR (drI s0 k) 10)) 6 0)
def ytR (kd : Nat → Nat) (I : Nat → Int32) (F : Nat → Nat → Int32) (n : Nat) (lo : Nat → Nat) (y : Nat) (seed w : Int32) : Int32 :=
  if w = 0 then livF (ysF kd (I 3) (F 2) n lo (F 1, F 3) seed.toInt64 y).1 n else if w = 1 then allF (ysF kd (I 3) (F 2) n lo (F 1, F 3) seed.toInt64 y).1 n else (drI seed.toInt64 y).toInt32
def yrsR (kd : Nat → Nat) (I : Nat → Int32) (F : Nat → Nat → Int32) (n : Nat) (lo : Nat → Nat) (x seed w : Int32) : Int32 :=
  if inP x 1 60 then (if seed < 0 then -102 else if inP w 0 2 then (if I 1 = 0 then -103 else ytR kd I F n lo (ix x) seed w) else -102) else -102
def yrsD (I : Nat → Int32) (dr : Int64) (x seed w : Int32) : Int64 :=
  if inP x 1 60 then (if seed < 0 then dr else if inP w 0 2 then (if I 1 = 0 then dr else drI seed.toInt64 (ix x)) else dr) else dr
def mfF (kd : Nat → Nat) (F : Nat → Nat → Int32) (f : Nat) (h : Int64) : Nat → Int64
  | 0 => h
  | k + 1 => 31 * mfF kd F f h k + (toldF kd F f (nI k)).toInt64
def mxF (kd : Nat → Nat) (I : Nat → Int32) (F : Nat → Nat → Int32) (n f : Nat) (h : Int64) : Int64 :=
  31 * (31 * (31 * mfF kd F f h 6 + (odF kd I F n f 2 0).toInt64) + (odF kd I F n f 2 1).toInt64) + (whF kd I F n f 2 6).1.toInt64
def dg1 (F : Nat → Nat → Int32) (n : Nat) : Nat → Int64
  | 0 => 769
  | k + 1 => 31 * (31 * dg1 F n k + (F 0 k).toInt64) + (undF (F 1) (nI k) n).toInt64
def dg2 (kd : Nat → Nat) (I : Nat → Int32) (F : Nat → Nat → Int32) (n : Nat) (h : Int64) : Nat → Int64
  | 0 => h
  | k + 1 => mxF kd I F n k (dg2 kd I F n h k)
def dg3 (F : Nat → Nat → Int32) (h : Int64) : Nat → Int64
  | 0 => h
  | k + 1 => 31 * dg3 F h k + (F 10 k).toInt64
def dg4 (I : Nat → Int32) (F : Nat → Nat → Int32) (n : Nat) (h : Int64) : Nat → Int64
  | 0 => h
  | k + 1 => 31 * dg4 I F n h k + (countF I F n (nI k)).toInt64
def dgA (kd : Nat → Nat) (I : Nat → Int32) (F : Nat → Nat → Int32) (n : Nat) : Int64 := 31 * dg2 kd I F n (dg1 F n 6) n + (nowF F n).toInt64
def dgR (kd : Nat → Nat) (I : Nat → Int32) (F : Nat → Nat → Int32) (n pl am : Nat) : Int64 :=
  dg4 I F n (dg3 F (if I 1 = 0 then dgA kd I F n else 31 * dgA kd I F n + (ftC kd I F n am (p6 am)).toInt64) pl) 10
theorem drR_nat (x : Int64) : drR x 10 = nI (ix (drR x 10)) ∧ ix (drR x 10) < 10 := by
  have e : ∃ m : Nat, m < 2 ^ 31 ∧ drF x = lN m := by
    refine ⟨(1103515245 * x + 12345).toBitVec.toNat % 2 ^ 31, Nat.mod_lt _ (by decide), ?_⟩
    unfold drF
    apply Int64.toBitVec_inj.mp
    apply BitVec.eq_of_toNat_eq
    have h1 : (2147483647 : Int64).toBitVec.toNat = 2 ^ 31 - 1 := by decide
    have h2 : ∀ a b : Int64, (a &&& b).toBitVec = a.toBitVec &&& b.toBitVec := fun a b => rfl
    rw [h2, BitVec.toNat_and, h1, Nat.and_two_pow_sub_one_eq_mod]
    have h3 : (lN ((1103515245 * x + 12345).toBitVec.toNat % 2 ^ 31)).toBitVec.toNat = (1103515245 * x + 12345).toBitVec.toNat % 2 ^ 31 := by
      have h4 : (1103515245 * x + 12345).toBitVec.toNat % 2 ^ 31 < 2 ^ 31 := Nat.mod_lt _ (by decide)
      generalize (1103515245 * x + 12345).toBitVec.toNat % 2 ^ 31 = k at h4
      show (Int64.ofNat k).toBitVec.toNat = k
      rw [Int64.toBitVec_ofNat']
      rw [BitVec.toNat_ofNat]
      exact Nat.mod_eq_of_lt (by omega)
    rw [h3]
  obtain ⟨m, hm, e⟩ := e
  have e2 : drR x 10 = nI (m / 65536 % 10) := by
    have h10 : (10 : Int32).toInt64 = lN 10 := by decide
    have h65 : (65536 : Int64) = lN 65536 := by decide
    unfold drR
    rw [e, h10, h65, pk_lDiv (by omega) (by omega) (by omega), pk_lRem (by omega) (by omega) (by omega), lN_i]
  rw [e2, ix_nI (by omega)]
  exact ⟨rfl, by omega⟩
