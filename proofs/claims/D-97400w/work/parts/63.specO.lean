/-! SPEC of the model: a year -/
def bsM (kd : Nat → Nat) (pt a kp : Nat → Int32) (t n f : Nat) : Int32 := if svP kd pt a kp (nI t) n f then 0 else bbF (kd f) (a f) (nI t)
def bsK (kd : Nat → Nat) (pt a kp : Nat → Int32) (t n f : Nat) : Nat → Int32 := if svP kd pt a kp (nI t) n f then upd kp f (kp f + 1) else kp
theorem bsM_nh {kd : Nat → Nat} {pt a kp : Nat → Int32} {t n f : Nat} (ha : ∃ m, m < 64 ∧ a f = nI m) (ht : t < 6) (h : ¬ isInP (a f) (nI t)) : 0 = bsM kd pt a kp t n f ∧ upd kp f (kp f + 0) = bsK kd pt a kp t n f := by
  obtain ⟨m, hm, e⟩ := ha
  have h' : ¬ isInP (nI m) (nI t) := by rw [← e]; exact h
  have hsv : ¬ svP kd pt a kp (nI t) n f := fun q => h' ((here_fin m hm t ht).2.2.1 (by rw [← e]; exact q.1.1))
  refine ⟨?_, ?_⟩
  · rw [bsM, if_neg hsv, e, bb_nhere hm ht h']
  · rw [bsK, if_neg hsv]
    exact upd_same kp f (Int32.add_zero _)
theorem bsM_sv {kd : Nat → Nat} {pt a kp : Nat → Int32} {t n f : Nat} (h : svP kd pt a kp (nI t) n f) : 0 = bsM kd pt a kp t n f ∧ upd kp f (kp f + 1) = bsK kd pt a kp t n f := by
  rw [bsM, bsK, if_pos h, if_pos h]
  exact ⟨rfl, rfl⟩
theorem bsM_no {kd : Nat → Nat} {pt a kp : Nat → Int32} {t n f : Nat} (ha : ∃ m, m < 64 ∧ a f = nI m) (ht : t < 6) (h : isInP (a f) (nI t)) (hsv : ¬ svP kd pt a kp (nI t) n f) : (1 : Int32) <<< (nI t &&& 31) ||| (if kd f = 4 then a f &&& ((1 : Int32) <<< (nI ((t + 1) % 6) &&& 31)) else 0) = bsM kd pt a kp t n f ∧ kp = bsK kd pt a kp t n f := by
  obtain ⟨m, hm, e⟩ := ha
  have h' : isInP (nI m) (nI t) := by rw [← e]; exact h
  rw [bsM, bsK, if_neg hsv, if_neg hsv, e, bb_here hm ht h']
  exact ⟨rfl, rfl⟩
theorem kpF_2 {k : Nat} (h : k = 2) : kpF k = 2 := if_pos h
theorem kpF_1 {k : Nat} (h : ¬ k = 2) : kpF k = 1 := if_neg h
theorem bn_next {kd : Nat → Nat} {pt lv kp : Nat → Int32} {t n i : Nat} (hn : n ≤ 5) (hi : i < n) :
    bsM kd pt (ahF lv n) (bnF kd pt lv kp (livF lv n) (nI t) n i).2 t n i = bsF kd pt lv kp (nI t) n i ∧
    upd (bnF kd pt lv kp (livF lv n) (nI t) n i).1 i ((bnF kd pt lv kp (livF lv n) (nI t) n i).1 i &&& (bsF kd pt lv kp (nI t) n i ^^^ (-1))) = (bnF kd pt lv kp (livF lv n) (nI t) n (i + 1)).1 ∧
    bsK kd pt (ahF lv n) (bnF kd pt lv kp (livF lv n) (nI t) n i).2 t n i = (bnF kd pt lv kp (livF lv n) (nI t) n (i + 1)).2 := by
  have ha : ahF lv n i = lv i := if_pos hi
  have e1 : (bnF kd pt lv kp (livF lv n) (nI t) n i).1 i = lv i := by
    rw [bn_pt hn i (by omega)]
    exact if_neg (Nat.lt_irrefl i)
  have e2 : (bnF kd pt lv kp (livF lv n) (nI t) n i).2 i = kp i := by
    rw [bn_pt hn i (by omega)]
    exact if_neg (Nat.lt_irrefl i)
  have hs : svP kd pt (ahF lv n) (bnF kd pt lv kp (livF lv n) (nI t) n i).2 (nI t) n i ↔ svP kd pt (ahF lv n) kp (nI t) n i := by
    rw [svP, svP, e2]
  have hc : ((bnF kd pt lv kp (livF lv n) (nI t) n i).1 i = (1 : Int32) <<< (nI t &&& 31) ∧ ¬ ptF pt (livF lv n) (nI i) n = 0) ∧ ¬ kpF (kd i) ≤ (bnF kd pt lv kp (livF lv n) (nI t) n i).2 i ↔ svP kd pt (ahF lv n) kp (nI t) n i := by
    rw [e1, e2, ptF_pa hn (nI i) n (Nat.le_refl n), svP, ha]
  by_cases q : svP kd pt (ahF lv n) kp (nI t) n i
  · refine ⟨?_, ?_, ?_⟩
    · rw [bsM, if_pos (hs.mpr q), bsF, if_pos q]
    · rw [bsF, if_pos q, bnF, bnS, if_pos (hc.mpr q)]
      refine upd_same _ i ?_
      have h0 : (0 ^^^ (-1) : Int32) = -1 := by decide
      rw [h0]
      exact Int32.and_neg_one
    · rw [bsK, if_pos (hs.mpr q), bnF, bnS, if_pos (hc.mpr q)]
  · refine ⟨?_, ?_, ?_⟩
    · rw [bsM, if_neg (fun z => q (hs.mp z)), bsF, if_neg q, ha]
    · rw [bsF, if_neg q, bnF, bnS, if_neg (fun z => q (hc.mp z)), e1]
    · rw [bsK, if_neg (fun z => q (hs.mp z)), bnF, bnS, if_neg (fun z => q (hc.mp z))]
def ahU (lv f0 : Nat → Int32) (n : Nat) : Nat → Nat → Int32
  | 0 => f0
  | k + 1 => upd (ahU lv f0 n k) k (if k < n then lv k else 0)
theorem ahU_in (lv f0 : Nat → Int32) (n : Nat) : ∀ (k j : Nat), j < k → ahU lv f0 n k j = ahF lv n j
  | 0, _, h => absurd h (Nat.not_lt_zero _)
  | k + 1, j, h => by
    by_cases e : j = k
    · subst e
      rw [ahU, pk_us]
      rfl
    · rw [ahU, pk_un e]
      exact ahU_in lv f0 n k j (by omega)
theorem ah_ok {lv : Nat → Int32} {n f : Nat} (h : LvOk lv n) (hf : f < n) : ∃ m, m < 64 ∧ ahF lv n f = nI m := by
  obtain ⟨m, hm, e⟩ := h f hf
  exact ⟨m, hm, by rw [ahF, if_pos hf, e]⟩
def mbL (kd : Nat → Nat) (J : Nat → Int32) (G : Nat → Nat → Int32) (pt : Nat → Int32) (n : Nat) (x : Int32) : Nat → Int32 := if inP x 0 5 then (if J 2 = 0 then G 3 else brL kd (J 2) pt (G 3) (G 4) x n) else G 3
def mbK (kd : Nat → Nat) (J : Nat → Int32) (G : Nat → Nat → Int32) (pt : Nat → Int32) (n : Nat) (x : Int32) : Nat → Int32 := if inP x 0 5 then (if J 2 = 0 then G 4 else brK kd pt (G 3) (G 4) x n) else G 4
def mbJ (J : Nat → Int32) (x : Int32) : Nat → Int32 := if inP x 0 5 then (if J 2 = 0 then J else upd J 3 (J 3 + 1)) else J
