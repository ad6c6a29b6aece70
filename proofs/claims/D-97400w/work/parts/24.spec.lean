/-! SPEC, small: what the leaves compute, in the machine's own ints -/
abbrev wLE (g : Gx) (al : Nat) (md : Int32) (ed n : Nat) (ea : Nat → Option Nat) : va_W := [(al, oAL md ed n), (ed, aR g 10 ea)]
abbrev wO (_g : Gx) (pa k : Nat) : va_W := [(pa, .inr (6 + k, []))]
abbrev inP (v a b : Int32) : Prop := ¬ v < a ∧ ¬ b < v
abbrev isInP (x k : Int32) : Prop := x >>> (k &&& 31) &&& 1 = 1
def powF (b : Int32) : Nat → Int32
  | 0 => 1
  | k + 1 => powF b k * b
def ush (x : Int32) (k : Int32) : Int32 := (x.toUInt32 >>> (k.toUInt32 &&& Int32.toUInt32 31)).toInt32
def bc1 (x : Int32) : Int32 := x - ((x.toUInt32 >>> ((1 : Int32).toUInt32 &&& Int32.toUInt32 31)).toInt32 &&& 1431655765)
def bc2 (x : Int32) : Int32 := (x &&& 858993459) + ((x.toUInt32 >>> ((2 : Int32).toUInt32 &&& Int32.toUInt32 31)).toInt32 &&& 858993459)
def bc3 (x : Int32) : Int32 := (x + (x.toUInt32 >>> ((4 : Int32).toUInt32 &&& Int32.toUInt32 31)).toInt32) &&& 252645135
def bc4 (x : Int32) : Int32 := x + (x.toUInt32 >>> ((8 : Int32).toUInt32 &&& Int32.toUInt32 31)).toInt32
def bc5 (x : Int32) : Int32 := x + (x.toUInt32 >>> ((16 : Int32).toUInt32 &&& Int32.toUInt32 31)).toInt32
/-- Integer.bitCount -/
def bcF (x : Int32) : Int32 := bc5 (bc4 (bc3 (bc2 (bc1 x)))) &&& 63
/-- the papers' kinds: 0 paper, 1 rumour, 2 deed, 3 river, 4 flood -/
def nmF (k : Nat) : Int32 := if k = 1 then 6 else if k = 3 ∨ k = 4 then 3 else 2
def kpF (k : Nat) : Int32 := if k = 2 then 2 else 1
abbrev of0P (k : Nat) (x : Int32) : Prop := x = 0 ∨ x = nI k
abbrev ofP (k : Nat) (x : Int32) : Prop := x = 0 ∨ x = nI k ∨ (x = 3 ∧ k = 4)
def bb0 (x l : Int32) : Int32 := x &&& (1 <<< (l &&& 31))
def bbF (k : Nat) (x l : Int32) : Int32 := if k = 4 then (if bb0 x l = 0 then 0 else bb0 x l ||| bb0 x (l + 1 - (l + 1) / 6 * 6)) else bb0 x l
section SPC
variable {p : Program} {l : Launch} {e : Env} {R : Room} {s : State} {m : MethodId} {args : Array Value} {below : List Frame} {meth : Method} {c : Code} {H : Heap} {locs : List Loc} {cells slots : Nat} {Q : State → Prop}
variable {g : Gx} {cc : ByteArray} {nL pc : Nat} {own : String} {ls : Array Slot} {rest : List Value} {A : Nat → Prop} {H0 : Heap} {ro : Heap → Prop} {ws ws1 : va_W}
theorem r_aald (hX : Cx g p s m args c cc nL own) (hP : va_P g.1 vwCl ws H) (q0 : Nat) {a n : Nat} {f : Nat → Option Nat} (ha : ws[q0]? = some (a, aR g n f)) (j : Nat) (hj : j < n) (hn : n < 1000) {pa : Nat} (hf : f j = some pa) (hdg : decode cc pc = .ok (.aaload, 1))
    (kk : W p l e R s m args below meth c H locs cells slots Q (F0 m (pc + 1) ls (.ref pa :: rest))) : W p l e R s m args below meth c H locs cells slots Q (F0 m pc ls (.int (nI j) :: .ref a :: rest)) := by
  refine va_aldq (t0 := 2) hX.1.1 hX.1.2.1 hX.2.1 hP q0 ha rfl (vp_in_nI hj (by omega)) hdg ?_
  rw [nI_clamp (by omega), hf]
  exact kk
/-- a cast of a paper to Paper -/
theorem r_castP (hX : Cx g p s m args c cc nL own) {index : Nat} (hlink : Cond.classLink own index "BurntLetters$Paper" ∈ lw_all) {k pa : Nat} (hk : k < 5) (hP : va_P g.1 vwCl [(pa, .inr (6 + k, []))] H) (hdg : decode cc pc = .ok (.checkcast index, 3))
    (kk : W p l e R s m args below meth c H locs cells slots Q (F0 m (pc + 3) ls (.ref pa :: rest))) : W p l e R s m args below meth c H locs cells slots Q (F0 m pc ls (.ref pa :: rest)) := by
  rcases (show k = 0 ∨ k = 1 ∨ k = 2 ∨ k = 3 ∨ k = 4 by omega) with rfl | rfl | rfl | rfl | rfl
  · exact va_castS hX.1.1 hX.1.2.1 hX.1.2.2.2.1 (hX.w hlink) (hX.2.1.1 6 _ rfl).2 (r_recv hX hP 0 rfl rfl) hdg kk
  · exact va_castY hX.1.1 hX.1.2.1 hX.1.2.2.2.1 (hX.w hlink) (hX.nest q1158 rfl) (r_recv hX hP 0 rfl rfl) hdg kk
  · exact va_castY hX.1.1 hX.1.2.1 hX.1.2.2.2.1 (hX.w hlink) (hX.nest q1155 rfl) (r_recv hX hP 0 rfl rfl) hdg kk
  · exact va_castY hX.1.1 hX.1.2.1 hX.1.2.2.2.1 (hX.w hlink) (hX.nest q1157 rfl) (r_recv hX hP 0 rfl rfl) hdg kk
  · exact va_castY hX.1.1 hX.1.2.1 hX.1.2.2.2.1 (hX.w hlink) (hX.nest q1156 rfl) (r_recv hX hP 0 rfl rfl) hdg kk
end SPC
