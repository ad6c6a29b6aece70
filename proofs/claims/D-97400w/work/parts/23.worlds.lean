/-! THE WORLDS: the component's cells, an archive's, the model's -/
abbrev aI (g : Gx) (n : Nat) (f : Nat → Int32) : va_E := .inl (g.2.1, n, .inl f)
abbrev aB (g : Gx) (n : Nat) (f : Nat → Int32) : va_E := .inl (g.2.2.1, n, .inl f)
abbrev aR (g : Gx) (n : Nat) (f : Nat → Option Nat) : va_E := .inl (g.2.2.2, n, .inr (.inr (.inr (.inr f))))
abbrev oBL (R : Nat → Nat) (I : Nat → Int32) (dr : Int64) : va_E := .inr (0, [.ref (R 0), .int (I 1), .int (I 2), .int (I 3), .ref (R 4), .int (I 5), .ref (R 6), .ref (R 7), .ref (R 8), .ref (R 9), .int (I 10), .int (I 11), .int (I 12), .int (I 13), .ref (R 14), .ref (R 15), .long dr, .int (I 17), .int (I 18), .int (I 19), .int (I 20), .ref (R 21)])
abbrev oAL (md : Int32) (ed n : Nat) : va_E := .inr (1, [.int md, .ref ed, .int (nI n)])
abbrev oAr (al ap ak h : Nat) : va_E := .inr (2, [.ref al, .ref ap, .ref ak, .ref h])
abbrev oM (R : Nat → Nat) (J : Nat → Int32) (hs : Int64) : va_E := .inr (3, [.ref (R 0), .int (J 1), .int (J 2), .int (J 3), .int (J 4), .ref (R 5), .int (J 6), .ref (R 7), .ref (R 8), .ref (R 9), .ref (R 10), .ref (R 11), .ref (R 12), .int (J 13), .int (J 14), .ref (R 15), .int (J 16), .ref (R 17), .ref (R 18), .int (J 19), .int (J 20), .int (J 21), .int (J 22), .int (J 23), .ref (R 24), .ref (R 25), .ref (R 26), .ref (R 27), .long hs])
/-- the whole component: h its object, R the addresses in its fields, V those of the archives' arrays, I its ints, F its arrays' contents -/
abbrev wC (g : Gx) (h : Nat) (R V : Nat → Nat) (I : Nat → Int32) (dr : Int64) (md : Int32) (ed n : Nat) (F : Nat → Nat → Int32) : va_W :=
  [(h, oBL R I dr), (R 0, oAL md ed n), (R 4, aI g 6 (F 0)), (R 6, oAr (V 0) (V 1) (V 2) h), (V 0, aI g 5 (F 1)), (V 1, aI g 5 (F 2)), (V 2, aI g 5 (F 3)), (R 7, oAr (V 3) (V 4) (V 5) h), (V 3, aI g 5 (F 4)), (V 4, aI g 5 (F 5)), (V 5, aI g 5 (F 6)), (R 8, oAr (V 6) (V 7) (V 8) h), (V 6, aI g 5 (F 7)), (V 7, aI g 5 (F 8)), (V 8, aI g 5 (F 9)), (R 9, aB g 10 (F 10)), (R 14, aI g 5 (F 11)), (R 15, aI g 5 (F 12)), (R 21, aI g 5 (F 13))]
/-- one archive, with the component's object and its list -/
abbrev wA (g : Gx) (h : Nat) (R : Nat → Nat) (I : Nat → Int32) (dr : Int64) (md : Int32) (ed n : Nat) (a al ap ak : Nat) (lv pt kp : Nat → Int32) : va_W :=
  [(h, oBL R I dr), (R 0, oAL md ed n), (a, oAr al ap ak h), (al, aI g 5 lv), (ap, aI g 5 pt), (ak, aI g 5 kp)]
/-- two archives -/
abbrev wB (g : Gx) (h : Nat) (a al ap ak : Nat) (lv pt kp : Nat → Int32) (b bl bp bk : Nat) (lw pw kw : Nat → Int32) : va_W :=
  [(a, oAr al ap ak h), (al, aI g 5 lv), (ap, aI g 5 pt), (ak, aI g 5 kp), (b, oAr bl bp bk h), (bl, aI g 5 lw), (bp, aI g 5 pw), (bk, aI g 5 kw)]
/-- the model -/
abbrev wM (g : Gx) (h : Nat) (R : Nat → Nat) (J : Nat → Int32) (hs : Int64) (G : Nat → Nat → Int32) : va_W :=
  [(h, oM R J hs), (R 0, aI g 10 (G 0)), (R 5, aI g 6 (G 1)), (R 7, aI g 10 (G 2)), (R 8, aI g 5 (G 3)), (R 9, aI g 5 (G 4)), (R 10, aI g 5 (G 5)), (R 11, aI g 5 (G 6)), (R 12, aI g 5 (G 7)), (R 15, aI g 4 (G 8)), (R 17, aI g 5 (G 9)), (R 18, aI g 5 (G 10)), (R 24, aI g 10 (G 11)), (R 25, aI g 5 (G 12)), (R 26, aI g 5 (G 13)), (R 27, aI g 5 (G 14))]
/-- the model's object and one row of five -/
abbrev wF (g : Gx) (h : Nat) (R : Nat → Nat) (J : Nat → Int32) (hs : Int64) (r : Nat) (f : Nat → Int32) : va_W := [(h, oM R J hs), (r, aI g 5 f)]
/-- the list's papers: each of the first n places holds a paper of kind kd i -/
def roP (g : Gx) (ed n : Nat) (kd : Nat → Nat) (H : Heap) : Prop := ∀ i : Nat, i < n → ∃ (ea : Nat → Option Nat) (pa : Nat), ea i = some pa ∧ kd i < 5 ∧ va_P g.1 vwCl [(ed, .inl (g.2.2.2, 10, .inr (.inr (.inr (.inr ea))))), (pa, .inr (6 + kd i, []))] H
abbrev roT : Heap → Prop := fun _ => True
abbrev wL (_g : Gx) (al : Nat) (md : Int32) (ed n : Nat) : va_W := [(al, oAL md ed n)]
abbrev wP2 (g : Gx) (k ra : Nat) (fa : Nat → Int32) (rb : Nat) (fb : Nat → Int32) : va_W := [(ra, aI g k fa), (rb, aI g k fb)]
/-- a world's addresses don't hang on what its cells hold -/
theorem adC {g : Gx} {h : Nat} {R V : Nat → Nat} {I I' : Nat → Int32} {dr dr' : Int64} {md md' : Int32} {ed ed' n n' : Nat} {F F' : Nat → Nat → Int32} : (wC g h R V I dr md ed n F).map Prod.fst = (wC g h R V I' dr' md' ed' n' F').map Prod.fst := rfl
theorem adA {g : Gx} {h : Nat} {R : Nat → Nat} {I I' : Nat → Int32} {dr dr' : Int64} {md md' : Int32} {ed ed' n n' : Nat} {a al ap ak : Nat} {lv pt kp lv' pt' kp' : Nat → Int32} : (wA g h R I dr md ed n a al ap ak lv pt kp).map Prod.fst = (wA g h R I' dr' md' ed' n' a al ap ak lv' pt' kp').map Prod.fst := rfl
theorem adM {g : Gx} {h : Nat} {R : Nat → Nat} {J J' : Nat → Int32} {hs hs' : Int64} {G G' : Nat → Nat → Int32} : (wM g h R J hs G).map Prod.fst = (wM g h R J' hs' G').map Prod.fst := rfl
