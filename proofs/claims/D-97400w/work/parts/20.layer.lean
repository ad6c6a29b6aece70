/-! THE LAYER: one context, contracts as functions (world in, world out, answer), calls, loops, cuts -/
def T0x : u_T := fun _ => ("", "", "", false)
abbrev vwCl : List vw_C := [(RX0, TX0, 22), (RJ2, TJ2, 3), (RX1, TX1, 4), (RX2, TX2, 29), (RX3, TX3, 4), (RX4, TX4, 7), (RX5, T0x, 0), (RX6, T0x, 0), (RX7, T0x, 0), (RX8, T0x, 0), (RX9, T0x, 0)]
abbrev Gx : Type := va_G × ClassId × ClassId × ClassId
abbrev tyL (g : Gx) : List (ClassId × FieldType) := [(g.2.1, .int), (g.2.2.1, .byte), (g.2.2.2, .object "java/lang/Object")]
def nwOk : Cond → Bool
  | .fieldLinkNest .. => true
  | .methodLinkNest .. => true
  | .castable .. => true
  | .declares .. => true
  | _ => false
theorem nw_warm {w : Cond} (hw : nwOk w = true) {s U : State} (hW : s.WarmedH U.vm) (h : va_Nw w s) : va_Nw w U := by
  cases w <;> first
    | exact va_Nw.warmF hW h
    | exact va_Nw.warmM hW h
    | exact va_Nw.warmC hW h
    | exact va_Nw.warmD hW h
    | exact absurd hw (by decide)
    | (simp [nwOk] at hw)
theorem nw_tab {w : Cond} (hw : nwOk w = true) : w.onTables = true := by
  cases w <;> first
    | rfl
    | (simp [nwOk] at hw)
/-- the words of the tables that do not ride in lw_all, and that calls carry along -/
def nestW : List Cond := lw_tbl.filter nwOk
theorem nestW_in {w : Cond} (h : w ∈ lw_tbl) (hw : nwOk w = true) : w ∈ nestW := List.mem_filter.mpr ⟨h, hw⟩
/-- what every method knows of the machine's tables: the classes' numbers, the array classes, the nest's words -/
def bK (g : Gx) (U : State) : Prop := va_K g.1 vwCl (tyL g) U ∧ (∀ w ∈ nestW, va_Nw w U) ∧ U.vm.findClass "[I" = some g.2.1 ∧ U.vm.findClass "[B" = some g.2.2.1 ∧ U.vm.findClass "[Ljava/lang/Object;" = some g.2.2.2 ∧ va_AO "java/lang/Object" U
theorem bK.moved {g : Gx} {s U : State} (hW : s.WarmedH U.vm) (h : bK g s) : bK g U :=
  ⟨va_K.moved hW.alike h.1, fun w hw => nw_warm (List.mem_filter.mp hw).2 hW (h.2.1 w hw), by rw [hW.alike.findClass]; exact h.2.2.1, by rw [hW.alike.findClass]; exact h.2.2.2.1, by rw [hW.alike.findClass]; exact h.2.2.2.2.1, va_AO.moved hW.alike h.2.2.2.2.2⟩
theorem bK.same {g : Gx} {s U : State} (e : s.vm = U.vm) (h : bK g s) : bK g U := by
  refine ⟨va_K.moved (by rw [e]; exact Vm.Alike.refl _) h.1, fun w hw => va_Nw.same (nw_tab (List.mem_filter.mp hw).2) e (h.2.1 w hw), by rw [← e]; exact h.2.2.1, by rw [← e]; exact h.2.2.2.1, by rw [← e]; exact h.2.2.2.2.1, ?_⟩
  exact va_AO.moved (by rw [e]; exact Vm.Alike.refl _) h.2.2.2.2.2
abbrev rmD (d mc ms : Nat) : Room := { frames := d, cells := mc, slots := ms, locals := 40 * d }
/-- the fixed part of a walk -/
def Cx (g : Gx) (p : Program) (s : State) (m : MethodId) (args : Array Value) (c : Code) (cc : ByteArray) (nL : Nat) (own : String) : Prop :=
  CallFix p m c cc nL s args lw_all own ∧ bK g s
theorem Cx.nest {g : Gx} {p : Program} {s : State} {m : MethodId} {args : Array Value} {c : Code} {cc : ByteArray} {nL : Nat} {own : String} (hX : Cx g p s m args c cc nL own) {w : Cond} (h : w ∈ lw_tbl) (hw : nwOk w = true) : va_Nw w s := hX.2.2.1 w (nestW_in h hw)
theorem Cx.w {g : Gx} {p : Program} {s : State} {m : MethodId} {args : Array Value} {c : Code} {cc : ByteArray} {nL : Nat} {own : String} (hX : Cx g p s m args c cc nL own) {w : Cond} (h : w ∈ lw_all) : w.before args s = true := hX.1.2.2.2.2 w h
def PreP (g : Gx) (ro : Heap → Prop) (ws : va_W) (U : State) : Prop := bK g U ∧ va_P g.1 vwCl ws U.heap ∧ ro U.heap
theorem PreP.calling {g : Gx} {ro : Heap → Prop} {ws : va_W} {U : State} {f : JFrame} {mk : MethodId} {a : Array Value} (h : PreP g ro ws U) : PreP g ro ws (U.calling f mk a) := ⟨bK.same (s := U) (U := U.calling f mk a) rfl h.1, h.2.1, h.2.2⟩
def QcP (rv : Option Value) : Array Value → State → Outcome → State → Prop := fun _ st oc t => oc = .returned rv ∧ t.heap = st.heap
/-- a method that changes no cell: its world, its answer -/
def PM (l : Launch) (g : Gx) (y : MethodName) (cy : ByteArray) (nL : Nat) (ret : Option FieldType) (d : Nat) (av : List Value) (ro : Heap → Prop) (ws : va_W) (rv : Option Value) : Prop :=
  Met l y (ws_ y cy nL ret) (rmD d 0 0) (va_Pc av (PreP g ro ws)) (QcP rv) 0 0 (fun _ => False)
def QcM (g : Gx) (A : Nat → Prop) (ws' : va_W) (rv : Option Value) : Array Value → State → Outcome → State → Prop := fun _ st oc t => oc = .returned rv ∧ va_P g.1 vwCl ws' t.heap ∧ va_F A st t
def PreM (g : Gx) (sz : Nat) (ro : Heap → Prop) (ws : va_W) (U : State) : Prop := U.heap.size = sz ∧ PreP g ro ws U ∧ va_D (fun _ => True) ws
/-- a method that changes cells of its world and makes none -/
def MM (l : Launch) (g : Gx) (y : MethodName) (cy : ByteArray) (nL : Nat) (ret : Option FieldType) (d : Nat) (av : List Value) (ro : Heap → Prop) (ws ws' : va_W) (rv : Option Value) : Prop :=
  ∀ sz : Nat, Met l y (ws_ y cy nL ret) (rmD d 0 0) (va_Pc av (PreM g sz ro ws)) (QcM g (va_A ws sz) ws' rv) 0 0 (va_A ws sz)
/-- what only cells of ws, and new ones, can change keeps ro -/
def RoK (ro : Heap → Prop) (ws : va_W) : Prop := ∀ H H1 : Heap, H.size ≤ H1.size → (∀ q : Nat, q < H.size → ¬ va_A ws H.size q → H1[q]? = H[q]?) → ro H → ro H1
/-- the world in a walk that changes cells -/
def Zt (g : Gx) (A : Nat → Prop) (H0 : Heap) (ro : Heap → Prop) (ws : va_W) (H : Heap) (locs : List Loc) : Prop :=
  va_P g.1 vwCl ws H ∧ va_D A ws ∧ va_S A H0 H locs ∧ (∀ q : Nat, H0.size ≤ q → A q) ∧ ∀ H1 : Heap, H0.size ≤ H1.size → (∀ q : Nat, q < H0.size → ¬ A q → H1[q]? = H0[q]?) → ro H1
theorem Zt.ro {g : Gx} {A : Nat → Prop} {H0 : Heap} {ro : Heap → Prop} {ws : va_W} {H : Heap} {locs : List Loc} (h : Zt g A H0 ro ws H locs) : ro H := h.2.2.2.2 H h.2.2.1.1 h.2.2.1.2.1
theorem Zt.cast {g : Gx} {A : Nat → Prop} {H0 : Heap} {ro : Heap → Prop} {ws ws' : va_W} {H : Heap} {locs : List Loc} (h : Zt g A H0 ro ws H locs) (e : ws = ws') : Zt g A H0 ro ws' H locs := e ▸ h
theorem lv_cast {ls : Array Slot} {n : Nat} {a b : List (Nat × Value)} (h : lv_has ls n a) (e : a = b) : lv_has ls n b := e ▸ h
def b01 (P : Prop) [Decidable P] : Int32 := if P then 1 else 0
theorem b01_t {P : Prop} [Decidable P] (h : P) : 1 = b01 P := (if_pos h).symm
theorem b01_f {P : Prop} [Decidable P] (h : ¬ P) : 0 = b01 P := (if_neg h).symm
theorem b01_T {P : Prop} [Decidable P] (h : P) : b01 P = 1 := if_pos h
theorem b01_F {P : Prop} [Decidable P] (h : ¬ P) : b01 P = 0 := if_neg h
theorem b01_or (P : Prop) [Decidable P] : b01 P = 0 ∨ b01 P = 1 := by
  by_cases h : P
  · exact Or.inr (b01_T h)
  · exact Or.inl (b01_F h)
theorem b01_eq0 {P : Prop} [Decidable P] : b01 P = 0 ↔ ¬ P := by
  by_cases h : P
  · simp [b01, h]
  · simp [b01, h]
theorem b01_congr {P Q : Prop} [Decidable P] [Decidable Q] (h : P ↔ Q) : b01 P = b01 Q := by
  by_cases q : Q
  · rw [b01_T q, b01_T (h.mpr q)]
  · rw [b01_F q, b01_F (fun z => q (h.mp z))]
section LAY1
variable {p : Program} {l : Launch} {e : Env} {R : Room} {s : State} {m : MethodId} {args : Array Value} {below : List Frame} {meth : Method} {c : Code} {H : Heap} {locs : List Loc} {cells slots : Nat} {Q : State → Prop}
variable {g : Gx} {cc : ByteArray} {nL pc : Nat} {own : String} {ls : Array Slot} {rest : List Value} {A : Nat → Prop} {H0 : Heap} {ro : Heap → Prop} {ws ws1 : va_W}
/-- the value on top under another name -/
theorem lv_seti {x v : Int32} (h : x = v) (k : W p l e R s m args below meth c H locs cells slots Q (F0 m pc ls (.int v :: rest))) : W p l e R s m args below meth c H locs cells slots Q (F0 m pc ls (.int x :: rest)) := h ▸ k
theorem lv_setl {x v : Int64} (h : x = v) (k : W p l e R s m args below meth c H locs cells slots Q (F0 m pc ls (.long v :: rest))) : W p l e R s m args below meth c H locs cells slots Q (F0 m pc ls (.long x :: rest)) := h ▸ k
theorem lv_seti2 {x v : Int32} {z : Value} (h : x = v) (k : W p l e R s m args below meth c H locs cells slots Q (F0 m pc ls (z :: .int v :: rest))) : W p l e R s m args below meth c H locs cells slots Q (F0 m pc ls (z :: .int x :: rest)) := h ▸ k
/-- a loop at its head, by a measure; the heap stays -/
theorem W_loopP {α : Type} {P : α → Array Slot → Prop} (μ : α → Nat) (a0 : α) (h0 : P a0 ls)
    (step : ∀ (a : α) (ls : Array Slot), P a ls → (∀ (a' : α) (ls' : Array Slot), P a' ls' → μ a' < μ a → W p l e R s m args below meth c H locs cells slots Q (F0 m pc ls' rest)) → W p l e R s m args below meth c H locs cells slots Q (F0 m pc ls rest)) :
    W p l e R s m args below meth c H locs cells slots Q (F0 m pc ls rest) := by
  have key : ∀ (n : Nat) (a : α) (ls : Array Slot), μ a < n → P a ls → W p l e R s m args below meth c H locs cells slots Q (F0 m pc ls rest) := by
    intro n
    induction n with
    | zero => intro a ls h; exact absurd h (Nat.not_lt_zero _)
    | succ n ih => intro a ls h hp; exact step a ls hp (fun a' ls' hp' hm => ih a' ls' (by omega) hp')
  exact key _ a0 ls (Nat.lt_succ_self _) h0
/-- a loop at its head, by a measure; the heap changes -/
theorem W_loop {α : Type} {P : α → Heap → List Loc → Array Slot → Prop} (μ : α → Nat) (a0 : α) (h0 : P a0 H locs ls)
    (step : ∀ (a : α) (H : Heap) (locs : List Loc) (ls : Array Slot), P a H locs ls → (∀ (a' : α) (H' : Heap) (locs' : List Loc) (ls' : Array Slot), P a' H' locs' ls' → μ a' < μ a → W p l e R s m args below meth c H' locs' cells slots Q (F0 m pc ls' rest)) → W p l e R s m args below meth c H locs cells slots Q (F0 m pc ls rest)) :
    W p l e R s m args below meth c H locs cells slots Q (F0 m pc ls rest) := by
  have key : ∀ (n : Nat) (a : α) (H : Heap) (locs : List Loc) (ls : Array Slot), μ a < n → P a H locs ls → W p l e R s m args below meth c H locs cells slots Q (F0 m pc ls rest) := by
    intro n
    induction n with
    | zero => intro a H locs ls h; exact absurd h (Nat.not_lt_zero _)
    | succ n ih => intro a H locs ls h hp; exact step a H locs ls hp (fun a' H' locs' ls' hp' hm => ih a' H' locs' ls' (by omega) hp')
  exact key _ a0 H locs ls (Nat.lt_succ_self _) h0
/-- a place where ways meet: what is to be shown there once, and then used -/
theorem W_cutP {g0 : JFrame} {st : List Value} {P : Array Slot → Prop} (pc : Nat) (k : ∀ ls' : Array Slot, P ls' → W p l e R s m args below meth c H locs cells slots Q (F0 m pc ls' st))
    (b : (∀ ls' : Array Slot, P ls' → W p l e R s m args below meth c H locs cells slots Q (F0 m pc ls' st)) → W p l e R s m args below meth c H locs cells slots Q g0) : W p l e R s m args below meth c H locs cells slots Q g0 := b k
theorem W_cut {g0 : JFrame} {st : List Value} {P : Heap → List Loc → Array Slot → Prop} (pc : Nat) (k : ∀ (H' : Heap) (locs' : List Loc) (ls' : Array Slot), P H' locs' ls' → W p l e R s m args below meth c H' locs' cells slots Q (F0 m pc ls' st))
    (b : (∀ (H' : Heap) (locs' : List Loc) (ls' : Array Slot), P H' locs' ls' → W p l e R s m args below meth c H' locs' cells slots Q (F0 m pc ls' st)) → W p l e R s m args below meth c H locs cells slots Q g0) : W p l e R s m args below meth c H locs cells slots Q g0 := b k
/-- branches on a truth value -/
theorem lv_bif_eq {P : Prop} [Decidable P] (hexec : p.tables.exec = Jvm.exec) (hb : c.code = cc) {off : Int} {tgt : Nat} (hdg : decode cc pc = .ok (.ifCond .eq off, 3)) (ht : (pc : Int) + off = (tgt : Int))
    (kt : ¬ P → W p l e R s m args below meth c H locs cells slots Q (F0 m tgt ls rest)) (kf : P → W p l e R s m args below meth c H locs cells slots Q (F0 m (pc + 3) ls rest)) : W p l e R s m args below meth c H locs cells slots Q (F0 m pc ls (.int (b01 P) :: rest)) :=
  lv_if_eq hexec hb hdg ht (fun h => kt (b01_eq0.mp h)) (fun h => kf (Decidable.of_not_not (fun q => h (b01_eq0.mpr q))))
theorem lv_bif_ne {P : Prop} [Decidable P] (hexec : p.tables.exec = Jvm.exec) (hb : c.code = cc) {off : Int} {tgt : Nat} (hdg : decode cc pc = .ok (.ifCond .ne off, 3)) (ht : (pc : Int) + off = (tgt : Int))
    (kt : P → W p l e R s m args below meth c H locs cells slots Q (F0 m tgt ls rest)) (kf : ¬ P → W p l e R s m args below meth c H locs cells slots Q (F0 m (pc + 3) ls rest)) : W p l e R s m args below meth c H locs cells slots Q (F0 m pc ls (.int (b01 P) :: rest)) :=
  lv_if_ne hexec hb hdg ht (fun h => kt (Decidable.of_not_not (fun q => h (b01_eq0.mpr q)))) (fun h => kf (b01_eq0.mp h))
/-- reading an int array at a known place -/
theorem r_iald (hX : Cx g p s m args c cc nL own) (hP : va_P g.1 vwCl ws H) (q0 : Nat) {a n : Nat} {f : Nat → Int32} (ha : ws[q0]? = some (a, .inl (g.2.1, n, .inl f))) (j : Nat) (hj : j < n) (hn : n < 1000) (hdg : decode cc pc = .ok (.iaload, 1))
    (kk : W p l e R s m args below meth c H locs cells slots Q (F0 m (pc + 1) ls (.int (f j) :: rest))) : W p l e R s m args below meth c H locs cells slots Q (F0 m pc ls (.int (nI j) :: .ref a :: rest)) := by
  refine va_iald hX.1.1 hX.1.2.1 hX.2.1 hP q0 0 ha rfl (vp_in_nI hj (by omega)) hdg ?_
  rw [nI_clamp (by omega)]
  exact kk
theorem r_bald (hX : Cx g p s m args c cc nL own) (hP : va_P g.1 vwCl ws H) (q0 : Nat) {a n : Nat} {f : Nat → Int32} (ha : ws[q0]? = some (a, .inl (g.2.2.1, n, .inl f))) (j : Nat) (hj : j < n) (hn : n < 1000) (hdg : decode cc pc = .ok (.baload, 1))
    (kk : W p l e R s m args below meth c H locs cells slots Q (F0 m (pc + 1) ls (.int (f j) :: rest))) : W p l e R s m args below meth c H locs cells slots Q (F0 m pc ls (.int (nI j) :: .ref a :: rest)) := by
  refine va_bald hX.1.1 hX.1.2.1 hX.2.1 hP q0 1 ha rfl (vp_in_nI hj (by omega)) hdg ?_
  rw [nI_clamp (by omega)]
  exact kk
theorem r_iast (hX : Cx g p s m args c cc nL own) (hZ : Zt g A H0 ro ws H locs) (q0 : Nat) {a n : Nat} {f : Nat → Int32} (ha : ws[q0]? = some (a, .inl (g.2.1, n, .inl f))) (j : Nat) (hj : j < n) (hn : n < 1000) {x : Int32} (hdg : decode cc pc = .ok (.iastore, 1)) (hw : ws.set q0 (a, .inl (g.2.1, n, .inl (upd f j x))) = ws1)
    (kk : ∀ (H1 : Heap) (locs1 : List Loc), Zt g A H0 ro ws1 H1 locs1 → W p l e R s m args below meth c H1 locs1 cells slots Q (F0 m (pc + 1) ls rest)) : W p l e R s m args below meth c H locs cells slots Q (F0 m pc ls (.int x :: .int (nI j) :: .ref a :: rest)) := by
  refine va_iast hX.1.1 hX.1.2.1 hX.2.1 hZ.1 hZ.2.1 hZ.2.2.1 q0 0 ha rfl (vp_in_nI hj (by omega)) hdg ?_
  intro H1 locs1 h1 h2 h3
  rw [nI_clamp (by omega), hw] at h1 h2
  exact kk H1 locs1 ⟨h1, h2, h3, hZ.2.2.2.1, hZ.2.2.2.2⟩
theorem r_bast (hX : Cx g p s m args c cc nL own) (hZ : Zt g A H0 ro ws H locs) (q0 : Nat) {a n : Nat} {f : Nat → Int32} (ha : ws[q0]? = some (a, .inl (g.2.2.1, n, .inl f))) (j : Nat) (hj : j < n) (hn : n < 1000) {x : Int32} (hdg : decode cc pc = .ok (.bastore, 1)) (hw : ws.set q0 (a, .inl (g.2.2.1, n, .inl (upd f j (vp_nar .byte x)))) = ws1)
    (kk : ∀ (H1 : Heap) (locs1 : List Loc), Zt g A H0 ro ws1 H1 locs1 → W p l e R s m args below meth c H1 locs1 cells slots Q (F0 m (pc + 1) ls rest)) : W p l e R s m args below meth c H locs cells slots Q (F0 m pc ls (.int x :: .int (nI j) :: .ref a :: rest)) := by
  refine va_bast hX.1.1 hX.1.2.1 hX.2.1 hZ.1 hZ.2.1 hZ.2.2.1 q0 1 ha rfl (vp_in_nI hj (by omega)) hdg ?_
  intro H1 locs1 h1 h2 h3
  rw [nI_clamp (by omega), hw] at h1 h2
  exact kk H1 locs1 ⟨h1, h2, h3, hZ.2.2.2.1, hZ.2.2.2.2⟩
theorem r_alen (hX : Cx g p s m args c cc nL own) (hP : va_P g.1 vwCl ws H) (q0 : Nat) {a : Nat} {x : vp_A} (ha : ws[q0]? = some (a, .inl (g.2.1, x))) {v : Int32} (hv : nI x.1 = v) (hdg : decode cc pc = .ok (.arraylength, 1))
    (kk : W p l e R s m args below meth c H locs cells slots Q (F0 m (pc + 1) ls (.int v :: rest))) : W p l e R s m args below meth c H locs cells slots Q (F0 m pc ls (.ref a :: rest)) :=
  va_alen hX.1.1 hX.1.2.1 hX.2.1 hP q0 0 ha rfl hv hdg kk
end LAY1
