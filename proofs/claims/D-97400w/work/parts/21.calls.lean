/-! THE LAYER, calls: a method's start and end, a call by contract -/
def setAll (ws : va_W) : List Nat → va_W → va_W
  | i :: is, w :: wc => setAll (ws.set i w) is wc
  | _, _ => ws
theorem setAll_get : ∀ (is : List Nat) (wc ws : va_W) (k : Nat) (q : Nat × va_E), is.length = wc.length → (setAll ws is wc)[k]? = some q → (∃ j : Nat, wc[j]? = some q) ∨ (k ∉ is ∧ ws[k]? = some q)
  | [], [], ws, k, q, _, h => Or.inr ⟨List.not_mem_nil, h⟩
  | [], _ :: _, _, _, _, hl, _ => by simp at hl
  | _ :: _, [], _, _, _, hl, _ => by simp at hl
  | i :: is, w :: wc, ws, k, q, hl, h => by
    rcases setAll_get is wc (ws.set i w) k q (by simpa using hl) h with ⟨j, hj⟩ | ⟨h1, h2⟩
    · exact Or.inl ⟨j + 1, by simpa using hj⟩
    · by_cases e : k = i
      · subst e
        rw [List.getElem?_set_self'] at h2
        cases hw : ws[k]? with
        | none => rw [hw] at h2; simp at h2
        | some z =>
          rw [hw] at h2
          exact Or.inl ⟨0, by simpa using h2⟩
      · rw [List.getElem?_set_ne (fun z => e z.symm)] at h2
        exact Or.inr ⟨by simp [e, h1], h2⟩
theorem va_D.addr {A : Nat → Prop} {ws ws1 : va_W} (h : va_D A ws) (e : ws1.map Prod.fst = ws.map Prod.fst) : va_D A ws1 := by
  have key : ∀ (k : Nat) (q : Nat × va_E), ws1[k]? = some q → ∃ q' : Nat × va_E, ws[k]? = some q' ∧ q'.1 = q.1 := by
    intro k q hk
    have h1 : (ws1.map Prod.fst)[k]? = some q.1 := by rw [List.getElem?_map, hk]; rfl
    rw [e, List.getElem?_map] at h1
    cases hw : ws[k]? with
    | none => rw [hw] at h1; simp at h1
    | some z => rw [hw] at h1; exact ⟨z, rfl, by simpa using h1⟩
  refine ⟨fun i j p q hi hj he => ?_, fun k q hk => ?_⟩
  · obtain ⟨p', hp', e1⟩ := key i p hi
    obtain ⟨q', hq', e2⟩ := key j q hj
    exact h.1 i j p' q' hp' hq' (by rw [e1, e2]; exact he)
  · obtain ⟨q', hq', e1⟩ := key k q hk
    rw [← e1]
    exact h.2 k q' hq'
theorem va_A_sub {ws wc : va_W} {is : List Nat} (hC : is.map (fun i => ws[i]?) = wc.map some) {sz q : Nat} (h : va_A wc sz q) : va_A ws sz q := by
  rcases h with ⟨k, x, hk⟩ | h
  · refine Or.inl ?_
    have h1 : (wc.map some)[k]? = some (some (q, x)) := by rw [List.getElem?_map, hk]; rfl
    rw [← hC, List.getElem?_map] at h1
    cases hi : is[k]? with
    | none => rw [hi] at h1; simp at h1
    | some i => rw [hi] at h1; exact ⟨i, x, by simpa using h1⟩
  · exact Or.inr h
theorem RoK.sub {ro : Heap → Prop} {ws wc : va_W} (h : RoK ro ws) (is : List Nat) (hC : is.map (fun i => ws[i]?) = wc.map some) : RoK ro wc :=
  fun H H1 hz hk hr => h H H1 hz (fun q h1 h2 => hk q h1 (fun z => h2 (va_A_sub hC z))) hr
theorem RoK.sub' {ro : Heap → Prop} {ws wc : va_W} (h : RoK ro ws) (is : List Nat) (hC : is.map (fun i => (ws[i]?).map Prod.fst) = wc.map (fun q => some q.1)) : RoK ro wc := by
  refine fun H H1 hz hk hr => h H H1 hz (fun q h1 h2 => hk q h1 (fun z => h2 ?_)) hr
  rcases z with ⟨k, x, hk⟩ | z
  · have h3 : (wc.map (fun q => some q.1))[k]? = some (some q) := by rw [List.getElem?_map, hk]; rfl
    rw [← hC, List.getElem?_map] at h3
    cases hi : is[k]? with
    | none => rw [hi] at h3; simp at h3
    | some i =>
      rw [hi] at h3
      have h4 : (ws[i]?).map Prod.fst = some q := by simpa using h3
      cases hw : ws[i]? with
      | none => rw [hw] at h4; simp at h4
      | some y =>
        rw [hw] at h4
        have h5 : y.1 = q := by simpa using h4
        exact Or.inl ⟨i, y.2, by rw [hw, ← h5]⟩
  · exact Or.inr z
theorem va_P_nil {D : va_G} {cl : List vw_C} {H : Heap} : va_P D cl [] H := fun k q h => by simp at h
theorem RoK.tt (ws : va_W) : RoK (fun _ => True) ws := fun _ _ _ _ _ => trivial
theorem Zt.back {g : Gx} {A : Nat → Prop} {H0 H H1 : Heap} {ro : Heap → Prop} {ws ws1 wc wc' : va_W} {locs L : List Loc} (hZ : Zt g A H0 ro ws H locs) (is : List Nat) (hC : is.map (fun i => ws[i]?) = wc.map some) (hl : is.length = wc'.length) (hw1 : setAll ws is wc' = ws1) (ha : ws1.map Prod.fst = ws.map Prod.fst)
    (hP1 : va_P g.1 vwCl wc' H1) (hz : H.size ≤ H1.size) (hk : ∀ q : Nat, q < H.size → ¬ va_A wc H.size q → H1[q]? = H[q]?) (hL : ∀ q ∈ L, va_A wc H.size q.base) : Zt g A H0 ro ws1 H1 (locs ++ L) := by
  obtain ⟨hP, hD, hS, hA, hr⟩ := hZ
  have hF := va_free hD hS hA is hC
  refine ⟨?_, hD.addr ha, ⟨Nat.le_trans hS.1 hz, fun q h1 h2 => ?_, fun q hq => ?_⟩, hA, hr⟩
  · subst hw1
    intro k q hkq
    rcases setAll_get is wc' ws k q hl hkq with ⟨j, hj⟩ | ⟨h1, h2⟩
    · exact hP1 j q hj
    · refine (hP k q h2).kept (hk q.1 (hP k q h2).lt ?_)
      rintro (⟨j, x, hj⟩ | h3)
      · have h4 : (wc.map some)[j]? = some (some (q.1, x)) := by rw [List.getElem?_map, hj]; rfl
        rw [← hC, List.getElem?_map] at h4
        cases hi : is[j]? with
        | none => rw [hi] at h4; simp at h4
        | some i =>
          rw [hi] at h4
          have h5 : ws[i]? = some (q.1, x) := by simpa using h4
          have h6 := hD.1 i k _ _ h5 h2 rfl
          subst h6
          exact h1 (List.mem_of_getElem? hi)
      · exact absurd (hP k q h2).lt (by omega)
  · rw [hk q (Nat.lt_of_lt_of_le h1 hS.1) (fun z => h2 (hF q z))]
    exact hS.2.1 q h1 h2
  · rcases List.mem_append.mp hq with h | h
    · exact hS.2.2 q h
    · exact hF _ (hL q h)
theorem blindP {g : Gx} {av : List Value} {ro : Heap → Prop} {ws : va_W} : FrameBlind (va_Pc av (PreP g ro ws)) := fun _ _ _ _ q => ⟨q.1, q.2.calling⟩
theorem blindM {g : Gx} {av : List Value} {sz : Nat} {ro : Heap → Prop} {ws : va_W} : FrameBlind (va_Pc av (PreM g sz ro ws)) := fun _ _ _ _ q => ⟨q.1, q.2.1, q.2.2.1.calling, q.2.2.2⟩
/-- a method that changes no cell, from its entry -/
theorem PM.of {l : Launch} {g : Gx} {y : MethodName} {cy : ByteArray} {nL : Nat} {ret : Option FieldType} {d : Nat} {av : List Value} {ro : Heap → Prop} {ws : va_W} {rv : Option Value} {own : String} (hy : plainName y.cls = true) (ho : y.cls = own) (hlen : (lg_sl av).length ≤ nL)
    (body : ∀ (p : Program) (e : Env) (s : State) (m : MethodId) (below : List Frame) (meth : Method) (c : Code), Cx g p s m av.toArray c cy nL own → meth.sig.returnType = ret → meth.locks = false → va_P g.1 vwCl ws s.heap → ro s.heap → ∀ ls : Array Slot, lv_has ls nL (lv_args 0 av) →
      W p l e (rmD d 0 0) s m av.toArray below meth c s.heap [] 0 0 (MQ below (QcP rv) av.toArray s 0 0 (fun _ => False)) (F0 m 0 ls [])) : PM l g y cy nL ret d av ro ws rv := by
  refine Met.ofW (cc := cy) (maxL := nL) (ret := ret) hy rfl ?_
  intro p e s m args below meth c s₁ B hml hv
  obtain ⟨rfl, hK, hP, hro⟩ := hv
  have hts := atoms_spec (ws := ws_ y cy nL ret) B.pre
  have hts2 : ∀ w ∈ lw_all, w.before av.toArray s = true := fun w h => hts w (List.mem_cons_of_mem _ h)
  have hown : s.vm.findClass y.cls = some m.cls := findClass_of_methodNamed B.named
  rw [ho] at hown
  have hl := lv_entry av (n := nL) hlen
  rw [lg_entry_eq]
  exact body p e s m below meth c ⟨⟨B.exec, B.bytes, hml, hown, hts2⟩, hK⟩ B.returns B.notSynchronized hP hro _ hl
/-- a method that changes cells of its world, from its entry -/
theorem MM.of {l : Launch} {g : Gx} {y : MethodName} {cy : ByteArray} {nL : Nat} {ret : Option FieldType} {d : Nat} {av : List Value} {ro : Heap → Prop} {ws ws' : va_W} {rv : Option Value} {own : String} (hy : plainName y.cls = true) (ho : y.cls = own) (hlen : (lg_sl av).length ≤ nL) (hrk : RoK ro ws)
    (body : ∀ (p : Program) (e : Env) (s : State) (m : MethodId) (below : List Frame) (meth : Method) (c : Code) (A : Nat → Prop), Cx g p s m av.toArray c cy nL own → meth.sig.returnType = ret → meth.locks = false → Zt g A s.heap ro ws s.heap [] → ∀ ls : Array Slot, lv_has ls nL (lv_args 0 av) →
      W p l e (rmD d 0 0) s m av.toArray below meth c s.heap [] 0 0 (MQ below (QcM g A ws' rv) av.toArray s 0 0 A) (F0 m 0 ls [])) : MM l g y cy nL ret d av ro ws ws' rv := by
  intro sz
  refine Met.ofW (cc := cy) (maxL := nL) (ret := ret) hy rfl ?_
  intro p e s m args below meth c s₁ B hml hv
  obtain ⟨rfl, hsz, ⟨hK, hP, hro⟩, hD⟩ := hv
  subst hsz
  have hts := atoms_spec (ws := ws_ y cy nL ret) B.pre
  have hts2 : ∀ w ∈ lw_all, w.before av.toArray s = true := fun w h => hts w (List.mem_cons_of_mem _ h)
  have hown : s.vm.findClass y.cls = some m.cls := findClass_of_methodNamed B.named
  rw [ho] at hown
  have hl := lv_entry av (n := nL) hlen
  rw [lg_entry_eq]
  exact body p e s m below meth c (va_A ws s.heap.size) ⟨⟨B.exec, B.bytes, hml, hown, hts2⟩, hK⟩ B.returns B.notSynchronized ⟨hP, hD.self, va_S.rf, fun q h => Or.inr h, fun H1 h1 h2 => hrk s.heap H1 h1 h2 hro⟩ _ hl
section LAY2
variable {p : Program} {l : Launch} {e : Env} {R : Room} {s : State} {m : MethodId} {args : Array Value} {below : List Frame} {meth : Method} {c : Code} {H : Heap} {locs : List Loc} {cells slots : Nat} {Q : State → Prop}
variable {g : Gx} {cc : ByteArray} {nL pc : Nat} {own : String} {ls : Array Slot} {rest : List Value} {A : Nat → Prop} {H0 : Heap} {ro : Heap → Prop} {ws ws1 : va_W}
theorem PM.iret (hX : Cx g p s m args c cc nL own) (hr : meth.sig.returnType = some .int) (hlk : meth.locks = false) {v r : Int32} (hv : v = r) (hdg : decode cc pc = .ok (.ireturn, 1)) : W p l e R s m args below meth c s.heap [] 0 0 (MQ below (QcP (some (.int r))) args s 0 0 (fun _ => False)) (F0 m pc ls [.int v]) := by
  subst hv
  exact W.iret hX.1.1 hX.1.2.1 hr (fun t ht _ => ⟨rfl, ht⟩) (fun q h => by cases h) hdg hlk
theorem nar_b {v : Int32} (h : v = 0 ∨ v = 1) : narrow .boolean (.int v) = .int v := by
  rcases h with rfl | rfl <;> rfl
theorem fit_b {v : Int32} (h : v = 0 ∨ v = 1) : fits .boolean (.int v) = true := by
  rcases h with rfl | rfl <;> rfl
theorem PM.zret (hX : Cx g p s m args c cc nL own) (hr : meth.sig.returnType = some .boolean) (hlk : meth.locks = false) {v r : Int32} (hv : v = r) (h01 : v = 0 ∨ v = 1) (hdg : decode cc pc = .ok (.ireturn, 1)) : W p l e R s m args below meth c s.heap [] 0 0 (MQ below (QcP (some (.int r))) args s 0 0 (fun _ => False)) (F0 m pc ls [.int v]) := by
  subst hv
  exact W.zret hX.1.1 hX.1.2.1 hr (nar_b h01) (fun t ht _ => ⟨rfl, ht⟩) (fun q h => by cases h) hdg hlk
theorem PM.lret (hX : Cx g p s m args c cc nL own) (hr : meth.sig.returnType = some .long) (hlk : meth.locks = false) {v r : Int64} (hv : v = r) (hdg : decode cc pc = .ok (.lreturn, 1)) : W p l e R s m args below meth c s.heap [] 0 0 (MQ below (QcP (some (.long r))) args s 0 0 (fun _ => False)) (F0 m pc ls [.long v]) := by
  subst hv
  exact W.lret hX.1.1 hX.1.2.1 hr (fun t ht _ => ⟨rfl, ht⟩) (fun q h => by cases h) hdg hlk
theorem PM.aret (hX : Cx g p s m args c cc nL own) {rt : FieldType} (hr : meth.sig.returnType = some rt) (hrt : (∃ n, rt = .object n) ∨ ∃ t, rt = .array t) (hlk : meth.locks = false) {v : Nat} (hdg : decode cc pc = .ok (.areturn, 1)) : W p l e R s m args below meth c s.heap [] 0 0 (MQ below (QcP (some (.ref v))) args s 0 0 (fun _ => False)) (F0 m pc ls [.ref v]) :=
  W.aret hX.1.1 hX.1.2.1 hr hrt (Or.inr ⟨v, rfl⟩) (fun t ht _ => ⟨rfl, ht⟩) (fun q h => by cases h) hdg hlk
theorem MM.iret (hX : Cx g p s m args c cc nL own) (hr : meth.sig.returnType = some .int) (hlk : meth.locks = false) (hZ : Zt g A s.heap ro ws H locs) (hw : ws = ws1) {v r : Int32} (hv : v = r) (hdg : decode cc pc = .ok (.ireturn, 1)) : W p l e R s m args below meth c H locs 0 0 (MQ below (QcM g A ws1 (some (.int r))) args s 0 0 A) (F0 m pc ls [.int v]) := by
  subst hv; subst hw
  exact W.iret hX.1.1 hX.1.2.1 hr (fun t ht _ => ⟨rfl, by rw [ht]; exact hZ.1, hZ.2.2.1.F ht⟩) hZ.2.2.1.2.2 hdg hlk
theorem MM.zret (hX : Cx g p s m args c cc nL own) (hr : meth.sig.returnType = some .boolean) (hlk : meth.locks = false) (hZ : Zt g A s.heap ro ws H locs) (hw : ws = ws1) {v r : Int32} (hv : v = r) (h01 : v = 0 ∨ v = 1) (hdg : decode cc pc = .ok (.ireturn, 1)) : W p l e R s m args below meth c H locs 0 0 (MQ below (QcM g A ws1 (some (.int r))) args s 0 0 A) (F0 m pc ls [.int v]) := by
  subst hv; subst hw
  exact W.zret hX.1.1 hX.1.2.1 hr (nar_b h01) (fun t ht _ => ⟨rfl, by rw [ht]; exact hZ.1, hZ.2.2.1.F ht⟩) hZ.2.2.1.2.2 hdg hlk
theorem MM.vret (hX : Cx g p s m args c cc nL own) (hr : meth.sig.returnType = none) (hlk : meth.locks = false) (hZ : Zt g A s.heap ro ws H locs) (hw : ws = ws1) (hdg : decode cc pc = .ok (.return_, 1)) : W p l e R s m args below meth c H locs 0 0 (MQ below (QcM g A ws1 none) args s 0 0 A) (F0 m pc ls []) := by
  subst hw
  exact W.vret hX.1.1 hX.1.2.1 hr (fun t ht _ => ⟨rfl, by rw [ht]; exact hZ.1, hZ.2.2.1.F ht⟩) hZ.2.2.1.2.2 hdg hlk
theorem MM.lret (hX : Cx g p s m args c cc nL own) (hr : meth.sig.returnType = some .long) (hlk : meth.locks = false) (hZ : Zt g A s.heap ro ws H locs) (hw : ws = ws1) {v r : Int64} (hv : v = r) (hdg : decode cc pc = .ok (.lreturn, 1)) : W p l e R s m args below meth c H locs 0 0 (MQ below (QcM g A ws1 (some (.long r))) args s 0 0 A) (F0 m pc ls [.long v]) := by
  subst hv; subst hw
  exact W.lret hX.1.1 hX.1.2.1 hr (fun t ht _ => ⟨rfl, by rw [ht]; exact hZ.1, hZ.2.2.1.F ht⟩) hZ.2.2.1.2.2 hdg hlk
variable {y x : MethodName} {cy : ByteArray} {nLy n index d b : Nat} {ret : Option FieldType} {wc wc' : va_W} {rv : Option Value} {As st0 : List Value} {C host owner : String} {a : Array Value}
/-- the receiver's class, by its place in the world -/
theorem r_recv (hX : Cx g p s m args c cc nL own) (hP : va_P g.1 vwCl ws H) (q0 : Nat) {ci : Nat} {q : vw_C} {fs : List Value} (he : ws[q0]? = some (b, .inr (ci, fs))) (hc : vwCl[ci]? = some q) : ∃ cell : Cell, H[b]? = some cell ∧ cell.vm.isStatics = false ∧ s.vm.findClass q.1 = some cell.cls := va_recv hX.2.1 hP hc he
theorem PM.runV (hX : Cx g p s m args c cc nL own) (hM : PM l g y cy nLy ret d (.ref b :: As) ro wc rv) (cw : CallW R s args own C index y cy nLy ret (ws_ y cy nLy ret) (rmD d 0 0) 0 0 n) (hP : va_P g.1 vwCl wc H) (hr : ro H) (hrc : ∃ cell : Cell, H[b]? = some cell ∧ cell.vm.isStatics = false ∧ s.vm.findClass C = some cell.cls)
    (hn : As.length = n) (hsize : ls.size = nL) (hst : st0 = As.reverse ++ .ref b :: rest) (hW : (rest.map fun v => v.category).sum ≤ 8) (hdg : decode cc pc = .ok (.invokevirtual index, 3)) (hf : cells ≤ R.cells ∧ slots ≤ R.slots) :
    va_Run p l e R s m args below meth c H locs cells slots 0 0 (F0 m pc ls st0) rest (QcP rv (Value.ref b :: As).toArray) (fun _ => False) :=
  va_runV hX.1 hM cw ⟨blindP, hrc, fun U hU hW => ⟨rfl, bK.moved hW hX.2, by rw [hU]; exact hP, by rw [hU]; exact hr⟩⟩ rfl hn hsize hst (lv_room hW) hdg hf
theorem PM.runU (hX : Cx g p s m args c cc nL own) (hM : PM l g y cy nLy ret d (.ref b :: As) ro wc rv) (cw : va_CU R s args own C owner index x y cy nLy ret (ws_ y cy nLy ret) (rmD d 0 0) 0 0 n) (hP : va_P g.1 vwCl wc H) (hr : ro H) (hrc : ∃ cell : Cell, H[b]? = some cell ∧ cell.vm.isStatics = false ∧ s.vm.findClass C = some cell.cls)
    (hn : As.length = n) (hsize : ls.size = nL) (hst : st0 = As.reverse ++ .ref b :: rest) (hW : (rest.map fun v => v.category).sum ≤ 8) (hdg : decode cc pc = .ok (.invokevirtual index, 3)) (hf : cells ≤ R.cells ∧ slots ≤ R.slots) :
    va_Run p l e R s m args below meth c H locs cells slots 0 0 (F0 m pc ls st0) rest (QcP rv (Value.ref b :: As).toArray) (fun _ => False) :=
  va_runU hX.1 hM cw ⟨blindP, hrc, fun U hU hW => ⟨rfl, bK.moved hW hX.2, by rw [hU]; exact hP, by rw [hU]; exact hr⟩⟩ rfl hn hsize hst (lv_room hW) hdg hf
theorem PM.runSU {cC : ClassId} (hat : ClassAt s C cC) (hX : Cx g p s m args c cc nL own) (hM : PM l g y cy nLy ret d (.ref b :: As) ro wc rv) (cw : va_CS R s args own index y cy nLy ret (ws_ y cy nLy ret) (rmD d 0 0) 0 0 n) (hP : va_P g.1 vwCl wc H) (hr : ro H) (hrc : ∃ cell : Cell, H[b]? = some cell ∧ cell.vm.isStatics = false ∧ s.vm.findClass C = some cell.cls)
    (hn : As.length = n) (hsize : ls.size = nL) (hst : st0 = As.reverse ++ .ref b :: rest) (hW : (rest.map fun v => v.category).sum ≤ 8) (hdg : decode cc pc = .ok (.invokespecial index, 3)) (hf : cells ≤ R.cells ∧ slots ≤ R.slots) :
    va_Run p l e R s m args below meth c H locs cells slots 0 0 (F0 m pc ls st0) rest (QcP rv (Value.ref b :: As).toArray) (fun _ => False) :=
  va_runSU hat hX.1 hM cw ⟨blindP, hrc, fun U hU hW => ⟨rfl, bK.moved hW hX.2, by rw [hU]; exact hP, by rw [hU]; exact hr⟩⟩ rfl hn hsize hst (lv_room hW) hdg hf
theorem PM.runS (hX : Cx g p s m args c cc nL own) (hM : PM l g y cy nLy ret d As ro wc rv) (cw : CallB R s args own index y cy nLy ret (ws_ y cy nLy ret) (rmD d 0 0) 0 0 n ∧ (Cond.static y).before args s = true) (hP : va_P g.1 vwCl wc H) (hr : ro H)
    (hn : As.length = n) (hsize : ls.size = nL) (hst : st0 = As.reverse ++ rest) (hW : (rest.map fun v => v.category).sum ≤ 8) (hdg : decode cc pc = .ok (.invokestatic index, 3)) (hf : cells ≤ R.cells ∧ slots ≤ R.slots) :
    va_Run p l e R s m args below meth c H locs cells slots 0 0 (F0 m pc ls st0) rest (QcP rv As.toArray) (fun _ => False) :=
  va_runS hX.1 hM cw ⟨blindP, fun U hU hW => ⟨rfl, bK.moved hW hX.2, by rw [hU]; exact hP, by rw [hU]; exact hr⟩⟩ rfl hn hsize hst (lv_room hW) hdg hf
theorem PM.runSN (hX : Cx g p s m args c cc nL own) (hM : PM l g y cy nLy ret d As ro wc rv) (cw : va_CN R s args own index y host cy nLy ret (ws_ y cy nLy ret) (rmD d 0 0) 0 0 n ∧ (Cond.static y).before args s = true ∧ True) (hP : va_P g.1 vwCl wc H) (hr : ro H)
    (hn : As.length = n) (hsize : ls.size = nL) (hst : st0 = As.reverse ++ rest) (hW : (rest.map fun v => v.category).sum ≤ 8) (hdg : decode cc pc = .ok (.invokestatic index, 3)) (hf : cells ≤ R.cells ∧ slots ≤ R.slots) :
    va_Run p l e R s m args below meth c H locs cells slots 0 0 (F0 m pc ls st0) rest (QcP rv As.toArray) (fun _ => False) :=
  va_runSN hX.1 hM cw ⟨blindP, fun U hU hW => ⟨rfl, bK.moved hW hX.2, by rw [hU]; exact hP, by rw [hU]; exact hr⟩⟩ rfl hn hsize hst (lv_room hW) hdg hf
theorem MM.runV (hX : Cx g p s m args c cc nL own) (hM : MM l g y cy nLy ret d (.ref b :: As) ro wc wc' rv) (cw : CallW R s args own C index y cy nLy ret (ws_ y cy nLy ret) (rmD d 0 0) 0 0 n) (hP : va_P g.1 vwCl wc H) (hD : va_D A wc) (hr : ro H) (hrc : ∃ cell : Cell, H[b]? = some cell ∧ cell.vm.isStatics = false ∧ s.vm.findClass C = some cell.cls)
    (hn : As.length = n) (hsize : ls.size = nL) (hst : st0 = As.reverse ++ .ref b :: rest) (hW : (rest.map fun v => v.category).sum ≤ 8) (hdg : decode cc pc = .ok (.invokevirtual index, 3)) (hf : cells ≤ R.cells ∧ slots ≤ R.slots) :
    va_Run p l e R s m args below meth c H locs cells slots 0 0 (F0 m pc ls st0) rest (QcM g (va_A wc H.size) wc' rv (Value.ref b :: As).toArray) (va_A wc H.size) :=
  va_runV hX.1 (hM H.size) cw ⟨blindM, hrc, fun U hU hW => ⟨rfl, by rw [hU], ⟨bK.moved hW hX.2, by rw [hU]; exact hP, by rw [hU]; exact hr⟩, hD.weaken (fun _ _ _ _ => trivial)⟩⟩ rfl hn hsize hst (lv_room hW) hdg hf
theorem MM.runS (hX : Cx g p s m args c cc nL own) (hM : MM l g y cy nLy ret d As ro wc wc' rv) (cw : CallB R s args own index y cy nLy ret (ws_ y cy nLy ret) (rmD d 0 0) 0 0 n ∧ (Cond.static y).before args s = true) (hP : va_P g.1 vwCl wc H) (hD : va_D A wc) (hr : ro H)
    (hn : As.length = n) (hsize : ls.size = nL) (hst : st0 = As.reverse ++ rest) (hW : (rest.map fun v => v.category).sum ≤ 8) (hdg : decode cc pc = .ok (.invokestatic index, 3)) (hf : cells ≤ R.cells ∧ slots ≤ R.slots) :
    va_Run p l e R s m args below meth c H locs cells slots 0 0 (F0 m pc ls st0) rest (QcM g (va_A wc H.size) wc' rv As.toArray) (va_A wc H.size) :=
  va_runS hX.1 (hM H.size) cw ⟨blindM, fun U hU hW => ⟨rfl, by rw [hU], ⟨bK.moved hW hX.2, by rw [hU]; exact hP, by rw [hU]; exact hr⟩, hD.weaken (fun _ _ _ _ => trivial)⟩⟩ rfl hn hsize hst (lv_room hW) hdg hf
/-- behind a call that changes nothing -/
theorem PM.ci {r : Int32} (hr : va_Run p l e R s m args below meth c H locs cells slots 0 0 (F0 m pc ls st0) rest (QcP (some (.int r)) a) (fun _ => False)) (kk : W p l e R s m args below meth c H locs cells slots Q (F0 m (pc + 3) ls (.int r :: rest))) : W p l e R s m args below meth c H locs cells slots Q (F0 m pc ls st0) := by
  intro T hT X
  obtain ⟨v, st₀, t, T', L, h0, X', hL, e1, e2, ⟨hv, hh⟩, st⟩ := hr T hT X
  cases hv
  obtain ⟨t2, a1, b1⟩ := kk T' (by rw [e1, hh, h0]) (Stand.forget X' (fun q h => (hL q h).elim))
  exact ⟨t2, st t2 a1, b1⟩
theorem PM.cl {r : Int64} (hr : va_Run p l e R s m args below meth c H locs cells slots 0 0 (F0 m pc ls st0) rest (QcP (some (.long r)) a) (fun _ => False)) (kk : W p l e R s m args below meth c H locs cells slots Q (F0 m (pc + 3) ls (.long r :: rest))) : W p l e R s m args below meth c H locs cells slots Q (F0 m pc ls st0) := by
  intro T hT X
  obtain ⟨v, st₀, t, T', L, h0, X', hL, e1, e2, ⟨hv, hh⟩, st⟩ := hr T hT X
  cases hv
  obtain ⟨t2, a1, b1⟩ := kk T' (by rw [e1, hh, h0]) (Stand.forget X' (fun q h => (hL q h).elim))
  exact ⟨t2, st t2 a1, b1⟩
theorem PM.cr {r : Nat} (hr : va_Run p l e R s m args below meth c H locs cells slots 0 0 (F0 m pc ls st0) rest (QcP (some (.ref r)) a) (fun _ => False)) (kk : W p l e R s m args below meth c H locs cells slots Q (F0 m (pc + 3) ls (.ref r :: rest))) : W p l e R s m args below meth c H locs cells slots Q (F0 m pc ls st0) := by
  intro T hT X
  obtain ⟨v, st₀, t, T', L, h0, X', hL, e1, e2, ⟨hv, hh⟩, st⟩ := hr T hT X
  cases hv
  obtain ⟨t2, a1, b1⟩ := kk T' (by rw [e1, hh, h0]) (Stand.forget X' (fun q h => (hL q h).elim))
  exact ⟨t2, st t2 a1, b1⟩
/-- behind a call that changes cells -/
theorem MM.ci {r : Int32} (hr : va_Run p l e R s m args below meth c H locs cells slots 0 0 (F0 m pc ls st0) rest (QcM g (va_A wc H.size) wc' (some (.int r)) a) (va_A wc H.size)) (hZ : Zt g A H0 ro ws H locs) (is : List Nat) (hC : is.map (fun i => ws[i]?) = wc.map some) (hl : is.length = wc'.length) (hw1 : setAll ws is wc' = ws1) (ha : ws1.map Prod.fst = ws.map Prod.fst)
    (kk : ∀ (H1 : Heap) (locs1 : List Loc), Zt g A H0 ro ws1 H1 locs1 → W p l e R s m args below meth c H1 locs1 cells slots Q (F0 m (pc + 3) ls (.int r :: rest))) : W p l e R s m args below meth c H locs cells slots Q (F0 m pc ls st0) := by
  intro T hT X
  obtain ⟨v, st₀, t, T', L, h0, X', hL, e1, e2, ⟨hv, hp, hz, hk⟩, st⟩ := hr T hT X
  cases hv
  rw [h0] at hz hk
  obtain ⟨t2, a1, b1⟩ := kk T'.heap (locs ++ L) (hZ.back is hC hl hw1 ha (by rw [e1]; exact hp) (by rw [e1]; exact hz) (fun q h1 h2 => by rw [e1]; exact hk q h1 h2) hL) T' rfl X'
  exact ⟨t2, st t2 a1, b1⟩
theorem MM.cl {r : Int64} (hr : va_Run p l e R s m args below meth c H locs cells slots 0 0 (F0 m pc ls st0) rest (QcM g (va_A wc H.size) wc' (some (.long r)) a) (va_A wc H.size)) (hZ : Zt g A H0 ro ws H locs) (is : List Nat) (hC : is.map (fun i => ws[i]?) = wc.map some) (hl : is.length = wc'.length) (hw1 : setAll ws is wc' = ws1) (ha : ws1.map Prod.fst = ws.map Prod.fst)
    (kk : ∀ (H1 : Heap) (locs1 : List Loc), Zt g A H0 ro ws1 H1 locs1 → W p l e R s m args below meth c H1 locs1 cells slots Q (F0 m (pc + 3) ls (.long r :: rest))) : W p l e R s m args below meth c H locs cells slots Q (F0 m pc ls st0) := by
  intro T hT X
  obtain ⟨v, st₀, t, T', L, h0, X', hL, e1, e2, ⟨hv, hp, hz, hk⟩, st⟩ := hr T hT X
  cases hv
  rw [h0] at hz hk
  obtain ⟨t2, a1, b1⟩ := kk T'.heap (locs ++ L) (hZ.back is hC hl hw1 ha (by rw [e1]; exact hp) (by rw [e1]; exact hz) (fun q h1 h2 => by rw [e1]; exact hk q h1 h2) hL) T' rfl X'
  exact ⟨t2, st t2 a1, b1⟩
theorem MM.cv (hr : va_Run p l e R s m args below meth c H locs cells slots 0 0 (F0 m pc ls st0) rest (QcM g (va_A wc H.size) wc' none a) (va_A wc H.size)) (hZ : Zt g A H0 ro ws H locs) (is : List Nat) (hC : is.map (fun i => ws[i]?) = wc.map some) (hl : is.length = wc'.length) (hw1 : setAll ws is wc' = ws1) (ha : ws1.map Prod.fst = ws.map Prod.fst)
    (kk : ∀ (H1 : Heap) (locs1 : List Loc), Zt g A H0 ro ws1 H1 locs1 → W p l e R s m args below meth c H1 locs1 cells slots Q (F0 m (pc + 3) ls rest)) : W p l e R s m args below meth c H locs cells slots Q (F0 m pc ls st0) := by
  intro T hT X
  obtain ⟨v, st₀, t, T', L, h0, X', hL, e1, e2, ⟨hv, hp, hz, hk⟩, st⟩ := hr T hT X
  cases hv
  rw [h0] at hz hk
  obtain ⟨t2, a1, b1⟩ := kk T'.heap (locs ++ L) (hZ.back is hC hl hw1 ha (by rw [e1]; exact hp) (by rw [e1]; exact hz) (fun q h1 h2 => by rw [e1]; exact hk q h1 h2) hL) T' rfl X'
  exact ⟨t2, st t2 a1, b1⟩
end LAY2
/-- what a call of an inherited, of an overriding method asks; a super call -/
theorem lw_U {own : String} {idx : Nat} {C owner : String} {x y : MethodName} {b : ByteArray} {L : Nat} {r : Option FieldType} (h1 : Cond.methodLink own idx x ∈ lw_all) (h2 : Cond.sameMethod x.cls owner x.name x.desc ∈ lw_all) (h3 : Cond.selects C x y ∈ lw_all) (h4 : Cond.instanceMethod y ∈ lw_all) (h5 : Cond.initialized y.cls ∈ lw_all) (h6 : Cond.code y b L r ∈ lw_all) : GoodIn lw_all (va_wsU own idx C owner x y (ws_ y b L r)) := by
  refine lw_app ?_ (lw_meth h6)
  intro w hw
  simp only [List.mem_cons, List.not_mem_nil, or_false] at hw
  rcases hw with e | e | e | e | e
  · rw [e]; exact h1
  · rw [e]; exact h2
  · rw [e]; exact h3
  · rw [e]; exact h4
  · rw [e]; exact h5
theorem lw_O {own : String} {idx : Nat} {C owner : String} {x y : MethodName} {b : ByteArray} {L : Nat} {r : Option FieldType} (h1 : Cond.methodLink own idx x ∈ lw_all) (h2 : Cond.sameMethod x.cls owner x.name x.desc ∈ lw_all) (h0 : Cond.instanceMethod ⟨owner, x.name, x.desc⟩ ∈ lw_all) (h3 : Cond.selects C x y ∈ lw_all) (h4 : Cond.instanceMethod y ∈ lw_all) (h5 : Cond.initialized y.cls ∈ lw_all) (h6 : Cond.code y b L r ∈ lw_all) : GoodIn lw_all (va_wsO own idx C owner x y (ws_ y b L r)) := by
  refine lw_app ?_ (lw_meth h6)
  intro w hw
  simp only [List.mem_cons, List.not_mem_nil, or_false] at hw
  rcases hw with e | e | e | e | e | e
  · rw [e]; exact h1
  · rw [e]; exact h2
  · rw [e]; exact h0
  · rw [e]; exact h3
  · rw [e]; exact h4
  · rw [e]; exact h5
theorem lw_SU {own : String} {idx : Nat} {y : MethodName} {b : ByteArray} {L : Nat} {r : Option FieldType} (h1 : Cond.methodLink own idx y ∈ lw_all) (h2 : Cond.sameMethod y.cls y.cls y.name y.desc ∈ lw_all) (h3 : Cond.superclass own y.cls ∈ lw_all) (h4 : Cond.instanceMethod y ∈ lw_all) (h5 : Cond.initialized y.cls ∈ lw_all) (h6 : Cond.code y b L r ∈ lw_all) : GoodIn lw_all (va_wsSU own idx y (ws_ y b L r)) := by
  refine lw_app ?_ (lw_meth h6)
  intro w hw
  simp only [List.mem_cons, List.not_mem_nil, or_false] at hw
  rcases hw with e | e | e | e | e
  · rw [e]; exact h1
  · rw [e]; exact h2
  · rw [e]; exact h3
  · rw [e]; exact h4
  · rw [e]; exact h5
