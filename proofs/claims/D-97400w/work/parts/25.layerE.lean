/-! THE LAYER, further: methods that leave some rows behind in any state (u), loops with such rows -/
def QcE (g : Gx) (A : Nat → Prop) (ws' : (Nat → Nat → Int32) → va_W) (rv : Option Value) : Array Value → State → Outcome → State → Prop := fun _ st oc t => oc = .returned rv ∧ (∃ u : Nat → Nat → Int32, va_P g.1 vwCl (ws' u) t.heap) ∧ va_F A st t
def EM (l : Launch) (g : Gx) (y : MethodName) (cy : ByteArray) (nL : Nat) (ret : Option FieldType) (d : Nat) (av : List Value) (ro : Heap → Prop) (ws : va_W) (ws' : (Nat → Nat → Int32) → va_W) (rv : Option Value) : Prop :=
  ∀ sz : Nat, Met l y (ws_ y cy nL ret) (rmD d 0 0) (va_Pc av (PreM g sz ro ws)) (QcE g (va_A ws sz) ws' rv) 0 0 (va_A ws sz)
theorem EM.of {l : Launch} {g : Gx} {y : MethodName} {cy : ByteArray} {nL : Nat} {ret : Option FieldType} {d : Nat} {av : List Value} {ro : Heap → Prop} {ws : va_W} {ws' : (Nat → Nat → Int32) → va_W} {rv : Option Value} {own : String} (hy : plainName y.cls = true) (ho : y.cls = own) (hlen : (lg_sl av).length ≤ nL) (hrk : RoK ro ws)
    (body : ∀ (p : Program) (e : Env) (s : State) (m : MethodId) (below : List Frame) (meth : Method) (c : Code) (A : Nat → Prop), Cx g p s m av.toArray c cy nL own → meth.sig.returnType = ret → meth.locks = false → Zt g A s.heap ro ws s.heap [] → ∀ ls : Array Slot, lv_has ls nL (lv_args 0 av) →
      W p l e (rmD d 0 0) s m av.toArray below meth c s.heap [] 0 0 (MQ below (QcE g A ws' rv) av.toArray s 0 0 A) (F0 m 0 ls [])) : EM l g y cy nL ret d av ro ws ws' rv := by
  intro sz
  refine Met.ofW (cc := cy) (maxL := nL) (ret := ret) hy rfl ?_
  intro p e s m args below meth c s₁ B hml hv
  obtain ⟨rfl, hsz, ⟨hK, hP, hro⟩, hD⟩ := hv
  subst hsz
  have hts := atoms_spec (ws := ws_ y cy nL ret) B.pre
  have hts2 : ∀ w ∈ lw_all, w.before av.toArray s = true := fun w h => hts w (List.mem_cons_of_mem _ h)
  have hown : s.vm.findClass y.cls = some m.cls := findClass_of_methodNamed B.named
  rw [ho] at hown
  have hl := lv_entry av (n := nL) hlen
  rw [lg_entry_eq]
  exact body p e s m below meth c (va_A ws s.heap.size) ⟨⟨B.exec, B.bytes, hml, hown, hts2⟩, hK⟩ B.returns B.notSynchronized ⟨hP, hD.self, va_S.rf, fun q h => Or.inr h, fun H1 h1 h2 => hrk s.heap H1 h1 h2 hro⟩ _ hl
theorem RoK.addr {ro : Heap → Prop} {ws ws1 : va_W} (h : RoK ro ws) (e : ws1.map Prod.fst = ws.map Prod.fst) : RoK ro ws1 := by
  refine fun H H1 hz hk hr => h H H1 hz (fun q h1 h2 => hk q h1 (fun z => h2 ?_)) hr
  rcases z with ⟨k, x, hk⟩ | z
  · have h3 : (ws1.map Prod.fst)[k]? = some q := by rw [List.getElem?_map, hk]; rfl
    rw [e, List.getElem?_map] at h3
    cases hw : ws[k]? with
    | none => rw [hw] at h3; simp at h3
    | some y =>
      rw [hw] at h3
      have h5 : y.1 = q := by simpa using h3
      exact Or.inl ⟨k, y.2, by rw [hw, ← h5]⟩
  · exact Or.inr z
theorem Zt.all {g : Gx} {A : Nat → Prop} {H0 H H1 : Heap} {ro : Heap → Prop} {ws wc' : va_W} {locs L : List Loc} (hZ : Zt g A H0 ro ws H locs) (ha : wc'.map Prod.fst = ws.map Prod.fst)
    (hP1 : va_P g.1 vwCl wc' H1) (hz : H.size ≤ H1.size) (hk : ∀ q : Nat, q < H.size → ¬ va_A ws H.size q → H1[q]? = H[q]?) (hL : ∀ q ∈ L, va_A ws H.size q.base) : Zt g A H0 ro wc' H1 (locs ++ L) := by
  obtain ⟨hP, hD, hS, hA, hr⟩ := hZ
  have hF : ∀ q, va_A ws H.size q → A q := by
    rintro q (⟨k, x, hk⟩ | h)
    · exact hD.2 k _ hk
    · exact hA q (Nat.le_trans hS.1 h)
  refine ⟨hP1, hD.addr ha, ⟨Nat.le_trans hS.1 hz, fun q h1 h2 => ?_, fun q hq => ?_⟩, hA, hr⟩
  · rw [hk q (Nat.lt_of_lt_of_le h1 hS.1) (fun z => h2 (hF q z))]
    exact hS.2.1 q h1 h2
  · rcases List.mem_append.mp hq with h | h
    · exact hS.2.2 q h
    · exact hF _ (hL q h)
def ix (x : Int32) : Nat := x.toNatClampNeg
theorem ix_nI {j : Nat} (h : j < 2 ^ 31) : ix (nI j) = j := nI_clamp h
section LAYE
variable {p : Program} {l : Launch} {e : Env} {R : Room} {s : State} {m : MethodId} {args : Array Value} {below : List Frame} {meth : Method} {c : Code} {H : Heap} {locs : List Loc} {cells slots : Nat} {Q : State → Prop}
variable {g : Gx} {cc : ByteArray} {nL pc : Nat} {own : String} {ls : Array Slot} {rest : List Value} {A : Nat → Prop} {H0 : Heap} {ro : Heap → Prop} {ws : va_W} {ws1 : (Nat → Nat → Int32) → va_W}
theorem EM.iret (hX : Cx g p s m args c cc nL own) (hr : meth.sig.returnType = some .int) (hlk : meth.locks = false) (hZ : Zt g A s.heap ro ws H locs) (u : Nat → Nat → Int32) (hw : ws = ws1 u) {v r : Int32} (hv : v = r) (hdg : decode cc pc = .ok (.ireturn, 1)) : W p l e R s m args below meth c H locs 0 0 (MQ below (QcE g A ws1 (some (.int r))) args s 0 0 A) (F0 m pc ls [.int v]) := by
  subst hv; subst hw
  exact W.iret hX.1.1 hX.1.2.1 hr (fun t ht _ => ⟨rfl, ⟨u, by rw [ht]; exact hZ.1⟩, hZ.2.2.1.F ht⟩) hZ.2.2.1.2.2 hdg hlk
theorem EM.zret (hX : Cx g p s m args c cc nL own) (hr : meth.sig.returnType = some .boolean) (hlk : meth.locks = false) (hZ : Zt g A s.heap ro ws H locs) (u : Nat → Nat → Int32) (hw : ws = ws1 u) {v r : Int32} (hv : v = r) (h01 : v = 0 ∨ v = 1) (hdg : decode cc pc = .ok (.ireturn, 1)) : W p l e R s m args below meth c H locs 0 0 (MQ below (QcE g A ws1 (some (.int r))) args s 0 0 A) (F0 m pc ls [.int v]) := by
  subst hv; subst hw
  exact W.zret hX.1.1 hX.1.2.1 hr (nar_b h01) (fun t ht _ => ⟨rfl, ⟨u, by rw [ht]; exact hZ.1⟩, hZ.2.2.1.F ht⟩) hZ.2.2.1.2.2 hdg hlk
theorem EM.vret (hX : Cx g p s m args c cc nL own) (hr : meth.sig.returnType = none) (hlk : meth.locks = false) (hZ : Zt g A s.heap ro ws H locs) (u : Nat → Nat → Int32) (hw : ws = ws1 u) (hdg : decode cc pc = .ok (.return_, 1)) : W p l e R s m args below meth c H locs 0 0 (MQ below (QcE g A ws1 none) args s 0 0 A) (F0 m pc ls []) := by
  subst hw
  exact W.vret hX.1.1 hX.1.2.1 hr (fun t ht _ => ⟨rfl, ⟨u, by rw [ht]; exact hZ.1⟩, hZ.2.2.1.F ht⟩) hZ.2.2.1.2.2 hdg hlk
theorem EM.lret (hX : Cx g p s m args c cc nL own) (hr : meth.sig.returnType = some .long) (hlk : meth.locks = false) (hZ : Zt g A s.heap ro ws H locs) (u : Nat → Nat → Int32) (hw : ws = ws1 u) {v r : Int64} (hv : v = r) (hdg : decode cc pc = .ok (.lreturn, 1)) : W p l e R s m args below meth c H locs 0 0 (MQ below (QcE g A ws1 (some (.long r))) args s 0 0 A) (F0 m pc ls [.long v]) := by
  subst hv; subst hw
  exact W.lret hX.1.1 hX.1.2.1 hr (fun t ht _ => ⟨rfl, ⟨u, by rw [ht]; exact hZ.1⟩, hZ.2.2.1.F ht⟩) hZ.2.2.1.2.2 hdg hlk
variable {y : MethodName} {cy : ByteArray} {nLy n index d b : Nat} {ret : Option FieldType} {wc : va_W} {wc' : (Nat → Nat → Int32) → va_W} {rv : Option Value} {As st0 : List Value} {C : String} {a : Array Value}
theorem EM.runV (hX : Cx g p s m args c cc nL own) (hM : EM l g y cy nLy ret d (.ref b :: As) ro wc wc' rv) (cw : CallW R s args own C index y cy nLy ret (ws_ y cy nLy ret) (rmD d 0 0) 0 0 n) (hP : va_P g.1 vwCl wc H) (hD : va_D A wc) (hr : ro H) (hrc : ∃ cell : Cell, H[b]? = some cell ∧ cell.vm.isStatics = false ∧ s.vm.findClass C = some cell.cls)
    (hn : As.length = n) (hsize : ls.size = nL) (hst : st0 = As.reverse ++ .ref b :: rest) (hW : (rest.map fun v => v.category).sum ≤ 8) (hdg : decode cc pc = .ok (.invokevirtual index, 3)) (hf : cells ≤ R.cells ∧ slots ≤ R.slots) :
    va_Run p l e R s m args below meth c H locs cells slots 0 0 (F0 m pc ls st0) rest (QcE g (va_A wc H.size) wc' rv (Value.ref b :: As).toArray) (va_A wc H.size) :=
  va_runV hX.1 (hM H.size) cw ⟨blindM, hrc, fun U hU hW => ⟨rfl, by rw [hU], ⟨bK.moved hW hX.2, by rw [hU]; exact hP, by rw [hU]; exact hr⟩, hD.weaken (fun _ _ _ _ => trivial)⟩⟩ rfl hn hsize hst (lv_room hW) hdg hf
theorem EM.ci {r : Int32} (hr : va_Run p l e R s m args below meth c H locs cells slots 0 0 (F0 m pc ls st0) rest (QcE g (va_A wc H.size) wc' (some (.int r)) a) (va_A wc H.size)) (hZ : Zt g A H0 ro ws H locs) (is : List Nat) (hC : is.map (fun i => ws[i]?) = wc.map some) (hl : ∀ u, is.length = (wc' u).length) (hw1 : ∀ u, setAll ws is (wc' u) = ws1 u) (ha : ∀ u, (ws1 u).map Prod.fst = ws.map Prod.fst)
    (kk : ∀ (u : Nat → Nat → Int32) (H1 : Heap) (locs1 : List Loc), Zt g A H0 ro (ws1 u) H1 locs1 → W p l e R s m args below meth c H1 locs1 cells slots Q (F0 m (pc + 3) ls (.int r :: rest))) : W p l e R s m args below meth c H locs cells slots Q (F0 m pc ls st0) := by
  intro T hT X
  obtain ⟨v, st₀, t, T', L, h0, X', hL, e1, e2, ⟨hv, ⟨u, hp⟩, hz, hk⟩, st⟩ := hr T hT X
  cases hv
  rw [h0] at hz hk
  obtain ⟨t2, a1, b1⟩ := kk u T'.heap (locs ++ L) (hZ.back is hC (hl u) (hw1 u) (ha u) (by rw [e1]; exact hp) (by rw [e1]; exact hz) (fun q h1 h2 => by rw [e1]; exact hk q h1 h2) hL) T' rfl X'
  exact ⟨t2, st t2 a1, b1⟩
theorem EM.cl {r : Int64} (hr : va_Run p l e R s m args below meth c H locs cells slots 0 0 (F0 m pc ls st0) rest (QcE g (va_A wc H.size) wc' (some (.long r)) a) (va_A wc H.size)) (hZ : Zt g A H0 ro ws H locs) (is : List Nat) (hC : is.map (fun i => ws[i]?) = wc.map some) (hl : ∀ u, is.length = (wc' u).length) (hw1 : ∀ u, setAll ws is (wc' u) = ws1 u) (ha : ∀ u, (ws1 u).map Prod.fst = ws.map Prod.fst)
    (kk : ∀ (u : Nat → Nat → Int32) (H1 : Heap) (locs1 : List Loc), Zt g A H0 ro (ws1 u) H1 locs1 → W p l e R s m args below meth c H1 locs1 cells slots Q (F0 m (pc + 3) ls (.long r :: rest))) : W p l e R s m args below meth c H locs cells slots Q (F0 m pc ls st0) := by
  intro T hT X
  obtain ⟨v, st₀, t, T', L, h0, X', hL, e1, e2, ⟨hv, ⟨u, hp⟩, hz, hk⟩, st⟩ := hr T hT X
  cases hv
  rw [h0] at hz hk
  obtain ⟨t2, a1, b1⟩ := kk u T'.heap (locs ++ L) (hZ.back is hC (hl u) (hw1 u) (ha u) (by rw [e1]; exact hp) (by rw [e1]; exact hz) (fun q h1 h2 => by rw [e1]; exact hk q h1 h2) hL) T' rfl X'
  exact ⟨t2, st t2 a1, b1⟩
theorem EM.cv (hr : va_Run p l e R s m args below meth c H locs cells slots 0 0 (F0 m pc ls st0) rest (QcE g (va_A wc H.size) wc' none a) (va_A wc H.size)) (hZ : Zt g A H0 ro ws H locs) (is : List Nat) (hC : is.map (fun i => ws[i]?) = wc.map some) (hl : ∀ u, is.length = (wc' u).length) (hw1 : ∀ u, setAll ws is (wc' u) = ws1 u) (ha : ∀ u, (ws1 u).map Prod.fst = ws.map Prod.fst)
    (kk : ∀ (u : Nat → Nat → Int32) (H1 : Heap) (locs1 : List Loc), Zt g A H0 ro (ws1 u) H1 locs1 → W p l e R s m args below meth c H1 locs1 cells slots Q (F0 m (pc + 3) ls rest)) : W p l e R s m args below meth c H locs cells slots Q (F0 m pc ls st0) := by
  intro T hT X
  obtain ⟨v, st₀, t, T', L, h0, X', hL, e1, e2, ⟨hv, ⟨u, hp⟩, hz, hk⟩, st⟩ := hr T hT X
  cases hv
  rw [h0] at hz hk
  obtain ⟨t2, a1, b1⟩ := kk u T'.heap (locs ++ L) (hZ.back is hC (hl u) (hw1 u) (ha u) (by rw [e1]; exact hp) (by rw [e1]; exact hz) (fun q h1 h2 => by rw [e1]; exact hk q h1 h2) hL) T' rfl X'
  exact ⟨t2, st t2 a1, b1⟩
theorem MM.ciA {wd : va_W} {r : Int32} (hr : va_Run p l e R s m args below meth c H locs cells slots 0 0 (F0 m pc ls st0) rest (QcM g (va_A ws H.size) wd (some (.int r)) a) (va_A ws H.size)) (hZ : Zt g A H0 ro ws H locs) (ha : wd.map Prod.fst = ws.map Prod.fst)
    (kk : ∀ (H1 : Heap) (locs1 : List Loc), Zt g A H0 ro wd H1 locs1 → W p l e R s m args below meth c H1 locs1 cells slots Q (F0 m (pc + 3) ls (.int r :: rest))) : W p l e R s m args below meth c H locs cells slots Q (F0 m pc ls st0) := by
  intro T hT X
  obtain ⟨v, st₀, t, T', L, h0, X', hL, e1, e2, ⟨hv, hp, hz, hk⟩, st⟩ := hr T hT X
  cases hv
  rw [h0] at hz hk
  obtain ⟨t2, a1, b1⟩ := kk T'.heap (locs ++ L) (hZ.all ha (by rw [e1]; exact hp) (by rw [e1]; exact hz) (fun q h1 h2 => by rw [e1]; exact hk q h1 h2) hL) T' rfl X'
  exact ⟨t2, st t2 a1, b1⟩
theorem EM.ciA {r : Int32} (hr : va_Run p l e R s m args below meth c H locs cells slots 0 0 (F0 m pc ls st0) rest (QcE g (va_A ws H.size) wc' (some (.int r)) a) (va_A ws H.size)) (hZ : Zt g A H0 ro ws H locs) (ha : ∀ u, (wc' u).map Prod.fst = ws.map Prod.fst)
    (kk : ∀ (u : Nat → Nat → Int32) (H1 : Heap) (locs1 : List Loc), Zt g A H0 ro (wc' u) H1 locs1 → W p l e R s m args below meth c H1 locs1 cells slots Q (F0 m (pc + 3) ls (.int r :: rest))) : W p l e R s m args below meth c H locs cells slots Q (F0 m pc ls st0) := by
  intro T hT X
  obtain ⟨v, st₀, t, T', L, h0, X', hL, e1, e2, ⟨hv, ⟨u, hp⟩, hz, hk⟩, st⟩ := hr T hT X
  cases hv
  rw [h0] at hz hk
  obtain ⟨t2, a1, b1⟩ := kk u T'.heap (locs ++ L) (hZ.all (ha u) (by rw [e1]; exact hp) (by rw [e1]; exact hz) (fun q h1 h2 => by rw [e1]; exact hk q h1 h2) hL) T' rfl X'
  exact ⟨t2, st t2 a1, b1⟩
theorem MM.clA {wd : va_W} {r : Int64} (hr : va_Run p l e R s m args below meth c H locs cells slots 0 0 (F0 m pc ls st0) rest (QcM g (va_A ws H.size) wd (some (.long r)) a) (va_A ws H.size)) (hZ : Zt g A H0 ro ws H locs) (ha : wd.map Prod.fst = ws.map Prod.fst)
    (kk : ∀ (H1 : Heap) (locs1 : List Loc), Zt g A H0 ro wd H1 locs1 → W p l e R s m args below meth c H1 locs1 cells slots Q (F0 m (pc + 3) ls (.long r :: rest))) : W p l e R s m args below meth c H locs cells slots Q (F0 m pc ls st0) := by
  intro T hT X
  obtain ⟨v, st₀, t, T', L, h0, X', hL, e1, e2, ⟨hv, hp, hz, hk⟩, st⟩ := hr T hT X
  cases hv
  rw [h0] at hz hk
  obtain ⟨t2, a1, b1⟩ := kk T'.heap (locs ++ L) (hZ.all ha (by rw [e1]; exact hp) (by rw [e1]; exact hz) (fun q h1 h2 => by rw [e1]; exact hk q h1 h2) hL) T' rfl X'
  exact ⟨t2, st t2 a1, b1⟩
theorem EM.clA {r : Int64} (hr : va_Run p l e R s m args below meth c H locs cells slots 0 0 (F0 m pc ls st0) rest (QcE g (va_A ws H.size) wc' (some (.long r)) a) (va_A ws H.size)) (hZ : Zt g A H0 ro ws H locs) (ha : ∀ u, (wc' u).map Prod.fst = ws.map Prod.fst)
    (kk : ∀ (u : Nat → Nat → Int32) (H1 : Heap) (locs1 : List Loc), Zt g A H0 ro (wc' u) H1 locs1 → W p l e R s m args below meth c H1 locs1 cells slots Q (F0 m (pc + 3) ls (.long r :: rest))) : W p l e R s m args below meth c H locs cells slots Q (F0 m pc ls st0) := by
  intro T hT X
  obtain ⟨v, st₀, t, T', L, h0, X', hL, e1, e2, ⟨hv, ⟨u, hp⟩, hz, hk⟩, st⟩ := hr T hT X
  cases hv
  rw [h0] at hz hk
  obtain ⟨t2, a1, b1⟩ := kk u T'.heap (locs ++ L) (hZ.all (ha u) (by rw [e1]; exact hp) (by rw [e1]; exact hz) (fun q h1 h2 => by rw [e1]; exact hk q h1 h2) hL) T' rfl X'
  exact ⟨t2, st t2 a1, b1⟩
theorem MM.cvA {wd : va_W} (hr : va_Run p l e R s m args below meth c H locs cells slots 0 0 (F0 m pc ls st0) rest (QcM g (va_A ws H.size) wd none a) (va_A ws H.size)) (hZ : Zt g A H0 ro ws H locs) (ha : wd.map Prod.fst = ws.map Prod.fst)
    (kk : ∀ (H1 : Heap) (locs1 : List Loc), Zt g A H0 ro wd H1 locs1 → W p l e R s m args below meth c H1 locs1 cells slots Q (F0 m (pc + 3) ls rest)) : W p l e R s m args below meth c H locs cells slots Q (F0 m pc ls st0) := by
  intro T hT X
  obtain ⟨v, st₀, t, T', L, h0, X', hL, e1, e2, ⟨hv, hp, hz, hk⟩, st⟩ := hr T hT X
  cases hv
  rw [h0] at hz hk
  obtain ⟨t2, a1, b1⟩ := kk T'.heap (locs ++ L) (hZ.all ha (by rw [e1]; exact hp) (by rw [e1]; exact hz) (fun q h1 h2 => by rw [e1]; exact hk q h1 h2) hL) T' rfl X'
  exact ⟨t2, st t2 a1, b1⟩
theorem EM.cvA (hr : va_Run p l e R s m args below meth c H locs cells slots 0 0 (F0 m pc ls st0) rest (QcE g (va_A ws H.size) wc' none a) (va_A ws H.size)) (hZ : Zt g A H0 ro ws H locs) (ha : ∀ u, (wc' u).map Prod.fst = ws.map Prod.fst)
    (kk : ∀ (u : Nat → Nat → Int32) (H1 : Heap) (locs1 : List Loc), Zt g A H0 ro (wc' u) H1 locs1 → W p l e R s m args below meth c H1 locs1 cells slots Q (F0 m (pc + 3) ls rest)) : W p l e R s m args below meth c H locs cells slots Q (F0 m pc ls st0) := by
  intro T hT X
  obtain ⟨v, st₀, t, T', L, h0, X', hL, e1, e2, ⟨hv, ⟨u, hp⟩, hz, hk⟩, st⟩ := hr T hT X
  cases hv
  rw [h0] at hz hk
  obtain ⟨t2, a1, b1⟩ := kk u T'.heap (locs ++ L) (hZ.all (ha u) (by rw [e1]; exact hp) (by rw [e1]; exact hz) (fun q h1 h2 => by rw [e1]; exact hk q h1 h2) hL) T' rfl X'
  exact ⟨t2, st t2 a1, b1⟩
/-- a loop whose state has a part in any state -/
theorem W_loopU {α β : Type} {P : α → β → Heap → List Loc → Array Slot → Prop} (μ : α → Nat) (a0 : α) (u0 : β) (h0 : P a0 u0 H locs ls)
    (step : ∀ (a : α) (u : β) (H : Heap) (locs : List Loc) (ls : Array Slot), P a u H locs ls → (∀ (a' : α) (u' : β) (H' : Heap) (locs' : List Loc) (ls' : Array Slot), P a' u' H' locs' ls' → μ a' < μ a → W p l e R s m args below meth c H' locs' cells slots Q (F0 m pc ls' rest)) → W p l e R s m args below meth c H locs cells slots Q (F0 m pc ls rest)) :
    W p l e R s m args below meth c H locs cells slots Q (F0 m pc ls rest) :=
  W_loop (α := α × β) (P := fun a H locs ls => P a.1 a.2 H locs ls) (fun a => μ a.1) (a0, u0) h0 (fun a H locs ls h ih => step a.1 a.2 H locs ls h (fun a' u' H' locs' ls' h' hm => ih (a', u') H' locs' ls' h' hm))
end LAYE
