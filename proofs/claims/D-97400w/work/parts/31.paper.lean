/-! PAPERS (by program: gen/paper.py) -/
/-- a super call of a method that the superclass inherits -/
theorem va_callSU2 {p : Program} {l : Launch} {e : Env} {R : Room} {s : State} {m : MethodId} {args : Array Value} {below : List Frame} {meth : Method} {c : Code} {T : State} {locs : List Loc} {cells slots : Nat} (X : Stand p l e R s m args below meth c T locs cells slots) (hexec : p.tables.exec = Jvm.exec) {own owner : String} {index : Nat} {x y : MethodName} {bytes : ByteArray} {maxL : Nat} {ret : Option FieldType} (hyx : y = ⟨owner, x.name, x.desc⟩)
    (hown : s.vm.findClass own = some m.cls) (hlink : (Cond.methodLink own index x).before args s = true) (hsame : (Cond.sameMethod x.cls owner x.name x.desc).before args s = true) (hsup : (Cond.superclass own x.cls).before args s = true) (hsup2 : (Cond.superclass x.cls owner).before args s = true)
    (hinst : (Cond.instanceMethod y).before args s = true) (hcode : (Cond.code y bytes maxL ret).before args s = true) (hno : x.name ≠ "<init>")
    {W : Nat} {Pre : Pt → Array Value → Prop} {Post : Pt → Array Value → Option Value → Pt → Prop} (hK : Back l R p e below s args y 3 W Pre Post)
    {b : Addr} {cellB : Cell} {kB : Class} (hcell : T.heap[b]? = some cellB) (hobj : cellB.vm.isStatics = false) (hkB : s.vm.classes[cellB.cls]? = some kB)
    {g : JFrame} (hg : g.method = m) (hsize : g.locals.size = c.maxLocals) {argsL rest : List Value} (hlen : ∀ sig, parseMethodDescriptor y.desc = some sig → argsL.length = sig.parameters.length)
    (hstack : g.stack = argsL.reverse ++ .ref b :: rest) (hW : 2 * g.monitorRoom + (rest.map fun v => v.category).sum ≤ W) (hdg : decode c.code g.pc = .ok (.invokespecial index, 3))
    (hpre : ∀ vm₁, s.WarmedH vm₁ → Pre ⟨T.setVm vm₁, locs, cells, slots⟩ (Value.ref b :: argsL).toArray) :
    ∃ (v : Option Value) (vm₁ : Vm) (B : Pt), s.WarmedH vm₁ ∧ Stand p l e R s m args below meth c B.U B.locs B.cells B.slots ∧ Post ⟨T.setVm vm₁, locs, cells, slots⟩ (Value.ref b :: argsL).toArray v B ∧
      ∀ target, Steps p.tables e below (B.U.setTop { g with pc := g.pc + 3, stack := v.toList ++ rest }) target → Steps p.tables e below (T.setTop g) target := by
  obtain ⟨mk, methM, hnamed, hmethM, hstM, habM⟩ := Cond.instanceMethod_spec hinst
  obtain ⟨methM', cM, hmethM', -, -, -, -, -, -, hsigM⟩ := Cond.code_spec hnamed hcode
  cases hmethM.symm.trans hmethM'
  obtain ⟨ps, dk, kp, hps, hdk, hkp, hsuper, -, -, hnid⟩ := Cond.superclass_spec hown hsup
  obtain ⟨ps2, dk2, kp2, hps2, hdk2, hkp2, hsuper2, -, -, -⟩ := Cond.superclass_spec hps hsup2
  have hn : s.methodNamed? ⟨owner, x.name, x.desc⟩ = some mk := by rw [← hyx]; exact hnamed
  have hpm : ps2 = mk.cls := Option.some.inj (hps2.symm.trans (findClass_of_methodNamed hn))
  have hsub : s.vm.isSubclass ps mk.cls = true := by
    rw [← hpm]
    have hlt := (Array.getElem?_eq_some_iff.mp hkp2).1
    obtain ⟨n, hn9⟩ : ∃ n, s.vm.classes.size = n + 1 := ⟨s.vm.classes.size - 1, by omega⟩
    simp [Vm.isSubclass, Vm.isSubclassAux, hdk2, hsuper2, hn9]
  obtain ⟨vm₁, X₁, hstep₁⟩ := X.invokespecialUp hexec hown hlink hsame hn hmethM hstM habM hno hdk hnid hps hsuper hsub (a := b) (cell := cellB) hcell
    (fun z h => by rw [h] at hobj; cases hobj) hkB (g := g) hg (argsL := argsL) (rest := rest) (hlen _ hsigM) hstack hdg
  obtain ⟨v, B, X', hpost, hsteps⟩ := hK m meth c ⟨T.setVm vm₁, locs, cells, slots⟩ { g with stack := rest } (.invokespecial index) mk (Value.ref b :: argsL).toArray X₁ hg hsize hdg hW (X₁.named hnamed) (hpre vm₁ X₁.warmed)
  exact ⟨v, vm₁, B, X₁.warmed, X', hpost, fun target h => hstep₁ _ (by rw [doInvoke_state]; exact hsteps.trans h)⟩

set_option maxHeartbeats 400000 in
set_option maxRecDepth 100000 in
theorem K_X5_kind (l : Launch) (g : Gx) (pa : Nat) (k : Nat) : PM l g yX5_kind cX5_kind 1 (some .int) 0 [.ref pa] roT (wO g pa k) (some (.int 0)) := by
  refine PM.of (own := "BurntLetters$Paper") (by decide) rfl (Nat.le_of_ble_eq_true rfl) ?_
  intro p e s m below meth c hX hr hlk hP hro ls hl
  have hx := hX.1.1
  have hb := hX.1.2.1
  have hl : lv_has ls 1 [(0, .ref pa)] := hl
  refine lv_iconst (v := 0) hx hb dX5_kind_0 (by decide) ?_
  exact PM.iret hX hr hlk (rfl) dX5_kind_1

set_option maxHeartbeats 400000 in
set_option maxRecDepth 100000 in
theorem K_X6_kind (l : Launch) (g : Gx) (pa : Nat) (k : Nat) : PM l g yX6_kind cX6_kind 1 (some .int) 0 [.ref pa] roT (wO g pa k) (some (.int 1)) := by
  refine PM.of (own := "BurntLetters$Rumour") (by decide) rfl (Nat.le_of_ble_eq_true rfl) ?_
  intro p e s m below meth c hX hr hlk hP hro ls hl
  have hx := hX.1.1
  have hb := hX.1.2.1
  have hl : lv_has ls 1 [(0, .ref pa)] := hl
  refine lv_iconst (v := 1) hx hb dX6_kind_0 (by decide) ?_
  exact PM.iret hX hr hlk (rfl) dX6_kind_1

set_option maxHeartbeats 400000 in
set_option maxRecDepth 100000 in
theorem K_X7_kind (l : Launch) (g : Gx) (pa : Nat) (k : Nat) : PM l g yX7_kind cX7_kind 1 (some .int) 0 [.ref pa] roT (wO g pa k) (some (.int 2)) := by
  refine PM.of (own := "BurntLetters$Deed") (by decide) rfl (Nat.le_of_ble_eq_true rfl) ?_
  intro p e s m below meth c hX hr hlk hP hro ls hl
  have hx := hX.1.1
  have hb := hX.1.2.1
  have hl : lv_has ls 1 [(0, .ref pa)] := hl
  refine lv_iconst (v := 2) hx hb dX7_kind_0 (by decide) ?_
  exact PM.iret hX hr hlk (rfl) dX7_kind_1

set_option maxHeartbeats 400000 in
set_option maxRecDepth 100000 in
theorem K_X8_kind (l : Launch) (g : Gx) (pa : Nat) (k : Nat) : PM l g yX8_kind cX8_kind 1 (some .int) 0 [.ref pa] roT (wO g pa k) (some (.int 3)) := by
  refine PM.of (own := "BurntLetters$River") (by decide) rfl (Nat.le_of_ble_eq_true rfl) ?_
  intro p e s m below meth c hX hr hlk hP hro ls hl
  have hx := hX.1.1
  have hb := hX.1.2.1
  have hl : lv_has ls 1 [(0, .ref pa)] := hl
  refine lv_iconst (v := 3) hx hb dX8_kind_0 (by decide) ?_
  exact PM.iret hX hr hlk (rfl) dX8_kind_1

set_option maxHeartbeats 400000 in
set_option maxRecDepth 100000 in
theorem K_X9_kind (l : Launch) (g : Gx) (pa : Nat) (k : Nat) : PM l g yX9_kind cX9_kind 1 (some .int) 0 [.ref pa] roT (wO g pa k) (some (.int 4)) := by
  refine PM.of (own := "BurntLetters$Flood") (by decide) rfl (Nat.le_of_ble_eq_true rfl) ?_
  intro p e s m below meth c hX hr hlk hP hro ls hl
  have hx := hX.1.1
  have hb := hX.1.2.1
  have hl : lv_has ls 1 [(0, .ref pa)] := hl
  refine lv_iconst (v := 4) hx hb dX9_kind_0 (by decide) ?_
  exact PM.iret hX hr hlk (rfl) dX9_kind_1

set_option maxHeartbeats 400000 in
set_option maxRecDepth 100000 in
theorem K_X6_names (l : Launch) (g : Gx) (pa : Nat) (k : Nat) : PM l g yX6_names cX6_names 1 (some .int) 0 [.ref pa] roT (wO g pa k) (some (.int 6)) := by
  refine PM.of (own := "BurntLetters$Rumour") (by decide) rfl (Nat.le_of_ble_eq_true rfl) ?_
  intro p e s m below meth c hX hr hlk hP hro ls hl
  have hx := hX.1.1
  have hb := hX.1.2.1
  have hl : lv_has ls 1 [(0, .ref pa)] := hl
  refine lv_bipush (v := 6) hx hb dX6_names_0 (by decide) ?_
  exact PM.iret hX hr hlk (rfl) dX6_names_2

set_option maxHeartbeats 400000 in
set_option maxRecDepth 100000 in
theorem K_X5_names0 (l : Launch) (g : Gx) (pa : Nat) (k : Nat) : PM l g yX5_names cX5_names 1 (some .int) 0 [.ref pa] roT (wO g pa k) (some (.int 2)) := by
  refine PM.of (own := "BurntLetters$Paper") (by decide) rfl (Nat.le_of_ble_eq_true rfl) ?_
  intro p e s m below meth c hX hr hlk hP hro ls hl
  have hx := hX.1.1
  have hb := hX.1.2.1
  have hl : lv_has ls 1 [(0, .ref pa)] := hl
  refine lv_iconst (v := 2) hx hb dX5_names_0 (by decide) ?_
  exact PM.iret hX hr hlk (rfl) dX5_names_1

set_option maxHeartbeats 400000 in
set_option maxRecDepth 100000 in
theorem K_X5_names (l : Launch) (g : Gx) (pa : Nat) (k : Nat) : PM l g yX5_names cX5_names 1 (some .int) 1 [.ref pa] roT (wO g pa k) (some (.int 2)) := by
  refine PM.of (own := "BurntLetters$Paper") (by decide) rfl (Nat.le_of_ble_eq_true rfl) ?_
  intro p e s m below meth c hX hr hlk hP hro ls hl
  have hx := hX.1.1
  have hb := hX.1.2.1
  have hl : lv_has ls 1 [(0, .ref pa)] := hl
  refine lv_iconst (v := 2) hx hb dX5_names_0 (by decide) ?_
  exact PM.iret hX hr hlk (rfl) dX5_names_1

set_option maxHeartbeats 400000 in
set_option maxRecDepth 100000 in
theorem K_X6_names1 (l : Launch) (g : Gx) (pa : Nat) (k : Nat) : PM l g yX6_names cX6_names 1 (some .int) 1 [.ref pa] roT (wO g pa k) (some (.int 6)) := by
  refine PM.of (own := "BurntLetters$Rumour") (by decide) rfl (Nat.le_of_ble_eq_true rfl) ?_
  intro p e s m below meth c hX hr hlk hP hro ls hl
  have hx := hX.1.1
  have hb := hX.1.2.1
  have hl : lv_has ls 1 [(0, .ref pa)] := hl
  refine lv_bipush (v := 6) hx hb dX6_names_0 (by decide) ?_
  exact PM.iret hX hr hlk (rfl) dX6_names_2

set_option maxHeartbeats 400000 in
set_option maxRecDepth 100000 in
theorem K_X5_keeps0 (l : Launch) (g : Gx) (pa : Nat) (k : Nat) : PM l g yX5_keeps cX5_keeps 1 (some .int) 0 [.ref pa] roT (wO g pa k) (some (.int 1)) := by
  refine PM.of (own := "BurntLetters$Paper") (by decide) rfl (Nat.le_of_ble_eq_true rfl) ?_
  intro p e s m below meth c hX hr hlk hP hro ls hl
  have hx := hX.1.1
  have hb := hX.1.2.1
  have hl : lv_has ls 1 [(0, .ref pa)] := hl
  refine lv_iconst (v := 1) hx hb dX5_keeps_0 (by decide) ?_
  exact PM.iret hX hr hlk (rfl) dX5_keeps_1

set_option maxHeartbeats 400000 in
set_option maxRecDepth 100000 in
theorem K_X5_keeps (l : Launch) (g : Gx) (pa : Nat) (k : Nat) : PM l g yX5_keeps cX5_keeps 1 (some .int) 1 [.ref pa] roT (wO g pa k) (some (.int 1)) := by
  refine PM.of (own := "BurntLetters$Paper") (by decide) rfl (Nat.le_of_ble_eq_true rfl) ?_
  intro p e s m below meth c hX hr hlk hP hro ls hl
  have hx := hX.1.1
  have hb := hX.1.2.1
  have hl : lv_has ls 1 [(0, .ref pa)] := hl
  refine lv_iconst (v := 1) hx hb dX5_keeps_0 (by decide) ?_
  exact PM.iret hX hr hlk (rfl) dX5_keeps_1

set_option maxHeartbeats 400000 in
set_option maxRecDepth 100000 in
theorem K_X5_spreads0 (l : Launch) (g : Gx) (pa : Nat) (k : Nat) : PM l g yX5_spreads cX5_spreads 1 (some .boolean) 0 [.ref pa] roT (wO g pa k) (some (.int (b01 (False)))) := by
  refine PM.of (own := "BurntLetters$Paper") (by decide) rfl (Nat.le_of_ble_eq_true rfl) ?_
  intro p e s m below meth c hX hr hlk hP hro ls hl
  have hx := hX.1.1
  have hb := hX.1.2.1
  have hl : lv_has ls 1 [(0, .ref pa)] := hl
  refine lv_iconst (v := 0) hx hb dX5_spreads_0 (by decide) ?_
  exact PM.zret hX hr hlk (by first | rfl | (simp [b01, ]; done) | (simp_all [b01]; done)) (Or.inl rfl) dX5_spreads_1

set_option maxHeartbeats 400000 in
set_option maxRecDepth 100000 in
theorem K_X5_spreads (l : Launch) (g : Gx) (pa : Nat) (k : Nat) : PM l g yX5_spreads cX5_spreads 1 (some .boolean) 1 [.ref pa] roT (wO g pa k) (some (.int (b01 (False)))) := by
  refine PM.of (own := "BurntLetters$Paper") (by decide) rfl (Nat.le_of_ble_eq_true rfl) ?_
  intro p e s m below meth c hX hr hlk hP hro ls hl
  have hx := hX.1.1
  have hb := hX.1.2.1
  have hl : lv_has ls 1 [(0, .ref pa)] := hl
  refine lv_iconst (v := 0) hx hb dX5_spreads_0 (by decide) ?_
  exact PM.zret hX hr hlk (by first | rfl | (simp [b01, ]; done) | (simp_all [b01]; done)) (Or.inl rfl) dX5_spreads_1

set_option maxHeartbeats 400000 in
set_option maxRecDepth 100000 in
theorem K_X5_burntBy0 (l : Launch) (g : Gx) (pa : Nat) (k : Nat) (x : Int32) (t : Int32) : PM l g yX5_burntBy cX5_burntBy 3 (some .int) 0 [.ref pa, .int x, .int t] roT (wO g pa k) (some (.int (bb0 x t))) := by
  refine PM.of (own := "BurntLetters$Paper") (by decide) rfl (Nat.le_of_ble_eq_true rfl) ?_
  intro p e s m below meth c hX hr hlk hP hro ls hl
  have hx := hX.1.1
  have hb := hX.1.2.1
  have hl : lv_has ls 3 [(0, .ref pa), (1, .int x), (2, .int t)] := hl
  refine lv_iload_n hx hb dX5_burntBy_0 rfl (lv_at hl 1 rfl) ?_
  refine lv_iconst (v := 1) hx hb dX5_burntBy_1 (by decide) ?_
  refine lv_iload_n hx hb dX5_burntBy_2 rfl (lv_at hl 2 rfl) ?_
  refine lv_ishl hx hb dX5_burntBy_3 ?_
  refine lv_iand hx hb dX5_burntBy_4 ?_
  exact PM.iret hX hr hlk (rfl) dX5_burntBy_5

set_option maxHeartbeats 400000 in
set_option maxRecDepth 100000 in
theorem K_X5_burntBy (l : Launch) (g : Gx) (pa : Nat) (k : Nat) (x : Int32) (t : Int32) : PM l g yX5_burntBy cX5_burntBy 3 (some .int) 1 [.ref pa, .int x, .int t] roT (wO g pa k) (some (.int (bb0 x t))) := by
  refine PM.of (own := "BurntLetters$Paper") (by decide) rfl (Nat.le_of_ble_eq_true rfl) ?_
  intro p e s m below meth c hX hr hlk hP hro ls hl
  have hx := hX.1.1
  have hb := hX.1.2.1
  have hl : lv_has ls 3 [(0, .ref pa), (1, .int x), (2, .int t)] := hl
  refine lv_iload_n hx hb dX5_burntBy_0 rfl (lv_at hl 1 rfl) ?_
  refine lv_iconst (v := 1) hx hb dX5_burntBy_1 (by decide) ?_
  refine lv_iload_n hx hb dX5_burntBy_2 rfl (lv_at hl 2 rfl) ?_
  refine lv_ishl hx hb dX5_burntBy_3 ?_
  refine lv_iand hx hb dX5_burntBy_4 ?_
  exact PM.iret hX hr hlk (rfl) dX5_burntBy_5

set_option maxHeartbeats 400000 in
set_option maxRecDepth 100000 in
theorem K_X6_spreads (l : Launch) (g : Gx) (pa : Nat) : PM l g yX6_spreads cX6_spreads 1 (some .boolean) 1 [.ref pa] roT (wO g pa 1) (some (.int (b01 (True)))) := by
  refine PM.of (own := "BurntLetters$Rumour") (by decide) rfl (Nat.le_of_ble_eq_true rfl) ?_
  intro p e s m below meth c hX hr hlk hP hro ls hl
  have hx := hX.1.1
  have hb := hX.1.2.1
  have hl : lv_has ls 1 [(0, .ref pa)] := hl
  refine lv_aload_n hx hb dX6_spreads_0 rfl (lv_at hl 0 rfl) ?_
  refine PM.ci (PM.runSU (As := []) (rest := []) ((hX.2.1.1 7 _ rfl).2) hX (K_X5_spreads0 l g pa 1) (cu_q634 hX ⟨Nat.le_of_ble_eq_true rfl, Nat.le_of_ble_eq_true rfl⟩) hP trivial (r_recv hX hP 0 rfl rfl) rfl hl.1 rfl (Nat.le_of_ble_eq_true rfl) dX6_spreads_1 ⟨Nat.zero_le _, Nat.zero_le _⟩) ?_
  refine lv_bif_ne (tgt := 11) hx hb dX6_spreads_4 (by decide) (fun c_1 => ?_) (fun c_1 => ?_)
  · refine lv_iconst (v := 0) hx hb dX6_spreads_11 (by decide) ?_
    exact PM.zret hX hr hlk (by first | rfl | exact absurd c_1 (by decide) | simp [b01]) (Or.inl rfl) dX6_spreads_12
  refine lv_iconst (v := 1) hx hb dX6_spreads_7 (by decide) ?_
  refine lv_goto (tgt := 12) hx hb dX6_spreads_8 (by decide) ?_
  exact PM.zret hX hr hlk (by first | rfl | exact absurd c_1 (by decide) | simp [b01]) (Or.inr rfl) dX6_spreads_12

set_option maxHeartbeats 400000 in
set_option maxRecDepth 100000 in
theorem K_X7_keeps (l : Launch) (g : Gx) (pa : Nat) : PM l g yX7_keeps cX7_keeps 1 (some .int) 1 [.ref pa] roT (wO g pa 2) (some (.int 2)) := by
  refine PM.of (own := "BurntLetters$Deed") (by decide) rfl (Nat.le_of_ble_eq_true rfl) ?_
  intro p e s m below meth c hX hr hlk hP hro ls hl
  have hx := hX.1.1
  have hb := hX.1.2.1
  have hl : lv_has ls 1 [(0, .ref pa)] := hl
  refine lv_aload_n hx hb dX7_keeps_0 rfl (lv_at hl 0 rfl) ?_
  refine PM.ci (PM.runSU (As := []) (rest := []) ((hX.2.1.1 8 _ rfl).2) hX (K_X5_keeps0 l g pa 2) (cu_q605 hX ⟨Nat.le_of_ble_eq_true rfl, Nat.le_of_ble_eq_true rfl⟩) hP trivial (r_recv hX hP 0 rfl rfl) rfl hl.1 rfl (Nat.le_of_ble_eq_true rfl) dX7_keeps_1 ⟨Nat.zero_le _, Nat.zero_le _⟩) ?_
  refine lv_iconst (v := 1) hx hb dX7_keeps_4 (by decide) ?_
  refine lv_iadd hx hb dX7_keeps_5 ?_
  exact PM.iret hX hr hlk (rfl) dX7_keeps_6

set_option maxHeartbeats 400000 in
set_option maxRecDepth 100000 in
theorem K_X8_names3 (l : Launch) (g : Gx) (pa : Nat) : PM l g yX8_names cX8_names 1 (some .int) 1 [.ref pa] roT (wO g pa 3) (some (.int 3)) := by
  refine PM.of (own := "BurntLetters$River") (by decide) rfl (Nat.le_of_ble_eq_true rfl) ?_
  intro p e s m below meth c hX hr hlk hP hro ls hl
  have hx := hX.1.1
  have hb := hX.1.2.1
  have hl : lv_has ls 1 [(0, .ref pa)] := hl
  refine lv_aload_n hx hb dX8_names_0 rfl (lv_at hl 0 rfl) ?_
  refine PM.ci (PM.runSU (As := []) (rest := []) ((hX.2.1.1 9 _ rfl).2) hX (K_X5_names0 l g pa 3) (cu_q513 hX ⟨Nat.le_of_ble_eq_true rfl, Nat.le_of_ble_eq_true rfl⟩) hP trivial (r_recv hX hP 0 rfl rfl) rfl hl.1 rfl (Nat.le_of_ble_eq_true rfl) dX8_names_1 ⟨Nat.zero_le _, Nat.zero_le _⟩) ?_
  refine lv_iconst (v := 1) hx hb dX8_names_4 (by decide) ?_
  refine lv_iadd hx hb dX8_names_5 ?_
  exact PM.iret hX hr hlk (rfl) dX8_names_6

set_option maxHeartbeats 400000 in
set_option maxRecDepth 100000 in
theorem K_X8_names4 (l : Launch) (g : Gx) (pa : Nat) : PM l g yX8_names cX8_names 1 (some .int) 1 [.ref pa] roT (wO g pa 4) (some (.int 3)) := by
  refine PM.of (own := "BurntLetters$River") (by decide) rfl (Nat.le_of_ble_eq_true rfl) ?_
  intro p e s m below meth c hX hr hlk hP hro ls hl
  have hx := hX.1.1
  have hb := hX.1.2.1
  have hl : lv_has ls 1 [(0, .ref pa)] := hl
  refine lv_aload_n hx hb dX8_names_0 rfl (lv_at hl 0 rfl) ?_
  refine PM.ci (PM.runSU (As := []) (rest := []) ((hX.2.1.1 10 _ rfl).2) hX (K_X5_names0 l g pa 4) (cu_q513 hX ⟨Nat.le_of_ble_eq_true rfl, Nat.le_of_ble_eq_true rfl⟩) hP trivial (r_recv hX hP 0 rfl rfl) rfl hl.1 rfl (Nat.le_of_ble_eq_true rfl) dX8_names_1 ⟨Nat.zero_le _, Nat.zero_le _⟩) ?_
  refine lv_iconst (v := 1) hx hb dX8_names_4 (by decide) ?_
  refine lv_iadd hx hb dX8_names_5 ?_
  exact PM.iret hX hr hlk (rfl) dX8_names_6

theorem rv_q484 {p : Program} {l : Launch} {e : Env} {R : Room} {s : State} {m : MethodId} {args : Array Value} {below : List Frame} {meth : Method} {c : Code} {H : Heap} {locs : List Loc} {cells slots : Nat} {Q : State → Prop} {g : Gx} {cc : ByteArray} {nL pc : Nat} {ls : Array Slot} {rest : List Value} {k pa : Nat} (hX : Cx g p s m args c cc nL "BurntLetters") (hk : k < 5) (hP : va_P g.1 vwCl [(pa, .inr (6 + k, []))] H) (hsz : ls.size = nL) (hW : (rest.map fun v => v.category).sum ≤ 8) (hR1 : 0 + 1 ≤ R.frames) (hR2 : 8 + (1 + 11) + 40 * 0 ≤ R.locals) (hf : cells ≤ R.cells ∧ slots ≤ R.slots) (hdg : decode cc pc = .ok (.invokevirtual 136, 3)) (kk : W p l e R s m args below meth c H locs cells slots Q (F0 m (pc + 3) ls (.int (nI k) :: rest))) : W p l e R s m args below meth c H locs cells slots Q (F0 m pc ls (.ref pa :: rest)) := by
  rcases (show k = 0 ∨ k = 1 ∨ k = 2 ∨ k = 3 ∨ k = 4 by omega) with rfl | rfl | rfl | rfl | rfl
  · exact PM.ci (PM.runU (As := []) (rest := rest) hX (K_X5_kind l g pa 0) (cp_q484_0 hX ⟨hR1, by show 8 + (_ + 11) + 40 * 0 ≤ R.locals; omega⟩) hP trivial (r_recv hX hP 0 rfl rfl) rfl hsz rfl hW hdg hf) kk
  · exact PM.ci (PM.runU (As := []) (rest := rest) hX (K_X6_kind l g pa 1) (cp_q484_1 hX ⟨hR1, by show 8 + (_ + 11) + 40 * 0 ≤ R.locals; omega⟩) hP trivial (r_recv hX hP 0 rfl rfl) rfl hsz rfl hW hdg hf) kk
  · exact PM.ci (PM.runU (As := []) (rest := rest) hX (K_X7_kind l g pa 2) (cp_q484_2 hX ⟨hR1, by show 8 + (_ + 11) + 40 * 0 ≤ R.locals; omega⟩) hP trivial (r_recv hX hP 0 rfl rfl) rfl hsz rfl hW hdg hf) kk
  · exact PM.ci (PM.runU (As := []) (rest := rest) hX (K_X8_kind l g pa 3) (cp_q484_3 hX ⟨hR1, by show 8 + (_ + 11) + 40 * 0 ≤ R.locals; omega⟩) hP trivial (r_recv hX hP 0 rfl rfl) rfl hsz rfl hW hdg hf) kk
  · exact PM.ci (PM.runU (As := []) (rest := rest) hX (K_X9_kind l g pa 4) (cp_q484_4 hX ⟨hR1, by show 8 + (_ + 11) + 40 * 0 ≤ R.locals; omega⟩) hP trivial (r_recv hX hP 0 rfl rfl) rfl hsz rfl hW hdg hf) kk

theorem rv_q505 {p : Program} {l : Launch} {e : Env} {R : Room} {s : State} {m : MethodId} {args : Array Value} {below : List Frame} {meth : Method} {c : Code} {H : Heap} {locs : List Loc} {cells slots : Nat} {Q : State → Prop} {g : Gx} {cc : ByteArray} {nL pc : Nat} {ls : Array Slot} {rest : List Value} {k pa : Nat} (hX : Cx g p s m args c cc nL "BurntLetters") (hk : k < 5) (hP : va_P g.1 vwCl [(pa, .inr (6 + k, []))] H) (hsz : ls.size = nL) (hW : (rest.map fun v => v.category).sum ≤ 8) (hR1 : 1 + 1 ≤ R.frames) (hR2 : 8 + (1 + 11) + 40 * 1 ≤ R.locals) (hf : cells ≤ R.cells ∧ slots ≤ R.slots) (hdg : decode cc pc = .ok (.invokevirtual 142, 3)) (kk : W p l e R s m args below meth c H locs cells slots Q (F0 m (pc + 3) ls (.int (nmF k) :: rest))) : W p l e R s m args below meth c H locs cells slots Q (F0 m pc ls (.ref pa :: rest)) := by
  rcases (show k = 0 ∨ k = 1 ∨ k = 2 ∨ k = 3 ∨ k = 4 by omega) with rfl | rfl | rfl | rfl | rfl
  · exact PM.ci (PM.runU (As := []) (rest := rest) hX (K_X5_names l g pa 0) (cp_q505_0 hX ⟨hR1, by show 8 + (_ + 11) + 40 * 1 ≤ R.locals; omega⟩) hP trivial (r_recv hX hP 0 rfl rfl) rfl hsz rfl hW hdg hf) kk
  · exact PM.ci (PM.runU (As := []) (rest := rest) hX (K_X6_names1 l g pa 1) (cp_q505_1 hX ⟨hR1, by show 8 + (_ + 11) + 40 * 1 ≤ R.locals; omega⟩) hP trivial (r_recv hX hP 0 rfl rfl) rfl hsz rfl hW hdg hf) kk
  · exact PM.ci (PM.runU (As := []) (rest := rest) hX (K_X5_names l g pa 2) (cp_q505_2 hX ⟨hR1, by show 8 + (_ + 11) + 40 * 1 ≤ R.locals; omega⟩) hP trivial (r_recv hX hP 0 rfl rfl) rfl hsz rfl hW hdg hf) kk
  · exact PM.ci (PM.runU (As := []) (rest := rest) hX (K_X8_names3 l g pa) (cp_q505_3 hX ⟨hR1, by show 8 + (_ + 11) + 40 * 1 ≤ R.locals; omega⟩) hP trivial (r_recv hX hP 0 rfl rfl) rfl hsz rfl hW hdg hf) kk
  · exact PM.ci (PM.runU (As := []) (rest := rest) hX (K_X8_names4 l g pa) (cp_q505_4 hX ⟨hR1, by show 8 + (_ + 11) + 40 * 1 ≤ R.locals; omega⟩) hP trivial (r_recv hX hP 0 rfl rfl) rfl hsz rfl hW hdg hf) kk

theorem rv_q560 {p : Program} {l : Launch} {e : Env} {R : Room} {s : State} {m : MethodId} {args : Array Value} {below : List Frame} {meth : Method} {c : Code} {H : Heap} {locs : List Loc} {cells slots : Nat} {Q : State → Prop} {g : Gx} {cc : ByteArray} {nL pc : Nat} {ls : Array Slot} {rest : List Value} {k pa : Nat} (hX : Cx g p s m args c cc nL "BurntLetters$Archive") (hk : k < 5) (hP : va_P g.1 vwCl [(pa, .inr (6 + k, []))] H) (hsz : ls.size = nL) (hW : (rest.map fun v => v.category).sum ≤ 8) (hR1 : 1 + 1 ≤ R.frames) (hR2 : 8 + (1 + 11) + 40 * 1 ≤ R.locals) (hf : cells ≤ R.cells ∧ slots ≤ R.slots) (hdg : decode cc pc = .ok (.invokevirtual 62, 3)) (kk : W p l e R s m args below meth c H locs cells slots Q (F0 m (pc + 3) ls (.int (nmF k) :: rest))) : W p l e R s m args below meth c H locs cells slots Q (F0 m pc ls (.ref pa :: rest)) := by
  rcases (show k = 0 ∨ k = 1 ∨ k = 2 ∨ k = 3 ∨ k = 4 by omega) with rfl | rfl | rfl | rfl | rfl
  · exact PM.ci (PM.runU (As := []) (rest := rest) hX (K_X5_names l g pa 0) (cp_q560_0 hX ⟨hR1, by show 8 + (_ + 11) + 40 * 1 ≤ R.locals; omega⟩) hP trivial (r_recv hX hP 0 rfl rfl) rfl hsz rfl hW hdg hf) kk
  · exact PM.ci (PM.runU (As := []) (rest := rest) hX (K_X6_names1 l g pa 1) (cp_q560_1 hX ⟨hR1, by show 8 + (_ + 11) + 40 * 1 ≤ R.locals; omega⟩) hP trivial (r_recv hX hP 0 rfl rfl) rfl hsz rfl hW hdg hf) kk
  · exact PM.ci (PM.runU (As := []) (rest := rest) hX (K_X5_names l g pa 2) (cp_q560_2 hX ⟨hR1, by show 8 + (_ + 11) + 40 * 1 ≤ R.locals; omega⟩) hP trivial (r_recv hX hP 0 rfl rfl) rfl hsz rfl hW hdg hf) kk
  · exact PM.ci (PM.runU (As := []) (rest := rest) hX (K_X8_names3 l g pa) (cp_q560_3 hX ⟨hR1, by show 8 + (_ + 11) + 40 * 1 ≤ R.locals; omega⟩) hP trivial (r_recv hX hP 0 rfl rfl) rfl hsz rfl hW hdg hf) kk
  · exact PM.ci (PM.runU (As := []) (rest := rest) hX (K_X8_names4 l g pa) (cp_q560_4 hX ⟨hR1, by show 8 + (_ + 11) + 40 * 1 ≤ R.locals; omega⟩) hP trivial (r_recv hX hP 0 rfl rfl) rfl hsz rfl hW hdg hf) kk

theorem rv_q598 {p : Program} {l : Launch} {e : Env} {R : Room} {s : State} {m : MethodId} {args : Array Value} {below : List Frame} {meth : Method} {c : Code} {H : Heap} {locs : List Loc} {cells slots : Nat} {Q : State → Prop} {g : Gx} {cc : ByteArray} {nL pc : Nat} {ls : Array Slot} {rest : List Value} {k pa : Nat} (hX : Cx g p s m args c cc nL "BurntLetters$Archive") (hk : k < 5) (hP : va_P g.1 vwCl [(pa, .inr (6 + k, []))] H) (hsz : ls.size = nL) (hW : (rest.map fun v => v.category).sum ≤ 8) (hR1 : 1 + 1 ≤ R.frames) (hR2 : 8 + (1 + 11) + 40 * 1 ≤ R.locals) (hf : cells ≤ R.cells ∧ slots ≤ R.slots) (hdg : decode cc pc = .ok (.invokevirtual 77, 3)) (kk : W p l e R s m args below meth c H locs cells slots Q (F0 m (pc + 3) ls (.int (kpF k) :: rest))) : W p l e R s m args below meth c H locs cells slots Q (F0 m pc ls (.ref pa :: rest)) := by
  rcases (show k = 0 ∨ k = 1 ∨ k = 2 ∨ k = 3 ∨ k = 4 by omega) with rfl | rfl | rfl | rfl | rfl
  · exact PM.ci (PM.runU (As := []) (rest := rest) hX (K_X5_keeps l g pa 0) (cp_q598_0 hX ⟨hR1, by show 8 + (_ + 11) + 40 * 1 ≤ R.locals; omega⟩) hP trivial (r_recv hX hP 0 rfl rfl) rfl hsz rfl hW hdg hf) kk
  · exact PM.ci (PM.runU (As := []) (rest := rest) hX (K_X5_keeps l g pa 1) (cp_q598_1 hX ⟨hR1, by show 8 + (_ + 11) + 40 * 1 ≤ R.locals; omega⟩) hP trivial (r_recv hX hP 0 rfl rfl) rfl hsz rfl hW hdg hf) kk
  · exact PM.ci (PM.runU (As := []) (rest := rest) hX (K_X7_keeps l g pa) (cp_q598_2 hX ⟨hR1, by show 8 + (_ + 11) + 40 * 1 ≤ R.locals; omega⟩) hP trivial (r_recv hX hP 0 rfl rfl) rfl hsz rfl hW hdg hf) kk
  · exact PM.ci (PM.runU (As := []) (rest := rest) hX (K_X5_keeps l g pa 3) (cp_q598_3 hX ⟨hR1, by show 8 + (_ + 11) + 40 * 1 ≤ R.locals; omega⟩) hP trivial (r_recv hX hP 0 rfl rfl) rfl hsz rfl hW hdg hf) kk
  · exact PM.ci (PM.runU (As := []) (rest := rest) hX (K_X5_keeps l g pa 4) (cp_q598_4 hX ⟨hR1, by show 8 + (_ + 11) + 40 * 1 ≤ R.locals; omega⟩) hP trivial (r_recv hX hP 0 rfl rfl) rfl hsz rfl hW hdg hf) kk

theorem rv_q624 {p : Program} {l : Launch} {e : Env} {R : Room} {s : State} {m : MethodId} {args : Array Value} {below : List Frame} {meth : Method} {c : Code} {H : Heap} {locs : List Loc} {cells slots : Nat} {Q : State → Prop} {g : Gx} {cc : ByteArray} {nL pc : Nat} {ls : Array Slot} {rest : List Value} {k pa : Nat} (hX : Cx g p s m args c cc nL "BurntLetters$Archive") (hk : k < 5) (hP : va_P g.1 vwCl [(pa, .inr (6 + k, []))] H) (hsz : ls.size = nL) (hW : (rest.map fun v => v.category).sum ≤ 8) (hR1 : 1 + 1 ≤ R.frames) (hR2 : 8 + (1 + 11) + 40 * 1 ≤ R.locals) (hf : cells ≤ R.cells ∧ slots ≤ R.slots) (hdg : decode cc pc = .ok (.invokevirtual 84, 3)) (kk : W p l e R s m args below meth c H locs cells slots Q (F0 m (pc + 3) ls (.int (b01 (k = 1)) :: rest))) : W p l e R s m args below meth c H locs cells slots Q (F0 m pc ls (.ref pa :: rest)) := by
  rcases (show k = 0 ∨ k = 1 ∨ k = 2 ∨ k = 3 ∨ k = 4 by omega) with rfl | rfl | rfl | rfl | rfl
  · exact PM.ci (PM.runU (As := []) (rest := rest) hX (K_X5_spreads l g pa 0) (cp_q624_0 hX ⟨hR1, by show 8 + (_ + 11) + 40 * 1 ≤ R.locals; omega⟩) hP trivial (r_recv hX hP 0 rfl rfl) rfl hsz rfl hW hdg hf) kk
  · exact PM.ci (PM.runU (As := []) (rest := rest) hX (K_X6_spreads l g pa) (cp_q624_1 hX ⟨hR1, by show 8 + (_ + 11) + 40 * 1 ≤ R.locals; omega⟩) hP trivial (r_recv hX hP 0 rfl rfl) rfl hsz rfl hW hdg hf) kk
  · exact PM.ci (PM.runU (As := []) (rest := rest) hX (K_X5_spreads l g pa 2) (cp_q624_2 hX ⟨hR1, by show 8 + (_ + 11) + 40 * 1 ≤ R.locals; omega⟩) hP trivial (r_recv hX hP 0 rfl rfl) rfl hsz rfl hW hdg hf) kk
  · exact PM.ci (PM.runU (As := []) (rest := rest) hX (K_X5_spreads l g pa 3) (cp_q624_3 hX ⟨hR1, by show 8 + (_ + 11) + 40 * 1 ≤ R.locals; omega⟩) hP trivial (r_recv hX hP 0 rfl rfl) rfl hsz rfl hW hdg hf) kk
  · exact PM.ci (PM.runU (As := []) (rest := rest) hX (K_X5_spreads l g pa 4) (cp_q624_4 hX ⟨hR1, by show 8 + (_ + 11) + 40 * 1 ≤ R.locals; omega⟩) hP trivial (r_recv hX hP 0 rfl rfl) rfl hsz rfl hW hdg hf) kk

theorem rv_q538 {p : Program} {l : Launch} {e : Env} {R : Room} {s : State} {m : MethodId} {args : Array Value} {below : List Frame} {meth : Method} {c : Code} {H : Heap} {locs : List Loc} {cells slots : Nat} {Q : State → Prop} {g : Gx} {cc : ByteArray} {nL pc : Nat} {ls : Array Slot} {rest : List Value} {k pa : Nat} (hX : Cx g p s m args c cc nL "BurntLetters$Paper") (hk : k < 5) (hP : va_P g.1 vwCl [(pa, .inr (6 + k, []))] H) (hsz : ls.size = nL) (hW : (rest.map fun v => v.category).sum ≤ 8) (hR1 : 0 + 1 ≤ R.frames) (hR2 : 8 + (1 + 11) + 40 * 0 ≤ R.locals) (hf : cells ≤ R.cells ∧ slots ≤ R.slots) (hdg : decode cc pc = .ok (.invokevirtual 7, 3)) (kk : W p l e R s m args below meth c H locs cells slots Q (F0 m (pc + 3) ls (.int (nI k) :: rest))) : W p l e R s m args below meth c H locs cells slots Q (F0 m pc ls (.ref pa :: rest)) := by
  rcases (show k = 0 ∨ k = 1 ∨ k = 2 ∨ k = 3 ∨ k = 4 by omega) with rfl | rfl | rfl | rfl | rfl
  · exact PM.ci (PM.runU (As := []) (rest := rest) hX (K_X5_kind l g pa 0) (cp_q538_0 hX ⟨hR1, by show 8 + (_ + 11) + 40 * 0 ≤ R.locals; omega⟩) hP trivial (r_recv hX hP 0 rfl rfl) rfl hsz rfl hW hdg hf) kk
  · exact PM.ci (PM.runU (As := []) (rest := rest) hX (K_X6_kind l g pa 1) (cp_q538_1 hX ⟨hR1, by show 8 + (_ + 11) + 40 * 0 ≤ R.locals; omega⟩) hP trivial (r_recv hX hP 0 rfl rfl) rfl hsz rfl hW hdg hf) kk
  · exact PM.ci (PM.runU (As := []) (rest := rest) hX (K_X7_kind l g pa 2) (cp_q538_2 hX ⟨hR1, by show 8 + (_ + 11) + 40 * 0 ≤ R.locals; omega⟩) hP trivial (r_recv hX hP 0 rfl rfl) rfl hsz rfl hW hdg hf) kk
  · exact PM.ci (PM.runU (As := []) (rest := rest) hX (K_X8_kind l g pa 3) (cp_q538_3 hX ⟨hR1, by show 8 + (_ + 11) + 40 * 0 ≤ R.locals; omega⟩) hP trivial (r_recv hX hP 0 rfl rfl) rfl hsz rfl hW hdg hf) kk
  · exact PM.ci (PM.runU (As := []) (rest := rest) hX (K_X9_kind l g pa 4) (cp_q538_4 hX ⟨hR1, by show 8 + (_ + 11) + 40 * 0 ≤ R.locals; omega⟩) hP trivial (r_recv hX hP 0 rfl rfl) rfl hsz rfl hW hdg hf) kk

set_option maxHeartbeats 400000 in
set_option maxRecDepth 100000 in
theorem K_X5_isOf1 (l : Launch) (g : Gx) (pa : Nat) (k : Nat) (x : Int32) (hk : k < 5) : PM l g yX5_isOf cX5_isOf 2 (some .boolean) 1 [.ref pa, .int x] roT (wO g pa k) (some (.int (b01 (of0P k x)))) := by
  refine PM.of (own := "BurntLetters$Paper") (by decide) rfl (Nat.le_of_ble_eq_true rfl) ?_
  intro p e s m below meth c hX hr hlk hP hro ls hl
  have hx := hX.1.1
  have hb := hX.1.2.1
  have hl : lv_has ls 2 [(0, .ref pa), (1, .int x)] := hl
  have hkp := And.intro hk hP
  refine lv_iload_n hx hb dX5_isOf_0 rfl (lv_at hl 1 rfl) ?_
  refine lv_if_eq (tgt := 12) hx hb dX5_isOf_1 (by decide) (fun c_1 => ?_) (fun c_1 => ?_)
  · refine lv_iconst (v := 1) hx hb dX5_isOf_12 (by decide) ?_
    refine lv_goto (tgt := 17) hx hb dX5_isOf_13 (by decide) ?_
    exact PM.zret hX hr hlk (by first | exact b01_t (Or.inl c_1) | exact b01_t (Or.inr (Decidable.of_not_not (fun q => c_2 q))) | exact b01_t (Or.inr c_2) | exact b01_f (fun q => q.elim c_1 c_2)) (Or.inr rfl) dX5_isOf_17
  refine lv_iload_n hx hb dX5_isOf_4 rfl (lv_at hl 1 rfl) ?_
  refine lv_aload_n hx hb dX5_isOf_5 rfl (lv_at hl 0 rfl) ?_
  refine rv_q538 (rest := [.int x]) hX hkp.1 hkp.2 hl.1 (Nat.le_of_ble_eq_true rfl) (Nat.le_of_ble_eq_true rfl) (Nat.le_of_ble_eq_true rfl) ⟨Nat.zero_le _, Nat.zero_le _⟩ dX5_isOf_6 ?_
  refine lv_icmp_ne (tgt := 16) hx hb dX5_isOf_9 (by decide) (fun c_2 => ?_) (fun c_2 => ?_)
  · refine lv_iconst (v := 0) hx hb dX5_isOf_16 (by decide) ?_
    exact PM.zret hX hr hlk (by first | exact b01_t (Or.inl c_1) | exact b01_t (Or.inr (Decidable.of_not_not (fun q => c_2 q))) | exact b01_t (Or.inr c_2) | exact b01_f (fun q => q.elim c_1 c_2)) (Or.inl rfl) dX5_isOf_17
  refine lv_iconst (v := 1) hx hb dX5_isOf_12 (by decide) ?_
  refine lv_goto (tgt := 17) hx hb dX5_isOf_13 (by decide) ?_
  exact PM.zret hX hr hlk (by first | exact b01_t (Or.inl c_1) | exact b01_t (Or.inr (Decidable.of_not_not (fun q => c_2 q))) | exact b01_t (Or.inr c_2) | exact b01_f (fun q => q.elim c_1 c_2)) (Or.inr rfl) dX5_isOf_17

set_option maxHeartbeats 400000 in
set_option maxRecDepth 100000 in
theorem K_X5_isOf (l : Launch) (g : Gx) (pa : Nat) (k : Nat) (x : Int32) (hk : k < 5) : PM l g yX5_isOf cX5_isOf 2 (some .boolean) 3 [.ref pa, .int x] roT (wO g pa k) (some (.int (b01 (of0P k x)))) := by
  refine PM.of (own := "BurntLetters$Paper") (by decide) rfl (Nat.le_of_ble_eq_true rfl) ?_
  intro p e s m below meth c hX hr hlk hP hro ls hl
  have hx := hX.1.1
  have hb := hX.1.2.1
  have hl : lv_has ls 2 [(0, .ref pa), (1, .int x)] := hl
  have hkp := And.intro hk hP
  refine lv_iload_n hx hb dX5_isOf_0 rfl (lv_at hl 1 rfl) ?_
  refine lv_if_eq (tgt := 12) hx hb dX5_isOf_1 (by decide) (fun c_1 => ?_) (fun c_1 => ?_)
  · refine lv_iconst (v := 1) hx hb dX5_isOf_12 (by decide) ?_
    refine lv_goto (tgt := 17) hx hb dX5_isOf_13 (by decide) ?_
    exact PM.zret hX hr hlk (by first | exact b01_t (Or.inl c_1) | exact b01_t (Or.inr (Decidable.of_not_not (fun q => c_2 q))) | exact b01_t (Or.inr c_2) | exact b01_f (fun q => q.elim c_1 c_2)) (Or.inr rfl) dX5_isOf_17
  refine lv_iload_n hx hb dX5_isOf_4 rfl (lv_at hl 1 rfl) ?_
  refine lv_aload_n hx hb dX5_isOf_5 rfl (lv_at hl 0 rfl) ?_
  refine rv_q538 (rest := [.int x]) hX hkp.1 hkp.2 hl.1 (Nat.le_of_ble_eq_true rfl) (Nat.le_of_ble_eq_true rfl) (Nat.le_of_ble_eq_true rfl) ⟨Nat.zero_le _, Nat.zero_le _⟩ dX5_isOf_6 ?_
  refine lv_icmp_ne (tgt := 16) hx hb dX5_isOf_9 (by decide) (fun c_2 => ?_) (fun c_2 => ?_)
  · refine lv_iconst (v := 0) hx hb dX5_isOf_16 (by decide) ?_
    exact PM.zret hX hr hlk (by first | exact b01_t (Or.inl c_1) | exact b01_t (Or.inr (Decidable.of_not_not (fun q => c_2 q))) | exact b01_t (Or.inr c_2) | exact b01_f (fun q => q.elim c_1 c_2)) (Or.inl rfl) dX5_isOf_17
  refine lv_iconst (v := 1) hx hb dX5_isOf_12 (by decide) ?_
  refine lv_goto (tgt := 17) hx hb dX5_isOf_13 (by decide) ?_
  exact PM.zret hX hr hlk (by first | exact b01_t (Or.inl c_1) | exact b01_t (Or.inr (Decidable.of_not_not (fun q => c_2 q))) | exact b01_t (Or.inr c_2) | exact b01_f (fun q => q.elim c_1 c_2)) (Or.inr rfl) dX5_isOf_17

set_option maxHeartbeats 400000 in
set_option maxRecDepth 100000 in
theorem K_X8_isOf3 (l : Launch) (g : Gx) (pa : Nat) (x : Int32) : PM l g yX8_isOf cX8_isOf 2 (some .boolean) 3 [.ref pa, .int x] roT (wO g pa 3) (some (.int (b01 (x = 3 ∨ of0P 3 x)))) := by
  refine PM.of (own := "BurntLetters$River") (by decide) rfl (Nat.le_of_ble_eq_true rfl) ?_
  intro p e s m below meth c hX hr hlk hP hro ls hl
  have hx := hX.1.1
  have hb := hX.1.2.1
  have hl : lv_has ls 2 [(0, .ref pa), (1, .int x)] := hl
  refine lv_iload_n hx hb dX8_isOf_0 rfl (lv_at hl 1 rfl) ?_
  refine lv_iconst (v := 3) hx hb dX8_isOf_1 (by decide) ?_
  refine lv_icmp_eq (tgt := 13) hx hb dX8_isOf_2 (by decide) (fun c_1 => ?_) (fun c_1 => ?_)
  · refine lv_iconst (v := 1) hx hb dX8_isOf_13 (by decide) ?_
    refine lv_goto (tgt := 18) hx hb dX8_isOf_14 (by decide) ?_
    exact PM.zret hX hr hlk (by first | exact b01_t (Or.inl c_1) | exact b01_t (Or.inr c_2) | exact b01_f (fun q => q.elim c_1 c_2)) (Or.inr rfl) dX8_isOf_18
  refine lv_aload_n hx hb dX8_isOf_5 rfl (lv_at hl 0 rfl) ?_
  refine lv_iload_n hx hb dX8_isOf_6 rfl (lv_at hl 1 rfl) ?_
  refine PM.ci (PM.runSU (As := [.int x]) (rest := []) ((hX.2.1.1 9 _ rfl).2) hX (K_X5_isOf1 l g pa 3 x (by omega)) (cu_q534 hX ⟨Nat.le_of_ble_eq_true rfl, Nat.le_of_ble_eq_true rfl⟩) hP trivial (r_recv hX hP 0 rfl rfl) rfl hl.1 rfl (Nat.le_of_ble_eq_true rfl) dX8_isOf_7 ⟨Nat.zero_le _, Nat.zero_le _⟩) ?_
  refine lv_bif_eq (tgt := 17) hx hb dX8_isOf_10 (by decide) (fun c_2 => ?_) (fun c_2 => ?_)
  · refine lv_iconst (v := 0) hx hb dX8_isOf_17 (by decide) ?_
    exact PM.zret hX hr hlk (by first | exact b01_t (Or.inl c_1) | exact b01_t (Or.inr c_2) | exact b01_f (fun q => q.elim c_1 c_2)) (Or.inl rfl) dX8_isOf_18
  refine lv_iconst (v := 1) hx hb dX8_isOf_13 (by decide) ?_
  refine lv_goto (tgt := 18) hx hb dX8_isOf_14 (by decide) ?_
  exact PM.zret hX hr hlk (by first | exact b01_t (Or.inl c_1) | exact b01_t (Or.inr c_2) | exact b01_f (fun q => q.elim c_1 c_2)) (Or.inr rfl) dX8_isOf_18

set_option maxHeartbeats 400000 in
set_option maxRecDepth 100000 in
theorem K_X8_isOf4 (l : Launch) (g : Gx) (pa : Nat) (x : Int32) : PM l g yX8_isOf cX8_isOf 2 (some .boolean) 2 [.ref pa, .int x] roT (wO g pa 4) (some (.int (b01 (x = 3 ∨ of0P 4 x)))) := by
  refine PM.of (own := "BurntLetters$River") (by decide) rfl (Nat.le_of_ble_eq_true rfl) ?_
  intro p e s m below meth c hX hr hlk hP hro ls hl
  have hx := hX.1.1
  have hb := hX.1.2.1
  have hl : lv_has ls 2 [(0, .ref pa), (1, .int x)] := hl
  refine lv_iload_n hx hb dX8_isOf_0 rfl (lv_at hl 1 rfl) ?_
  refine lv_iconst (v := 3) hx hb dX8_isOf_1 (by decide) ?_
  refine lv_icmp_eq (tgt := 13) hx hb dX8_isOf_2 (by decide) (fun c_1 => ?_) (fun c_1 => ?_)
  · refine lv_iconst (v := 1) hx hb dX8_isOf_13 (by decide) ?_
    refine lv_goto (tgt := 18) hx hb dX8_isOf_14 (by decide) ?_
    exact PM.zret hX hr hlk (by first | exact b01_t (Or.inl c_1) | exact b01_t (Or.inr c_2) | exact b01_f (fun q => q.elim c_1 c_2)) (Or.inr rfl) dX8_isOf_18
  refine lv_aload_n hx hb dX8_isOf_5 rfl (lv_at hl 0 rfl) ?_
  refine lv_iload_n hx hb dX8_isOf_6 rfl (lv_at hl 1 rfl) ?_
  refine PM.ci (PM.runSU (As := [.int x]) (rest := []) ((hX.2.1.1 10 _ rfl).2) hX (K_X5_isOf1 l g pa 4 x (by omega)) (cu_q534 hX ⟨Nat.le_of_ble_eq_true rfl, Nat.le_of_ble_eq_true rfl⟩) hP trivial (r_recv hX hP 0 rfl rfl) rfl hl.1 rfl (Nat.le_of_ble_eq_true rfl) dX8_isOf_7 ⟨Nat.zero_le _, Nat.zero_le _⟩) ?_
  refine lv_bif_eq (tgt := 17) hx hb dX8_isOf_10 (by decide) (fun c_2 => ?_) (fun c_2 => ?_)
  · refine lv_iconst (v := 0) hx hb dX8_isOf_17 (by decide) ?_
    exact PM.zret hX hr hlk (by first | exact b01_t (Or.inl c_1) | exact b01_t (Or.inr c_2) | exact b01_f (fun q => q.elim c_1 c_2)) (Or.inl rfl) dX8_isOf_18
  refine lv_iconst (v := 1) hx hb dX8_isOf_13 (by decide) ?_
  refine lv_goto (tgt := 18) hx hb dX8_isOf_14 (by decide) ?_
  exact PM.zret hX hr hlk (by first | exact b01_t (Or.inl c_1) | exact b01_t (Or.inr c_2) | exact b01_f (fun q => q.elim c_1 c_2)) (Or.inr rfl) dX8_isOf_18

set_option maxHeartbeats 400000 in
set_option maxRecDepth 100000 in
theorem K_X9_isOf (l : Launch) (g : Gx) (pa : Nat) (x : Int32) : PM l g yX9_isOf cX9_isOf 2 (some .boolean) 3 [.ref pa, .int x] roT (wO g pa 4) (some (.int (b01 (x = 4 ∨ x = 3 ∨ of0P 4 x)))) := by
  refine PM.of (own := "BurntLetters$Flood") (by decide) rfl (Nat.le_of_ble_eq_true rfl) ?_
  intro p e s m below meth c hX hr hlk hP hro ls hl
  have hx := hX.1.1
  have hb := hX.1.2.1
  have hl : lv_has ls 2 [(0, .ref pa), (1, .int x)] := hl
  refine lv_iload_n hx hb dX9_isOf_0 rfl (lv_at hl 1 rfl) ?_
  refine lv_iconst (v := 4) hx hb dX9_isOf_1 (by decide) ?_
  refine lv_icmp_eq (tgt := 13) hx hb dX9_isOf_2 (by decide) (fun c_1 => ?_) (fun c_1 => ?_)
  · refine lv_iconst (v := 1) hx hb dX9_isOf_13 (by decide) ?_
    refine lv_goto (tgt := 18) hx hb dX9_isOf_14 (by decide) ?_
    exact PM.zret hX hr hlk (by first | exact b01_t (Or.inl c_1) | exact b01_t (Or.inr c_2) | exact b01_f (fun q => q.elim c_1 c_2)) (Or.inr rfl) dX9_isOf_18
  refine lv_aload_n hx hb dX9_isOf_5 rfl (lv_at hl 0 rfl) ?_
  refine lv_iload_n hx hb dX9_isOf_6 rfl (lv_at hl 1 rfl) ?_
  refine PM.ci (PM.runSU (As := [.int x]) (rest := []) ((hX.2.1.1 10 _ rfl).2) hX (K_X8_isOf4 l g pa x) (cu_q531 hX ⟨Nat.le_of_ble_eq_true rfl, Nat.le_of_ble_eq_true rfl⟩) hP trivial (r_recv hX hP 0 rfl rfl) rfl hl.1 rfl (Nat.le_of_ble_eq_true rfl) dX9_isOf_7 ⟨Nat.zero_le _, Nat.zero_le _⟩) ?_
  refine lv_bif_eq (tgt := 17) hx hb dX9_isOf_10 (by decide) (fun c_2 => ?_) (fun c_2 => ?_)
  · refine lv_iconst (v := 0) hx hb dX9_isOf_17 (by decide) ?_
    exact PM.zret hX hr hlk (by first | exact b01_t (Or.inl c_1) | exact b01_t (Or.inr c_2) | exact b01_f (fun q => q.elim c_1 c_2)) (Or.inl rfl) dX9_isOf_18
  refine lv_iconst (v := 1) hx hb dX9_isOf_13 (by decide) ?_
  refine lv_goto (tgt := 18) hx hb dX9_isOf_14 (by decide) ?_
  exact PM.zret hX hr hlk (by first | exact b01_t (Or.inl c_1) | exact b01_t (Or.inr c_2) | exact b01_f (fun q => q.elim c_1 c_2)) (Or.inr rfl) dX9_isOf_18

/-- a super call to River.burntBy, that is Paper's -/
theorem r_bbSU {p : Program} {l : Launch} {e : Env} {R : Room} {s : State} {m : MethodId} {args : Array Value} {below : List Frame} {meth : Method} {c : Code} {H : Heap} {locs : List Loc} {cells slots : Nat} {Q : State → Prop} {g : Gx} {cc : ByteArray} {nL pc : Nat} {ls : Array Slot} {rest : List Value} {pa : Nat} {x t : Int32} (hX : Cx g p s m args c cc nL "BurntLetters$Flood") (hP : va_P g.1 vwCl [(pa, .inr (6 + 4, []))] H) (hsz : ls.size = nL) (hW : (rest.map fun v => v.category).sum ≤ 8) (hR1 : 1 ≤ R.frames) (hR2 : 40 ≤ R.locals) (hf : cells ≤ R.cells ∧ slots ≤ R.slots) (hdg : decode cc pc = .ok (.invokespecial 13, 3)) (kk : W p l e R s m args below meth c H locs cells slots Q (F0 m (pc + 3) ls (.int (bb0 x t) :: rest))) : W p l e R s m args below meth c H locs cells slots Q (F0 m pc ls (.int t :: .int x :: .ref pa :: rest)) := by
  refine PM.ci (a := (Value.ref pa :: [.int x, .int t]).toArray) ?_ kk
  have hM := K_X5_burntBy0 l g pa 4 x t
  have hK : Back l R p e below s args yX5_burntBy 3 8 (PreOf R 0 0 _) (PostOf _ 0 0 _) := back_of (bytes := cX5_burntBy) (maxL := 3) (ret := some .int) hM blindP rfl rfl (by show 0 + 1 ≤ R.frames; omega) (by show 8 + (3 + 11) + 40 * 0 ≤ R.locals; omega) (pay_in hX.1.2.2.2.2 (lw_meth q623)) List.mem_cons_self (fun a' U hW => word_at hW (Or.inl rfl) (hX.w q72))
  obtain ⟨cellB, hcB, hoB, hclB⟩ := r_recv hX hP 0 rfl rfl
  obtain ⟨hfc, kB, hkB, -⟩ := (hX.2.1.1 10 _ rfl).2
  have he9 := Option.some.inj (hfc.symm.trans hclB)
  rw [he9] at hkB
  have h9 : (parseMethodDescriptor yX5_burntBy.desc).map (fun d => d.parameters.length) = some 2 := by decide +kernel
  have hsg : ∀ sig, parseMethodDescriptor yX5_burntBy.desc = some sig → ([.int x, .int t] : List Value).length = sig.parameters.length := by
    intro sig h
    rw [h] at h9
    exact (Option.some.inj h9).symm
  intro T hT X
  obtain ⟨v, vm₁, ⟨U', l2, c2, s2⟩, hW₁, X', ⟨g', mk, t', L, e1, e2, hq, h1, hL, h2, h3⟩, st⟩ := va_callSU2 X hX.1.1 (bytes := cX5_burntBy) (maxL := 3) (ret := some .int) (y := yX5_burntBy) (owner := "BurntLetters$Paper") rfl hX.1.2.2.2.1 (hX.w q618) (hX.w q619) (hX.w q397) (hX.w q390) (hX.w q611) (hX.w q623) (by decide) hK (by rw [hT]; exact hcB) hoB hkB (g := F0 m pc ls (.int t :: .int x :: .ref pa :: rest)) rfl (hsz.trans hX.1.2.2.1.symm) (argsL := [.int x, .int t]) (rest := rest) hsg rfl (lv_room hW) (by rw [hX.1.2.1]; exact hdg)
    (fun vm₁ hW₁ => ⟨hf.1, hf.2, rfl, bK.moved hW₁ hX.2, by rw [show (T.setVm vm₁).heap = T.heap from rfl, hT]; exact hP, trivial⟩)
  dsimp only [Pt.U, Pt.locs, Pt.cells, Pt.slots] at X' e1 e2 h1 h2 h3 st
  subst h1; subst h2; subst h3
  exact ⟨v, (T.setVm vm₁).calling g' mk (Value.ref pa :: [.int x, .int t]).toArray, t', U', L, hT, X', hL, e1, e2, hq, st⟩

set_option maxHeartbeats 400000 in
set_option maxRecDepth 100000 in
theorem K_X9_burntBy (l : Launch) (g : Gx) (pa : Nat) (x : Int32) (t : Int32) : PM l g yX9_burntBy cX9_burntBy 4 (some .int) 1 [.ref pa, .int x, .int t] roT (wO g pa 4) (some (.int (bbF 4 x t))) := by
  refine PM.of (own := "BurntLetters$Flood") (by decide) rfl (Nat.le_of_ble_eq_true rfl) ?_
  intro p e s m below meth c hX hr hlk hP hro ls hl
  have hx := hX.1.1
  have hb := hX.1.2.1
  have hl : lv_has ls 4 [(0, .ref pa), (1, .int x), (2, .int t)] := hl
  refine lv_aload_n hx hb dX9_burntBy_0 rfl (lv_at hl 0 rfl) ?_
  refine lv_iload_n hx hb dX9_burntBy_1 rfl (lv_at hl 1 rfl) ?_
  refine lv_iload_n hx hb dX9_burntBy_2 rfl (lv_at hl 2 rfl) ?_
  refine r_bbSU (rest := []) hX hP hl.1 (Nat.le_of_ble_eq_true rfl) (Nat.le_of_ble_eq_true rfl) (Nat.le_of_ble_eq_true rfl) ⟨Nat.zero_le _, Nat.zero_le _⟩ dX9_burntBy_3 ?_
  refine lv_istore_n (lv' := [(3, .int (bb0 x t)), (0, .ref pa), (1, .int x), (2, .int t)]) hx hb dX9_burntBy_6 rfl hl (by decide) rfl (fun ls hl => ?_)
  refine lv_iload_n hx hb dX9_burntBy_7 rfl (lv_at hl 0 rfl) ?_
  refine lv_if_ne (tgt := 15) hx hb dX9_burntBy_8 (by decide) (fun c_1 => ?_) (fun c_1 => ?_)
  · refine lv_iload_n hx hb dX9_burntBy_15 rfl (lv_at hl 0 rfl) ?_
    refine lv_aload_n hx hb dX9_burntBy_16 rfl (lv_at hl 1 rfl) ?_
    refine lv_iload_n hx hb dX9_burntBy_17 rfl (lv_at hl 2 rfl) ?_
    refine lv_iload_n hx hb dX9_burntBy_18 rfl (lv_at hl 3 rfl) ?_
    refine lv_iconst (v := 1) hx hb dX9_burntBy_19 (by decide) ?_
    refine lv_iadd hx hb dX9_burntBy_20 ?_
    refine lv_bipush (v := 6) hx hb dX9_burntBy_21 (by decide) ?_
    refine lv_irem hx hb dX9_burntBy_23 (by decide) ?_
    refine r_bbSU (rest := [.int (bb0 x t)]) hX hP hl.1 (Nat.le_of_ble_eq_true rfl) (Nat.le_of_ble_eq_true rfl) (Nat.le_of_ble_eq_true rfl) ⟨Nat.zero_le _, Nat.zero_le _⟩ dX9_burntBy_24 ?_
    refine lv_ior hx hb dX9_burntBy_27 ?_
    exact PM.iret hX hr hlk (by simp [bbF, c_1]) dX9_burntBy_28
  refine lv_iconst (v := 0) hx hb dX9_burntBy_11 (by decide) ?_
  refine lv_goto (tgt := 28) hx hb dX9_burntBy_12 (by decide) ?_
  exact PM.iret hX hr hlk (by simp [bbF, c_1]) dX9_burntBy_28

theorem rv_q684 {p : Program} {l : Launch} {e : Env} {R : Room} {s : State} {m : MethodId} {args : Array Value} {below : List Frame} {meth : Method} {c : Code} {H : Heap} {locs : List Loc} {cells slots : Nat} {Q : State → Prop} {g : Gx} {cc : ByteArray} {nL pc : Nat} {ls : Array Slot} {rest : List Value} {k pa : Nat} {x t : Int32} (hX : Cx g p s m args c cc nL "BurntLetters") (hk : k < 5) (hP : va_P g.1 vwCl [(pa, .inr (6 + k, []))] H) (hsz : ls.size = nL) (hW : (rest.map fun v => v.category).sum ≤ 8) (hR1 : 1 + 1 ≤ R.frames) (hR2 : 8 + (4 + 11) + 40 * 1 ≤ R.locals) (hf : cells ≤ R.cells ∧ slots ≤ R.slots) (hdg : decode cc pc = .ok (.invokevirtual 199, 3)) (kk : W p l e R s m args below meth c H locs cells slots Q (F0 m (pc + 3) ls (.int (bbF k x t) :: rest))) : W p l e R s m args below meth c H locs cells slots Q (F0 m pc ls (.int t :: .int x :: .ref pa :: rest)) := by
  rcases (show k = 0 ∨ k = 1 ∨ k = 2 ∨ k = 3 ∨ k = 4 by omega) with rfl | rfl | rfl | rfl | rfl
  · exact PM.ci (PM.runU (As := [.int x, .int t]) (rest := rest) hX (K_X5_burntBy l g pa 0 x t) (cp_q684_0 hX ⟨hR1, by show 8 + (_ + 11) + 40 * 1 ≤ R.locals; omega⟩) hP trivial (r_recv hX hP 0 rfl rfl) rfl hsz rfl hW hdg hf) kk
  · exact PM.ci (PM.runU (As := [.int x, .int t]) (rest := rest) hX (K_X5_burntBy l g pa 1 x t) (cp_q684_1 hX ⟨hR1, by show 8 + (_ + 11) + 40 * 1 ≤ R.locals; omega⟩) hP trivial (r_recv hX hP 0 rfl rfl) rfl hsz rfl hW hdg hf) kk
  · exact PM.ci (PM.runU (As := [.int x, .int t]) (rest := rest) hX (K_X5_burntBy l g pa 2 x t) (cp_q684_2 hX ⟨hR1, by show 8 + (_ + 11) + 40 * 1 ≤ R.locals; omega⟩) hP trivial (r_recv hX hP 0 rfl rfl) rfl hsz rfl hW hdg hf) kk
  · exact PM.ci (PM.runU (As := [.int x, .int t]) (rest := rest) hX (K_X5_burntBy l g pa 3 x t) (cp_q684_3 hX ⟨hR1, by show 8 + (_ + 11) + 40 * 1 ≤ R.locals; omega⟩) hP trivial (r_recv hX hP 0 rfl rfl) rfl hsz rfl hW hdg hf) kk
  · exact PM.ci (PM.runU (As := [.int x, .int t]) (rest := rest) hX (K_X9_burntBy l g pa x t) (cp_q684_4 hX ⟨hR1, by show 8 + (_ + 11) + 40 * 1 ≤ R.locals; omega⟩) hP trivial (r_recv hX hP 0 rfl rfl) rfl hsz rfl hW hdg hf) kk

theorem rv_q610 {p : Program} {l : Launch} {e : Env} {R : Room} {s : State} {m : MethodId} {args : Array Value} {below : List Frame} {meth : Method} {c : Code} {H : Heap} {locs : List Loc} {cells slots : Nat} {Q : State → Prop} {g : Gx} {cc : ByteArray} {nL pc : Nat} {ls : Array Slot} {rest : List Value} {k pa : Nat} {x t : Int32} (hX : Cx g p s m args c cc nL "BurntLetters$Archive") (hk : k < 5) (hP : va_P g.1 vwCl [(pa, .inr (6 + k, []))] H) (hsz : ls.size = nL) (hW : (rest.map fun v => v.category).sum ≤ 8) (hR1 : 1 + 1 ≤ R.frames) (hR2 : 8 + (4 + 11) + 40 * 1 ≤ R.locals) (hf : cells ≤ R.cells ∧ slots ≤ R.slots) (hdg : decode cc pc = .ok (.invokevirtual 80, 3)) (kk : W p l e R s m args below meth c H locs cells slots Q (F0 m (pc + 3) ls (.int (bbF k x t) :: rest))) : W p l e R s m args below meth c H locs cells slots Q (F0 m pc ls (.int t :: .int x :: .ref pa :: rest)) := by
  rcases (show k = 0 ∨ k = 1 ∨ k = 2 ∨ k = 3 ∨ k = 4 by omega) with rfl | rfl | rfl | rfl | rfl
  · exact PM.ci (PM.runU (As := [.int x, .int t]) (rest := rest) hX (K_X5_burntBy l g pa 0 x t) (cp_q610_0 hX ⟨hR1, by show 8 + (_ + 11) + 40 * 1 ≤ R.locals; omega⟩) hP trivial (r_recv hX hP 0 rfl rfl) rfl hsz rfl hW hdg hf) kk
  · exact PM.ci (PM.runU (As := [.int x, .int t]) (rest := rest) hX (K_X5_burntBy l g pa 1 x t) (cp_q610_1 hX ⟨hR1, by show 8 + (_ + 11) + 40 * 1 ≤ R.locals; omega⟩) hP trivial (r_recv hX hP 0 rfl rfl) rfl hsz rfl hW hdg hf) kk
  · exact PM.ci (PM.runU (As := [.int x, .int t]) (rest := rest) hX (K_X5_burntBy l g pa 2 x t) (cp_q610_2 hX ⟨hR1, by show 8 + (_ + 11) + 40 * 1 ≤ R.locals; omega⟩) hP trivial (r_recv hX hP 0 rfl rfl) rfl hsz rfl hW hdg hf) kk
  · exact PM.ci (PM.runU (As := [.int x, .int t]) (rest := rest) hX (K_X5_burntBy l g pa 3 x t) (cp_q610_3 hX ⟨hR1, by show 8 + (_ + 11) + 40 * 1 ≤ R.locals; omega⟩) hP trivial (r_recv hX hP 0 rfl rfl) rfl hsz rfl hW hdg hf) kk
  · exact PM.ci (PM.runU (As := [.int x, .int t]) (rest := rest) hX (K_X9_burntBy l g pa x t) (cp_q610_4 hX ⟨hR1, by show 8 + (_ + 11) + 40 * 1 ≤ R.locals; omega⟩) hP trivial (r_recv hX hP 0 rfl rfl) rfl hsz rfl hW hdg hf) kk

theorem ofP_0 (x : Int32) : of0P 0 x ↔ ofP 0 x := ⟨fun h => h.elim Or.inl (fun q => Or.inr (Or.inl q)), fun h => h.elim Or.inl (fun q => q.elim Or.inr (fun z => absurd z.2 (by decide)))⟩
theorem ofP_1 (x : Int32) : of0P 1 x ↔ ofP 1 x := ⟨fun h => h.elim Or.inl (fun q => Or.inr (Or.inl q)), fun h => h.elim Or.inl (fun q => q.elim Or.inr (fun z => absurd z.2 (by decide)))⟩
theorem ofP_2 (x : Int32) : of0P 2 x ↔ ofP 2 x := ⟨fun h => h.elim Or.inl (fun q => Or.inr (Or.inl q)), fun h => h.elim Or.inl (fun q => q.elim Or.inr (fun z => absurd z.2 (by decide)))⟩
theorem ofP_3 (x : Int32) : (x = 3 ∨ of0P 3 x) ↔ ofP 3 x := ⟨fun h => h.elim (fun q => Or.inr (Or.inl q)) (fun h => h.elim Or.inl (fun q => Or.inr (Or.inl q))), fun h => Or.inr (h.elim Or.inl (fun q => q.elim Or.inr (fun z => absurd z.2 (by decide))))⟩
theorem ofP_4 (x : Int32) : (x = 4 ∨ x = 3 ∨ of0P 4 x) ↔ ofP 4 x := ⟨fun h => h.elim (fun q => Or.inr (Or.inl q)) (fun h => h.elim (fun q => Or.inr (Or.inr ⟨q, rfl⟩)) (fun h => h.elim Or.inl (fun q => Or.inr (Or.inl q)))), fun h => h.elim (fun q => Or.inr (Or.inr (Or.inl q))) (fun q => q.elim Or.inl (fun z => Or.inr (Or.inl z.1)))⟩

theorem rv_q523 {p : Program} {l : Launch} {e : Env} {R : Room} {s : State} {m : MethodId} {args : Array Value} {below : List Frame} {meth : Method} {c : Code} {H : Heap} {locs : List Loc} {cells slots : Nat} {Q : State → Prop} {g : Gx} {cc : ByteArray} {nL pc : Nat} {ls : Array Slot} {rest : List Value} {k pa : Nat} {x : Int32} (hX : Cx g p s m args c cc nL "BurntLetters") (hk : k < 5) (hP : va_P g.1 vwCl [(pa, .inr (6 + k, []))] H) (hsz : ls.size = nL) (hW : (rest.map fun v => v.category).sum ≤ 8) (hR1 : 3 + 1 ≤ R.frames) (hR2 : 8 + (2 + 11) + 40 * 3 ≤ R.locals) (hf : cells ≤ R.cells ∧ slots ≤ R.slots) (hdg : decode cc pc = .ok (.invokevirtual 152, 3)) (kk : W p l e R s m args below meth c H locs cells slots Q (F0 m (pc + 3) ls (.int (b01 (ofP k x)) :: rest))) : W p l e R s m args below meth c H locs cells slots Q (F0 m pc ls (.int x :: .ref pa :: rest)) := by
  rcases (show k = 0 ∨ k = 1 ∨ k = 2 ∨ k = 3 ∨ k = 4 by omega) with rfl | rfl | rfl | rfl | rfl
  · exact PM.ci (PM.runU (As := [.int x]) (rest := rest) hX (K_X5_isOf l g pa 0 x (by omega)) (cp_q523_0 hX ⟨hR1, by show 8 + (_ + 11) + 40 * 3 ≤ R.locals; omega⟩) hP trivial (r_recv hX hP 0 rfl rfl) rfl hsz rfl hW hdg hf) (lv_seti (b01_congr (ofP_0 x)) kk)
  · exact PM.ci (PM.runU (As := [.int x]) (rest := rest) hX (K_X5_isOf l g pa 1 x (by omega)) (cp_q523_1 hX ⟨hR1, by show 8 + (_ + 11) + 40 * 3 ≤ R.locals; omega⟩) hP trivial (r_recv hX hP 0 rfl rfl) rfl hsz rfl hW hdg hf) (lv_seti (b01_congr (ofP_1 x)) kk)
  · exact PM.ci (PM.runU (As := [.int x]) (rest := rest) hX (K_X5_isOf l g pa 2 x (by omega)) (cp_q523_2 hX ⟨hR1, by show 8 + (_ + 11) + 40 * 3 ≤ R.locals; omega⟩) hP trivial (r_recv hX hP 0 rfl rfl) rfl hsz rfl hW hdg hf) (lv_seti (b01_congr (ofP_2 x)) kk)
  · exact PM.ci (PM.runU (As := [.int x]) (rest := rest) hX (K_X8_isOf3 l g pa x) (cp_q523_3 hX ⟨hR1, by show 8 + (_ + 11) + 40 * 3 ≤ R.locals; omega⟩) hP trivial (r_recv hX hP 0 rfl rfl) rfl hsz rfl hW hdg hf) (lv_seti (b01_congr (ofP_3 x)) kk)
  · exact PM.ci (PM.runU (As := [.int x]) (rest := rest) hX (K_X9_isOf l g pa x) (cp_q523_4 hX ⟨hR1, by show 8 + (_ + 11) + 40 * 3 ≤ R.locals; omega⟩) hP trivial (r_recv hX hP 0 rfl rfl) rfl hsz rfl hW hdg hf) (lv_seti (b01_congr (ofP_4 x)) kk)
