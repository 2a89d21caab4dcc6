/-! THROWS: the machine's own exceptions, without traces; the thrown object lies over the frame. -/
section THR
variable {p : Program} {l : Launch} {e : Env} {R : Room} {s : State} {m : MethodId} {args : Array Value} {below : List Frame} {meth : Method} {c : Code} {H : Heap} {locs : List Loc} {cells slots : Nat} {Q : State → Prop}
/-- the machine's note to throw lies over the frame g -/
def WN (p : Program) (l : Launch) (e : Env) (R : Room) (s : State) (m : MethodId) (args : Array Value) (below : List Frame) (meth : Method) (c : Code) (H : Heap) (locs : List Loc) (cells slots : Nat) (Q : State → Prop) (cls : String) (msg : Option String) (g : JFrame) : Prop :=
  ∀ T : State, T.heap = H → Stand p l e R s m args below meth c T locs cells slots → ∃ t, Steps p.tables e below ((T.setTop g).pushFrame (.throwNew cls msg none)) t ∧ Q t
/-- the object at a is being thrown over the frame g -/
def WT (p : Program) (l : Launch) (e : Env) (R : Room) (s : State) (m : MethodId) (args : Array Value) (below : List Frame) (meth : Method) (c : Code) (H : Heap) (locs : List Loc) (cells slots : Nat) (Q : State → Prop) (a : Addr) (g : JFrame) : Prop :=
  ∀ T : State, T.heap = H → Stand p l e R s m args below meth c T locs cells slots → ∃ t, Steps p.tables e below (T.setFrames (.throwing a :: .java g :: below)) t ∧ Q t
/-- the statics' values, where nothing has written them -/
theorem zsT.at {n d : String} {A : Nat → Prop} (h : zsT n d A s s.heap) (hS : va_S A s.heap H locs) {cT aS iT : Nat} {kT : Class} {f : Field} (hf : s.fieldFound? "java/lang/Throwable" n d = some (cT, kT, iT, f)) (ha : kT.statics = some aS) :
    ∃ (u : RefV) (cell : Cell), H[aS]? = some cell ∧ cell.vm ≠ .unknown ∧ cell.slots[f.slot]? = some u.v := by
  obtain ⟨cf, kf, fi, f', a, cell, h0, h1, h2, h3, h4, h5, h6, h7, h8, ⟨r, h9⟩, h10⟩ := h
  cases hf.symm.trans h1
  cases ha.symm.trans h3
  refine ⟨⟨va_rf r, by cases r <;> rfl⟩, cell, by rw [hS.2.1 _ (Array.getElem?_eq_some_iff.mp h4).1 h10]; exact h4, (fun hu => by rw [hu] at h5; cases h5), h9⟩
theorem th_msg (hexec : p.tables.exec = Jvm.exec) (hl : l.stackTraces = false) {A : Nat → Prop} (hS : va_S A s.heap H locs) (hA : ∀ q, H.size ≤ q → A q) (hT : TWs A s s.heap) {cls text : String} {names : List String} (hcls : Bundle.fit cls = true) (hnames : ∀ n ∈ names, Bundle.fit n = true) (hsoe : (cls == "java/lang/StackOverflowError") = false) (hoom : (cls == "java/lang/OutOfMemoryError") = false) (hat : ∀ a ∈ Bundle.messageArmAtoms cls names, a.before args s = true) (htx : (text == notModelled) = false) (hbig : (stringBytes (stringToUtf16 text)).size ≤ 1200) {g : JFrame} (hg : g.method = m) (hsz : g.locals.size = c.maxLocals) (hRf : names.length + 4 < R.frames) (hRl : 2 * g.monitorRoom + (g.stack.map fun v => v.category).sum + 10240 ≤ R.locals) (hsh : 13 * names.length + 55 ≤ 10240) (hRc : cells + 3 ≤ R.cells) (hRs : slots + 1210 ≤ R.slots)
    (kk : ∀ (H1 : Heap) (locs1 : List Loc) (n : Nat) (ce : Cell), n ≤ slots + 1210 → H1.size = H.size + 3 → (∀ q : Nat, q < H.size → H1[q]? = H[q]?) → H1[H.size + 2]? = some ce → s.vm.findClass cls = some ce.cls → ce.vm = .none → va_S A s.heap H1 locs1 → WT p l e R s m args below meth c H1 locs1 (cells + 3) n Q (H.size + 2) g) : WN p l e R s m args below meth c H locs cells slots Q cls (some text) g := by
  intro U hU X
  have plat := X.admits.platform
  have mag : e.platform.magicAccessors = ({} : Platform).magicAccessors := by rw [plat]
  have sub : ∀ {w : List Cond}, (∀ x ∈ w, x ∈ Bundle.messageArmAtoms cls names) → ∀ x ∈ w, x.before args s = true := fun hw x hx => hat x (hw x hx)
  have one : ∀ x, x ∈ Bundle.messageArmAtoms cls names → x.holds args s none s [] = true := fun x hx => hat x hx
  obtain ⟨TC, Z0, L, -, Y⟩ := ThrowableC.of_atoms (args := args) (s := s) (pl := e.platform) (by rw [plat]) (by rw [plat]) mag (sub fun x hx => by simp [Bundle.messageArmAtoms, hx])
  obtain ⟨Z, MC, LZ, LM, topn⟩ := Init0T.ofS_atoms (args := args) mag L Y (sub fun x hx => by simp [Bundle.messageArmAtoms, hx])
  obtain ⟨P1, Ps, hlen, L1, LP, own1, up1, ups⟩ := Bundle.chainS (args := args) mag topn names cls hcls hnames (sub fun x hx => by simp [Bundle.messageArmAtoms, hx])
  obtain ⟨ZS, LS, four, fitv, fitc⟩ := StringT.of_atoms (args := args) (s := s) (sub fun x hx => by simp [Bundle.messageArmAtoms, hx])
  have hfound : s.vm.findClass cls = some P1.m.cls := findClass_of_methodNamed own1
  obtain ⟨c1, kX, hc1, hk, hord, -, -, six⟩ := Cond.instantiable_spec (one (.instantiable cls 6) (by simp [Bundle.messageArmAtoms]))
  cases Option.some.inj (hc1.symm.trans hfound)
  have hini := Cond.initialized_spec hfound hk (one (.initialized cls) (by simp [Bundle.messageArmAtoms]))
  have hctor : kX.findMethod "<init>" "(Ljava/lang/String;)V" = some P1.m.idx := findMethod_of_methodNamed own1 hk
  have sel : ∀ {y : MethodName} {my : MethodId}, s.methodNamed? y = some my → y.cls = Bundle.tN → y.name ≠ "<init>" → (Cond.selects cls y y) ∈ Bundle.messageArmAtoms cls names → (∃ z, s.methodFound? y.cls y.name y.desc = some z ∧ z = my) → selectMethod e.platform s.vm P1.m.cls my = .method my := by
    intro y my hy _ _ hin hfnd
    obtain ⟨c2, r2, m2, q1, q2, q3, q4, -⟩ := Cond.selects_spec (one _ hin)
    obtain ⟨z, hz, rfl⟩ := hfnd
    cases Option.some.inj (q1.symm.trans hfound)
    cases Option.some.inj (q2.symm.trans hz)
    cases Option.some.inj (q3.symm.trans hy)
    rw [Launch.admits_selectMethod X.admits]
    exact q4
  have sel0 : selectMethod e.platform s.vm P1.m.cls TC.fill0 = .method TC.fill0 := sel Y.fill0 rfl (by decide) (by simp [Bundle.messageArmAtoms]) ⟨_, State.methodFound?_of_named Y.fill0 (by decide), rfl⟩
  have selF : selectMethod e.platform s.vm P1.m.cls TC.fill = .method TC.fill := sel Y.fill rfl (by decide) (by simp [Bundle.messageArmAtoms]) ⟨_, State.methodFound?_of_named Y.fill (by decide), rfl⟩
  obtain ⟨u0, cS, hcS, hkn, hvU⟩ := hT.1.at hS Y.unassigned L.statics
  obtain ⟨sen, cS2, hcS2, -, hvS⟩ := hT.2.1.at hS Y.sentinel L.statics
  cases hcS.symm.trans hcS2
  obtain ⟨ci, bi, fB, bl, bg, ba, bs, -, bn, bt, bf⟩ := Cond.ownField (t := .object "java/lang/Object") Y.found L.cls (by decide +kernel) (one (.fieldLink Bundle.tN 198 Bundle.tN "backtrace" "Ljava/lang/Object;") (by simp [Bundle.messageArmAtoms])) (one (.lays Bundle.tN Bundle.tN "backtrace" "Ljava/lang/Object;") (by simp [Bundle.messageArmAtoms])) e.platform mag
  obtain ⟨iM, fM⟩ := Y.msg
  obtain ⟨tyC, dC, hdC, nmC⟩ := Cond.laysAt hfound hk Y.cause (one (.lays cls Bundle.tN "cause" "Ljava/lang/Throwable;") (by simp [Bundle.messageArmAtoms]))
  obtain ⟨tyS, dS, hdS, nmS⟩ := Cond.laysAt hfound hk Y.stack (one (.lays cls Bundle.tN "stackTrace" Bundle.steD) (by simp [Bundle.messageArmAtoms]))
  obtain ⟨tyP, dP, hdP, nmP⟩ := Cond.laysAt hfound hk Y.supp (one (.lays cls Bundle.tN "suppressedExceptions" Bundle.listD) (by simp [Bundle.messageArmAtoms]))
  obtain ⟨tyM, dM, hdM, nmM⟩ := Cond.laysAt hfound hk fM (one (.lays cls Bundle.tN "detailMessage" "Ljava/lang/String;") (by simp [Bundle.messageArmAtoms]))
  obtain ⟨tyB, dB, hdB, nmB⟩ := Cond.laysAt hfound hk bf (one (.lays cls Bundle.tN "backtrace" "Ljava/lang/Object;") (by simp [Bundle.messageArmAtoms]))
  have apC := Cond.laysApart hdB hdC nmB nmC (by rw [bn, Y.causeName]; decide)
  have apS := Cond.laysApart hdB hdS nmB nmS (by rw [bn, Y.stackName]; decide)
  have apP := Cond.laysApart hdB hdP nmB nmP (by rw [bn, Y.suppName]; decide)
  have hU2 : U.heap.size = H.size := by rw [hU]
  have hnull : ((preparedCellV TC.toThrowableT (freshCell P1.m.cls kX) (U.heap.size + 2) u0 sen).withEntry U.cur).slots[fB.slot]? = some .null := by
    have h0 := fresh_default (c := P1.m.cls) tyB
    rw [bt] at h0
    simpa [preparedCellV, Cell.setSlot, Cell.withEntry, Array.getElem?_setIfInBounds, apC, apS, apP, apC.symm, apS.symm, apP.symm, defaultValue] using h0
  have takC := Takes.of_laid (v := .ref (U.heap.size + 2)) hk hord tyC (by rw [Y.causeType]; rfl)
  have takS := Takes.of_laid (v := u0.v) hk hord tyS (by rw [Y.stackType]; exact fits_refV_array _ u0)
  have takP := Takes.of_laid (v := sen.v) hk hord tyP (by rw [Y.suppType]; exact fits_refV_object _ sen)
  have takM := Takes.of_laid (v := .ref (U.heap.size + 1)) hk hord tyM (by rw [Y.msgType]; rfl)
  have hoff : e.platform.stackTraces = false := by rw [plat]; exact hl
  have hlim : ¬ (stringBytes (stringToUtf16 text)).size > e.platform.arrayLengthLimit := by rw [Launch.admits_arrayLengthLimit X.admits]; omega
  have hmem : ¬ (stringBytes (stringToUtf16 text)).size * componentBytes .byte > e.platform.maxHeapBytes := by rw [Launch.admits_maxHeapBytes X.admits]; simp only [componentBytes]; omega
  obtain ⟨may1, may2⟩ := X.vmMayThrow hsz (.throwNew cls (some text) none) (fun f hf => by cases hf) rfl hRl
  have fr := X.framesAbove (n := Ps.length + 4) (by rw [hlen]; exact hRf)
  have wd := X.stackAbove hsz (K := 13 * Ps.length + 55) (by rw [hlen]; omega)
  have sl := X.slotsAbove (n := (stringBytes (stringToUtf16 text)).size + ZS.kS.instanceTypes.size + kX.instanceTypes.size) (by rw [four, six]; omega)
  obtain ⟨vm', warm, go⟩ := Steps.vmThrowsMessageColdByV p (s₀ := s) (S := U) (g := g) (by rw [hg]; exact X.here) hexec TC L Z LZ MC LM X.warmed (t := U.cur) rfl ZS LS P1 L1 Ps LP up1 ups hsoe hoom hfound hk hini hord hctor
    (Launch.admits_hotImplicitExceptions X.admits) may1 may2 htx hlim hmem (X.cellsAbove hRc) (by omega) (fitv _) (fitc _) (Nn := fun u => u) heapOnly_id (fun _ _ => rfl) (fun _ => rfl) (fun u x y => setCell_twice _ _ _ _) (fun _ => Nat.le_refl _)
    (cN := ((preparedCellV TC.toThrowableT (freshCell P1.m.cls kX) (U.heap.size + 2) u0 sen).withEntry U.cur)) sel0 (by rw [hU]; exact hcS) hkn hvU takS (fun _ hu => hu) (fun _ hu => hu) rfl rfl rfl (by simp [preparedCellV, Cell.setSlot, Cell.withEntry])
    ⟨{ ci198 := ci, i198 := bi, fBack := fB }, ⟨bl, bg, ba, bs⟩, hnull, fun _ _ => rfl⟩ (fun _ _ hA hW _ hroom _ hrest => L.nativeOff p hoff hA hW hroom hrest) selF hvS takC takP takM Y.objLocals rfl (by omega) (by omega)
  rw [plainBareV_eq TC.toThrowableT (U.heap.size + 2) u0 sen (.ref (U.heap.size + 1)) U.cur rfl rfl] at go
  obtain ⟨-, -, z3, z4, z5, -, -⟩ := withThrown_facts e.platform U ZS text P1.m.cls kX
  have X1 := ((X.pushed (bytesOf ZS.cB (stringToUtf16 text))).pushed (stringAt ZS.cS ZS.kS ZS.fv ZS.fc (stringToUtf16 text) U.heap.size)).pushed (freshCell P1.m.cls kX)
  rw [← withString_eq] at X1
  have lt2 : U.heap.size + 2 < ((withThrown U ZS text P1.m.cls kX).setVm vm').heap.size := by
    show _ < (withThrown U ZS text P1.m.cls kX).heap.size
    rw [z3]; omega
  have at2 : ((withThrown U ZS text P1.m.cls kX).setVm vm').heap[U.heap.size + 2]? = some (freshCell P1.m.cls kX) := z4
  have X2 := (((((X1.noted warm).stored at2 TC.fCause.slot (.ref (U.heap.size + 2))).storedAgain lt2 TC.fStack.slot u0.v).storedAgain lt2 TC.fSupp.slot sen.v).storedAgain lt2 TC.fStack.slot u0.v).storedAgain lt2 TC.fMsg.slot (.ref (U.heap.size + 1))
  have n1 : (bytesOf ZS.cB (stringToUtf16 text)).slots.size = (stringBytes (stringToUtf16 text)).size := by
    rw [(Cell.writeAll_facts _ _).2.2]; simp [bytes0]
  have n2 : (stringAt ZS.cS ZS.kS ZS.fv ZS.fc (stringToUtf16 text) U.heap.size).slots.size = 4 := by simp [string0, Cell.setSlot, four]
  have n3 : (freshCell P1.m.cls kX).slots.size = 6 := by simp [six]
  rw [X.tail] at go
  have self := heapAt_setCell_self (plainBareV TC.toThrowableT (freshCell P1.m.cls kX) (U.heap.size + 2) u0 sen (.ref (U.heap.size + 1))) lt2
  have kept : ∀ q : Nat, q < U.heap.size → (((withThrown U ZS text P1.m.cls kX).setVm vm').setCell (U.heap.size + 2) (plainBareV TC.toThrowableT (freshCell P1.m.cls kX) (U.heap.size + 2) u0 sen (.ref (U.heap.size + 1)))).heap[q]? = U.heap[q]? := by
    intro q hq
    rw [State.heap_setCell_other (by omega : U.heap.size + 2 ≠ q)]
    exact z5 q hq
  have size : (((withThrown U ZS text P1.m.cls kX).setVm vm').setCell (U.heap.size + 2) (plainBareV TC.toThrowableT (freshCell P1.m.cls kX) (U.heap.size + 2) u0 sen (.ref (U.heap.size + 1)))).heap.size = U.heap.size + 3 := by
    show ((withThrown U ZS text P1.m.cls kX).heap.setIfInBounds _ _).size = _
    rw [Array.size_setIfInBounds]; exact z3
  generalize hV : (((withThrown U ZS text P1.m.cls kX).setVm vm').setCell (U.heap.size + 2) (plainBareV TC.toThrowableT (freshCell P1.m.cls kX) (U.heap.size + 2) u0 sen (.ref (U.heap.size + 1)))) = V at *
  rw [hU2] at self size kept
  obtain ⟨t, h1, h2⟩ := kk V.heap _ _ _ (by rw [n1, n2, n3]; omega) size (fun q hq => by rw [kept q hq, hU]) self (by exact hfound) rfl ⟨by rw [size]; exact Nat.le_trans hS.1 (by omega), fun q g1 g2 => by rw [kept q (Nat.lt_of_lt_of_le g1 hS.1), hU]; exact hS.2.1 q g1 g2, fun q hq => by
      simp only [List.append_assoc, List.cons_append, List.nil_append] at hq
      rcases List.mem_append.mp hq with hq | hq
      · exact hS.2.2 q hq
      · refine hA _ ?_
        simp only [List.mem_cons, List.not_mem_nil, or_false] at hq
        rcases hq with rfl | rfl | rfl | rfl | rfl <;> (show H.size ≤ U.heap.size + 2; omega)⟩ V rfl X2
  rw [← hU2] at h1
  exact ⟨t, go _ h1, h2⟩
theorem th_npe (hexec : p.tables.exec = Jvm.exec) (hl : l.stackTraces = false) {A : Nat → Prop} (hS : va_S A s.heap H locs) (hA : ∀ q, H.size ≤ q → A q) (hT : TWs A s s.heap) {n : Nat} (hat : ∀ a ∈ Bundle.npeArmAtoms n, a.before args s = true) {g : JFrame} (hg : g.method = m) (hsz : g.locals.size = c.maxLocals) (hRf : 7 < R.frames) (hRl : 2 * g.monitorRoom + (g.stack.map fun v => v.category).sum + 10240 ≤ R.locals) (hRc : cells + 1 ≤ R.cells) (hRs : slots + n ≤ R.slots)
    (kk : ∀ (H1 : Heap) (locs1 : List Loc) (ce : Cell), H1.size = H.size + 1 → (∀ q : Nat, q < H.size → H1[q]? = H[q]?) → H1[H.size]? = some ce → s.vm.findClass "java/lang/NullPointerException" = some ce.cls → ce.vm = .none → va_S A s.heap H1 locs1 → WT p l e R s m args below meth c H1 locs1 (cells + 1) (slots + n) Q H.size g) : WN p l e R s m args below meth c H locs cells slots Q "java/lang/NullPointerException" none g := by
  intro U hU X
  have plat := X.admits.platform
  have mag : e.platform.magicAccessors = ({} : Platform).magicAccessors := by rw [plat]
  have sub : ∀ {w : List Cond}, (∀ x ∈ w, x ∈ Bundle.npeArmAtoms n) → ∀ x ∈ w, x.before args s = true := fun hw x hx => hat x (hw x hx)
  have one : ∀ x, x ∈ Bundle.npeArmAtoms n → x.holds args s none s [] = true := fun x hx => hat x hx
  obtain ⟨TC, Z, L, LZ, Y⟩ := ThrowableC.of_atoms (args := args) (s := s) (pl := e.platform) (by rw [plat]) (by rw [plat]) mag (sub fun x hx => by simp [Bundle.npeArmAtoms, hx])
  obtain ⟨NC, LN, clsN, fillN, hordN, fS⟩ := NpeC.of_atoms (args := args) mag (by rw [plat]) L Y (sub fun x hx => by simp [Bundle.npeArmAtoms, hx])
  obtain ⟨P1, L1, own1, sup1⟩ := PassC.of_atoms (args := args) (s := s) mag (X := Bundle.nN) (Y := Bundle.rN) (by decide) (by decide) LibCode.NullPointerException.Init0.at_0 LibCode.NullPointerException.Init0.at_1 LibCode.NullPointerException.Init0.at_4 (sub fun x hx => by simp [Bundle.npeArmAtoms, hx])
  obtain ⟨P2, L2, own2, sup2⟩ := PassC.of_atoms (args := args) (s := s) mag (X := Bundle.rN) (Y := Bundle.eN) (by decide) (by decide) LibCode.RuntimeException.Init0.at_0 LibCode.RuntimeException.Init0.at_1 LibCode.RuntimeException.Init0.at_4 (sub fun x hx => by simp [Bundle.npeArmAtoms, hx])
  obtain ⟨P3, L3, own3, sup3⟩ := PassC.of_atoms (args := args) (s := s) mag (X := Bundle.eN) (Y := Bundle.tN) (by decide) (by decide) LibCode.Exception.Init0.at_0 LibCode.Exception.Init0.at_1 LibCode.Exception.Init0.at_4 (sub fun x hx => by simp [Bundle.npeArmAtoms, hx])
  have hfound : s.vm.findClass Bundle.nN = some P1.m.cls := findClass_of_methodNamed own1
  have same : NC.cN = P1.m.cls := Option.some.inj (clsN.symm.trans hfound)
  have hk : s.vm.classes[P1.m.cls]? = some NC.kN := by rw [← same]; exact LN.cls
  have hini := Cond.initialized_spec hfound hk (one (.initialized Bundle.nN) (by simp [Bundle.npeArmAtoms]))
  have hctor : NC.kN.findMethod "<init>" "()V" = some P1.m.idx := findMethod_of_methodNamed own1 hk
  obtain ⟨c1, k1, hc1, hk1, -, -, -, hn⟩ := Cond.instantiable_spec (one (.instantiable Bundle.nN n) (by simp [Bundle.npeArmAtoms]))
  cases Option.some.inj (hc1.symm.trans hfound)
  cases Option.some.inj (hk1.symm.trans hk)
  have nsz : (freshCell P1.m.cls NC.kN).slots.size = n := by simp [hn]
  have e1 : P1.sup = P2.m := Option.some.inj (sup1.symm.trans own2)
  have e2 : P2.sup = P3.m := Option.some.inj (sup2.symm.trans own3)
  have e3 : P3.sup = Z.m TC.toThrowableT := Option.some.inj (sup3.symm.trans Y.init0)
  have LPs : ∀ P, P ∈ [P2, P3] → P.Links0 e.platform s := fun P hP => by
    simp only [List.mem_cons, List.not_mem_nil, or_false] at hP
    rcases hP with rfl | rfl
    · exact L2
    · exact L3
  have sel0 : selectMethod e.platform s.vm P1.m.cls TC.fill0 = .method TC.fill0 := by
    obtain ⟨c2, r2, m2, q1, q2, q3, q4, -⟩ := Cond.selects_spec (one (.selects Bundle.nN Bundle.tFill0 Bundle.tFill0) (by simp [Bundle.npeArmAtoms]))
    cases Option.some.inj (q1.symm.trans hfound)
    cases Option.some.inj (q2.symm.trans (State.methodFound?_of_named Y.fill0 (by decide)))
    cases Option.some.inj (q3.symm.trans Y.fill0)
    rw [Launch.admits_selectMethod X.admits]
    exact q4
  have selF : selectMethod e.platform s.vm P1.m.cls TC.fill = .method NC.fill := by
    obtain ⟨c2, r2, m2, q1, q2, q3, q4, -⟩ := Cond.selects_spec (one (.selects Bundle.nN Bundle.tFill Bundle.nFill) (by simp [Bundle.npeArmAtoms]))
    cases Option.some.inj (q1.symm.trans hfound)
    cases Option.some.inj (q2.symm.trans (State.methodFound?_of_named Y.fill (by decide)))
    cases Option.some.inj (q3.symm.trans fillN)
    rw [Launch.admits_selectMethod X.admits]
    exact q4
  obtain ⟨u0, cS, hcS, hkn, hvU⟩ := hT.1.at hS Y.unassigned L.statics
  obtain ⟨sen, cS2, hcS2, -, hvS⟩ := hT.2.1.at hS Y.sentinel L.statics
  cases hcS.symm.trans hcS2
  obtain ⟨ci, bi, fB, bl, bg, ba, bs, -, bn, bt, bf⟩ := Cond.ownField (t := .object "java/lang/Object") Y.found L.cls (by decide +kernel) (one (.fieldLink Bundle.tN 198 Bundle.tN "backtrace" Bundle.objD) (by simp [Bundle.npeArmAtoms])) (one (.lays Bundle.tN Bundle.tN "backtrace" Bundle.objD) (by simp [Bundle.npeArmAtoms])) e.platform mag
  obtain ⟨tyC, dC, hdC, nmC⟩ := Cond.laysAt hfound hk Y.cause (one (.lays Bundle.nN Bundle.tN "cause" "Ljava/lang/Throwable;") (by simp [Bundle.npeArmAtoms]))
  obtain ⟨tyS, dS, hdS, nmS⟩ := Cond.laysAt hfound hk Y.stack (one (.lays Bundle.nN Bundle.tN "stackTrace" Bundle.steD) (by simp [Bundle.npeArmAtoms]))
  obtain ⟨tyP, dP, hdP, nmP⟩ := Cond.laysAt hfound hk Y.supp (one (.lays Bundle.nN Bundle.tN "suppressedExceptions" Bundle.listD) (by simp [Bundle.npeArmAtoms]))
  obtain ⟨tyX, dX, hdX, nmX⟩ := Cond.laysAt hfound hk fS (one (.lays Bundle.nN Bundle.nN "extendedMessageState" "I") (by simp [Bundle.npeArmAtoms, Bundle.npeAtoms]))
  obtain ⟨xn, xt⟩ := State.fieldFound?_type fS (t := .int) (by decide +kernel)
  obtain ⟨tyB, dB, hdB, nmB⟩ := Cond.laysAt hfound hk bf (one (.lays Bundle.nN Bundle.tN "backtrace" Bundle.objD) (by simp [Bundle.npeArmAtoms]))
  have xC := Cond.laysApart hdC hdX nmC nmX (by rw [xn, Y.causeName]; decide)
  have xS := Cond.laysApart hdS hdX nmS nmX (by rw [xn, Y.stackName]; decide)
  have xP := Cond.laysApart hdP hdX nmP nmX (by rw [xn, Y.suppName]; decide)
  have apC := Cond.laysApart hdB hdC nmB nmC (by rw [bn, Y.causeName]; decide)
  have apS := Cond.laysApart hdB hdS nmB nmS (by rw [bn, Y.stackName]; decide)
  have apP := Cond.laysApart hdB hdP nmB nmP (by rw [bn, Y.suppName]; decide)
  have apX := Cond.laysApart hdB hdX nmB nmX (by rw [bn, xn]; decide)
  have hv0 : (freshCell P1.m.cls NC.kN).slots[NC.fState.slot]? = some (.int 0) := by
    have h0 := fresh_default (c := P1.m.cls) tyX
    rw [xt] at h0
    exact h0
  have hU2 : U.heap.size = H.size := by rw [hU]
  have hnull : ((npeCell NC.toNpeT (preparedCellV TC.toThrowableT (freshCell P1.m.cls NC.kN) U.heap.size u0 sen) U.cur).withEntry U.cur).slots[fB.slot]? = some .null := by
    have h0 := fresh_default (c := P1.m.cls) tyB
    rw [bt] at h0
    simpa [npeCell, preparedCellV, Cell.setSlot, Cell.withEntry, Array.getElem?_setIfInBounds, apC, apS, apP, apX, apC.symm, apS.symm, apP.symm, apX.symm, defaultValue] using h0
  have takC := Takes.of_laid (v := .ref U.heap.size) hk hordN tyC (by rw [Y.causeType]; rfl)
  have takS := Takes.of_laid (v := u0.v) hk hordN tyS (by rw [Y.stackType]; exact fits_refV_array _ u0)
  have takP := Takes.of_laid (v := sen.v) hk hordN tyP (by rw [Y.suppType]; exact fits_refV_object _ sen)
  have takX := Takes.of_laid (v := .int 1) hk hordN tyX (by rw [xt]; rfl)
  have hoff : e.platform.stackTraces = false := by rw [plat]; exact hl
  obtain ⟨may1, may2⟩ := X.vmMayThrow hsz (.throwNew "java/lang/NullPointerException" none none) (fun f hf => by cases hf) rfl hRl
  have fr := X.framesAbove (n := [P2, P3].length + 5) (by simpa using hRf)
  have wd := X.stackAbove hsz (K := 13 * [P2, P3].length + 68) (by simp only [List.length_cons, List.length_nil]; omega)
  obtain ⟨vm', warm, go⟩ := Steps.vmThrowsNpeColdByV p (s₀ := s) (S := U) (g := g) (by rw [hg]; exact X.here) hexec TC L Z LZ NC LN X.warmed (t := U.cur) rfl P1 L1 [P2, P3] LPs e1 ⟨e2, e3, trivial⟩ hfound hk hini hordN hctor
    (Launch.admits_hotImplicitExceptions X.admits) may1 may2 (X.cellsAbove hRc) (X.slotsAbove (by rw [hn]; exact hRs)) (Nn := fun u => u) heapOnly_id (fun _ _ => rfl) (fun _ => rfl) (fun u x y => setCell_twice _ _ _ _) (fun _ => Nat.le_refl _)
    (cN := ((npeCell NC.toNpeT (preparedCellV TC.toThrowableT (freshCell P1.m.cls NC.kN) U.heap.size u0 sen) U.cur).withEntry U.cur)) sel0 (by rw [hU]; exact hcS) hkn hvU hv0 xC xS xP takS takX (fun _ hu => hu) (fun _ hu => hu) rfl rfl rfl (by simp [npeCell, preparedCellV, Cell.setSlot, Cell.withEntry])
    ⟨{ ci198 := ci, i198 := bi, fBack := fB }, ⟨bl, bg, ba, bs⟩, hnull, fun _ _ => rfl⟩ (fun _ _ hA hW _ hroom _ hrest => L.nativeOff p hoff hA hW hroom hrest) selF hvS takC takP Y.objLocals rfl (by omega) (by omega)
  rw [npeBareV_eq TC.toThrowableT NC.toNpeT U.heap.size u0 sen U.cur rfl rfl] at go
  have X1 := (X.pushed (freshCell P1.m.cls NC.kN)).noted warm
  have z3 : ((U.pushCell (freshCell P1.m.cls NC.kN)).setVm vm').heap.size = U.heap.size + 1 := State.heap_size_pushCell _ _
  have lt2 : U.heap.size < ((U.pushCell (freshCell P1.m.cls NC.kN)).setVm vm').heap.size := by rw [z3]; omega
  have at2 : ((U.pushCell (freshCell P1.m.cls NC.kN)).setVm vm').heap[U.heap.size]? = some (freshCell P1.m.cls NC.kN) := State.heap_pushCell_size U (freshCell P1.m.cls NC.kN)
  have X2 := ((((X1.stored at2 TC.fCause.slot (.ref U.heap.size)).storedAgain lt2 TC.fStack.slot u0.v).storedAgain lt2 TC.fSupp.slot sen.v).storedAgain lt2 NC.fState.slot (.int 1)).storedAgain lt2 TC.fStack.slot u0.v
  rw [X.tail] at go
  have self := heapAt_setCell_self (npeBareV TC.toThrowableT NC.toNpeT (freshCell P1.m.cls NC.kN) U.heap.size u0 sen) lt2
  have kept : ∀ q : Nat, q < U.heap.size → (((U.pushCell (freshCell P1.m.cls NC.kN)).setVm vm').setCell U.heap.size (npeBareV TC.toThrowableT NC.toNpeT (freshCell P1.m.cls NC.kN) U.heap.size u0 sen)).heap[q]? = U.heap[q]? := by
    intro q hq
    rw [State.heap_setCell_other (by omega : U.heap.size ≠ q)]
    show (U.heap.push _)[q]? = _
    rw [Array.getElem?_push, if_neg (by omega)]
  have size : (((U.pushCell (freshCell P1.m.cls NC.kN)).setVm vm').setCell U.heap.size (npeBareV TC.toThrowableT NC.toNpeT (freshCell P1.m.cls NC.kN) U.heap.size u0 sen)).heap.size = U.heap.size + 1 := by
    show ((U.pushCell (freshCell P1.m.cls NC.kN)).heap.setIfInBounds _ _).size = _
    rw [Array.size_setIfInBounds]; exact z3
  generalize hV : (((U.pushCell (freshCell P1.m.cls NC.kN)).setVm vm').setCell U.heap.size (npeBareV TC.toThrowableT NC.toNpeT (freshCell P1.m.cls NC.kN) U.heap.size u0 sen)) = V at *
  rw [nsz] at X2
  rw [hU2] at self size kept
  obtain ⟨t, h1, h2⟩ := kk V.heap _ _ size (fun q hq => by rw [kept q hq, hU]) self (by exact hfound) rfl ⟨by rw [size]; exact Nat.le_trans hS.1 (by omega), fun q g1 g2 => by rw [kept q (Nat.lt_of_lt_of_le g1 hS.1), hU]; exact hS.2.1 q g1 g2, fun q hq => by
      simp only [List.append_assoc, List.cons_append, List.nil_append] at hq
      rcases List.mem_append.mp hq with hq | hq
      · exact hS.2.2 q hq
      · refine hA _ ?_
        simp only [List.mem_cons, List.not_mem_nil, or_false] at hq
        rcases hq with rfl | rfl | rfl | rfl | rfl <;> (show H.size ≤ U.heap.size; omega)⟩ V rfl X2
  rw [← hU2] at h1
  exact ⟨t, go _ h1, h2⟩
end THR
