/-! A NATIVE THAT THROWS: the exception is made over the native's frame; then it goes to the caller. -/
section NAT
variable {e : Env} {below fs : List Frame} {s₀ W : State}
/-- the constructor, run over whatever frames lie there -/
theorem nat_ctor (p : Program) (hgo : W.goesOn) (hcur : W.cur < W.threads.size) (habove : ∃ mid, fs = mid ++ below) (hexec : p.tables.exec = Jvm.exec)
    (T : ThrowableC) (L : T.Links e.platform s₀) (Z : Init0T) (LZ : Z.LaidS T.toThrowableT) (M : MsgC) (LM : M.Links T e.platform s₀) (hW : s₀.WarmedH W.vm)
    {u0 sen : RefV} {self str : Addr} {cell cellS : Cell} (hcell : W.heap[self]? = some cell) (hobj : ∀ k, cell.vm ≠ .statics k) (hknown : cell.vm ≠ .unknown) (hfree : cell.monitor.owner = none)
    (hsel0 : selectMethod e.platform s₀.vm cell.cls T.fill0 = .method T.fill0) (hcellS : W.heap[T.aS]? = some cellS) (hneS : T.aS ≠ self) (hknownS : cellS.vm ≠ .unknown) (hvU : cellS.slots[T.fUnassigned.slot]? = some u0.v) (htS : Takes s₀ cell T.fStack u0.v)
    (hskip : SkipFacts T e.platform s₀ (fun u => u) u0 ((preparedCellV T.toThrowableT cell self u0 sen).withEntry W.cur))
    (hnat : u0.v ≠ .null → ∀ u : State, At u T.fill T.codeFill below → s₀.WarmedH u.vm → u.heap[self]? = some ((preparedCellV T.toThrowableT cell self u0 sen).withEntry W.cur) →
      e.platform.stackFull (((u.setTop (fillJ T.fill self 16 [])).threads[(u.setTop (fillJ T.fill self 16 [])).cur]?).getD { frames := [] }) (u.setTop (fillJ T.fill self 16 [])).frames (nativeFrameWords "java/lang/Throwable" "fillInStackTrace" 2) = false → ∀ t' : State,
      Steps p.tables e below (u.setTop (fillJ T.fill self 19 [.ref self])) t' → Steps p.tables e below (doInvoke e (u.setTop (fillJ T.fill self 16 [])) [] T.fill0 #[.ref self, .int 0]).1 t')
    (hselF : selectMethod e.platform s₀.vm cell.cls T.fill = .method T.fill) (hvSen : cellS.slots[T.fSentinel.slot]? = some sen.v)
    (htC : Takes s₀ cell T.fCause (.ref self)) (htP : Takes s₀ cell T.fSupp sen.v) (htM : Takes s₀ cell T.fMsg (.ref str)) (hobjLocals : T.codeObj.maxLocals = 1)
    (P1 : PassC) (L1 : P1.LinksS e.platform s₀) (Ps : List PassC) (hL : ∀ P, P ∈ Ps → P.LinksS e.platform s₀) (hlink1 : P1.sup = firstOf (Z.m T.toThrowableT) (Ps.map (·.toPassT))) (hlink : PassesOn (Z.m T.toThrowableT) (Ps.map (·.toPassT)))
    {lim : Nat × Nat} (hlim : e.platform.stackLimits W.me = lim) (hframes : fs.length + Ps.length + 4 < lim.1) (hwords : (stackUse fs).2 + 13 * Ps.length + 55 ≤ lim.2) :
    ∃ vm', s₀.WarmedH vm' ∧ ∀ target, Steps p.tables e below (((W.setVm vm').setCell self ((((preparedCellV T.toThrowableT cell self u0 sen).withEntry W.cur).setSlot T.fStack.slot u0.v).left.setSlot T.fMsg.slot (.ref str))).setFrames (.throwing self :: fs)) target →
      Steps p.tables e below (doInvoke e (W.setFrames (.thenThrow self :: fs)) [] P1.m #[.ref self, .ref str]).1 target := by
  obtain ⟨mid, hmid⟩ := habove
  have fN : ∀ vm, ((W.setVm vm).setFrames (.thenThrow self :: fs)).frames = .thenThrow self :: fs := fun vm => State.frames_setFrames _ hcur
  have goN : ∀ vm, ((W.setVm vm).setFrames (.thenThrow self :: fs)).goesOn := fun vm => ⟨hgo.1, by simpa using hgo.2.1, by simpa using hgo.2.2⟩
  have hcN : ∀ vm, ((W.setVm vm).setFrames (.thenThrow self :: fs)).cur < ((W.setVm vm).setFrames (.thenThrow self :: fs)).threads.size := fun vm => State.cur_lt_of_frames (fN vm)
  have atI : ∀ vm, s₀.WarmedH vm → At (((W.setVm vm).setFrames (.thenThrow self :: fs)).pushFrame (.java (passJ P1.m self (.ref str) 0 []))) P1.m P1.code below := fun vm hv =>
    At.pushOn _ (goN vm) (hcN vm) ⟨.thenThrow self :: mid, by rw [fN vm, hmid]; rfl⟩ (hv.methodAt L1.method) L1.code (hv.plainAt (U := (W.setVm vm).setFrames (.thenThrow self :: fs)) L1.plain)
  have frI : ∀ vm, (((W.setVm vm).setFrames (.thenThrow self :: fs)).pushFrame (.java (passJ P1.m self (.ref str) 0 []))).frames = .java (passJ P1.m self (.ref str) 0 []) :: .thenThrow self :: fs := fun vm => by
    rw [State.pushFrame, State.frames_setFrames _ (hcN vm), fN vm]
  have e0 : W.setVm W.vm = W := rfl
  have limN : ∀ vm, e.platform.stackLimits (((W.setVm vm).setFrames (.thenThrow self :: fs)).pushFrame (.java (passJ P1.m self (.ref str) 0 []))).me = lim := fun vm => by
    rw [State.stackLimits_pushFrame, State.stackLimits_setFrames]; exact hlim
  have hroom : e.platform.stackFull (((W.setFrames (.thenThrow self :: fs)).threads[(W.setFrames (.thenThrow self :: fs)).cur]?).getD { frames := [] }) (W.setFrames (.thenThrow self :: fs)).frames 2 = false :=
    roomAbove (pl := e.platform) (u := W.setFrames (.thenThrow self :: fs)) (vars := 2) (pushed := [.thenThrow self]) (base := fs) (free := 13 * Ps.length + 55) (lim := lim) (fN W.vm) (by rw [State.stackLimits_setFrames]; exact hlim)
      (by simp only [List.length_cons, List.length_nil]; omega) (by omega) (by rw [stackUse_light _ _ (fun f hf => by cases hf) rfl, stackUse_nil]; show 0 + 2 + 11 ≤ _; omega)
  obtain ⟨vm1, hW1, st1⟩ := Steps.invokeInitCold (tb := p.tables) (s₀ := s₀) (U := (W.setFrames (.thenThrow self :: fs)).pushFrame (.java (passJ P1.m self (.ref str) 0 []))) (f := passJ P1.m self (.ref str) 2 [.ref str, .ref self]) (args := [.ref str]) (rest := []) (a := self) (atI W.vm hW : At ((W.setFrames (.thenThrow self :: fs)).pushFrame (.java (passJ P1.m self (.ref str) 0 []))) P1.m P1.code below) hexec L1.at2 hW L1.links L1.right L1.notHandle L1.cls L1.file L1.pool
    L1.supClass L1.supMethod L1.supName L1.supStatic L1.supAbstract L1.supFound L1.supParams.symm rfl
  obtain ⟨vm2, hW2, st2⟩ := Steps.initThrowableSColdByV p (V := ((W.setVm vm1).setFrames (.thenThrow self :: fs)).pushFrame (.java (passJ P1.m self (.ref str) 0 []))) (g := passJ P1.m self (.ref str) 2 []) (c := P1.code) (self := self) (atI vm1 hW1) hexec T L Z LZ M LM hW1 (t := W.cur) rfl (Nn := fun u => u) heapOnly_id (fun _ _ => rfl) (fun _ => rfl) (fun u x y => setCell_twice _ _ _ _) (fun _ => Nat.le_refl _) (msg := .ref str) rfl
    (cell := cell) (cellS := cellS) (cN := (preparedCellV T.toThrowableT cell self u0 sen).withEntry W.cur) hcell hobj hknown hfree hsel0 hcellS hneS hknownS hvU htS (fun _ hu => hu) (fun _ hu => hu) rfl rfl rfl (by simp [preparedCellV, Cell.setSlot, Cell.withEntry]) hskip hnat hselF hvSen htC htP htM hobjLocals Ps hL hlink (ig := .invokespecial P1.index) (len := 3) [] (limN vm1)
    (by rw [frI vm1]; simp only [List.length_cons]; omega)
    (by
      rw [frI vm1, List.tail_cons, stackUse_java, stackUse_light _ _ (fun f hf => by cases hf) rfl]
      show (stackUse fs).2 + (2 + 11 + 2 * 0 + operandWords []) + 13 * Ps.length + 42 ≤ lim.2
      simp only [operandWords, List.foldl_nil]
      omega)
    L1.at2
  refine ⟨vm2, hW2, fun target hrest => ?_⟩
  rw [(doInvoke_java (s := W.setFrames (.thenThrow self :: fs)) (e := e) (acts := []) (args := #[.ref self, .ref str]) (meth := P1.meth) (code := P1.code) (hW.methodAt L1.method) L1.code L1.locks (by rw [L1.locals]; exact hroom)).1, L1.locals]
  show Steps p.tables e below ((W.setFrames (.thenThrow self :: fs)).pushFrame (.java (passJ P1.m self (.ref str) 0 []))) target
  have hI : At ((W.setFrames (.thenThrow self :: fs)).pushFrame (.java (passJ P1.m self (.ref str) 0 []))) P1.m P1.code below := atI W.vm hW
  have fr0 : ((W.setFrames (.thenThrow self :: fs)).pushFrame (.java (passJ P1.m self (.ref str) 0 []))).frames = .java (passJ P1.m self (.ref str) 0 []) :: .thenThrow self :: fs := frI W.vm
  rw [← State.setTop_self (s := (W.setFrames (.thenThrow self :: fs)).pushFrame (.java (passJ P1.m self (.ref str) 0 []))) (State.topJava?_of_frames fr0)]
  jvm_step hI [hexec, L1.at0, Value.isRef]
  jvm_step hI [hexec, L1.at1, Value.isRef]
  refine st1 target ?_
  rw [hlink1]
  have ev : ((W.setFrames (.thenThrow self :: fs)).pushFrame (.java (passJ P1.m self (.ref str) 0 []))).setVm vm1 = ((W.setVm vm1).setFrames (.thenThrow self :: fs)).pushFrame (.java (passJ P1.m self (.ref str) 0 [])) := by
    rw [State.pushFrame_setVm, State.setFrames_setVm]
  rw [ev]
  refine st2 target ?_
  have ev2 : ((((W.setVm vm1).setFrames (.thenThrow self :: fs)).pushFrame (.java (passJ P1.m self (.ref str) 0 []))).setVm vm2) = ((W.setVm vm2).setFrames (.thenThrow self :: fs)).pushFrame (.java (passJ P1.m self (.ref str) 0 [])) := by
    rw [State.pushFrame_setVm, State.setFrames_setVm, State.setVm_twice]
  rw [ev2]
  generalize hce : (((preparedCellV T.toThrowableT cell self u0 sen).withEntry W.cur).setSlot T.fStack.slot u0.v).left.setSlot T.fMsg.slot (.ref str) = ce at hrest ⊢
  have hB : At ((((W.setVm vm2).setFrames (.thenThrow self :: fs)).pushFrame (.java (passJ P1.m self (.ref str) 0 []))).setCell self ce) P1.m P1.code below := (At.setCell_iff self ce).mpr (atI vm2 hW2)
  jvm_step hB [hexec, L1.at5, return_.wp_sem]
  intro acts2
  rw [ret_to (t := ((((W.setVm vm2).setFrames (.thenThrow self :: fs)).pushFrame (.java (passJ P1.m self (.ref str) 0 []))).setCell self ce)) (f := passJ P1.m self (.ref str) 5 []) (f₀ := passJ P1.m self (.ref str) 0 []) (below := .thenThrow self :: fs) (fs := .thenThrow self :: fs) (meth := P1.meth) (frI vm2) (hW2.methodAt L1.method) L1.locks rfl rfl rfl acts2]
  have ev3 : ∀ F, ((((W.setVm vm2).setFrames (.thenThrow self :: fs)).pushFrame (.java (passJ P1.m self (.ref str) 0 []))).setCell self ce).setFrames F = ((W.setVm vm2).setCell self ce).setFrames F := by
    intro F
    show ((((W.setVm vm2).setFrames _).setFrames _).setFrames F).setCell self ce = _
    rw [State.setFrames_setFrames, State.setFrames_setFrames]
    rfl
  rw [ev3]
  have hf1 : (((W.setVm vm2).setCell self ce).setFrames (.thenThrow self :: fs)).frames = .thenThrow self :: fs := State.frames_setFrames _ hcur
  refine Steps.head ⟨hgo.1, by simpa using hgo.2.1, by simpa using hgo.2.2⟩ ⟨.thenThrow self :: mid, by rw [hf1, hmid]; rfl, by simp, by simp⟩ ?_
  rw [stepThread_thenThrow hf1, State.setFrames_setFrames]
  exact hrest
end NAT
section NTH
variable {p : Program} {l : Launch} {e : Env} {R : Room} {s : State} {m : MethodId} {args : Array Value} {below : List Frame} {meth : Method} {c : Code} {H : Heap} {locs : List Loc} {cells slots : Nat} {Q : State → Prop}
/-- the machine's note to throw lies over a native's frame, over the frame g -/
def WNN (p : Program) (l : Launch) (e : Env) (R : Room) (s : State) (m : MethodId) (args : Array Value) (below : List Frame) (meth : Method) (c : Code) (H : Heap) (locs : List Loc) (cells slots : Nat) (Q : State → Prop) (cls : String) (msg : Option String) (f : NFrame) (g : JFrame) : Prop :=
  ∀ T : State, T.heap = H → Stand p l e R s m args below meth c T locs cells slots → ∃ t, Steps p.tables e below (T.setFrames (.throwNew cls msg none :: .native f :: .java g :: below)) t ∧ Q t
set_option maxHeartbeats 8000000 in
theorem th_nat (hexec : p.tables.exec = Jvm.exec) (hl : l.stackTraces = false) {A : Nat → Prop} (hS : va_S A s.heap H locs) (hA : ∀ q, H.size ≤ q → A q) (hT : TWs A s s.heap) {cls text : String} {names : List String} (hcls : Bundle.fit cls = true) (hnames : ∀ n ∈ names, Bundle.fit n = true) (hsoe : (cls == "java/lang/StackOverflowError") = false) (hoom : (cls == "java/lang/OutOfMemoryError") = false) (hat : ∀ a ∈ Bundle.messageArmAtoms cls names, a.before args s = true) (htx : (text == notModelled) = false) (hbig : (stringBytes (stringToUtf16 text)).size ≤ 1200) {g : JFrame} (hg : g.method = m) (hsz : g.locals.size = c.maxLocals) (hRf : names.length + 5 < R.frames) {f : NFrame} (hf1 : f.awaiting = false) (hf2 : f.locked = none) (hf3 : f.words = 0) (hRl : 2 * g.monitorRoom + (g.stack.map fun v => v.category).sum + 10240 ≤ R.locals) (hsh : 13 * names.length + 55 ≤ 10240) (hRc : cells + 3 ≤ R.cells) (hRs : slots + 1210 ≤ R.slots)
    (kk : ∀ (H1 : Heap) (locs1 : List Loc) (n : Nat) (ce : Cell), n ≤ slots + 1210 → H1.size = H.size + 3 → (∀ q : Nat, q < H.size → H1[q]? = H[q]?) → H1[H.size + 2]? = some ce → s.vm.findClass cls = some ce.cls → ce.vm = .none → va_S A s.heap H1 locs1 → WT p l e R s m args below meth c H1 locs1 (cells + 3) n Q (H.size + 2) g) : WNN p l e R s m args below meth c H locs cells slots Q cls (some text) f g := by
  intro U hU X
  have plat := X.admits.platform
  have mag : e.platform.magicAccessors = ({} : Platform).magicAccessors := by rw [plat]
  have sub : ∀ {w : List Cond}, (∀ x ∈ w, x ∈ Bundle.messageArmAtoms cls names) → ∀ x ∈ w, x.before args s = true := fun hw x hx => hat x (hw x hx)
  have one : ∀ x, x ∈ Bundle.messageArmAtoms cls names → x.holds args s none s [] = true := fun x hx => hat x hx
  obtain ⟨TC, Z0, L, -, Y⟩ := ThrowableC.of_atoms (args := args) (s := s) (pl := e.platform) (by rw [plat]) (by rw [plat]) mag (sub fun x hx => by simp [Bundle.messageArmAtoms, hx])
  obtain ⟨Z, MC, LZ, LM, topn⟩ := Init0T.ofS_atoms (args := args) mag L Y (sub fun x hx => by simp [Bundle.messageArmAtoms, hx])
  obtain ⟨P1, Ps, hlen, L1, LP, own1, up1, ups⟩ := Bundle.chainS (args := args) mag topn names cls hcls hnames (sub fun x hx => by simp [Bundle.messageArmAtoms, hx])
  obtain ⟨ZS, LS, four, fitv, fitc⟩ := StringT.of_atoms (args := args) (s := s) (sub fun x hx => by simp [Bundle.messageArmAtoms, hx])
  have hfound : s.vm.findClass cls = some P1.m.cls := findClass_of_methodNamed own1
  obtain ⟨c1, kX, hc1, hk, hord, -, -, six⟩ := Cond.instantiable_spec (one (.instantiable cls 6) (by simp [Bundle.messageArmAtoms]))
  cases Option.some.inj (hc1.symm.trans hfound)
  have hini := Cond.initialized_spec hfound hk (one (.initialized cls) (by simp [Bundle.messageArmAtoms]))
  have hctor : kX.findMethod "<init>" "(Ljava/lang/String;)V" = some P1.m.idx := findMethod_of_methodNamed own1 hk
  have sel : ∀ {y : MethodName} {my : MethodId}, s.methodNamed? y = some my → y.cls = Bundle.tN → y.name ≠ "<init>" → (Cond.selects cls y y) ∈ Bundle.messageArmAtoms cls names → (∃ z, s.methodFound? y.cls y.name y.desc = some z ∧ z = my) → selectMethod e.platform s.vm P1.m.cls my = .method my := by
    intro y my hy _ _ hin hfnd
    obtain ⟨c2, r2, m2, q1, q2, q3, q4, -⟩ := Cond.selects_spec (one _ hin)
    obtain ⟨z, hz, rfl⟩ := hfnd
    cases Option.some.inj (q1.symm.trans hfound)
    cases Option.some.inj (q2.symm.trans hz)
    cases Option.some.inj (q3.symm.trans hy)
    rw [Launch.admits_selectMethod X.admits]
    exact q4
  have sel0 : selectMethod e.platform s.vm P1.m.cls TC.fill0 = .method TC.fill0 := sel Y.fill0 rfl (by decide) (by simp [Bundle.messageArmAtoms]) ⟨_, State.methodFound?_of_named Y.fill0 (by decide), rfl⟩
  have selF : selectMethod e.platform s.vm P1.m.cls TC.fill = .method TC.fill := sel Y.fill rfl (by decide) (by simp [Bundle.messageArmAtoms]) ⟨_, State.methodFound?_of_named Y.fill (by decide), rfl⟩
  obtain ⟨u0, cS, hcS, hkn, hvU⟩ := hT.1.at hS Y.unassigned L.statics
  obtain ⟨sen, cS2, hcS2, -, hvS⟩ := hT.2.1.at hS Y.sentinel L.statics
  cases hcS.symm.trans hcS2
  obtain ⟨ci, bi, fB, bl, bg, ba, bs, -, bn, bt, bf⟩ := Cond.ownField (t := .object "java/lang/Object") Y.found L.cls (by decide +kernel) (one (.fieldLink Bundle.tN 198 Bundle.tN "backtrace" "Ljava/lang/Object;") (by simp [Bundle.messageArmAtoms])) (one (.lays Bundle.tN Bundle.tN "backtrace" "Ljava/lang/Object;") (by simp [Bundle.messageArmAtoms])) e.platform mag
  obtain ⟨iM, fM⟩ := Y.msg
  obtain ⟨tyC, dC, hdC, nmC⟩ := Cond.laysAt hfound hk Y.cause (one (.lays cls Bundle.tN "cause" "Ljava/lang/Throwable;") (by simp [Bundle.messageArmAtoms]))
  obtain ⟨tyS, dS, hdS, nmS⟩ := Cond.laysAt hfound hk Y.stack (one (.lays cls Bundle.tN "stackTrace" Bundle.steD) (by simp [Bundle.messageArmAtoms]))
  obtain ⟨tyP, dP, hdP, nmP⟩ := Cond.laysAt hfound hk Y.supp (one (.lays cls Bundle.tN "suppressedExceptions" Bundle.listD) (by simp [Bundle.messageArmAtoms]))
  obtain ⟨tyM, dM, hdM, nmM⟩ := Cond.laysAt hfound hk fM (one (.lays cls Bundle.tN "detailMessage" "Ljava/lang/String;") (by simp [Bundle.messageArmAtoms]))
  obtain ⟨tyB, dB, hdB, nmB⟩ := Cond.laysAt hfound hk bf (one (.lays cls Bundle.tN "backtrace" "Ljava/lang/Object;") (by simp [Bundle.messageArmAtoms]))
  have apC := Cond.laysApart hdB hdC nmB nmC (by rw [bn, Y.causeName]; decide)
  have apS := Cond.laysApart hdB hdS nmB nmS (by rw [bn, Y.stackName]; decide)
  have apP := Cond.laysApart hdB hdP nmB nmP (by rw [bn, Y.suppName]; decide)
  have hU2 : U.heap.size = H.size := by rw [hU]
  have hnull : ((preparedCellV TC.toThrowableT (freshCell P1.m.cls kX) (U.heap.size + 2) u0 sen).withEntry U.cur).slots[fB.slot]? = some .null := by
    have h0 := fresh_default (c := P1.m.cls) tyB
    rw [bt] at h0
    simpa [preparedCellV, Cell.setSlot, Cell.withEntry, Array.getElem?_setIfInBounds, apC, apS, apP, apC.symm, apS.symm, apP.symm, defaultValue] using h0
  have takC := Takes.of_laid (v := .ref (U.heap.size + 2)) hk hord tyC (by rw [Y.causeType]; rfl)
  have takS := Takes.of_laid (v := u0.v) hk hord tyS (by rw [Y.stackType]; exact fits_refV_array _ u0)
  have takP := Takes.of_laid (v := sen.v) hk hord tyP (by rw [Y.suppType]; exact fits_refV_object _ sen)
  have takM := Takes.of_laid (v := .ref (U.heap.size + 1)) hk hord tyM (by rw [Y.msgType]; rfl)
  have hoff : e.platform.stackTraces = false := by rw [plat]; exact hl
  have hlim : ¬ (stringBytes (stringToUtf16 text)).size > e.platform.arrayLengthLimit := by rw [Launch.admits_arrayLengthLimit X.admits]; omega
  have hmem : ¬ (stringBytes (stringToUtf16 text)).size * componentBytes .byte > e.platform.maxHeapBytes := by rw [Launch.admits_maxHeapBytes X.admits]; simp only [componentBytes]; omega
  obtain ⟨g₀, hfrU⟩ := X.frames_eq
  have hcurU : U.cur < U.threads.size := State.cur_lt_of_frames hfrU
  have hbyt : ((((U.setFrames (.throwNew cls (some text) none :: .native f :: .java g :: below)).threads[U.cur]?).map (·.stackBytes)).getD 0) = U.me.stackBytes := by
    rw [← State.stackBytes_setFrames U (.throwNew cls (some text) none :: .native f :: .java g :: below)]
    exact State.stackBytes_me (U.setFrames (.throwNew cls (some text) none :: .native f :: .java g :: below))
  have wA := X.stackAbove hsz hRl
  rw [X.tail] at wA
  have hlimU : (e.platform.stackLimits U.me).2 = (e.platform.limitsFor U.me.stackBytes).2 := rfl
  have use1 : (stackUse (.throwNew cls (some text) none :: .native f :: .java g :: below)).2 = (stackUse (.java g :: below)).2 := by rw [stackUse_light (.throwNew cls (some text) none) _ (fun _ h => by cases h) rfl, stackUse_light (.native f) _ (fun _ h => by cases h) hf3]
  have use2 : (stackUse (.native f :: .java g :: below)).2 = (stackUse (.java g :: below)).2 := by rw [stackUse_light (.native f) _ (fun _ h => by cases h) hf3]
  have hf0 : (U.setFrames (.throwNew cls (some text) none :: .native f :: .java g :: below)).frames = .throwNew cls (some text) none :: .native f :: .java g :: below := State.frames_setFrames _ hcurU
  have may1 : e.platform.stackBeyond ((((U.setFrames (.throwNew cls (some text) none :: .native f :: .java g :: below)).threads[(U.setFrames (.throwNew cls (some text) none :: .native f :: .java g :: below)).cur]?).map (·.stackBytes)).getD 0) (U.setFrames (.throwNew cls (some text) none :: .native f :: .java g :: below)).frames = false := by
    show e.platform.stackBeyond ((((U.setFrames (.throwNew cls (some text) none :: .native f :: .java g :: below)).threads[U.cur]?).map (·.stackBytes)).getD 0) _ = false
    rw [hbyt, hf0]
    unfold Platform.stackBeyond
    rw [use1]
    exact decide_eq_false (by omega)
  have may2 : e.platform.vmThrowRoom ≤ e.platform.stackFree ((((U.setFrames (.throwNew cls (some text) none :: .native f :: .java g :: below)).threads[(U.setFrames (.throwNew cls (some text) none :: .native f :: .java g :: below)).cur]?).map (·.stackBytes)).getD 0) (U.setFrames (.throwNew cls (some text) none :: .native f :: .java g :: below)).frames := by
    show _ ≤ e.platform.stackFree ((((U.setFrames (.throwNew cls (some text) none :: .native f :: .java g :: below)).threads[U.cur]?).map (·.stackBytes)).getD 0) _
    rw [hbyt, hf0, Launch.admits_vmThrowRoom X.admits]
    unfold Platform.stackFree
    rw [use1]
    omega
  have fr := X.framesAbove (n := Ps.length + 5) (by rw [hlen]; exact hRf)
  have sl := X.slotsAbove (n := (stringBytes (stringToUtf16 text)).size + ZS.kS.instanceTypes.size + kX.instanceTypes.size) (by rw [four, six]; omega)
  obtain ⟨kX', hk', he'⟩ := X.warmed.alike.2.2 _ _ hk
  have hty : kX'.instanceTypes = kX.instanceTypes := by rw [he']
  have hfresh : freshCell P1.m.cls kX' = freshCell P1.m.cls kX := by
    show ({ cls := P1.m.cls, slots := kX'.instanceTypes.map defaultValue, vm := .none } : Cell) = _
    rw [hty]
  obtain ⟨kS', kB', LZ', htyS⟩ := LS.warmer X.warmed.alike
  have hsame : withThrown U { ZS with kS := kS', kB := kB' } text P1.m.cls kX' = (withThrown U ZS text P1.m.cls kX) := by
    rw [← withThrown_warmer U ZS (kB' := kB') htyS text P1.m.cls kX]
    unfold withThrown
    rw [hfresh]
  have hfsl : U.fitsSlot = s.fitsSlot := (show U.fitsSlot = (s.setVm U.vm).fitsSlot from rfl).trans (State.fitsSlot_setVm X.warmed.alike)
  obtain ⟨w1, w2, w3, w4, w5, -, w7⟩ := withThrown_facts e.platform U ZS text P1.m.cls kX
  have hcSU : U.heap[TC.aS]? = some cS := by rw [hU]; exact hcS
  have hltS : TC.aS < U.heap.size := (Array.getElem?_eq_some_iff.mp hcSU).1
  have hgoW : (withThrown U ZS text P1.m.cls kX).goesOn := by
    have h9 : At (withThrown U ZS text P1.m.cls kX) m c below := by simpa [withThrown, withString] using X.here
    exact ⟨h9.running, h9.runnable, h9.alone⟩
  have hcurW : (withThrown U ZS text P1.m.cls kX).cur < (withThrown U ZS text P1.m.cls kX).threads.size := State.cur_lt_of_frames (w2.trans hfrU)
  have hWc : (withThrown U ZS text P1.m.cls kX).cur = U.cur := by simp [withThrown, withString]
  have hlenU : U.frames.length = (Frame.java g :: below).length := by rw [hfrU]; rfl
  obtain ⟨vm', warm, go0⟩ := nat_ctor (e := e) (below := below) (fs := .native f :: .java g :: below) (s₀ := s) (W := (withThrown U ZS text P1.m.cls kX)) p hgoW hcurW ⟨[.native f, .java g], rfl⟩ hexec TC L Z LZ MC LM (by rw [w1]; exact X.warmed) (self := U.heap.size + 2) (str := U.heap.size + 1) (u0 := u0) (sen := sen) (cell := freshCell P1.m.cls kX) (cellS := cS) w4 (by intro k hk9; cases hk9) (by intro hk9; cases hk9) rfl sel0 ((w5 _ hltS).trans hcSU) (Nat.ne_of_lt (Nat.lt_of_lt_of_le hltS (Nat.le_add_right _ 2))) hkn hvU takS
    (by rw [hWc]; exact ⟨{ ci198 := ci, i198 := bi, fBack := fB }, ⟨bl, bg, ba, bs⟩, hnull, fun _ _ => rfl⟩) (by rw [hWc]; exact (fun _ _ hA hW _ hroom _ hrest => L.nativeOff p hoff hA hW hroom hrest)) selF hvS takC takP takM Y.objLocals P1 L1 Ps LP up1 ups (lim := e.platform.stackLimits U.me) w7 (by simp only [List.length_cons] at hlenU ⊢; omega) (by rw [use2]; omega)
  rw [hWc] at go0
  have go : ∀ target, Steps p.tables e below ((((withThrown U ZS text P1.m.cls kX).setVm vm').setCell (U.heap.size + 2) ((((preparedCellV TC.toThrowableT (freshCell P1.m.cls kX) (U.heap.size + 2) u0 sen).withEntry U.cur).setSlot TC.fStack.slot u0.v).left.setSlot TC.fMsg.slot (.ref (U.heap.size + 1)))).setFrames (.throwing (U.heap.size + 2) :: .java g :: below)) target → Steps p.tables e below (U.setFrames (.throwNew cls (some text) none :: .native f :: .java g :: below)) target := by
    intro target hrest
    refine Steps.head ⟨X.here.running, by simpa using X.here.runnable, by simpa using X.here.alone⟩ ⟨[.throwNew cls (some text) none, .native f, .java g], by rw [hf0]; rfl, by simp, by simp⟩ ?_
    rw [stepThread_throwNew hf0, stepThrowNew_message (s := U.setFrames (.throwNew cls (some text) none :: .native f :: .java g :: below)) (c := P1.m.cls) (k := kX') (i := P1.m.idx) { ZS with kS := kS', kB := kB' } LZ' hsoe hoom (show U.vm.findClass cls = _ by rw [X.warmed.alike.findClass]; exact hfound) hk' (by rw [he']; exact hini) (by rw [he']; exact hord) (Launch.admits_hotImplicitExceptions X.admits) may1 may2 htx (by rw [he']; exact hctor) hlim hmem (X.cellsAbove hRc) (by show U.slotsUsed + _ + kS'.instanceTypes.size + kX'.instanceTypes.size ≤ _; rw [htyS, hty]; omega) (by show U.fitsSlot ZS.cS .none ZS.fv.slot (.ref U.heap.size) = true; rw [hfsl]; exact fitv _) (by show U.fitsSlot ZS.cS .none ZS.fc.slot (.int (stringCoder (stringToUtf16 text))) = true; rw [hfsl]; exact fitc _)]
    rw [withThrown_setFrames, State.setFrames_setFrames, hsame]
    refine go0 target ?_
    have hgoV : (((withThrown U ZS text P1.m.cls kX).setVm vm').setCell (U.heap.size + 2) ((((preparedCellV TC.toThrowableT (freshCell P1.m.cls kX) (U.heap.size + 2) u0 sen).withEntry U.cur).setSlot TC.fStack.slot u0.v).left.setSlot TC.fMsg.slot (.ref (U.heap.size + 1)))).goesOn := hgoW
    have hcurV : (((withThrown U ZS text P1.m.cls kX).setVm vm').setCell (U.heap.size + 2) ((((preparedCellV TC.toThrowableT (freshCell P1.m.cls kX) (U.heap.size + 2) u0 sen).withEntry U.cur).setSlot TC.fStack.slot u0.v).left.setSlot TC.fMsg.slot (.ref (U.heap.size + 1)))).cur < (((withThrown U ZS text P1.m.cls kX).setVm vm').setCell (U.heap.size + 2) ((((preparedCellV TC.toThrowableT (freshCell P1.m.cls kX) (U.heap.size + 2) u0 sen).withEntry U.cur).setSlot TC.fStack.slot u0.v).left.setSlot TC.fMsg.slot (.ref (U.heap.size + 1)))).threads.size := hcurW
    generalize (((withThrown U ZS text P1.m.cls kX).setVm vm').setCell (U.heap.size + 2) ((((preparedCellV TC.toThrowableT (freshCell P1.m.cls kX) (U.heap.size + 2) u0 sen).withEntry U.cur).setSlot TC.fStack.slot u0.v).left.setSlot TC.fMsg.slot (.ref (U.heap.size + 1)))) = V1 at hrest hgoV hcurV ⊢
    have hf9 : (V1.setFrames (.throwing (U.heap.size + 2) :: .native f :: .java g :: below)).frames = .throwing (U.heap.size + 2) :: .native f :: .java g :: below := State.frames_setFrames _ hcurV
    refine Steps.head ⟨hgoV.1, by simpa using hgoV.2.1, by simpa using hgoV.2.2⟩ ⟨[.throwing (U.heap.size + 2), .native f, .java g], by rw [hf9]; rfl, by simp, by simp⟩ ?_
    have hk9 : (stepThrowing e (V1.setFrames (.throwing (U.heap.size + 2) :: .native f :: .java g :: below)) (U.heap.size + 2) (.native f :: .java g :: below)).1 = V1.setFrames (.throwing (U.heap.size + 2) :: .java g :: below) := by
      simp only [stepThrowing, hf1, hf2, leaveIfLocked, vmDo, Bool.false_eq_true, if_false]
      show (V1.setFrames (.throwing (U.heap.size + 2) :: .native f :: .java g :: below)).setFrames (.throwing (U.heap.size + 2) :: .java g :: below) = _
      rw [State.setFrames_setFrames]
    rw [stepThread_throwing hf9, hk9]
    exact hrest
  rw [plainBareV_eq TC.toThrowableT (U.heap.size + 2) u0 sen (.ref (U.heap.size + 1)) U.cur rfl rfl] at go
  obtain ⟨-, -, z3, z4, z5, -, -⟩ := withThrown_facts e.platform U ZS text P1.m.cls kX
  have X1 := ((X.pushed (bytesOf ZS.cB (stringToUtf16 text))).pushed (stringAt ZS.cS ZS.kS ZS.fv ZS.fc (stringToUtf16 text) U.heap.size)).pushed (freshCell P1.m.cls kX)
  rw [← withString_eq] at X1
  have lt2 : U.heap.size + 2 < ((withThrown U ZS text P1.m.cls kX).setVm vm').heap.size := by
    show _ < (withThrown U ZS text P1.m.cls kX).heap.size
    rw [z3]; omega
  have at2 : ((withThrown U ZS text P1.m.cls kX).setVm vm').heap[U.heap.size + 2]? = some (freshCell P1.m.cls kX) := z4
  have X2 := (((((X1.noted warm).stored at2 TC.fCause.slot (.ref (U.heap.size + 2))).storedAgain lt2 TC.fStack.slot u0.v).storedAgain lt2 TC.fSupp.slot sen.v).storedAgain lt2 TC.fStack.slot u0.v).storedAgain lt2 TC.fMsg.slot (.ref (U.heap.size + 1))
  have n1 : (bytesOf ZS.cB (stringToUtf16 text)).slots.size = (stringBytes (stringToUtf16 text)).size := by
    rw [(Cell.writeAll_facts _ _).2.2]; simp [bytes0]
  have n2 : (stringAt ZS.cS ZS.kS ZS.fv ZS.fc (stringToUtf16 text) U.heap.size).slots.size = 4 := by simp [string0, Cell.setSlot, four]
  have n3 : (freshCell P1.m.cls kX).slots.size = 6 := by simp [six]
  have self := heapAt_setCell_self (plainBareV TC.toThrowableT (freshCell P1.m.cls kX) (U.heap.size + 2) u0 sen (.ref (U.heap.size + 1))) lt2
  have kept : ∀ q : Nat, q < U.heap.size → (((withThrown U ZS text P1.m.cls kX).setVm vm').setCell (U.heap.size + 2) (plainBareV TC.toThrowableT (freshCell P1.m.cls kX) (U.heap.size + 2) u0 sen (.ref (U.heap.size + 1)))).heap[q]? = U.heap[q]? := by
    intro q hq
    rw [State.heap_setCell_other (by omega : U.heap.size + 2 ≠ q)]
    exact z5 q hq
  have size : (((withThrown U ZS text P1.m.cls kX).setVm vm').setCell (U.heap.size + 2) (plainBareV TC.toThrowableT (freshCell P1.m.cls kX) (U.heap.size + 2) u0 sen (.ref (U.heap.size + 1)))).heap.size = U.heap.size + 3 := by
    show ((withThrown U ZS text P1.m.cls kX).heap.setIfInBounds _ _).size = _
    rw [Array.size_setIfInBounds]; exact z3
  generalize hV : (((withThrown U ZS text P1.m.cls kX).setVm vm').setCell (U.heap.size + 2) (plainBareV TC.toThrowableT (freshCell P1.m.cls kX) (U.heap.size + 2) u0 sen (.ref (U.heap.size + 1)))) = V at *
  rw [hU2] at self size kept
  obtain ⟨t, h1, h2⟩ := kk V.heap _ _ _ (by rw [n1, n2, n3]; omega) size (fun q hq => by rw [kept q hq, hU]) self (by exact hfound) rfl ⟨by rw [size]; exact Nat.le_trans hS.1 (by omega), fun q g1 g2 => by rw [kept q (Nat.lt_of_lt_of_le g1 hS.1), hU]; exact hS.2.1 q g1 g2, fun q hq => by
      simp only [List.append_assoc, List.cons_append, List.nil_append] at hq
      rcases List.mem_append.mp hq with hq | hq
      · exact hS.2.2 q hq
      · refine hA _ ?_
        simp only [List.mem_cons, List.not_mem_nil, or_false] at hq
        rcases hq with rfl | rfl | rfl | rfl | rfl <;> (show H.size ≤ U.heap.size + 2; omega)⟩ V rfl X2
  rw [← hU2] at h1
  exact ⟨t, go _ h1, h2⟩
end NTH
