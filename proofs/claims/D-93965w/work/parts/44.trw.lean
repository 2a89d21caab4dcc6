/-! THROWS IN THE WALK: the picture over a heap that has grown; rows of instructions that throw; handlers. -/
def grw (σ : ST) (H : Heap) : ST := (σ.1, σ.2.1, σ.2.2.1, σ.2.2.2.1, H.size, tot H)
theorem Pic.grow {ft : List FC} {G : GT} {σ : ST} {H H1 : Heap} (h : Pic ft G σ H) (z : H.size ≤ H1.size) (k : ∀ q : Nat, q < H.size → H1[q]? = H[q]?) : Pic ft G (grw σ H1) H1 := by
  obtain ⟨h1, h2, h3, h4⟩ := h
  refine ⟨fun j d hj => ?_, h2, fun b eb hb => ?_, fun ht => ⟨rfl, rfl, fun q hq => ?_⟩⟩
  · have e1 : fxe G (grw σ H1) d = fxe G σ d := by cases d <;> rfl
    rw [e1]
    exact ⟨(h1 j d hj).1.kept (k _ (h1 j d hj).1.lt), (h1 j d hj).2⟩
  · obtain ⟨b1, b2, b3⟩ := h3 b eb hb
    exact ⟨b1.kept (k b b1.lt), b2, b3⟩
  · obtain ⟨k1, k2, k3⟩ := h4 ht
    refine k3 q ?_
    rw [← k1]
    exact Nat.le_trans z hq
section TRW
variable {p : Program} {l : Launch} {e : Env} {R : Room} {s : State} {m : MethodId} {args : Array Value} {below : List Frame} {meth : Method} {c : Code} {H : Heap} {locs : List Loc} {cells slots : Nat} {Q : State → Prop}
variable {cc : ByteArray} {pc nL : Nat} {ls : Array Slot} {rest : List Value} {own : String} {ft : List FC} {G : GT} {σ : ST}
theorem pic_A (hal : G.2.2.2.2 = true) (hP : PS ft G s σ H locs) : ∀ q, H.size ≤ q → G.2.2.2.1 q := fun q hq => by
  obtain ⟨k1, -, k3⟩ := hP.1.2.2.2 hal
  exact k3 q (by rw [← k1]; exact hq)
theorem rl_ok (hW : (rest.map fun v => v.category).sum ≤ 8) (hRl : 10248 ≤ R.locals) : 2 * (F0 m pc ls rest).monitorRoom + ((F0 m pc ls rest).stack.map fun v => v.category).sum + 10240 ≤ R.locals := by
  have h8 : 2 * (F0 m pc ls rest).monitorRoom + (rest.map fun v => v.category).sum ≤ 8 := lv_room hW
  show 2 * (F0 m pc ls rest).monitorRoom + (rest.map fun v => v.category).sum + 10240 ≤ R.locals
  omega
/-- an exception with a message, thrown by the machine -/
theorem r_thrM (X : CX G p m c cc nL s args own) (hal : G.2.2.2.2 = true) (hl : l.stackTraces = false) (hP : PS ft G s σ H locs) {cls text : String} {names : List String} (hcls : Bundle.fit cls = true) (hnames : ∀ n ∈ names, Bundle.fit n = true) (hsoe : (cls == "java/lang/StackOverflowError") = false) (hoom : (cls == "java/lang/OutOfMemoryError") = false) (hat : ∀ a ∈ Bundle.messageArmAtoms cls names, a.before args s = true) (htx : (text == notModelled) = false) (hbig : (stringBytes (stringToUtf16 text)).size ≤ 1200) (hsize : ls.size = nL) (hRf : names.length + 4 < R.frames) (hW : (rest.map fun v => v.category).sum ≤ 8) (hRl : 10248 ≤ R.locals) (hsh : names.length ≤ 9) (hRc : cells + 3 ≤ R.cells) (hRs : slots + 1210 ≤ R.slots)
    (kk : ∀ (H1 : Heap) (locs1 : List Loc) (n : Nat) (ce : Cell), n ≤ slots + 1210 → PS ft G s (grw σ H1) H1 locs1 → H1[H.size + 2]? = some ce → s.vm.findClass cls = some ce.cls → ce.vm = .none → WT p l e R s m args below meth c H1 locs1 (cells + 3) n Q (H.size + 2) (F0 m pc ls rest)) : WN p l e R s m args below meth c H locs cells slots Q cls (some text) (F0 m pc ls rest) :=
  th_msg X.1.1 hl hP.2 (pic_A hal hP) (X.2.2.2 hal).2.2.2.2 hcls hnames hsoe hoom hat htx hbig rfl (hsize.trans X.1.2.2.1.symm) hRf (rl_ok hW hRl) (by omega) hRc hRs (fun H1 locs1 n ce hn hz hk hce hf hv hS => kk H1 locs1 n ce hn ⟨hP.1.grow (by omega) hk, hS⟩ hce hf hv)
theorem r_thrN (X : CX G p m c cc nL s args own) (hal : G.2.2.2.2 = true) (hl : l.stackTraces = false) (hP : PS ft G s σ H locs) (hsize : ls.size = nL) (hRf : 7 < R.frames) (hW : (rest.map fun v => v.category).sum ≤ 8) (hRl : 10248 ≤ R.locals) (hRc : cells + 1 ≤ R.cells) (hRs : slots + 8 ≤ R.slots)
    (kk : ∀ (H1 : Heap) (locs1 : List Loc) (ce : Cell), PS ft G s (grw σ H1) H1 locs1 → H1[H.size]? = some ce → s.vm.findClass "java/lang/NullPointerException" = some ce.cls → ce.vm = .none → WT p l e R s m args below meth c H1 locs1 (cells + 1) (slots + 8) Q H.size (F0 m pc ls rest)) : WN p l e R s m args below meth c H locs cells slots Q "java/lang/NullPointerException" none (F0 m pc ls rest) :=
  th_npe X.1.1 hl hP.2 (pic_A hal hP) (X.2.2.2 hal).2.2.2.2 (at_NPE X.1.2.2.2.2 X.2.2.1 (X.2.2.2 hal).2.2.2.2) rfl (hsize.trans X.1.2.2.1.symm) hRf (rl_ok hW hRl) hRc hRs (fun H1 locs1 ce hz hk hce hf hv hS => kk H1 locs1 ce ⟨hP.1.grow (by omega) hk, hS⟩ hce hf hv)
/-- a call on null -/
theorem r_nullV (X : CX G p m c cc nL s args own) {index n : Nat} {x : MethodName} {owner : String} {As st0 : List Value} (hlk : Cond.methodLink own index x ∈ lw_all) (hsm : Cond.sameMethod x.cls owner x.name x.desc ∈ lw_all) (hdc : va_Nw (.declares ⟨owner, x.name, x.desc⟩) s) (hd : owner ≠ "java/lang/invoke/MethodHandle" ∧ owner ≠ "java/lang/invoke/VarHandle" ∧ (parseMethodDescriptor x.desc).map (fun d => d.parameters.length) = some n) (hn : As.length = n) (hstack : st0 = As.reverse ++ .null :: rest) (hdg : decode cc pc = .ok (.invokevirtual index, 3))
    (kk : WN p l e R s m args below meth c H locs cells slots Q "java/lang/NullPointerException" none (F0 m pc ls rest)) : W p l e R s m args below meth c H locs cells slots Q (F0 m pc ls st0) := by
  obtain ⟨hx, hb, hml, hown, hts⟩ := X.1
  intro T hT XS
  obtain ⟨vm', X1, go⟩ := XS.virtualNullUp hx hown (hts _ hlk) (hts _ hsm) (va_Nw.use rfl hdc) ⟨hd.1, hd.2.1⟩ (g := F0 m pc ls st0) rfl (argsL := As) (rest := rest) (fun sig h => by
    have h2 := hd.2.2
    rw [h] at h2
    exact hn.trans (Option.some.inj h2).symm) hstack (by rw [hb]; exact hdg)
  obtain ⟨t, h1, h2⟩ := kk (T.setVm vm') hT X1
  exact ⟨t, go _ h1, h2⟩
/-- handlers, one by one -/
theorem hf_skip {pl : Platform} {d cl : ClassId} {x : ExceptionTableEntry} {t : List ExceptionTableEntry} {h : Nat} (hc : covers x pc = false) (hh : hfT pl s d pc cl t h) : hfT pl s d pc cl (x :: t) h := Or.inl ⟨hc, hh⟩
theorem hf_hit (X : CX G p m c cc nL s args own) (mag : e.platform.magicAccessors = ({} : Platform).magicAccessors) {cl : ClassId} {x : ExceptionTableEntry} {t : List ExceptionTableEntry} {name cls : String} (hlk : Cond.classLink own x.catchType name ∈ lw_all) (hc : covers x pc = true) (h0 : x.catchType ≠ 0) (hcl : s.vm.findClass cls = some cl) (hca : va_Nw (.castable cls name) s) : hfT e.platform s m.cls pc cl (x :: t) x.handlerPc := by
  obtain ⟨c', hc', hL⟩ := Cond.classLink_spec X.1.2.2.2.1 (X.1.2.2.2.2 _ hlk) e.platform mag
  exact Or.inr ⟨hc, h0, c', hL, Or.inl ⟨vb_asgC hca _ _ hc' hcl, rfl⟩⟩
theorem hf_no (X : CX G p m c cc nL s args own) (mag : e.platform.magicAccessors = ({} : Platform).magicAccessors) {cl : ClassId} {x : ExceptionTableEntry} {t : List ExceptionTableEntry} {h : Nat} {name cls : String} (hlk : Cond.classLink own x.catchType name ∈ lw_all) (hc : covers x pc = true) (h0 : x.catchType ≠ 0) (hcl : s.vm.findClass cls = some cl) (hnc : va_Nc cls name s) (hh : hfT e.platform s m.cls pc cl t h) : hfT e.platform s m.cls pc cl (x :: t) h := by
  obtain ⟨c', hc', hL⟩ := Cond.classLink_spec X.1.2.2.2.1 (X.1.2.2.2.2 _ hlk) e.platform mag
  obtain ⟨a, b, g1, g2, g3⟩ := hnc
  cases hcl.symm.trans g1
  cases hc'.symm.trans g2
  exact Or.inr ⟨hc, h0, c', hL, Or.inr ⟨g3, hh⟩⟩
theorem r_catch {a : Addr} {ce : Cell} {h : Nat} {st : List Value} {cls : String} (hce : H[a]? = some ce) (hv : ce.vm = .none) (hf : s.vm.findClass cls = some ce.cls) (hh : e.platform.magicAccessors = ({} : Platform).magicAccessors → hfT e.platform s m.cls pc ce.cls c.exceptionTable.toList h)
    (kk : W p l e R s m args below meth c H locs cells slots Q (F0 m h ls [.ref a])) : WT p l e R s m args below meth c H locs cells slots Q a (F0 m pc ls st) := by
  intro T hT X
  exact WT.catches hce hv (Vm.classAt_of_findClass hf) (hh (by rw [X.admits.platform])) kk T hT X
end TRW
