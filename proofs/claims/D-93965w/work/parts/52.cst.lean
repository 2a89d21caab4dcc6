/-! A CAST THAT FAILS. -/
theorem castNo_st {p : Program} {l : Launch} {e : Env} {R : Room} {s : State} {m : MethodId} {args : Array Value} {below : List Frame} {meth : Method} {c : Code} {T : State} {locs : List Loc} {cells slots : Nat} (X : Stand p l e R s m args below meth c T locs cells slots) (hexec : p.tables.exec = Jvm.exec)
    {own name : String} {index : Nat} (hown : s.vm.findClass own = some m.cls) (hlink : (Cond.classLink own index name).before args s = true)
    {a : Addr} {cell : Cell} {cT : ClassId} {ks : Class} (hcell : T.heap[a]? = some cell) (hobj : cell.vm.isStatics = false) (hks : s.vm.classes[cell.cls]? = some ks) (hcT : s.vm.findClass name = some cT) (hasg : s.vm.assignable cell.cls cT = false)
    {g : JFrame} (hg : g.method = m) {rest : List Value} (hstack : g.stack = .ref a :: rest) (hdg : decode c.code g.pc = .ok (.checkcast index, 3)) :
    ∃ (vm' : Vm) (ks' kt' : Class), Stand p l e R s m args below meth c (T.setVm vm') locs cells slots ∧ vm'.classes[cell.cls]? = some ks' ∧ vm'.classes[cT]? = some kt' ∧
      ∀ target, Steps p.tables e below (((T.setVm vm').setTop g).pushFrame (.throwNew "java/lang/ClassCastException" (some (checkcast.message vm' ks' kt')) none)) target → Steps p.tables e below (T.setTop g) target := by
  have hpl : e.platform.magicAccessors = ({} : Platform).magicAccessors := by rw [X.admits.platform]
  obtain ⟨c', hc', hcl⟩ := Cond.classLink_spec hown hlink e.platform hpl
  cases hcT.symm.trans hc'
  obtain ⟨dk, _, _, kt, hd, _, _, _, _, hkt, _, hopen⟩ := hcl.here
  have hcl0 := X.warmed.classLinks hcl
  have hW' : s.WarmedH (T.vm.noted m.cls index (.cls cT)) := X.warmed.noted hd hopen (State.rightAt_cls hcl)
  obtain ⟨ks', hks', -⟩ := hW'.alike.2.2 _ _ hks
  obtain ⟨kt', hkt', -⟩ := hW'.alike.2.2 _ _ hkt
  refine ⟨_, ks', kt', X.noted hW', hks', hkt', fun target hrest => ?_⟩
  subst hg
  have h1 : (T.vm.noted g.method.cls index (Resolved.cls cT)).assignable cell.cls cT = false := by rw [hW'.alike.assignable]; exact hasg
  jvm_step X.here [hexec, hdg, checkcast.wp_cold (e := e) (s := T) (f := g) X.here.top hstack (resolveClass_links e.toSetting hcl0) hcl0.ready,
    checkcast.wp_ready (e := e) (s := T.setVm (T.vm.noted g.method.cls index (.cls cT))) (f := g) X.here.top hcl0.ready hstack]
  refine ⟨cell, hcell, VmData.noStatics_of hobj, ks', hks', kt', hkt', ?_⟩
  simp only [h1]
  exact hrest
theorem r_castNo {p : Program} {l : Launch} {e : Env} {R : Room} {s : State} {m : MethodId} {args : Array Value} {below : List Frame} {meth : Method} {c : Code} {H : Heap} {locs : List Loc} {cells slots : Nat} {Q : State → Prop} {cc : ByteArray} {pc nL : Nat} {ls : Array Slot} {rest : List Value} {own : String} {ft : List FC} {G : GT} {σ : ST} (X : CX G p m c cc nL s args own) (hP : PS ft G s σ H locs) {a ci index : Nat} (hb : ∃ fs, σ.2.2.2.1 a = some (.inr (ci, fs))) {C nm : String} {T : u_T} {N : Nat} (hc : lk_cl[ci]? = some (C, T, N)) (hlk : Cond.classLink own index nm ∈ lw_all) (hnc : va_Nc C nm s) (hdg : decode cc pc = .ok (.checkcast index, 3))
    (kk : ∀ (vm' : Vm) (ks kt : Class) (cC cT : ClassId), s.WarmedH vm' → s.vm.findClass C = some cC → s.vm.findClass nm = some cT → vm'.classes[cC]? = some ks → vm'.classes[cT]? = some kt → WN p l e R s m args below meth c H locs cells slots Q "java/lang/ClassCastException" (some (checkcast.message vm' ks kt)) (F0 m pc ls (.ref a :: rest))) : W p l e R s m args below meth c H locs cells slots Q (F0 m pc ls (.ref a :: rest)) := by
  obtain ⟨fs, hb⟩ := hb
  obtain ⟨cell, h1, h2, h3⟩ := recv_pool X hP hb hc
  obtain ⟨c0, t0, f1, f2, f3⟩ := hnc
  cases h3.symm.trans f1
  obtain ⟨hx, hbb, hml, hown, hts⟩ := X.1
  intro U hU XS
  obtain ⟨k0, hk0, -⟩ := Vm.findClass_spec h3
  obtain ⟨vm', ks, kt, X', g1, g2, go⟩ := castNo_st XS hx hown (hts _ hlk) (by rw [hU]; exact h1) h2 hk0 f2 f3 (g := F0 m pc ls (.ref a :: rest)) rfl rfl (by rw [hbb]; exact hdg)
  obtain ⟨t, q1, q2⟩ := kk vm' ks kt cell.cls t0 X'.warmed h3 f2 g1 g2 (U.setVm vm') hU X'
  exact ⟨t, go t q1, q2⟩
