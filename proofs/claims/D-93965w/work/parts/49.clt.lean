/-! CALLS OF METHODS THAT THROW: of an object's own class, static ones, constructors. -/
section CLT
variable {p : Program} {l : Launch} {e : Env} {R : Room} {s : State} {m : MethodId} {args : Array Value} {below : List Frame} {meth : Method} {c : Code} {H : Heap} {locs : List Loc} {cells slots : Nat} {Q : State → Prop}
variable {cc : ByteArray} {pc nL : Nat} {ls : Array Slot} {rest : List Value} {own : String} {ft : List FC} {G : GT} {σ : ST}
variable {y : MethodName} {bytes : ByteArray} {maxL mc ms n index : Nat} {ret : Option FieldType} {ws : List Cond} {rm : Room} {Qt : Array Value → State → Addr → State → Prop} {As st0 : List Value}
theorem backB (hM : MetT l y ws rm (va_Pc As (PicU ft G σ)) Qt mc ms G.2.2.2.1) (cw : CallB R s args own index y bytes maxL ret ws rm mc ms n) : BackX l R p e below s args y 3 8 (PreOf R mc ms (va_Pc As (PicU ft G σ))) (PostT Qt mc ms G.2.2.2.1) := by
  obtain ⟨hrc, hrs, hfr, hlo, hws, hcw, hcode, hini, hy, hlen, hl⟩ := cw
  exact MetT.back (bytes := bytes) (maxL := maxL) (ret := ret) hM PicU.blind hrc hrs hfr hlo hws hcw (fun a' U hW => word_at hW (Or.inl (by first | rfl | simp [Cond.onTables, Cond.keeps, Cond.steady])) hini)
theorem r_callTV (X : CX G p m c cc nL s args own) (hP : PS ft G s σ H locs) {b ci : Nat} (hb : ∃ fs, σ.2.2.2.1 b = some (.inr (ci, fs))) {C : String} {T : u_T} {N : Nat} (hc : lk_cl[ci]? = some (C, T, N)) (hM : MetT l y ws rm (va_Pc (.ref b :: As) (PicU ft G σ)) Qt mc ms G.2.2.2.1) (cw : CallW R s args own C index y bytes maxL ret ws rm mc ms n) (hn : As.length = n) (hsize : ls.size = nL) (hstack : st0 = As.reverse ++ .ref b :: rest) (hW : (rest.map fun v => v.category).sum ≤ 8) (hdg : decode cc pc = .ok (.invokevirtual index, 3)) (hf : cells + mc ≤ R.cells ∧ slots + ms ≤ R.slots)
    (kk : ∀ (o : Addr) (st t : State) (H1 : Heap) (locs1 : List Loc), st.heap = H → t.heap = H1 → s.WarmedH t.vm → Qt (Value.ref b :: As).toArray st o t → (∀ q ∈ locs1, G.2.2.2.1 q.base) → WT p l e R s m args below meth c H1 locs1 (cells + mc) (slots + ms) Q o (F0 m pc ls rest)) : W p l e R s m args below meth c H locs cells slots Q (F0 m pc ls st0) := by
  obtain ⟨fs, hb⟩ := hb
  have hK := backB (p := p) (e := e) (below := below) hM cw.1
  obtain ⟨⟨-, -, -, -, -, -, hcode, hini, hy, hlen, hl⟩, hinst, hsel⟩ := cw
  obtain ⟨hx, hbb, hml, ho, hts⟩ := X.1
  obtain ⟨cellB, hcB, hoB, hclB⟩ := recv_pool X hP hb hc
  intro U hU XS
  obtain ⟨mk, methM, hnamed, hmethM, hstM, habM⟩ := Cond.instanceMethod_spec hinst
  obtain ⟨methM', cM, hmethM', -, -, -, -, -, -, hsigM⟩ := Cond.code_spec hnamed hcode
  cases hmethM.symm.trans hmethM'
  obtain ⟨c2, r2, m2, q1, q2, q3, q4, kP, hkP, hkPi⟩ := Cond.selects_spec hsel
  cases hclB.symm.trans q1
  cases (State.methodFound?_of_named hnamed hy).symm.trans q2
  cases hnamed.symm.trans q3
  have hselP : selectMethod e.platform s.vm cellB.cls mk = .method mk := by rw [Launch.admits_selectMethod XS.admits]; exact q4
  obtain ⟨vm1, X1, go1⟩ := XS.invokevirtual hx ho hl hnamed hmethM hstM hkP hkPi hy (a := b) (cell := cellB) (by rw [hU]; exact hcB) (fun z h => by rw [h] at hoB; cases hoB) hselP hmethM habM hkP hkPi (g := F0 m pc ls st0) rfl (argsL := As) (rest := rest) (hn.trans (hlen _ hsigM)) hstack (by rw [hbb]; exact hdg)
  obtain ⟨o, ⟨U', l2, k2, s2⟩, X2, ⟨g', mk', t, L, f1, f2, hq, f3, hL, f4, f5⟩, st⟩ := hK m meth c ⟨U.setVm vm1, locs, cells, slots⟩ (F0 m pc ls rest) (.invokevirtual index) mk (Value.ref b :: As).toArray X1 rfl (hsize.trans hml.symm) (by rw [hbb]; exact hdg) (lv_room hW) (X1.named hnamed) ⟨hf.1, hf.2, (pre_call X hP _).2 (U.setVm vm1) hU X1.warmed⟩
  dsimp only [Pt.U, Pt.locs, Pt.cells, Pt.slots] at X2 f1 f2 f3 f4 f5 st
  subst f3; subst f4; subst f5
  obtain ⟨tt, h1, h2⟩ := kk o ((U.setVm vm1).calling g' mk' (Value.ref b :: As).toArray) t U'.heap _ hU f1.symm (by rw [← f2]; exact X2.warmed) hq (fun q hq => by
    rcases List.mem_append.mp hq with h | h
    · exact hP.2.2.2 q h
    · exact hL q h) U' rfl X2
  exact ⟨tt, go1 _ fun acts => by rw [doInvoke_state]; exact st.trans h1, h2⟩
theorem r_callTS (X : CX G p m c cc nL s args own) (hP : PS ft G s σ H locs) (hM : MetT l y ws rm (va_Pc As (PicU ft G σ)) Qt mc ms G.2.2.2.1) (cw : CallB R s args own index y bytes maxL ret ws rm mc ms n ∧ (Cond.static y).before args s = true) (hn : As.length = n) (hsize : ls.size = nL) (hstack : st0 = As.reverse ++ rest) (hW : (rest.map fun v => v.category).sum ≤ 8) (hdg : decode cc pc = .ok (.invokestatic index, 3)) (hf : cells + mc ≤ R.cells ∧ slots + ms ≤ R.slots)
    (kk : ∀ (o : Addr) (st t : State) (H1 : Heap) (locs1 : List Loc), st.heap = H → t.heap = H1 → s.WarmedH t.vm → Qt As.toArray st o t → (∀ q ∈ locs1, G.2.2.2.1 q.base) → WT p l e R s m args below meth c H1 locs1 (cells + mc) (slots + ms) Q o (F0 m pc ls rest)) : W p l e R s m args below meth c H locs cells slots Q (F0 m pc ls st0) := by
  have hK := backB (p := p) (e := e) (below := below) hM cw.1
  obtain ⟨⟨-, -, -, -, -, -, hcode, hini, hy, hlen, hl⟩, hstt⟩ := cw
  obtain ⟨hx, hbb, hml, ho, hts⟩ := X.1
  intro U hU XS
  obtain ⟨mk, hnamed⟩ := Cond.code_named hcode
  obtain ⟨methM, cM, hmethM, -, -, -, -, -, -, hsigM⟩ := Cond.code_spec hnamed hcode
  have hstatic : methM.isStatic = true := Cond.static_spec hnamed hmethM hstt
  obtain ⟨kP, hkP, -⟩ := className_of_methodNamed hnamed
  have hinitP : kP.init = .initialized := Cond.initialized_spec (findClass_of_methodNamed hnamed) hkP hini
  obtain ⟨vm1, X1, go1⟩ := XS.invokestatic hx ho hl hnamed hmethM hstatic hkP hinitP hy (g := F0 m pc ls st0) rfl (argsL := As) (rest := rest) (hn.trans (hlen _ hsigM)) hstack (by rw [hbb]; exact hdg)
  obtain ⟨o, ⟨U', l2, k2, s2⟩, X2, ⟨g', mk', t, L, f1, f2, hq, f3, hL, f4, f5⟩, st⟩ := hK m meth c ⟨U.setVm vm1, locs, cells, slots⟩ (F0 m pc ls rest) (.invokestatic index) mk As.toArray X1 rfl (hsize.trans hml.symm) (by rw [hbb]; exact hdg) (lv_room hW) (X1.named hnamed) ⟨hf.1, hf.2, (pre_call X hP _).2 (U.setVm vm1) hU X1.warmed⟩
  dsimp only [Pt.U, Pt.locs, Pt.cells, Pt.slots] at X2 f1 f2 f3 f4 f5 st
  subst f3; subst f4; subst f5
  obtain ⟨tt, h1, h2⟩ := kk o ((U.setVm vm1).calling g' mk' As.toArray) t U'.heap _ hU f1.symm (by rw [← f2]; exact X2.warmed) hq (fun q hq => by
    rcases List.mem_append.mp hq with h | h
    · exact hP.2.2.2 q h
    · exact hL q h) U' rfl X2
  exact ⟨tt, go1 _ fun acts => by rw [doInvoke_state]; exact st.trans h1, h2⟩
theorem r_callTI (X : CX G p m c cc nL s args own) (hP : PS ft G s σ H locs) {b : Nat} (hM : MetT l y ws rm (va_Pc (.ref b :: As) (PicU ft G σ)) Qt mc ms G.2.2.2.1) (cw : CallB R s args own index y bytes maxL none ws rm mc ms n ∧ y.name = "<init>" ∧ (Cond.instanceMethod y).before args s = true) (hn : As.length = n) (hsize : ls.size = nL) (hstack : st0 = As.reverse ++ .ref b :: rest) (hW : (rest.map fun v => v.category).sum ≤ 8) (hdg : decode cc pc = .ok (.invokespecial index, 3)) (hf : cells + mc ≤ R.cells ∧ slots + ms ≤ R.slots)
    (kk : ∀ (o : Addr) (st t : State) (H1 : Heap) (locs1 : List Loc), st.heap = H → t.heap = H1 → s.WarmedH t.vm → Qt (Value.ref b :: As).toArray st o t → (∀ q ∈ locs1, G.2.2.2.1 q.base) → WT p l e R s m args below meth c H1 locs1 (cells + mc) (slots + ms) Q o (F0 m pc ls rest)) : W p l e R s m args below meth c H locs cells slots Q (F0 m pc ls st0) := by
  have hK := backB (p := p) (e := e) (below := below) hM cw.1
  obtain ⟨⟨-, -, -, -, -, -, hcode, hini, hy, hlen, hl⟩, hnm, hinst⟩ := cw
  obtain ⟨hx, hbb, hml, ho, hts⟩ := X.1
  intro U hU XS
  have hpl : e.platform.magicAccessors = ({} : Platform).magicAccessors := by rw [XS.admits.platform]
  obtain ⟨mk, methM, cM, kP, vm1, hnamed, hmethM, hcodeM, -, hlocalsM, -, hkP, -, hW1, go1⟩ := Steps.initColdArgs (e := e) XS.here hx XS.warmed hpl ho hnm hy hl hinst hcode (f := F0 m pc ls st0) rfl (argsL := As) (rest := rest) (fun sig h => hn.trans (hlen sig h)) hstack (by rw [hbb]; exact hdg)
  have X1 := XS.noted hW1
  obtain ⟨o, ⟨U', l2, k2, s2⟩, X2, ⟨g', mk', t, L, f1, f2, hq, f3, hL, f4, f5⟩, st⟩ := hK m meth c ⟨U.setVm vm1, locs, cells, slots⟩ (F0 m pc ls rest) (.invokespecial index) mk (Value.ref b :: As).toArray X1 rfl (hsize.trans hml.symm) (by rw [hbb]; exact hdg) (lv_room hW) (X1.named hnamed) ⟨hf.1, hf.2, (pre_call X hP _).2 (U.setVm vm1) hU X1.warmed⟩
  dsimp only [Pt.U, Pt.locs, Pt.cells, Pt.slots] at X2 f1 f2 f3 f4 f5 st
  subst f3; subst f4; subst f5
  obtain ⟨tt, h1, h2⟩ := kk o ((U.setVm vm1).calling g' mk' (Value.ref b :: As).toArray) t U'.heap _ hU f1.symm (by rw [← f2]; exact X2.warmed) hq (fun q hq => by
    rcases List.mem_append.mp hq with h | h
    · exact hP.2.2.2 q h
    · exact hL q h) U' rfl X2
  exact ⟨tt, go1 _ fun acts => by rw [doInvoke_state]; exact st.trans h1, h2⟩
end CLT
