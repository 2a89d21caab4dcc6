/-! METHODS THAT THROW: their contracts, and a call of them. -/
/-- the method throws -/
def MetT (l : Launch) (y : MethodName) (ws : List Cond) (rm : Room) (Pc : Array Value → State → Prop) (Qt : Array Value → State → Addr → State → Prop) (mc ms : Nat) (free : Addr → Prop) : Prop :=
  MetFree l y (headSpec ws rm) Pc (fun _ _ _ _ _ => True) (fun a st o t => ∃ (x : Addr) (L : List Loc), o = .threw x ∧ Qt a st x t ∧ st.WarmedH t.vm ∧ st.sameButNew ({ t with vm := st.vm } : State) L mc ms ∧ ∀ q ∈ L, free q.base)
def PostT (Qt : Array Value → State → Addr → State → Prop) (mc ms : Nat) (free : Addr → Prop) : Pt → Array Value → Addr → Pt → Prop := fun A a x B =>
  ∃ (g : JFrame) (mk : MethodId) (t : State) (L : List Loc), B.U.heap = t.heap ∧ B.U.vm = t.vm ∧ Qt a (A.U.calling g mk a) x t ∧ B.locs = A.locs ++ L ∧ (∀ q ∈ L, free q.base) ∧ B.cells = A.cells + mc ∧ B.slots = A.slots + ms
/-- a call of it ends with the object over the caller's frame -/
def BackX (l : Launch) (R : Room) (p : Program) (e : Env) (below : List Frame) (s : State) (sargs : Array Value) (y : MethodName) (len W : Nat) (Pre : Pt → Array Value → Prop) (Post : Pt → Array Value → Addr → Pt → Prop) : Prop :=
  ∀ (m : MethodId) (meth : Method) (c : Code) (A : Pt) (g : JFrame) (ig : Instr) (mk : MethodId) (a : Array Value),
    Stand p l e R s m sargs below meth c A.U A.locs A.cells A.slots → g.method = m → g.locals.size = c.maxLocals → decode c.code g.pc = .ok (ig, len) →
    2 * g.monitorRoom + (g.stack.map fun v => v.category).sum ≤ W → A.U.methodNamed? y = some mk → Pre A a →
    ∃ (x : Addr) (B : Pt), Stand p l e R s m sargs below meth c B.U B.locs B.cells B.slots ∧ Post A a x B ∧
      Steps p.tables e below (doInvoke e (A.U.setTop g) [] mk a).1 (B.U.setFrames (.throwing x :: .java g :: below))
section MTB
variable {l : Launch} {R : Room} {p : Program} {e : Env} {below : List Frame} {s : State} {sargs : Array Value} {y : MethodName} {len W : Nat}
theorem MetT.back {ws : List Cond} {rm : Room} {Pc : Array Value → State → Prop} {Qt : Array Value → State → Addr → State → Prop} {mc ms : Nat} {free : Addr → Prop} {bytes : ByteArray} {maxL : Nat} {ret : Option FieldType}
    (hM : MetT l y ws rm Pc Qt mc ms free) (hblind : FrameBlind Pc) (hrc : rm.cells = mc) (hrs : rm.slots = ms) (hframes : rm.frames + 1 ≤ R.frames) (hlocals : W + (maxL + 11) + rm.locals ≤ R.locals)
    (hws : ∀ w ∈ ws, ∀ (a' : Array Value) (U : State), s.WarmedH U.vm → w.before a' U = true) (hcode : Cond.code y bytes maxL ret ∈ ws) (hinit : ∀ (a' : Array Value) (U : State), s.WarmedH U.vm → (Cond.initialized y.cls).before a' U = true) :
    BackX l R p e below s sargs y len W (PreOf R mc ms Pc) (PostT Qt mc ms free) := by
  intro m meth c A g ig mk a X hg hsize hdg hW hn hp
  obtain ⟨U, Ls, c0, s0⟩ := A
  dsimp only [Pt.U, Pt.locs, Pt.cells, Pt.slots] at X hn ⊢
  obtain ⟨hp1, hp2, hp3⟩ := hp
  dsimp only [Pt.U, Pt.locs, Pt.cells, Pt.slots] at hp1 hp2 hp3
  obtain ⟨methY, cY, hmY, hcY, -, hlY, -⟩ := Cond.code_spec hn (hws _ hcode a U X.warmed)
  obtain ⟨kY, hkY, -⟩ := className_of_methodNamed hn
  have hiniY : kY.init = .initialized := Cond.initialized_spec (findClass_of_methodNamed hn) hkY (hinit a U X.warmed)
  have hat : At U g.method c below := by rw [hg]; exact X.here
  have happ : (headSpec ws rm).appliesLoose y e.platform (U.calling g mk a) = true :=
    Spec.appliesLoose_calling (g := g) hat hdg hn hkY hiniY (X.room_calling (g := g) (R' := (headSpec ws rm).room) hsize hmY hcY hframes (by rw [hlY]; show _ + rm.locals ≤ _; omega) (by show c0 + rm.cells ≤ _; rw [hrc]; exact hp1) (by show s0 + rm.slots ≤ _; rw [hrs]; exact hp2)) (atoms_intro fun w hw => hws w hw _ _ X.warmed)
  obtain ⟨mid, hmid⟩ := hat.above
  have hfr : (U.setTop g).frames = (.java g :: mid) ++ below := by rw [State.frames_setTop' g hat.top, hmid]; rfl
  obtain ⟨o, s2, st, -, hend, x, L, ho, hq, hWm, hsame, hL⟩ := Steps.callFree hM p X.admits X.cas X.clock (acts := []) hfr happ (hblind a U g mk hp3) trivial
  subst ho
  obtain ⟨g1, hf1⟩ := X.frames_eq
  have hend2 : Ended s2 (.java g :: below) (.threw x) := by rw [State.frames_setTop _ hf1] at hend; exact hend
  obtain ⟨T', X', w1, w2, ht⟩ := X.outOfThrown hg hend2 hWm hsame
  have e1 := push_thr X' g x
  have hvm : ((T'.setTop g).pushFrame (.throwing x)).vm = T'.vm := by simp [State.pushFrame, State.setFrames, State.setTop, State.modifyTopJava]
  have hhp : ((T'.setTop g).pushFrame (.throwing x)).heap = T'.heap := by simp [State.pushFrame, State.setFrames, State.setTop, State.modifyTopJava]
  exact ⟨x, ⟨T', Ls ++ L, c0 + mc, s0 + ms⟩, X', ⟨g, mk, s2, L, by rw [ht]; exact hhp.symm, by rw [ht]; exact hvm.symm, hq, rfl, hL, rfl, rfl⟩, by rw [← e1, ← ht]; exact st⟩
end MTB
section MTC
variable {p : Program} {l : Launch} {e : Env} {R : Room} {s : State} {m : MethodId} {args : Array Value} {below : List Frame} {meth : Method} {c : Code} {H : Heap} {locs : List Loc} {cells slots : Nat} {Q : State → Prop}
variable {cc : ByteArray} {pc nL : Nat} {ls : Array Slot} {rest : List Value} {own : String} {ft : List FC} {G : GT} {σ : ST}
variable {y : MethodName} {bytes : ByteArray} {maxL mc ms n index : Nat} {ret : Option FieldType} {ws : List Cond} {rm : Room} {Qt : Array Value → State → Addr → State → Prop} {As st0 : List Value}
/-- a virtual call of a method that throws -/
theorem r_callT (X : CX G p m c cc nL s args own) (hP : PS ft G s σ H locs) {b ci : Nat} (hb : ∃ fs, σ.2.2.2.1 b = some (.inr (ci, fs))) {C owner : String} {T : u_T} {N : Nat} {x : MethodName} (hc : lk_cl[ci]? = some (C, T, N)) (hM : MetT l y ws rm (va_Pc (.ref b :: As) (PicU ft G σ)) Qt mc ms G.2.2.2.1) (cw : va_CU R s args own C owner index x y bytes maxL ret ws rm mc ms n) (hn : As.length = n) (hsize : ls.size = nL) (hstack : st0 = As.reverse ++ .ref b :: rest) (hW : (rest.map fun v => v.category).sum ≤ 8) (hdg : decode cc pc = .ok (.invokevirtual index, 3)) (hf : cells + mc ≤ R.cells ∧ slots + ms ≤ R.slots)
    (kk : ∀ (o : Addr) (st t : State) (H1 : Heap) (locs1 : List Loc), st.heap = H → t.heap = H1 → s.WarmedH t.vm → Qt (Value.ref b :: As).toArray st o t → (∀ q ∈ locs1, G.2.2.2.1 q.base) → WT p l e R s m args below meth c H1 locs1 (cells + mc) (slots + ms) Q o (F0 m pc ls rest)) : W p l e R s m args below meth c H locs cells slots Q (F0 m pc ls st0) := by
  obtain ⟨fs, hb⟩ := hb
  obtain ⟨hrc, hrs, hfr, hlo, hws, hcw⟩ := cw.back
  have hini := cw.init
  have hp : PreV s H C b (va_Pc (.ref b :: As) (PicU ft G σ)) As := ⟨PicU.blind, recv_pool X hP hb hc, (pre_call X hP _).2⟩
  have hK : BackX l R p e below s args y 3 8 (PreOf R mc ms (va_Pc (.ref b :: As) (PicU ft G σ))) (PostT Qt mc ms G.2.2.2.1) := MetT.back (bytes := bytes) (maxL := maxL) (ret := ret) hM hp.1 hrc hrs hfr hlo hws hcw (fun a' U hW => word_at hW (Or.inl (by first | rfl | simp [Cond.onTables, Cond.keeps, Cond.steady])) hini)
  obtain ⟨hx, hbb, hml, ho, hts⟩ := X.1
  obtain ⟨-, ⟨cellB, hcB, hoB, hclB⟩, hPc⟩ := hp
  intro U hU XS
  obtain ⟨r0, r, hn0, hrm, hstR, hsigR⟩ := cw.decl
  obtain ⟨cn, ck, r1, hcn, hck, hni, hfd, hn1⟩ := Cond.sameMethod_found cw.same
  cases hn0.symm.trans hn1
  obtain ⟨mk, methM, hnamed, hmethM, -, habM⟩ := Cond.instanceMethod_spec cw.inst
  obtain ⟨c2, r2, m2, q1, q2, q3, q4, kP, hkP, hkPi⟩ := Cond.selects_spec cw.sel
  cases hclB.symm.trans q1
  cases hfd.symm.trans q2
  cases hnamed.symm.trans q3
  have hsel : selectMethod e.platform s.vm cellB.cls r0 = .method mk := by rw [Launch.admits_selectMethod XS.admits]; exact q4
  obtain ⟨vm1, X1, go1⟩ := XS.invokevirtualUp hx ho cw.link cw.same cw.notMH hn0 hrm hstR (a := b) (cell := cellB) (by rw [hU]; exact hcB) (fun z h => by rw [h] at hoB; cases hoB) hsel hmethM habM hkP hkPi (g := F0 m pc ls st0) rfl (argsL := As) (rest := rest) (hn.trans (cw.len _ hsigR)) hstack (by rw [hbb]; exact hdg)
  obtain ⟨o, ⟨U', l2, k2, s2⟩, X2, ⟨g', mk', t, L, f1, f2, hq, f3, hL, f4, f5⟩, st⟩ := hK m meth c ⟨U.setVm vm1, locs, cells, slots⟩ (F0 m pc ls rest) (.invokevirtual index) mk (Value.ref b :: As).toArray X1 rfl (hsize.trans hml.symm) (by rw [hbb]; exact hdg) (lv_room hW) (X1.named hnamed) ⟨hf.1, hf.2, hPc (U.setVm vm1) hU X1.warmed⟩
  dsimp only [Pt.U, Pt.locs, Pt.cells, Pt.slots] at X2 f1 f2 f3 f4 f5 st
  subst f3; subst f4; subst f5
  obtain ⟨tt, h1, h2⟩ := kk o ((U.setVm vm1).calling g' mk' (Value.ref b :: As).toArray) t U'.heap _ hU f1.symm (by rw [← f2]; exact X2.warmed) hq (fun q hq => by
    rcases List.mem_append.mp hq with h | h
    · exact hP.2.2.2 q h
    · exact hL q h) U' rfl X2
  exact ⟨tt, go1 _ fun acts => by rw [doInvoke_state]; exact st.trans h1, h2⟩
end MTC
