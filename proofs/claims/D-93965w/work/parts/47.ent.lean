/-! A METHOD THAT THROWS: its entry and its end; an index outside. -/
def MQT (below : List Frame) (Qt : Array Value → State → Addr → State → Prop) (a : Array Value) (s : State) (mc ms : Nat) (free : Addr → Prop) : State → Prop := fun t =>
  ∃ (x : Addr), t.status = .running ∧ Ended t below (.threw x) ∧ ∃ L : List Loc, Qt a s x t ∧ s.WarmedH t.vm ∧ s.sameButNew ({ t with vm := s.vm } : State) L mc ms ∧ ∀ q ∈ L, free q.base
/-- thrown: an object of the class cls; the picture stands over the grown heap -/
def QTx (cls : String) (ft : List FC) (G : GT) (σ : ST) : Array Value → State → Addr → State → Prop := fun _ st x t =>
  ∃ ce : Cell, t.heap[x]? = some ce ∧ ce.vm = .none ∧ t.vm.findClass cls = some ce.cls ∧ PicU ft G (grw σ t.heap) t ∧ st.heap.size ≤ t.heap.size ∧ ∀ q : Nat, q < st.heap.size → ¬ G.2.2.2.1 q → t.heap[q]? = st.heap[q]?
theorem m_enterT {l : Launch} {ft : List FC} {G : GT} {σ : ST} {y : MethodName} {cc : ByteArray} {maxL : Nat} {ret : Option FieldType} {rm : Room} {Qt : Array Value → State → Addr → State → Prop} {mc ms : Nat} {As : List Value} {lv : List (Nat × Value)} (hy : plainName y.cls = true) (hlen : Nat.ble (lg_sl As).length maxL = true) (hlv : lv_args 0 As = lv)
    (body : ∀ (p : Program) (e : Env) (s : State) (m : MethodId) (args : Array Value) (below : List Frame) (meth : Method) (c : Code) (H : Heap) (locs : List Loc) (ls : Array Slot), CX G p m c cc maxL s args y.cls → meth.locks = false → c.exceptionTable.toList = [] → PS ft G s σ H locs → lv_has ls maxL lv →
      W p l e rm s m args below meth c H locs 0 0 (MQT below Qt args s mc ms G.2.2.2.1) (F0 m 0 ls [])) : MetT l y (ws_ y cc maxL ret) rm (va_Pc As (PicU ft G σ)) Qt mc ms G.2.2.2.1 := by
  refine MetFree.of_bodyS (code := cc) (maxLocals := maxL) (ret := ret) hy ?_ ?_
  · intro args s m h hn
    obtain ⟨meth, c, h1, h2, h3, h4, h5, h6, -, -⟩ := Cond.code_spec hn (atoms_spec (ws := ws_ y cc maxL ret) h _ List.mem_cons_self)
    exact ⟨meth, c, h1, h2, h3, h4, h5, h6⟩
  · intro p e s m args below meth c s1 B hml hv _
    obtain ⟨rfl, hP, hK, hN, hEV⟩ := hv
    have hts0 := atoms_spec (ws := ws_ y cc maxL ret) B.pre
    have hts : ∀ w ∈ lw_all, w.before _ s = true := fun w h => hts0 w (List.mem_cons_of_mem _ h)
    obtain ⟨meth', c', q1, q2, -, -, -, -, q7, -⟩ := Cond.code_spec B.named (hts0 _ List.mem_cons_self)
    have he1 : meth' = meth := Option.some.inj (q1.symm.trans B.method)
    subst he1
    have he2 : c' = c := Option.some.inj (q2.symm.trans (Stand.of_body B).code)
    subst he2
    have htab : c'.exceptionTable.toList = [] := by
      rw [Array.isEmpty_iff] at q7
      rw [q7]
    have hl := lv_entry As (n := maxL) (Nat.le_of_ble_eq_true hlen)
    subst hlv
    have hh0 : s1.heap = s.heap := by rw [B.state]; rfl
    have hw := body p e s m As.toArray below meth' c' s.heap [] _ ⟨⟨B.exec, B.bytes, hml, findClass_of_methodNamed B.named, hts⟩, hK, hN, hEV⟩ B.notSynchronized htab ⟨hP, va_S.rf⟩ hl
    rw [← lg_entry_eq] at hw
    obtain ⟨t, a1, x, b1, b2, L, b3, b4, b5, b6⟩ := hw s1 hh0 (Stand.of_body B)
    exact ⟨t, .threw x, a1, b1, b2, x, L, rfl, b3, b4, b5, b6⟩
section ENT
variable {p : Program} {l : Launch} {e : Env} {R : Room} {s : State} {m : MethodId} {args : Array Value} {below : List Frame} {meth : Method} {c : Code} {H : Heap} {locs : List Loc} {cells slots : Nat} {Q : State → Prop}
variable {cc : ByteArray} {pc nL : Nat} {ls : Array Slot} {rest : List Value} {own : String} {ft : List FC} {G : GT} {σ : ST}
theorem r_leaveT (X : CX G p m c cc nL s args own) {a : Addr} {ce : Cell} {cls : String} {mc ms : Nat} {st : List Value} (hP : PS ft G s (grw σ H) H locs) (hce : H[a]? = some ce) (hf : s.vm.findClass cls = some ce.cls) (hv : ce.vm = .none) (hlocks : meth.locks = false) (htab : c.exceptionTable.toList = []) (hc : cells ≤ mc) (hs : slots ≤ ms) : WT p l e R s m args below meth c H locs cells slots (MQT below (QTx cls ft G σ) args s mc ms G.2.2.2.1) a (F0 m pc ls st) := by
  refine WT.leaves hlocks (by rw [htab]; intro x hx; cases hx) fun t ht hW hr he hsame => ⟨a, hr, he, locs, ⟨ce, by rw [ht]; exact hce, hv, by rw [hW.alike.findClass]; exact hf, ?_, by rw [ht]; exact hP.2.1, fun q h1 h2 => by rw [ht]; exact hP.2.2.1 q h1 h2⟩, hW, hsame.weaken (fun y hy _ => hy) hc hs, hP.2.2.2⟩
  have h1 := picU_end X hP ht hW
  rw [ht]
  exact h1
/-- behind a call that threw: the picture again -/
theorem QTx.ps {cls : String} {a : Array Value} {st t : State} {o : Addr} {H1 : Heap} {locs1 : List Loc} (hq : QTx cls ft G σ a st o t) (hst : st.heap = H) (ht : t.heap = H1) (hW : s.WarmedH t.vm) (hP : PS ft G s σ H locs) (hL : ∀ q ∈ locs1, G.2.2.2.1 q.base) : ∃ ce : Cell, PS ft G s (grw σ H1) H1 locs1 ∧ H1[o]? = some ce ∧ ce.vm = .none ∧ s.vm.findClass cls = some ce.cls := by
  obtain ⟨ce, h1, h2, h3, h4, h5, h6⟩ := hq
  rw [ht] at h1 h4 h5 h6
  rw [hst] at h5 h6
  refine ⟨ce, ⟨by have := h4.1; rw [ht] at this; exact this, Nat.le_trans hP.2.1 h5, fun q g1 g2 => (h6 q (Nat.lt_of_lt_of_le g1 hP.2.1) g2).trans (hP.2.2.1 q g1 g2), hL⟩, h1, h2, ?_⟩
  rw [← hW.alike.findClass]
  exact h3
end ENT
