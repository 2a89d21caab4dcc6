/-! METHODS WITH HANDLERS: their entry. What they answer, and the state but for the heap's sizes (a caught exception leaves cells). -/
def sm (u u0 : ST) : Prop := u.1 = u0.1 ∧ u.2.1 = u0.2.1 ∧ u.2.2.1 = u0.2.2.1 ∧ u.2.2.2.1 = u0.2.2.2.1
theorem sm_rf (u : ST) : sm u u := ⟨rfl, rfl, rfl, rfl⟩
theorem sm_grw (σ : ST) (H : Heap) : sm (grw σ H) σ := ⟨rfl, rfl, rfl, rfl⟩
theorem sm_tr {a b c : ST} (h : sm a b) (k : sm b c) : sm a c := ⟨h.1.trans k.1, h.2.1.trans k.2.1, h.2.2.1.trans k.2.2.1, h.2.2.2.trans k.2.2.2⟩
def XI (l : Launch) (ft : List FC) (G : GT) (y : MethodName) (ws : List Cond) (rm : Room) (mc ms : Nat) (As : List Value) (σ : ST) (res : Int32 × ST) : Prop :=
  Met l y ws rm (va_Pc As (PicU ft G σ)) (va_Qi (fun (r : Int32) (u : ST) => r = res.1 ∧ sm u res.2) (PicU ft G) G.2.2.2.1) mc ms G.2.2.2.1
def XL (l : Launch) (ft : List FC) (G : GT) (y : MethodName) (ws : List Cond) (rm : Room) (mc ms : Nat) (As : List Value) (σ : ST) (res : Int64 × ST) : Prop :=
  Met l y ws rm (va_Pc As (PicU ft G σ)) (va_Ql (fun (r : Int64) (u : ST) => r = res.1 ∧ sm u res.2) (PicU ft G) G.2.2.2.1) mc ms G.2.2.2.1
theorem m_enterW {l : Launch} {ft : List FC} {G : GT} {σ : ST} {y : MethodName} {cc : ByteArray} {maxL : Nat} {ret : Option FieldType} {hh : List (Nat × Nat × Nat × Nat)} {rm : Room} {Qc : Array Value → State → Outcome → State → Prop} {mc ms : Nat} {As : List Value} {lv : List (Nat × Value)} (hy : plainName y.cls = true) (hlen : Nat.ble (lg_sl As).length maxL = true) (hlv : lv_args 0 As = lv)
    (body : ∀ (p : Program) (e : Env) (s : State) (m : MethodId) (below : List Frame) (meth : Method) (c : Code) (H : Heap) (locs : List Loc) (ls : Array Slot), H = s.heap → CX G p m c cc maxL s As.toArray y.cls → meth.sig.returnType = ret → meth.locks = false → c.exceptionTable.toList = tableOf hh → PS ft G s σ H locs → lv_has ls maxL lv →
      W p l e rm s m As.toArray below meth c H locs 0 0 (MQ below Qc As.toArray s mc ms G.2.2.2.1) (F0 m 0 ls [])) : Met l y (wsW_ y cc maxL ret hh) rm (va_Pc As (PicU ft G σ)) Qc mc ms G.2.2.2.1 := by
  refine va_MetW (cc := cc) (maxL := maxL) (ret := ret) (hh := hh) hy rfl ?_
  intro p e s m args below meth c s1 B hml hv
  obtain ⟨rfl, hP, hK, hN, hEV⟩ := hv
  have hts0 := atoms_spec (ws := wsW_ y cc maxL ret hh) B.pre
  have hts : ∀ w ∈ lw_all, w.before _ s = true := fun w h => hts0 w (List.mem_cons_of_mem _ h)
  obtain ⟨m9, meth', c', g0, g1, g2, g3, g4, g5, -⟩ := Cond.codeWith_spec (hts0 _ List.mem_cons_self)
  cases B.named.symm.trans g0
  have he1 : meth' = meth := Option.some.inj (g1.symm.trans B.method)
  subst he1
  have he2 : c' = c := Option.some.inj (g2.symm.trans (Stand.of_body B).code)
  subst he2
  have htab : c'.exceptionTable.toList = tableOf hh := by
    rw [← g5]
    exact (table_eq _).symm
  have hl := lv_entry As (n := maxL) (Nat.le_of_ble_eq_true hlen)
  rw [lg_entry_eq]
  subst hlv
  exact body p e s m below meth' c' s.heap [] _ rfl ⟨⟨B.exec, B.bytes, hml, findClass_of_methodNamed B.named, hts⟩, hK, hN, hEV⟩ B.returns B.notSynchronized htab ⟨hP, va_S.rf⟩ hl
theorem m_enterWI {l : Launch} {ft : List FC} {G : GT} {σ u0 : ST} {y : MethodName} {cc : ByteArray} {maxL : Nat} {hh : List (Nat × Nat × Nat × Nat)} {rm : Room} {mc ms : Nat} {As : List Value} {lv : List (Nat × Value)} {r0 : Int32} (hy : plainName y.cls = true) (hlen : Nat.ble (lg_sl As).length maxL = true) (hlv : lv_args 0 As = lv)
    (body : ∀ (p : Program) (e : Env) (s : State) (m : MethodId) (args : Array Value) (below : List Frame) (meth : Method) (c : Code) (H : Heap) (locs : List Loc) (ls : Array Slot) (Q : State → Prop), CX G p m c cc maxL s args y.cls → c.exceptionTable.toList = tableOf hh →
      (∀ (v : Int32) (σ' : ST) (H : Heap) (locs : List Loc) (ls : Array Slot) (pc : Nat), decode cc pc = .ok (.ireturn, 1) → v = r0 → sm σ' u0 → PS ft G s σ' H locs → W p l e rm s m args below meth c H locs mc ms Q (F0 m pc ls [.int v])) →
      PS ft G s σ H locs → lv_has ls maxL lv → W p l e rm s m args below meth c H locs 0 0 Q (F0 m 0 ls [])) : XI l ft G y (wsW_ y cc maxL (some .int) hh) rm mc ms As σ (r0, u0) :=
  m_enterW hy hlen hlv fun p e s m below meth c H locs ls _ X hr hk htab hP hl => body p e s m _ below meth c H locs ls _ X htab (fun v σ' H locs ls pc hd he hs hP' => W.iret X.1.1 X.1.2.1 hr (fun t ht hW => ⟨⟨v, σ', rfl, ⟨he, hs⟩, picU_end X hP' ht hW⟩, hP'.2.F ht⟩) hP'.2.2.2 hd hk) hP hl
theorem m_enterWL {l : Launch} {ft : List FC} {G : GT} {σ u0 : ST} {y : MethodName} {cc : ByteArray} {maxL : Nat} {hh : List (Nat × Nat × Nat × Nat)} {rm : Room} {mc ms : Nat} {As : List Value} {lv : List (Nat × Value)} {r0 : Int64} (hy : plainName y.cls = true) (hlen : Nat.ble (lg_sl As).length maxL = true) (hlv : lv_args 0 As = lv)
    (body : ∀ (p : Program) (e : Env) (s : State) (m : MethodId) (args : Array Value) (below : List Frame) (meth : Method) (c : Code) (H : Heap) (locs : List Loc) (ls : Array Slot) (Q : State → Prop), CX G p m c cc maxL s args y.cls → c.exceptionTable.toList = tableOf hh →
      (∀ (v : Int64) (σ' : ST) (H : Heap) (locs : List Loc) (ls : Array Slot) (pc : Nat), decode cc pc = .ok (.lreturn, 1) → v = r0 → sm σ' u0 → PS ft G s σ' H locs → W p l e rm s m args below meth c H locs mc ms Q (F0 m pc ls [.long v])) →
      PS ft G s σ H locs → lv_has ls maxL lv → W p l e rm s m args below meth c H locs 0 0 Q (F0 m 0 ls [])) : XL l ft G y (wsW_ y cc maxL (some .long) hh) rm mc ms As σ (r0, u0) :=
  m_enterW hy hlen hlv fun p e s m below meth c H locs ls _ X hr hk htab hP hl => body p e s m _ below meth c H locs ls _ X htab (fun v σ' H locs ls pc hd he hs hP' => W.lret X.1.1 X.1.2.1 hr (fun t ht hW => ⟨⟨v, σ', rfl, ⟨he, hs⟩, picU_end X hP' ht hW⟩, hP'.2.F ht⟩) hP'.2.2.2 hd hk) hP hl
theorem m_enterWIL {l : Launch} {ft : List FC} {G : GT} {σ u0 : ST} {y : MethodName} {cc : ByteArray} {maxL : Nat} {hh : List (Nat × Nat × Nat × Nat)} {rm : Room} {mc ms : Nat} {As : List Value} {lv : List (Nat × Value)} {r0 : Int32} (hal : G.2.2.2.2 = true) (hy : plainName y.cls = true) (hlen : Nat.ble (lg_sl As).length maxL = true) (hlv : lv_args 0 As = lv)
    (body : ∀ (p : Program) (e : Env) (s : State) (m : MethodId) (args : Array Value) (below : List Frame) (meth : Method) (c : Code) (H : Heap) (locs : List Loc) (ls : Array Slot) (Q : State → Prop), CX G p m c cc maxL s args y.cls → c.exceptionTable.toList = tableOf hh → (s.heap.size = szo σ ∧ tot s.heap = suo σ) →
      (∀ (v : Int32) (σ' : ST) (H : Heap) (locs : List Loc) (ls : Array Slot) (pc : Nat), decode cc pc = .ok (.ireturn, 1) → v = r0 → sm σ' u0 → PS ft G s σ' H locs → W p l e rm s m args below meth c H locs mc ms Q (F0 m pc ls [.int v])) →
      PS ft G s σ H locs → lv_has ls maxL lv → W p l e rm s m args below meth c H locs (szo σ - szo σ) (suo σ - suo σ) Q (F0 m 0 ls [])) : XI l ft G y (wsW_ y cc maxL (some .int) hh) rm mc ms As σ (r0, u0) :=
  m_enterW hy hlen hlv fun p e s m below meth c H locs ls hH X hr hk htab hP hl => W.widen (Nat.zero_le _) (Nat.zero_le _) (body p e s m _ below meth c H locs ls _ X htab ⟨by rw [← hH]; exact (hP.1.2.2.2 hal).1, by rw [← hH]; exact (hP.1.2.2.2 hal).2.1⟩ (fun v σ' H locs ls pc hd he hs hP' => W.iret X.1.1 X.1.2.1 hr (fun t ht hW => ⟨⟨v, σ', rfl, ⟨he, hs⟩, picU_end X hP' ht hW⟩, hP'.2.F ht⟩) hP'.2.2.2 hd hk) hP hl)
