/-! CAUGHT, OR LEAVING: the search through a method's handlers (their classes linked, or not yet). -/
/-- the search in this table, for an object of the class cl thrown at pc, ends at the handler h -/
def hfT (pl : Platform) (s : State) (d : ClassId) (pc : Nat) (cl : ClassId) : List ExceptionTableEntry → Nat → Prop
  | [], _ => False
  | x :: t, h => (covers x pc = false ∧ hfT pl s d pc cl t h) ∨ (covers x pc = true ∧ x.catchType ≠ 0 ∧ ∃ q, s.vm.ClassLinks pl d x.catchType q ∧ ((s.vm.assignable cl q = true ∧ x.handlerPc = h) ∨ (s.vm.assignable cl q = false ∧ hfT pl s d pc cl t h)))
theorem hf_one {Q : Handler → Pre} {E : CtlPost} {e : Env} {d : Bool} {acts : List Action} {S : State} {f : JFrame} {a : Addr} {x : ExceptionTableEntry} {t : List ExceptionTableEntry} {q : ClassId} {cell : Cell} (hx : covers x f.pc = true) (h0 : x.catchType ≠ 0) (hq : S.vm.ClassLinks e.platform f.method.cls x.catchType q) (hcell : S.heap[a]? = some cell) (hobj : ∀ k, cell.vm ≠ .statics k) (hk : ∃ k, S.vm.classes[cell.cls]? = some k) (hc : ∃ k, S.vm.classes[q]? = some k) :
    wp (findHandler.go f a (x :: t)) Q E e d acts S ↔ if S.vm.assignable cell.cls q = true then Q (.found x.handlerPc) d acts (S.setVm (S.vm.noted f.method.cls x.catchType (.cls q))) else wp (findHandler.go f a t) Q E e d acts (S.setVm (S.vm.noted f.method.cls x.catchType (.cls q))) := by
  have hx' := hx
  simp only [covers] at hx'
  obtain ⟨g1, g2⟩ := (resolveClass_links e.toSetting hq).op (op := VmOp.resolveClass f.method.cls x.catchType) rfl
  have like : S.vm.Alike (S.vm.noted f.method.cls x.catchType (.cls q)) := (Vm.Alike.refl S.vm).noted _ _ _
  obtain ⟨k1, hk1⟩ := hk
  obtain ⟨k2, hk2⟩ := hc
  obtain ⟨j1, hj1, -⟩ := like.2.2 _ _ hk1
  obtain ⟨j2, hj2, -⟩ := like.2.2 _ _ hk2
  have has : (S.vm.noted f.method.cls x.catchType (.cls q)).assignable cell.cls q = S.vm.assignable cell.cls q := like.assignable _ _
  cases hfit : S.vm.assignable cell.cls q <;> rw [hfit] at has <;> simp [findHandler.go, hx', h0, g1, g2, hcell, hobj, hj1, hj2, has, VmOp.dirties, VmOp.acts]
theorem hf_go {e : Env} {s : State} {f : JFrame} {a : Addr} {cell : Cell} {h : Nat} (hobj : ∀ k, cell.vm ≠ .statics k) (hk : ∃ k, s.vm.classes[cell.cls]? = some k) : ∀ (t : List ExceptionTableEntry) (S : State), s.WarmedH S.vm → S.heap[a]? = some cell → hfT e.platform s f.method.cls f.pc cell.cls t h →
    ∃ vm', s.WarmedH vm' ∧ ∀ (Q : Handler → Pre) (E : CtlPost) (d : Bool) (acts : List Action), wp (findHandler.go f a t) Q E e d acts S ↔ Q (.found h) d acts (S.setVm vm') := by
  intro t
  induction t with
  | nil => intro S _ _ hh; cases hh
  | cons x t ih =>
    intro S hW hcell hh
    rcases hh with ⟨hc, hh⟩ | ⟨hc, h0, q, hq, hh⟩
    · obtain ⟨vm', h1, h2⟩ := ih S hW hcell hh
      exact ⟨vm', h1, fun Q E d acts => by rw [W.findHandler_go_skip hc]; exact h2 Q E d acts⟩
    · obtain ⟨k0, hk0⟩ := hk
      obtain ⟨k0', hk0', -⟩ := hW.alike.2.2 _ _ hk0
      obtain ⟨dk, _, _, kt, hd, _, _, _, _, hkt, _, hopen⟩ := hq.here
      obtain ⟨kt', hkt', -⟩ := hW.alike.2.2 _ _ hkt
      have hW2 : s.WarmedH (S.vm.noted f.method.cls x.catchType (.cls q)) := hW.noted hd hopen (State.rightAt_cls hq)
      rcases hh with ⟨hfit, rfl⟩ | ⟨hfit, hh⟩
      · refine ⟨_, hW2, fun Q E d acts => ?_⟩
        rw [hf_one hc h0 (hW.classLinks hq) hcell hobj ⟨_, hk0'⟩ ⟨_, hkt'⟩, if_pos (by rw [hW.alike.assignable]; exact hfit)]
      · obtain ⟨vm', h1, h2⟩ := ih (S.setVm (S.vm.noted f.method.cls x.catchType (.cls q))) hW2 hcell hh
        refine ⟨vm', h1, fun Q E d acts => ?_⟩
        rw [hf_one hc h0 (hW.classLinks hq) hcell hobj ⟨_, hk0'⟩ ⟨_, hkt'⟩, if_neg (by rw [hW.alike.assignable, hfit]; decide)]
        exact h2 Q E d acts
section CAT
variable {p : Program} {l : Launch} {e : Env} {R : Room} {s : State} {m : MethodId} {args : Array Value} {below : List Frame} {meth : Method} {c : Code} {H : Heap} {locs : List Loc} {cells slots : Nat} {Q : State → Prop}
theorem push_thr {T : State} (X : Stand p l e R s m args below meth c T locs cells slots) (g : JFrame) (a : Addr) : (T.setTop g).pushFrame (.throwing a) = T.setFrames (.throwing a :: .java g :: below) := by
  obtain ⟨g1, hf⟩ := X.frames_eq
  rw [State.pushFrame, State.frames_setTop _ hf, State.setTop_of_frames _ hf, State.setFrames_setFrames]
/-- caught in this method -/
theorem WT.catches {a : Addr} {cell : Cell} {h pc : Nat} {ls : Array Slot} {st : List Value} (hcell : H[a]? = some cell) (hobj : cell.vm = .none) (hk : ∃ k, s.vm.classes[cell.cls]? = some k) (hh : hfT e.platform s m.cls pc cell.cls c.exceptionTable.toList h)
    (kk : W p l e R s m args below meth c H locs cells slots Q (F0 m h ls [.ref a])) : WT p l e R s m args below meth c H locs cells slots Q a (F0 m pc ls st) := by
  intro T hT X
  have ho : ∀ k, cell.vm ≠ .statics k := fun k q => by rw [hobj] at q; cases q
  have hvm : ((T.setTop (F0 m pc ls st)).pushFrame (.throwing a)).vm = T.vm := by simp [State.pushFrame, State.setFrames, State.setTop, State.modifyTopJava]
  have hhp : ((T.setTop (F0 m pc ls st)).pushFrame (.throwing a)).heap = T.heap := by simp [State.pushFrame, State.setFrames, State.setTop, State.modifyTopJava]
  obtain ⟨vm', hW, hgo⟩ := hf_go (e := e) (f := F0 m pc ls st) (a := a) ho hk c.exceptionTable.toList ((T.setTop (F0 m pc ls st)).pushFrame (.throwing a)) (by rw [hvm]; exact X.warmed) (by rw [hhp, hT]; exact hcell) hh
  obtain ⟨t, h1, h2⟩ := kk (T.setVm vm') hT (X.noted hW)
  refine ⟨t, ?_, h2⟩
  rw [← push_thr X]
  have hat : At T (F0 m pc ls st).method c below := X.here
  obtain ⟨go1, go2⟩ := hat.throwing (g := F0 m pc ls st) a
  refine Steps.head go1 go2 ?_
  have hfind : ∀ (Q : Handler → Pre) (E : CtlPost) (d : Bool) (acts : List Action), wp (findHandler (F0 m pc ls st) a) Q E e d acts ((T.setTop (F0 m pc ls st)).pushFrame (.throwing a)) ↔ Q (.found h) d acts (((T.setTop (F0 m pc ls st)).pushFrame (.throwing a)).setVm vm') := fun Q E d acts => by
    rw [W.findHandler_eq (by rw [hvm]; exact X.method') X.code]
    exact hgo Q E d acts
  have key : (stepThrowing e ((T.setTop (F0 m pc ls st)).pushFrame (.throwing a)) a (.java (F0 m pc ls st) :: T.frames.tail)).Is ((((T.setTop (F0 m pc ls st)).pushFrame (.throwing a)).setVm vm').setFrames (.java { F0 m pc ls st with pc := h, stack := [.ref a] } :: T.frames.tail)) [] := by
    simp only [stepThrowing, searchFrame, vmDo]
    generalize hr : Sem.go _ e false [] _ = res
    obtain ⟨as, rfl, ha⟩ := Sem.eq_ok_of hr (a := Handler.found h) (s' := ((T.setTop (F0 m pc ls st)).pushFrame (.throwing a)).setVm vm') (acts' := []) (by simp [hfind _ _ _ _])
    exact ⟨rfl, ha⟩
  rw [stepThread_throwing (frames_entered hat.top _), key.1]
  obtain ⟨g1, hf⟩ := X.frames_eq
  have e1 : (((T.setTop (F0 m pc ls st)).pushFrame (.throwing a)).setVm vm').setFrames (.java { F0 m pc ls st with pc := h, stack := [.ref a] } :: T.frames.tail) = (T.setVm vm').setTop (F0 m h ls [.ref a]) := by
    rw [push_thr X, State.setTop_of_frames (s := T.setVm vm') _ hf, hf]
    show ((T.setVm vm').setFrames _).setFrames _ = _
    rw [State.setFrames_setFrames]
    rfl
  rw [e1]
  exact h1
/-- it leaves the method -/
theorem WT.leaves {a : Addr} {pc : Nat} {ls : Array Slot} {st : List Value} (hlocks : meth.locks = false) (hout : ∀ x ∈ c.exceptionTable.toList, covers x pc = false)
    (hq : ∀ t : State, t.heap = H → s.WarmedH t.vm → t.status = .running → Ended t below (.threw a) → s.sameButNew ({ t with vm := s.vm } : State) locs cells slots → Q t) : WT p l e R s m args below meth c H locs cells slots Q a (F0 m pc ls st) := by
  intro T hT X
  obtain ⟨h1, h2, h3, h4, h5⟩ := X.leaveThrown a (g := F0 m pc ls st) rfl rfl rfl hout hlocks
  rw [push_thr X] at h1
  exact ⟨_, h1, hq _ hT h4 h2 h3 h5⟩
end CAT
