/-! THE PLAIN FAMILY: calls on an object whose class is known (virtual, super, through an interface); arrays of a superclass. -/
theorem two_le {a b n : Nat} (h1 : a < n) (h2 : b < n) (h : ¬ a = b) : ∃ k, n = k + 2 := ⟨n - 2, by omega⟩
theorem one_le {a n : Nat} (h1 : a < n) : ∃ k, n = k + 1 := ⟨n - 1, by omega⟩
theorem sub1 {vm : Vm} {a b : ClassId} {k : Class} (hk : vm.classes[a]? = some k) (hs : k.super = some b) : vm.isSubclass a b = true := by
  have hlt : a < vm.classes.size := (Array.getElem?_eq_some_iff.mp hk).1
  obtain ⟨n, hn⟩ : ∃ n, vm.classes.size = n + 1 := one_le hlt
  unfold Vm.isSubclass
  rw [hn]
  simp [Vm.isSubclassAux, hk, hs]
theorem sub2 {vm : Vm} {a b d : ClassId} {k k2 : Class} (hk : vm.classes[a]? = some k) (hs : k.super = some b) (hk2 : vm.classes[b]? = some k2) (hs2 : k2.super = some d) : vm.isSubclass a d = true := by
  by_cases hab : a = b
  · subst hab
    cases hk.symm.trans hk2
    exact sub1 hk hs2
  · have h1 : a < vm.classes.size := (Array.getElem?_eq_some_iff.mp hk).1
    have h2 : b < vm.classes.size := (Array.getElem?_eq_some_iff.mp hk2).1
    obtain ⟨n, hn⟩ : ∃ n, vm.classes.size = n + 2 := two_le h1 h2 hab
    unfold Vm.isSubclass
    rw [hn]
    simp [Vm.isSubclassAux, hk, hs, hk2, hs2]
/-- the class of the reference is the owner, or one or two steps below it -/
def su_ok (cls owner : String) : Prop := cls = owner ∨ Cond.superclass cls owner ∈ lw_all ∨ ∃ mid, Cond.superclass cls mid ∈ lw_all ∧ Cond.superclass mid owner ∈ lw_all
theorem su_sub {args : Array Value} {s : State} {cls owner : String} (hts : ∀ w ∈ lw_all, w.before args s = true) (h : su_ok cls owner) {a b : ClassId} (ha : s.vm.findClass cls = some a) (hb : s.vm.findClass owner = some b) : s.vm.isSubclass a b = true := by
  rcases h with h | h | ⟨mid, h1, h2⟩
  · subst h
    cases ha.symm.trans hb
    simp [Vm.isSubclass, Vm.isSubclassAux]
  · obtain ⟨q, k, kp, hq, hk, -, hs, -, -, -⟩ := Cond.superclass_spec ha (hts _ h)
    cases hb.symm.trans hq
    exact sub1 hk hs
  · obtain ⟨q, k, kp, hq, hk, -, hs, -, -, -⟩ := Cond.superclass_spec ha (hts _ h1)
    obtain ⟨q2, k2, kp2, hq2, hk2, -, hs2, -, -, -⟩ := Cond.superclass_spec hq (hts _ h2)
    cases hb.symm.trans hq2
    exact sub2 hk hs hk2 hs2
section SUX
variable {p : Program} {l : Launch} {e : Env} {R : Room} {s : State} {m : MethodId} {args : Array Value} {below : List Frame} {meth : Method} {c : Code}
theorem su_call {T : State} {locs : List Loc} {cells slots : Nat} (X : Stand p l e R s m args below meth c T locs cells slots) (hexec : p.tables.exec = Jvm.exec) {own owner : String} {index : Nat} {x y : MethodName} {bytes : ByteArray} {maxL : Nat} {ret : Option FieldType}
    (hown : s.vm.findClass own = some m.cls) (hlink : (Cond.methodLink own index x).before args s = true) (hsame : (Cond.sameMethod x.cls owner x.name x.desc).before args s = true) (hsup : (Cond.superclass own x.cls).before args s = true) (hy : y = ⟨owner, x.name, x.desc⟩)
    (hsubw : ∀ a b : ClassId, s.vm.findClass x.cls = some a → s.vm.findClass owner = some b → s.vm.isSubclass a b = true)
    (hinst : (Cond.instanceMethod y).before args s = true) (hcode : (Cond.code y bytes maxL ret).before args s = true) (hno : x.name ≠ "<init>")
    {W : Nat} {Pre : Pt → Array Value → Prop} {Post : Pt → Array Value → Option Value → Pt → Prop} (hK : Back l R p e below s args y 3 W Pre Post)
    {b : Addr} {cellB : Cell} {kB : Class} (hcell : T.heap[b]? = some cellB) (hobj : cellB.vm.isStatics = false) (hkB : s.vm.classes[cellB.cls]? = some kB)
    {g : JFrame} (hg : g.method = m) (hsize : g.locals.size = c.maxLocals) {argsL rest : List Value} (hlen : ∀ sig, parseMethodDescriptor y.desc = some sig → argsL.length = sig.parameters.length)
    (hstack : g.stack = argsL.reverse ++ .ref b :: rest) (hW : 2 * g.monitorRoom + (rest.map fun v => v.category).sum ≤ W) (hdg : decode c.code g.pc = .ok (.invokespecial index, 3))
    (hpre : ∀ vm₁, s.WarmedH vm₁ → Pre ⟨T.setVm vm₁, locs, cells, slots⟩ (Value.ref b :: argsL).toArray) :
    ∃ (v : Option Value) (vm₁ : Vm) (B : Pt), s.WarmedH vm₁ ∧ Stand p l e R s m args below meth c B.U B.locs B.cells B.slots ∧ Post ⟨T.setVm vm₁, locs, cells, slots⟩ (Value.ref b :: argsL).toArray v B ∧
      ∀ target, Steps p.tables e below (B.U.setTop { g with pc := g.pc + 3, stack := v.toList ++ rest }) target → Steps p.tables e below (T.setTop g) target := by
  subst hy
  obtain ⟨mk, methM, hnamed, hmethM, hstM, habM⟩ := Cond.instanceMethod_spec hinst
  obtain ⟨methM', cM, hmethM', -, -, -, -, -, -, hsigM⟩ := Cond.code_spec hnamed hcode
  cases hmethM.symm.trans hmethM'
  obtain ⟨ps, dk, kp, hps, hdk, hkp, hsuper, -, -, hnid⟩ := Cond.superclass_spec hown hsup
  have hsub : s.vm.isSubclass ps mk.cls = true := hsubw ps mk.cls hps (findClass_of_methodNamed hnamed)
  obtain ⟨vm₁, X₁, hstep₁⟩ := X.invokespecialUp hexec hown hlink hsame hnamed hmethM hstM habM hno hdk hnid hps hsuper hsub (a := b) (cell := cellB) hcell
    (fun z h => by rw [h] at hobj; cases hobj) hkB (g := g) hg (argsL := argsL) (rest := rest) (hlen _ hsigM) hstack hdg
  obtain ⟨v, B, X', hpost, hsteps⟩ := hK m meth c ⟨T.setVm vm₁, locs, cells, slots⟩ { g with stack := rest } (.invokespecial index) mk (Value.ref b :: argsL).toArray X₁ hg hsize hdg hW (X₁.named hnamed) (hpre vm₁ X₁.warmed)
  exact ⟨v, vm₁, B, X₁.warmed, X', hpost, fun target h => hstep₁ _ (by rw [doInvoke_state]; exact hsteps.trans h)⟩
end SUX
theorem lw_O {own : String} {idx : Nat} {C owner : String} {x y : MethodName} {b : ByteArray} {L : Nat} {r : Option FieldType} (h1 : Cond.methodLink own idx x ∈ lw_all) (h2 : Cond.sameMethod x.cls owner x.name x.desc ∈ lw_all) (h0 : Cond.instanceMethod ⟨owner, x.name, x.desc⟩ ∈ lw_all) (h3 : Cond.selects C x y ∈ lw_all) (h4 : Cond.instanceMethod y ∈ lw_all) (h5 : Cond.initialized y.cls ∈ lw_all) (h6 : Cond.code y b L r ∈ lw_all) : GoodIn lw_all (va_wsO own idx C owner x y (ws_ y b L r)) := by
  refine lw_app ?_ (lw_meth h6)
  intro w hw
  simp only [List.mem_cons, List.not_mem_nil, or_false] at hw
  rcases hw with e | e | e | e | e | e
  · rw [e]; exact h1
  · rw [e]; exact h2
  · rw [e]; exact h0
  · rw [e]; exact h3
  · rw [e]; exact h4
  · rw [e]; exact h5
theorem lw_F {own : String} {idx : Nat} {C : String} {x y : MethodName} {b : ByteArray} {L : Nat} {r : Option FieldType} (h1 : Cond.methodLink own idx x ∈ lw_all) (h3 : Cond.selects C x y ∈ lw_all) (h4 : Cond.instanceMethod y ∈ lw_all) (h5 : Cond.initialized y.cls ∈ lw_all) (h6 : Cond.code y b L r ∈ lw_all) : GoodIn lw_all (va_wsF own idx C x y (ws_ y b L r)) := by
  refine lw_app ?_ (lw_meth h6)
  intro w hw
  simp only [List.mem_cons, List.not_mem_nil, or_false] at hw
  rcases hw with e | e | e | e
  · rw [e]; exact h1
  · rw [e]; exact h3
  · rw [e]; exact h4
  · rw [e]; exact h5
/-- a reference is put into a fixed array; its object is of one of these classes -/
def asl (σ : ST) (o k : Nat) (i : Int32) (r : Option Nat) (cs : List Nat) : Option ST := match r with
  | none => some (aR σ o k i none)
  | some a => match σ.2.2.2.1 a with
    | some (.inr (c, _)) => if c ∈ cs then some (aR σ o k i (some a)) else none
    | _ => none
theorem asl_ex {σ σ1 : ST} {o k : Nat} {cs : List Nat} {i : Int32} {r : Option Nat} (h : asl σ o k i r cs = some σ1) : σ1 = aR σ o k i r ∧ (∀ a, r = some a → ∃ c fs, c ∈ cs ∧ σ.2.2.2.1 a = some (.inr (c, fs))) := by
  unfold asl at h
  split at h
  · cases h
    exact ⟨rfl, fun a q => by cases q⟩
  · split at h
    · rename_i a c fs he
      split at h
      · rename_i hc
        cases h
        exact ⟨rfl, fun b q => by cases q; exact ⟨_, _, hc, he⟩⟩
      · cases h
    · cases h
section SUR
variable {p : Program} {l : Launch} {e : Env} {R : Room} {s : State} {m : MethodId} {args : Array Value} {below : List Frame} {meth : Method} {c : Code} {H : Heap} {locs : List Loc} {cells slots : Nat} {Q : State → Prop}
variable {cc : ByteArray} {pc nL : Nat} {ls : Array Slot} {rest : List Value} {own : String} {ft : List FC} {G : GT} {σ : ST}
variable {y : MethodName} {bytes : ByteArray} {maxL mc ms n index count : Nat} {ret : Option FieldType} {ws : List Cond} {rm : Room} {Qc : Array Value → State → Outcome → State → Prop} {As st0 : List Value} {a : Array Value}
/-- a virtual call on an object of the pool: the method that its class selects -/
theorem r_runUP (X : CX G p m c cc nL s args own) (hP : PS ft G s σ H locs) {b ci : Nat} (hb : ∃ fs, σ.2.2.2.1 b = some (.inr (ci, fs))) {C owner : String} {T : u_T} {N : Nat} {x : MethodName} (hc : lk_cl[ci]? = some (C, T, N)) (hM : Met l y ws rm (va_Pc (.ref b :: As) (PicU ft G σ)) Qc mc ms G.2.2.2.1) (cw : va_CU R s args own C owner index x y bytes maxL ret ws rm mc ms n) (hn : As.length = n) (hsize : ls.size = nL) (hstack : st0 = As.reverse ++ .ref b :: rest) (hW : (rest.map fun v => v.category).sum ≤ 8) (hdg : decode cc pc = .ok (.invokevirtual index, 3)) (hf : cells + mc ≤ R.cells ∧ slots + ms ≤ R.slots) :
    va_Run p l e R s m args below meth c H locs cells slots mc ms (F0 m pc ls st0) rest (Qc (Value.ref b :: As).toArray) G.2.2.2.1 := by
  obtain ⟨fs, hb⟩ := hb
  exact va_runU X.1 hM cw ⟨PicU.blind, recv_pool X hP hb hc, (pre_call X hP _).2⟩ rfl hn hsize hstack (lv_room hW) hdg hf
/-- a call through an interface -/
theorem r_runFP (X : CX G p m c cc nL s args own) (hP : PS ft G s σ H locs) {b ci : Nat} (hb : ∃ fs, σ.2.2.2.1 b = some (.inr (ci, fs))) {C : String} {T : u_T} {N : Nat} {x : MethodName} (hc : lk_cl[ci]? = some (C, T, N)) (hM : Met l y ws rm (va_Pc (.ref b :: As) (PicU ft G σ)) Qc mc ms G.2.2.2.1) (cw : va_CI R s args own C index x y bytes maxL ret ws rm mc ms n) (hn : As.length = n) (hsize : ls.size = nL) (hstack : st0 = As.reverse ++ .ref b :: rest) (hW : (rest.map fun v => v.category).sum ≤ 8) (hdg : decode cc pc = .ok (.invokeinterface index count, 5)) (hf : cells + mc ≤ R.cells ∧ slots + ms ≤ R.slots) :
    va_Run5 p l e R s m args below meth c H locs cells slots mc ms (F0 m pc ls st0) rest (Qc (Value.ref b :: As).toArray) G.2.2.2.1 := by
  obtain ⟨fs, hb⟩ := hb
  exact va_runF (X.2.1.1 ci _ hc).2 X.1 hM cw ⟨PicU.blind, recv_pool X hP hb hc, (pre_call X hP _).2⟩ rfl hn hsize hstack (lv_room hW) hdg hf
theorem r_calliF {r0 : Int32} {u0 : ST} (hr : va_Run5 p l e R s m args below meth c H locs cells slots 0 0 (F0 m pc ls st0) rest (va_Qi (fun (r : Int32) (u : ST) => (r, u) = (r0, u0)) (PicU ft G) G.2.2.2.1 a) G.2.2.2.1) (hP : PS ft G s σ H locs)
    (kk : ∀ (H : Heap) (locs : List Loc), PS ft G s u0 H locs → W p l e R s m args below meth c H locs cells slots Q (F0 m (pc + 5) ls (.int r0 :: rest))) : W p l e R s m args below meth c H locs cells slots Q (F0 m pc ls st0) := by
  refine va_callFi hr hP.2 (fun _ _ h => h) (fun _ h => h) fun r u t H1 locs1 ht hvm hw hB hz hk hS => ?_
  cases hw
  exact kk H1 locs1 ⟨by rw [← ht]; exact hB.1, hS⟩
/-- super.m(..), its own or an inherited one -/
theorem r_runSX (X : CX G p m c cc nL s args own) (hP : PS ft G s σ H locs) {b ci : Nat} (hb : ∃ fs, σ.2.2.2.1 b = some (.inr (ci, fs))) {C owner : String} {T : u_T} {N : Nat} {x : MethodName} (hc : lk_cl[ci]? = some (C, T, N)) (hM : Met l y (ws_ y bytes maxL ret) rm (va_Pc (.ref b :: As) (PicU ft G σ)) Qc mc ms G.2.2.2.1)
    (hy : y = ⟨owner, x.name, x.desc⟩) (h1 : Cond.methodLink own index x ∈ lw_all) (h2 : Cond.sameMethod x.cls owner x.name x.desc ∈ lw_all) (h3 : Cond.superclass own x.cls ∈ lw_all) (h4 : su_ok x.cls owner) (h5 : Cond.instanceMethod y ∈ lw_all) (h6 : Cond.initialized y.cls ∈ lw_all) (h7 : Cond.code y bytes maxL ret ∈ lw_all) (hno : x.name ≠ "<init>") (hd : (parseMethodDescriptor y.desc).map (fun d => d.parameters.length) = some n) (hrc : rm.cells = mc) (hrs : rm.slots = ms) (hR : rm.frames + 1 ≤ R.frames ∧ 8 + (maxL + 11) + rm.locals ≤ R.locals)
    (hn : As.length = n) (hsize : ls.size = nL) (hstack : st0 = As.reverse ++ .ref b :: rest) (hW : (rest.map fun v => v.category).sum ≤ 8) (hdg : decode cc pc = .ok (.invokespecial index, 3)) (hf : cells + mc ≤ R.cells ∧ slots + ms ≤ R.slots) :
    va_Run p l e R s m args below meth c H locs cells slots mc ms (F0 m pc ls st0) rest (Qc (Value.ref b :: As).toArray) G.2.2.2.1 := by
  obtain ⟨fs, hb⟩ := hb
  have hts := X.1.2.2.2.2
  have hini := hts _ h6
  have hp : PreV s H C b (va_Pc (.ref b :: As) (PicU ft G σ)) As := ⟨PicU.blind, recv_pool X hP hb hc, (pre_call X hP _).2⟩
  have hG : GoodIn lw_all (ws_ y bytes maxL ret) := lw_meth h7
  have hcw : Cond.code y bytes maxL ret ∈ ws_ y bytes maxL ret := List.mem_cons_self
  have hK : Back l R p e below s args y 3 8 (PreOf R mc ms (va_Pc (.ref b :: As) (PicU ft G σ))) (PostOf Qc mc ms G.2.2.2.1) := back_of (bytes := bytes) (maxL := maxL) (ret := ret) hM hp.1 hrc hrs hR.1 hR.2 (pay_in hts hG) hcw (fun a' U hW => word_at hW (Or.inl (by first | rfl | simp [Cond.onTables, Cond.keeps, Cond.steady])) hini)
  obtain ⟨hx, hbb, hml, ho, -⟩ := X.1
  obtain ⟨-, ⟨cellB, hcB, hoB, hclB⟩, hPc⟩ := hp
  obtain ⟨hfc, kB, hkB, -⟩ := (X.2.1.1 ci _ hc).2
  have hce : cellB.cls = G.1.1 ci := Option.some.inj (hclB.symm.trans hfc)
  intro T hT XS
  obtain ⟨v, vm₁, ⟨U', l2, c2, s2⟩, hW₁, X', ⟨g', mk, t, L, e1, e2, hq, g1, hL, g2, g3⟩, st⟩ := su_call XS hx (bytes := bytes) (maxL := maxL) (ret := ret) ho (hts _ h1) (hts _ h2) (hts _ h3) hy (fun _ _ => su_sub hts h4) (hts _ h5) (hts _ h7) hno hK (by rw [hT]; exact hcB) hoB (by rw [hce]; exact hkB) (g := F0 m pc ls st0) rfl (hsize.trans hml.symm) (argsL := As) (rest := rest) (fun sig h => by
      rw [h] at hd
      exact hn.trans (Option.some.inj hd).symm) hstack (lv_room hW) (by rw [hbb]; exact hdg)
    (fun vm₁ hW₁ => ⟨hf.1, hf.2, hPc (T.setVm vm₁) hT hW₁⟩)
  dsimp only [Pt.U, Pt.locs, Pt.cells, Pt.slots] at X' e1 e2 g1 g2 g3 st
  subst g1; subst g2; subst g3
  exact ⟨v, (T.setVm vm₁).calling g' mk (Value.ref b :: As).toArray, t, U', L, hT, X', hL, e1, e2, hq, st⟩
theorem r_aastL (X : CX G p m c cc nL s args own) (hw : ftW ft) (hP : PS ft G s σ H locs) (j : Nat) {o k n t : Nat} (hj : ft[j]? = some (.inl (o, k, n, t + 3))) {E : String} {cs : List Nat} (hcs : ∀ q ∈ cs, ∃ C T N, lk_cl[q]? = some (C, T, N) ∧ (C = E ∨ Cond.castable C E ∈ lw_tbl)) (ht : (lk_tys G)[t + 3]? = some (G.2.1 (t + 3), .object E)) {i : Int32} {v : Option Nat} {σ1 : ST} (hg : asl σ o k i v cs = some σ1) (hin : vp_in i n) (hdg : decode cc pc = .ok (.aastore, 1))
    (kk : ∀ (H : Heap) (locs : List Loc), PS ft G s σ1 H locs → W p l e R s m args below meth c H locs cells slots Q (F0 m (pc + 1) ls rest)) : W p l e R s m args below meth c H locs cells slots Q (F0 m pc ls (va_rf v :: .int i :: .ref (G.2.2.1 j) :: rest)) := by
  obtain ⟨rfl, hv⟩ := asl_ex hg
  obtain ⟨⟨hx, hb, hml, hown, hts⟩, hK, hN, hEV⟩ := X
  have ha : H[G.2.2.1 j]? = some (vp_cell (G.2.1 (t + 3)) (n, .inr (.inr (.inr (.inr (σ.2.2.1 o (k + 1))))))) := (hP.1.1 j _ hj).1
  have hlt : i.toNatClampNeg < n := Nat.not_le.mp fun q => hin (Or.inr q)
  have h0 : ¬ i < 0 := fun q => hin (Or.inl q)
  have fin : ∀ H1 : Heap, H1[G.2.2.1 j]? = some ((vp_cell (G.2.1 (t + 3)) (n, .inr (.inr (.inr (.inr (σ.2.2.1 o (k + 1))))))).setSlot i.toNatClampNeg (va_rf v)) → H1.size = H.size → (∀ q : Nat, q ≠ G.2.2.1 j → H1[q]? = H[q]?) → PS ft G s (aR σ o k i v) H1 (locs ++ [⟨G.2.2.1 j, i.toNatClampNeg⟩]) := by
    intro H1 e1 z oq
    refine ⟨hP.1.set hj ?_ z (tot_set ha e1 oq (set_slots _ _ _)) oq (fx_aR hw hj) rfl, hP.2.put z oq (hP.1.1 j _ hj).2⟩
    show H1[G.2.2.1 j]? = some (vp_cell (G.2.1 (t + 3)) (n, .inr (.inr (.inr (.inr (up3 σ.2.2.1 o (k + 1) i.toNatClampNeg v o (k + 1)))))))
    rw [e1, up3_selfR, vp_cell_q, vp_cell_q, arrV_store]
    congr 2
    funext q
    by_cases hq : q = i.toNatClampNeg
    · subst hq
      simp [updV, va_up]
    · simp [updV, va_up, hq]
  cases v with
  | none =>
    exact va_WaastN (C := E) hx hb ha ((hK.2 (t + 3) _ ht).1 n (fun j => va_rf (σ.2.2.1 o (k + 1) j))) (fun h => by cases h) (by show ¬ (i < 0 ∨ (arrV _ _ _).slots.size ≤ _); rw [arrV_size]; exact hin) rfl rfl hdg fun H1 e1 z oq => kk H1 _ (fin H1 e1 z oq)
  | some a =>
    obtain ⟨ci, fs, hmem, hga⟩ := hv a rfl
    obtain ⟨C, T, N, hc, hce⟩ := hcs ci hmem
    obtain ⟨r', hr', cellV, g1, g2, g3, -⟩ := (hP.1.2.2.1 a _ hga).1
    have hcls := (hK.1 ci _ hc).2
    obtain ⟨kA, comp, k1, k2, k3, -⟩ := (hK.2 (t + 3) _ ht).2
    obtain ⟨kE, hkE, -⟩ := Vm.findClass_spec k3
    obtain ⟨kC, hkC, -⟩ := hcls.2
    have hasg : s.vm.assignable (G.1.1 ci) comp = true := by
      rcases hce with h | h
      · subst h
        cases k3.symm.trans hcls.1
        exact va_assign hcls
      · exact vb_asgC (hN _ h rfl) comp _ k3 hcls.1
    exact W.aast hx hb ha (fun q h => by cases h) (fun h => by cases h) k1 k2 rfl hkE ⟨h0, by show _ < (arrV _ _ _).slots.size; rw [arrV_size]; exact hlt⟩ g1 (fun q h => by rw [g3] at h; cases h) (by rw [g2]; exact hkC) (by rw [g2]; exact hasg) rfl rfl hdg fun H1 e1 z oq => kk H1 _ (fin H1 e1 z oq)
end SUR
theorem bodies_ok : ∀ q ∈ [20, 21, 22, 23, 24, 25, 26, 27], ∃ C T N, lk_cl[q]? = some (C, T, N) ∧ (C = "SpeaksInTurn$Plain" ∨ Cond.castable C "SpeaksInTurn$Plain" ∈ lw_tbl) := by
  intro q hq
  simp only [List.mem_cons, List.not_mem_nil, or_false] at hq
  rcases hq with rfl | rfl | rfl | rfl | rfl | rfl | rfl | rfl
  · exact ⟨_, _, _, lk_20, Or.inl rfl⟩
  · exact ⟨_, _, _, lk_21, Or.inr q2308⟩
  · exact ⟨_, _, _, lk_22, Or.inr q2309⟩
  · exact ⟨_, _, _, lk_23, Or.inr q2306⟩
  · exact ⟨_, _, _, lk_24, Or.inr q2310⟩
  · exact ⟨_, _, _, lk_25, Or.inr q2311⟩
  · exact ⟨_, _, _, lk_26, Or.inr q2307⟩
  · exact ⟨_, _, _, lk_27, Or.inr q2312⟩
theorem shelves_ok : ∀ q ∈ [15, 16, 17, 18, 19, 20, 21, 22, 23, 24, 25, 26, 27], ∃ C T N, lk_cl[q]? = some (C, T, N) ∧ (C = "SpeaksInTurn$Held" ∨ Cond.castable C "SpeaksInTurn$Held" ∈ lw_tbl) := by
  intro q hq
  simp only [List.mem_cons, List.not_mem_nil, or_false] at hq
  rcases hq with rfl | rfl | rfl | rfl | rfl | rfl | rfl | rfl | rfl | rfl | rfl | rfl | rfl
  · exact ⟨_, _, _, lk_15, Or.inr q2321⟩
  · exact ⟨_, _, _, lk_16, Or.inr q2322⟩
  · exact ⟨_, _, _, lk_17, Or.inr q2323⟩
  · exact ⟨_, _, _, lk_18, Or.inr q2324⟩
  · exact ⟨_, _, _, lk_19, Or.inr q2325⟩
  · exact ⟨_, _, _, lk_20, Or.inr q2320⟩
  · exact ⟨_, _, _, lk_21, Or.inr q2313⟩
  · exact ⟨_, _, _, lk_22, Or.inr q2314⟩
  · exact ⟨_, _, _, lk_23, Or.inr q2315⟩
  · exact ⟨_, _, _, lk_24, Or.inr q2316⟩
  · exact ⟨_, _, _, lk_25, Or.inr q2317⟩
  · exact ⟨_, _, _, lk_26, Or.inr q2318⟩
  · exact ⟨_, _, _, lk_27, Or.inr q2319⟩
