/-! THE READER's ROWS: String constants, the room by a limit. -/
set_option maxRecDepth 100000
def skl (k : Nat) : Int32 := Int32.ofNat (sk_len.getD k 0)
def skb (k : Nat) (i : Int32) : Int32 := (sk_byt.getD k []).getD i.toNatClampNeg 0
def ez {α : Type} (v : Option Nat) (x : Nat) (k : Option α) : Option α := if v = some x then k else none
theorem ez_eq {α : Type} {v : Option Nat} {x : Nat} {k : Option α} {r : α} (h : ez v x k = some r) : v = some x := by
  unfold ez at h
  by_cases q : v = some x
  · exact q
  · rw [if_neg q] at h; cases h
theorem ez_k {α : Type} {v : Option Nat} {x : Nat} {k : Option α} {r : α} (h : ez v x k = some r) : k = some r := by
  have h1 := ez_eq h
  unfold ez at h
  rw [if_pos h1] at h
  exact h
/-- the room is asked: so many cells and slots more -/
def lm {α : Type} (σ : ST) (lim slim a b : Nat) (k : Option α) : Option α := if szo σ + a ≤ lim ∧ suo σ + b ≤ slim then k else none
theorem lm_in {α : Type} {σ : ST} {lim slim a b : Nat} {k : Option α} {r : α} (h : lm σ lim slim a b k = some r) : szo σ + a ≤ lim ∧ suo σ + b ≤ slim := by
  unfold lm at h
  by_cases q : szo σ + a ≤ lim ∧ suo σ + b ≤ slim
  · exact q
  · rw [if_neg q] at h; cases h
theorem lm_k {α : Type} {σ : ST} {lim slim a b : Nat} {k : Option α} {r : α} (h : lm σ lim slim a b k = some r) : k = some r := by
  have h1 := lm_in h
  unfold lm at h
  rw [if_pos h1] at h
  exact h
theorem rm_lx {r r2 : Room} {k f lo f2 lo2 : Nat} (e1 : r.frames = f) (e2 : r.locals = lo) (e3 : r2.frames = f2) (e4 : r2.locals = lo2) (h1 : f + 1 ≤ f2) (h2 : 8 + (k + 11) + lo ≤ lo2) : r.frames + 1 ≤ r2.frames ∧ 8 + (k + 11) + r.locals ≤ r2.locals := by
  rw [e1, e2, e3, e4]
  exact ⟨h1, h2⟩
theorem pis_self {σ : ST} {t ci a : Nat} (h : pis σ (some t) ci = some a) : ∃ fs, σ.2.2.2.1 t = some (.inr (ci, fs)) := by
  obtain ⟨h1, h2⟩ := pis_ex h
  cases h1
  exact h2
section RDR
variable {p : Program} {l : Launch} {e : Env} {R : Room} {s : State} {m : MethodId} {args : Array Value} {below : List Frame} {meth : Method} {c : Code} {H : Heap} {locs : List Loc} {cells slots : Nat} {Q : State → Prop}
variable {cc : ByteArray} {pc nL : Nat} {ls : Array Slot} {rest : List Value} {own : String} {ft : List FC} {G : GT} {σ σ0 : ST}
theorem W.le {g : JFrame} (kk : s.heap.size ≤ H.size → tot s.heap ≤ tot H → W p l e R s m args below meth c H locs cells slots Q g) : W p l e R s m args below meth c H locs cells slots Q g := by
  intro T hT X
  obtain ⟨a1, a2, a3, a4, a5, a6⟩ := X.same
  have a2' : s.heap.size ≤ T.heap.size := a2
  have a6' : ∀ (a : Nat) (c : Cell), s.heap[a]? = some c → ∃ c' : Cell, T.heap[a]? = some c' ∧ c'.slots.size = c.slots.size := fun a c h => by
    obtain ⟨c', b1, -, b3, -⟩ := a6 a c h
    exact ⟨c', b1, b3⟩
  have e1 : ((T.heap.toList.take s.heap.size).map (fun c => c.slots.size)) = s.heap.toList.map (fun c => c.slots.size) := by
    apply List.ext_getElem?
    intro i
    rw [List.getElem?_map, List.getElem?_map, List.getElem?_take]
    by_cases hi : i < s.heap.size
    · rw [if_pos hi, Array.getElem?_toList, Array.getElem?_toList]
      obtain ⟨c', b1, b2⟩ := a6' i _ (Array.getElem?_eq_getElem hi)
      rw [b1, Array.getElem?_eq_getElem hi]
      simp [b2]
    · rw [if_neg hi, Array.getElem?_toList, Array.getElem?_eq_none (by omega)]
  have e2 : tot T.heap = tot s.heap + ((T.heap.toList.drop s.heap.size).map (fun c => c.slots.size)).sum := by
    unfold tot
    rw [← e1, ← List.sum_append, ← List.map_append, List.take_append_drop]
  exact kk (by rw [← hT]; exact a2') (by rw [← hT]; omega) T hT X
theorem r_skv (X : CX G p m c cc nL s args own) (hal : G.2.2.2.2 = true) (hP : PS ft G s σ H locs) {k : Nat} (hk : k < 4) {index : Nat} (hl : Cond.fieldLink own index "java/lang/String" "value" "[B" ∈ lw_all) (hdg : decode cc pc = .ok (.getfield index, 3))
    (kk : W p l e R s m args below meth c H locs cells slots Q (F0 m (pc + 3) ls (.ref (G.2.2.1 (2000 + k)) :: rest))) : W p l e R s m args below meth c H locs cells slots Q (F0 m pc ls (.ref (G.2.2.1 (1000 + k)) :: rest)) :=
  vk_getf X.1.1 X.1.2.1 ((X.2.2.2 hal).1.1 k hk).2.2.1 hP.2 X.1.2.2.2.1 (X.1.2.2.2.2 _ hl) (fun _ h => h) hdg kk
theorem r_skc (X : CX G p m c cc nL s args own) (hal : G.2.2.2.2 = true) (hP : PS ft G s σ H locs) {k : Nat} (hk : k < 4) {index : Nat} (hl : Cond.fieldLink own index "java/lang/String" "coder" "B" ∈ lw_all) (hdg : decode cc pc = .ok (.getfield index, 3))
    (kk : W p l e R s m args below meth c H locs cells slots Q (F0 m (pc + 3) ls (.int 0 :: rest))) : W p l e R s m args below meth c H locs cells slots Q (F0 m pc ls (.ref (G.2.2.1 (1000 + k)) :: rest)) :=
  vk_getf X.1.1 X.1.2.1 ((X.2.2.2 hal).1.1 k hk).2.1 hP.2 X.1.2.2.2.1 (X.1.2.2.2.2 _ hl) (fun _ h => h) hdg kk
theorem r_skl (X : CX G p m c cc nL s args own) (hal : G.2.2.2.2 = true) (hP : PS ft G s σ H locs) {k : Nat} (hk : k < 4) (hdg : decode cc pc = .ok (.arraylength, 1))
    (kk : W p l e R s m args below meth c H locs cells slots Q (F0 m (pc + 1) ls (.int (skl k) :: rest))) : W p l e R s m args below meth c H locs cells slots Q (F0 m pc ls (.ref (G.2.2.1 (2000 + k)) :: rest)) :=
  va_tlen X.1.1 X.1.2.1 ((X.2.2.2 hal).1.1 k hk).2.2.2 hP.2 rfl hdg kk
theorem r_skb (X : CX G p m c cc nL s args own) (hal : G.2.2.2.2 = true) (hP : PS ft G s σ H locs) {k : Nat} (hk : k < 4) {i : Int32} (hin : vp_in i (sk_len.getD k 0)) (hdg : decode cc pc = .ok (.baload, 1))
    (kk : W p l e R s m args below meth c H locs cells slots Q (F0 m (pc + 1) ls (.int (skb k i) :: rest))) : W p l e R s m args below meth c H locs cells slots Q (F0 m pc ls (.int i :: .ref (G.2.2.1 (2000 + k)) :: rest)) :=
  va_tb X.1.1 X.1.2.1 ((X.2.2.2 hal).1.1 k hk).2.2.2 hP.2 hin rfl hdg kk
theorem r_skz (X : CX G p m c cc nL s args own) (hal : G.2.2.2.2 = true) (hP : PS ft G s σ H locs) {index : Nat} (hl : Cond.fieldLink own index "java/lang/String" "COMPACT_STRINGS" "Z" ∈ lw_all) (hdg : decode cc pc = .ok (.getstatic index, 3))
    (kk : W p l e R s m args below meth c H locs cells slots Q (F0 m (pc + 3) ls (.int 1 :: rest))) : W p l e R s m args below meth c H locs cells slots Q (F0 m pc ls rest) :=
  va_gets X.1.1 X.1.2.1 (X.2.2.2 hal).2.2.1 hP.2 X.1.2.2.2.1 (X.1.2.2.2.2 _ hl) (fun _ h => h) hdg kk
theorem r_ldk (X : CX G p m c cc nL s args own) (hal : G.2.2.2.2 = true) (hown : own = RX7) (k : Nat) (hk : k < 4) {index : Nat} (hi : sk_ix.getD k 0 = index) (hdg : decode cc pc = .ok (.ldc index, 2))
    (kk : W p l e R s m args below meth c H locs cells slots Q (F0 m (pc + 2) ls (.ref (G.2.2.1 (1000 + k)) :: rest))) : W p l e R s m args below meth c H locs cells slots Q (F0 m pc ls rest) := by
  subst hown
  subst hi
  exact va_ldcS X.1.1 X.1.2.1 X.1.2.2.2.1 ((X.2.2.2 hal).2.1 k hk) hdg kk
/-- a new object, by the limit -/
theorem r_newL (X : CX G p m c cc nL s args own) (hal : G.2.2.2.2 = true) (hP : PS ft G s σ H locs) {lim slim : Nat} (h0 : s.heap.size = szo σ0 ∧ tot s.heap = suo σ0) (ci : Nat) {C : String} {T : u_T} {N : Nat} (hlm : szo σ + 1 ≤ lim ∧ suo σ + N ≤ slim) (hR1 : R.cells = lim - szo σ0) (hR2 : R.slots = slim - suo σ0) (hc : lk_cl[ci]? = some (C, T, N)) {index : Nat} (ty : Nat → FieldType) (hty : ∀ k, k < N → parseFieldDescriptor (T k).2.2.1 = some (ty k)) {fs : List Value} (hfs : (List.range N).map (fun k => defaultValue (ty k)) = fs) (hcl : Cond.classLink own index C ∈ lw_all) (hinst : Cond.instantiable C N ∈ lw_all) (hini : Cond.initialized C ∈ lw_all) (hdg : decode cc pc = .ok (.new index, 3))
    (kk : ∀ (σ1 : ST) (H : Heap), σ1 = aloc σ ci fs N → PS ft G s σ1 H locs → W p l e R s m args below meth c H locs (szo σ1 - szo σ0) (suo σ1 - suo σ0) Q (F0 m (pc + 3) ls (.ref (szo σ) :: rest))) : W p l e R s m args below meth c H locs (szo σ - szo σ0) (suo σ - suo σ0) Q (F0 m pc ls rest) := by
  refine W.le fun z1 z2 => ?_
  have k1 := hP.1.2.2.2 hal
  refine r_new X hal hP ci hc ty hty hfs hcl hinst hini (by rw [hR1]; omega) (by rw [hR2]; omega) hdg (fun σ1 H1 e1 hP1 => ?_)
  have k2 := hP1.1.2.2.2 hal
  exact W.tight (by omega) (by omega) (kk σ1 H1 e1 hP1)
theorem W.cur {g : JFrame} (hal : G.2.2.2.2 = true) (hP : PS ft G s σ H locs) (h0 : s.heap.size = szo σ0 ∧ tot s.heap = suo σ0) (kk : W p l e R s m args below meth c H locs (szo σ - szo σ0) (suo σ - suo σ0) Q g) : W p l e R s m args below meth c H locs cells slots Q g := by
  have k2 := hP.1.2.2.2 hal
  exact W.tight (by omega) (by omega) kk
variable {y : MethodName} {bytes : ByteArray} {maxL mc ms n index : Nat} {ret : Option FieldType} {ws : List Cond} {rm : Room} {Qc : Array Value → State → Outcome → State → Prop} {As st0 : List Value} {a : Array Value}
theorem lim_hf (hal : G.2.2.2.2 = true) (hP : PS ft G s σ H locs) {lim slim : Nat} (h0 : s.heap.size = szo σ0 ∧ tot s.heap = suo σ0) (z1 : s.heap.size ≤ H.size) (z2 : tot s.heap ≤ tot H) (hlm : szo σ + 0 ≤ lim ∧ suo σ + 0 ≤ slim) (hR1 : R.cells = lim - szo σ0) (hR2 : R.slots = slim - suo σ0) : (szo σ - szo σ0) + (lim - szo σ) ≤ R.cells ∧ (suo σ - suo σ0) + (slim - suo σ) ≤ R.slots := by
  have k1 := hP.1.2.2.2 hal
  rw [hR1, hR2]
  omega
theorem lim_h0 (hal : G.2.2.2.2 = true) (hP : PS ft G s σ H locs) {lim slim : Nat} (h0 : s.heap.size = szo σ0 ∧ tot s.heap = suo σ0) (z1 : s.heap.size ≤ H.size) (z2 : tot s.heap ≤ tot H) (hlm : szo σ + 0 ≤ lim ∧ suo σ + 0 ≤ slim) (hR1 : R.cells = lim - szo σ0) (hR2 : R.slots = slim - suo σ0) : (szo σ - szo σ0) + 0 ≤ R.cells ∧ (suo σ - suo σ0) + 0 ≤ R.slots := by
  have k1 := hP.1.2.2.2 hal
  rw [hR1, hR2]
  omega
theorem r_calliL {r0 : Int32} {u0 : ST} (hal : G.2.2.2.2 = true) (h0 : s.heap.size = szo σ0 ∧ tot s.heap = suo σ0) (hr : va_Run p l e R s m args below meth c H locs cells slots mc ms (F0 m pc ls st0) rest (va_Qi (fun (r : Int32) (u : ST) => (r, u) = (r0, u0)) (PicU ft G) G.2.2.2.1 a) G.2.2.2.1) (hP : PS ft G s σ H locs)
    (kk : ∀ (H : Heap) (locs : List Loc), PS ft G s u0 H locs → W p l e R s m args below meth c H locs (szo u0 - szo σ0) (suo u0 - suo σ0) Q (F0 m (pc + 3) ls (.int r0 :: rest))) : W p l e R s m args below meth c H locs cells slots Q (F0 m pc ls st0) :=
  r_calliM hr hP fun H1 locs1 hP1 => by
    have k2 := hP1.1.2.2.2 hal
    exact W.tight (by omega) (by omega) (kk H1 locs1 hP1)
theorem r_callvL {u0 : ST} (hal : G.2.2.2.2 = true) (h0 : s.heap.size = szo σ0 ∧ tot s.heap = suo σ0) (hr : va_Run p l e R s m args below meth c H locs cells slots mc ms (F0 m pc ls st0) rest (va_Qv (fun (u : ST) => u = u0) (PicU ft G) G.2.2.2.1 a) G.2.2.2.1) (hP : PS ft G s σ H locs)
    (kk : ∀ (H : Heap) (locs : List Loc), PS ft G s u0 H locs → W p l e R s m args below meth c H locs (szo u0 - szo σ0) (suo u0 - suo σ0) Q (F0 m (pc + 3) ls rest)) : W p l e R s m args below meth c H locs cells slots Q (F0 m pc ls st0) :=
  r_callvM hr hP fun H1 locs1 hP1 => by
    have k2 := hP1.1.2.2.2 hal
    exact W.tight (by omega) (by omega) (kk H1 locs1 hP1)
theorem r_callrL {r0 : Option Nat} {u0 : ST} (hal : G.2.2.2.2 = true) (h0 : s.heap.size = szo σ0 ∧ tot s.heap = suo σ0) (hr : va_Run p l e R s m args below meth c H locs cells slots mc ms (F0 m pc ls st0) rest (va_Qq (fun (r : Option Nat) (u : ST) => (r, u) = (r0, u0)) (PicU ft G) G.2.2.2.1 a) G.2.2.2.1) (hP : PS ft G s σ H locs)
    (kk : ∀ (H : Heap) (locs : List Loc), PS ft G s u0 H locs → W p l e R s m args below meth c H locs (szo u0 - szo σ0) (suo u0 - suo σ0) Q (F0 m (pc + 3) ls (va_rf r0 :: rest))) : W p l e R s m args below meth c H locs cells slots Q (F0 m pc ls st0) :=
  r_callrM hr hP fun H1 locs1 hP1 => by
    have k2 := hP1.1.2.2.2 hal
    exact W.tight (by omega) (by omega) (kk H1 locs1 hP1)
/-- a call through a String constant -/
theorem r_runK (X : CX G p m c cc nL s args own) (hal : G.2.2.2.2 = true) (hP : PS ft G s σ H locs) {k : Nat} (hk : k < 4) (hM : Met l y ws rm (va_Pc (.ref (G.2.2.1 (1000 + k)) :: As) (PicU ft G σ)) Qc mc ms G.2.2.2.1) (cw : CallW R s args own "java/lang/String" index y bytes maxL ret ws rm mc ms n) (hn : As.length = n) (hsize : ls.size = nL) (hstack : st0 = As.reverse ++ .ref (G.2.2.1 (1000 + k)) :: rest) (hW : (rest.map fun v => v.category).sum ≤ 8) (hdg : decode cc pc = .ok (.invokevirtual index, 3)) (hf : cells + mc ≤ R.cells ∧ slots + ms ≤ R.slots) :
    va_Run p l e R s m args below meth c H locs cells slots mc ms (F0 m pc ls st0) rest (Qc (Value.ref (G.2.2.1 (1000 + k)) :: As).toArray) G.2.2.2.1 :=
  va_runV X.1 hM cw ⟨PicU.blind, vk_recv (i := k) (adK := fun k => G.2.2.1 (1000 + k)) (X.2.2.2 hal).1 hk hP.2, (pre_call X hP _).2⟩ rfl hn hsize hstack (lv_room hW) hdg hf
end RDR
section ENT2
variable {l : Launch} {ft : List FC} {G : GT} {σ u0 : ST} {y : MethodName} {cc : ByteArray} {maxL : Nat} {rm : Room} {mc ms : Nat} {As : List Value} {lv : List (Nat × Value)}
/-- a method of a class of the JDK's that the machine has entries for, but none for this method -/
theorem m_enterF {ret : Option FieldType} {Qc : Array Value → State → Outcome → State → Prop} (hy : plainFor y = true) (hlen : Nat.ble (lg_sl As).length maxL = true) (hlv : lv_args 0 As = lv)
    (body : ∀ (p : Program) (e : Env) (s : State) (m : MethodId) (below : List Frame) (meth : Method) (c : Code) (ls : Array Slot), CX G p m c cc maxL s As.toArray y.cls → meth.sig.returnType = ret → meth.locks = false → meth.name = y.name → PS ft G s σ s.heap [] → lv_has ls maxL lv →
      W p l e rm s m As.toArray below meth c s.heap [] 0 0 (MQ below Qc As.toArray s mc ms G.2.2.2.1) (F0 m 0 ls [])) : Met l y (ws_ y cc maxL ret) rm (va_Pc As (PicU ft G σ)) Qc mc ms G.2.2.2.1 := by
  refine va_MetF (cc := cc) (maxL := maxL) (ret := ret) hy rfl ?_
  intro p e s m args below meth c s₁ B hml hv
  obtain ⟨rfl, hP, hK, hN, hEV⟩ := hv
  have hts := atoms_spec (ws := ws_ y cc maxL ret) B.pre
  have hts : ∀ w ∈ lw_all, w.before _ s = true := fun w h => hts w (List.mem_cons_of_mem _ h)
  have hl := lv_entry As (n := maxL) (Nat.le_of_ble_eq_true hlen)
  rw [lg_entry_eq]
  subst hlv
  exact body p e s m below meth c _ ⟨⟨B.exec, B.bytes, hml, findClass_of_methodNamed B.named, hts⟩, hK, hN, hEV⟩ B.returns B.notSynchronized (name_of_methodNamed B.named B.method).1 ⟨hP, va_S.rf⟩ hl
theorem m_enterIF {rt : FieldType} {r0 : Int32} (hy : plainFor y = true) (hlen : Nat.ble (lg_sl As).length maxL = true) (hlv : lv_args 0 As = lv)
    (body : ∀ (p : Program) (e : Env) (s : State) (m : MethodId) (args : Array Value) (below : List Frame) (meth : Method) (c : Code) (H : Heap) (locs : List Loc) (ls : Array Slot) (Q : State → Prop), CX G p m c cc maxL s args y.cls →
      (∀ (v : Int32) (σ' : ST) (H : Heap) (locs : List Loc) (ls : Array Slot) (pc : Nat), decode cc pc = .ok (.ireturn, 1) → narrow rt (.int v) = .int v → (v, σ') = (r0, u0) → PS ft G s σ' H locs → W p l e rm s m args below meth c H locs mc ms Q (F0 m pc ls [.int v])) →
      PS ft G s σ H locs → lv_has ls maxL lv → W p l e rm s m args below meth c H locs 0 0 Q (F0 m 0 ls [])) : CI l ft G y (ws_ y cc maxL (some rt)) rm mc ms As σ (r0, u0) :=
  m_enterF hy hlen hlv fun p e s m below meth c ls X hr hk _ hP hl => body p e s m _ below meth c _ _ ls _ X (fun _ _ _ _ _ _ hd hn he hP' => r_zret X hP' hr hk hn he hd) hP hl
/-- by the limit: a reference comes back -/
theorem m_enterRL {rt : FieldType} {r0 : Option Nat} (hal : G.2.2.2.2 = true) (hrt : (∃ n, rt = .object n) ∨ ∃ t, rt = .array t) (hy : plainName y.cls = true) (hlen : Nat.ble (lg_sl As).length maxL = true) (hlv : lv_args 0 As = lv)
    (body : ∀ (p : Program) (e : Env) (s : State) (m : MethodId) (args : Array Value) (below : List Frame) (meth : Method) (c : Code) (H : Heap) (locs : List Loc) (ls : Array Slot) (Q : State → Prop), CX G p m c cc maxL s args y.cls → (s.heap.size = szo σ ∧ tot s.heap = suo σ) →
      (∀ (v : Option Nat) (σ' : ST) (H : Heap) (locs : List Loc) (ls : Array Slot) (pc : Nat), decode cc pc = .ok (.areturn, 1) → (v, σ') = (r0, u0) → PS ft G s σ' H locs → W p l e rm s m args below meth c H locs mc ms Q (F0 m pc ls [va_rf v])) →
      PS ft G s σ H locs → lv_has ls maxL lv → W p l e rm s m args below meth c H locs (szo σ - szo σ) (suo σ - suo σ) Q (F0 m 0 ls [])) : CR l ft G y (ws_ y cc maxL (some rt)) rm mc ms As σ (r0, u0) :=
  m_enterF (plainFor_of_name hy) hlen hlv fun p e s m below meth c ls X hr hk _ hP hl => W.widen (Nat.zero_le _) (Nat.zero_le _) (body p e s m _ below meth c _ _ ls _ X ⟨(hP.1.2.2.2 hal).1, (hP.1.2.2.2 hal).2.1⟩ (fun _ _ _ _ _ _ hd he hP' => r_aret X hP' hr hrt hk he hd) hP hl)
end ENT2
