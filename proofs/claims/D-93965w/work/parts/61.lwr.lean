/-! THE LAW'S OWN ROWS: two objects side by side. -/
/-- the picture over a heap that may have grown, where its own cells are as they were -/
theorem Pic.keep {ft : List FC} {G : GT} {σ : ST} {H H1 : Heap} (h : Pic ft G σ H) (hz : H.size ≤ H1.size) (hk : ∀ q : Nat, q < H.size → G.2.2.2.1 q → H1[q]? = H[q]?) : Pic ft G (grw σ H1) H1 := by
  obtain ⟨h1, h2, h3, h4⟩ := h
  refine ⟨fun j d hj => ?_, h2, fun b eb hb => ?_, fun ht => ⟨rfl, rfl, fun q hq => ?_⟩⟩
  · have e1 : fxe G (grw σ H1) d = fxe G σ d := by cases d <;> rfl
    rw [e1]
    exact ⟨(h1 j d hj).1.kept (hk _ (h1 j d hj).1.lt (h1 j d hj).2), (h1 j d hj).2⟩
  · obtain ⟨b1, b2, b3⟩ := h3 b eb hb
    exact ⟨b1.kept (hk b b1.lt b2), b2, b3⟩
  · obtain ⟨k1, k2, k3⟩ := h4 ht
    refine k3 q ?_
    rw [← k1]
    exact Nat.le_trans hz hq
theorem ci_sm {α : Type} {r0 : α} {u0 : ST} : ∀ (r : α) (u : ST), (r, u) = (r0, u0) → r = r0 ∧ sm u u0 := fun r u h => by
  cases h
  exact ⟨rfl, sm_rf _⟩
theorem xi_sm {α : Type} {r0 : α} {u0 : ST} : ∀ (r : α) (u : ST), (r = r0 ∧ sm u u0) → r = r0 ∧ sm u u0 := fun _ _ h => h
section LWR
variable {p : Program} {l : Launch} {e : Env} {R : Room} {s : State} {m : MethodId} {args : Array Value} {below : List Frame} {meth : Method} {c : Code} {H : Heap} {locs : List Loc} {cells slots mc ms : Nat} {Q : State → Prop}
variable {cc : ByteArray} {pc nL : Nat} {ls : Array Slot} {rest st0 : List Value} {own : String} {f1 f2 : List FC} {G1 G2 : GT} {σ1 σ2 : ST} {a : Array Value}
theorem w_other (h2 : PS f2 G2 s σ2 H []) (hA : ∀ q, G1.2.2.2.1 q → s.heap.size ≤ q) (hd : ∀ q, G2.2.2.2.1 q → ¬ G1.2.2.2.1 q) {H1 : Heap} {locs1 : List Loc} (hz : H.size ≤ H1.size) (hk : ∀ q : Nat, q < H.size → ¬ G1.2.2.2.1 q → H1[q]? = H[q]?) (hS : va_S G1.2.2.2.1 s.heap H1 locs1) : PS f2 G2 s (grw σ2 H1) H1 [] :=
  ⟨h2.1.keep hz (fun q g1 g2 => hk q g1 (hd q g2)), hS.1, fun q g1 g2 => hS.2.1 q g1 (fun z => absurd (hA q z) (Nat.not_le.mpr g1)), fun q h => by cases h⟩
theorem w_calli {r0 : Int32} {u0 : ST} {post : Int32 → ST → Prop} (hr : va_Run p l e R s m args below meth c H [] cells slots mc ms (F0 m pc ls st0) rest (va_Qi post (PicU f1 G1) G1.2.2.2.1 a) G1.2.2.2.1) (hp : ∀ (r : Int32) (u : ST), post r u → r = r0 ∧ sm u u0) (h1 : PS f1 G1 s σ1 H []) (h2 : PS f2 G2 s σ2 H []) (hA : ∀ q, G1.2.2.2.1 q → s.heap.size ≤ q) (hd : ∀ q, G2.2.2.2.1 q → ¬ G1.2.2.2.1 q)
    (kk : ∀ (u v : ST) (H1 : Heap), sm u u0 → sm v σ2 → PS f1 G1 s u H1 [] → PS f2 G2 s v H1 [] → W p l e R s m args below meth c H1 [] (cells + mc) (slots + ms) Q (F0 m (pc + 3) ls (.int r0 :: rest))) : W p l e R s m args below meth c H [] cells slots Q (F0 m pc ls st0) := by
  refine va_calli hr h1.2 (fun _ _ h => h) (fun _ h => h) fun r u t H1 locs1 ht hvm hw hB hz hk hS => ?_
  obtain ⟨rfl, hs⟩ := hp r u hw
  refine va_forget (fun q hq => hA _ (hS.2.2 q hq)) ?_
  exact kk u (grw σ2 H1) H1 hs (sm_grw _ _) ⟨by rw [← ht]; exact hB.1, hS.1, hS.2.1, fun q h => by cases h⟩ (w_other h2 hA hd hz hk hS)
theorem w_calll {r0 : Int64} {u0 : ST} {post : Int64 → ST → Prop} (hr : va_Run p l e R s m args below meth c H [] cells slots mc ms (F0 m pc ls st0) rest (va_Ql post (PicU f1 G1) G1.2.2.2.1 a) G1.2.2.2.1) (hp : ∀ (r : Int64) (u : ST), post r u → r = r0 ∧ sm u u0) (h1 : PS f1 G1 s σ1 H []) (h2 : PS f2 G2 s σ2 H []) (hA : ∀ q, G1.2.2.2.1 q → s.heap.size ≤ q) (hd : ∀ q, G2.2.2.2.1 q → ¬ G1.2.2.2.1 q)
    (kk : ∀ (u v : ST) (H1 : Heap), sm u u0 → sm v σ2 → PS f1 G1 s u H1 [] → PS f2 G2 s v H1 [] → W p l e R s m args below meth c H1 [] (cells + mc) (slots + ms) Q (F0 m (pc + 3) ls (.long r0 :: rest))) : W p l e R s m args below meth c H [] cells slots Q (F0 m pc ls st0) := by
  refine va_calll hr h1.2 (fun _ _ h => h) (fun _ h => h) fun r u t H1 locs1 ht hvm hw hB hz hk hS => ?_
  obtain ⟨rfl, hs⟩ := hp r u hw
  refine va_forget (fun q hq => hA _ (hS.2.2 q hq)) ?_
  exact kk u (grw σ2 H1) H1 hs (sm_grw _ _) ⟨by rw [← ht]; exact hB.1, hS.1, hS.2.1, fun q h => by cases h⟩ (w_other h2 hA hd hz hk hS)
/-- a call of a method with handlers -/
theorem w_runVW {y : MethodName} {bytes : ByteArray} {maxL n index : Nat} {ret : Option FieldType} {hh : List (Nat × Nat × Nat × Nat)} {rm : Room} {Qc : Array Value → State → Outcome → State → Prop} {As : List Value} (X : CX G1 p m c cc nL s args own) (hP : PS f1 G1 s σ1 H locs) (j : Nat) {o ci : Nat} {fl : List (Nat × Nat)} (hj : f1[j]? = some (.inr (o, ci, fl))) {C : String} {T : u_T} {N : Nat} (hc : lk_cl[ci]? = some (C, T, N)) (hM : Met l y (wsW_ y bytes maxL ret hh) rm (va_Pc (.ref (G1.2.2.1 j) :: As) (PicU f1 G1 σ1)) Qc mc ms G1.2.2.2.1)
    (hlk : Cond.methodLink own index y ∈ lw_all) (hin : Cond.instanceMethod y ∈ lw_all) (hse : Cond.selects C y y ∈ lw_all) (hini : Cond.initialized y.cls ∈ lw_all) (hco : Cond.codeWith y bytes maxL ret hh ∈ lw_all) (hrc : rm.cells = mc) (hrs : rm.slots = ms) (hd : y.cls ≠ "java/lang/invoke/MethodHandle" ∧ y.cls ≠ "java/lang/invoke/VarHandle" ∧ (parseMethodDescriptor y.desc).map (fun d => d.parameters.length) = some n) (hR : rm.frames + 1 ≤ R.frames ∧ 8 + (maxL + 11) + rm.locals ≤ R.locals)
    (hn : As.length = n) (hsize : ls.size = nL) (hstack : st0 = As.reverse ++ .ref (G1.2.2.1 j) :: rest) (hW : (rest.map fun v => v.category).sum ≤ 8) (hdg : decode cc pc = .ok (.invokevirtual index, 3)) (hf : cells + mc ≤ R.cells ∧ slots + ms ≤ R.slots) :
    va_Run p l e R s m args below meth c H locs cells slots mc ms (F0 m pc ls st0) rest (Qc (Value.ref (G1.2.2.1 j) :: As).toArray) G1.2.2.2.1 := by
  obtain ⟨hx, hbb, hml, ho, hts⟩ := X.1
  have hws := pay_in hts (lw_methW hco)
  have hK : Back l R p e below s args y 3 8 (PreOf R mc ms (va_Pc (.ref (G1.2.2.1 j) :: As) (PicU f1 G1 σ1))) (PostOf Qc mc ms G1.2.2.2.1) := va_backW (bytes := bytes) (maxL := maxL) (ret := ret) (hh := hh) hM PicU.blind hrc hrs hR.1 hR.2 hws List.mem_cons_self (fun a' U hW => word_at hW (Or.inl (by first | rfl | simp [Cond.onTables, Cond.keeps, Cond.steady])) (hts _ hini))
  obtain ⟨cellB, hcB, hoB, hclB⟩ := recv_fix X hP j hj hc
  intro U hU XS
  obtain ⟨mk, methM, hnamed, hmethM, hstM, habM⟩ := Cond.instanceMethod_spec (hts _ hin)
  obtain ⟨m9, methM', cM, hn9, hmethM', -, -, -, -, -, -, hsigM⟩ := Cond.codeWith_spec (hts _ hco)
  cases hnamed.symm.trans hn9
  cases hmethM.symm.trans hmethM'
  obtain ⟨c2, r2, m2, q1, q2, q3, q4, kP, hkP, hkPi⟩ := Cond.selects_spec (hts _ hse)
  cases hclB.symm.trans q1
  cases (State.methodFound?_of_named hnamed ⟨hd.1, hd.2.1⟩).symm.trans q2
  cases hnamed.symm.trans q3
  have hselP : selectMethod e.platform s.vm cellB.cls mk = .method mk := by rw [Launch.admits_selectMethod XS.admits]; exact q4
  obtain ⟨vm1, X1, go1⟩ := XS.invokevirtual hx ho (hts _ hlk) hnamed hmethM hstM hkP hkPi ⟨hd.1, hd.2.1⟩ (a := G1.2.2.1 j) (cell := cellB) (by rw [hU]; exact hcB) (fun z h => by rw [h] at hoB; cases hoB) hselP hmethM habM hkP hkPi (g := F0 m pc ls st0) rfl (argsL := As) (rest := rest) (by
    have h2 := hd.2.2
    rw [hsigM] at h2
    exact hn.trans (Option.some.inj h2).symm) hstack (by rw [hbb]; exact hdg)
  obtain ⟨v, ⟨U', l2, k2, s2⟩, X2, ⟨g', mk', t, L, f1, f2, hq, f3, hL, f4, f5⟩, st⟩ := hK m meth c ⟨U.setVm vm1, locs, cells, slots⟩ (F0 m pc ls rest) (.invokevirtual index) mk (Value.ref (G1.2.2.1 j) :: As).toArray X1 rfl (hsize.trans hml.symm) (by rw [hbb]; exact hdg) (lv_room hW) (X1.named hnamed) ⟨hf.1, hf.2, (pre_call X hP _).2 (U.setVm vm1) hU X1.warmed⟩
  dsimp only [Pt.U, Pt.locs, Pt.cells, Pt.slots] at X2 f1 f2 f3 f4 f5 st
  subst f3; subst f4; subst f5
  exact ⟨v, (U.setVm vm1).calling g' mk' (Value.ref (G1.2.2.1 j) :: As).toArray, t, U', L, hU, X2, hL, f1, f2, hq, fun t9 h9 => go1 _ fun acts => by rw [doInvoke_state]; exact st.trans h9⟩
end LWR
def R_law : String := "SpeaksInTurnLaw"
/-- what holds all through the law: the machine, the script, the two objects' cells apart -/
def LC (p : Program) (s : State) (m : MethodId) (c : Code) (b L : Nat) (xs : Nat → Int32) (GC G2 : GT) : Prop :=
  CX GC p m c cL_law 4 s #[Value.ref b] R_law ∧ CX G2 p m c cL_law 4 s #[Value.ref b] R_law ∧ va_X b L xs s s.heap ∧ b < s.heap.size ∧ (∀ q, GC.2.2.2.1 q → s.heap.size ≤ q) ∧ (∀ q, G2.2.2.2.1 q → s.heap.size ≤ q) ∧ (∀ q, G2.2.2.2.1 q → ¬ GC.2.2.2.1 q) ∧ GC.2.2.2.2 = true
theorem lg_cmp0 (r : Int64) : lg_cmp r r = 0 := by simp [lg_cmp]
section LWV
variable {p : Program} {l : Launch} {e : Env} {R : Room} {s : State} {m : MethodId} {args : Array Value} {below : List Frame} {meth : Method} {c : Code} {H : Heap} {locs : List Loc} {cells slots mc ms : Nat} {Q : State → Prop}
variable {cc : ByteArray} {pc nL : Nat} {ls : Array Slot} {rest st0 : List Value} {own : String} {f1 f2 : List FC} {G1 G2 : GT} {σ1 σ2 : ST} {a : Array Value}
theorem w_callv {u0 : ST} (hr : va_Run p l e R s m args below meth c H [] cells slots mc ms (F0 m pc ls st0) rest (va_Qv (fun (u : ST) => u = u0) (PicU f1 G1) G1.2.2.2.1 a) G1.2.2.2.1) (h1 : PS f1 G1 s σ1 H []) (h2 : PS f2 G2 s σ2 H []) (hA : ∀ q, G1.2.2.2.1 q → s.heap.size ≤ q) (hd : ∀ q, G2.2.2.2.1 q → ¬ G1.2.2.2.1 q)
    (kk : ∀ (H1 : Heap), PS f1 G1 s u0 H1 [] → PS f2 G2 s (grw σ2 H1) H1 [] → W p l e R s m args below meth c H1 [] (cells + mc) (slots + ms) Q (F0 m (pc + 3) ls rest)) : W p l e R s m args below meth c H [] cells slots Q (F0 m pc ls st0) := by
  refine va_callv hr h1.2 (fun _ _ h => h) (fun _ h => h) fun u t H1 locs1 ht hvm hw hB hz hk hS => ?_
  subst hw
  refine va_forget (fun q hq => hA _ (hS.2.2 q hq)) ?_
  exact kk H1 ⟨by rw [← ht]; exact hB.1, hS.1, hS.2.1, fun q h => by cases h⟩ (w_other h2 hA hd hz hk hS)
end LWV
/-- the picture of the pool alone: other cells may change, other names for fixed cells -/
theorem Pic.re0 {G G' : GT} {σ : ST} {H : Heap} (h : Pic [] G σ H) (e1 : G'.1 = G.1) (hA : ∀ (a : Nat) (e : va_E), σ.2.2.2.1 a = some e → G'.2.2.2.1 a) (hz : G'.2.2.2.2 = true → G.2.2.2.2 = true ∧ ∀ q, szo σ ≤ q → G'.2.2.2.1 q) : Pic [] G' σ H := by
  obtain ⟨h1, h2, h3, h4⟩ := h
  refine ⟨fun j c hj => by simp at hj, fun i j hi => by simp at hi, fun a e ha => ⟨by rw [e1]; exact (h3 a e ha).1, hA a e ha, fun j hj => by simp at hj⟩, fun q => ?_⟩
  obtain ⟨q1, q2⟩ := hz q
  exact ⟨(h4 q1).1, (h4 q1).2.1, q2⟩
/-- cells may be made again -/
theorem Pic.real {ft : List FC} {D : va_G} {ks : Nat → ClassId} {ad : Nat → Nat} {A A' : Nat → Prop} {σ : ST} {H : Heap} (h : Pic ft (D, ks, ad, A, false) σ H) (hA : ∀ q, A q → A' q) (hA2 : ∀ q, H.size ≤ q → A' q) : Pic ft (D, ks, ad, A', true) (grw σ H) H := by
  obtain ⟨h1, h2, h3, h4⟩ := h
  refine ⟨fun j d hj => ?_, h2, fun b eb hb => ?_, fun _ => ⟨rfl, rfl, hA2⟩⟩
  · have e1 : fxe (D, ks, ad, A', true) (grw σ H) d = fxe (D, ks, ad, A, false) σ d := by cases d <;> rfl
    rw [e1]
    exact ⟨(h1 j d hj).1, hA _ (h1 j d hj).2⟩
  · obtain ⟨b1, b2, b3⟩ := h3 b eb hb
    exact ⟨b1, hA _ b2, b3⟩
theorem Pic.noft {ft : List FC} {G : GT} {σ : ST} {H : Heap} (h : Pic ft G σ H) : Pic [] G σ H := ⟨fun j c hj => by simp at hj, fun i j hi => by simp at hi, fun a e ha => ⟨(h.2.2.1 a e ha).1, (h.2.2.1 a e ha).2.1, fun j hj => by simp at hj⟩, h.2.2.2⟩
/-- the component's cells by themselves, what lies in the pool being another's -/
theorem cp_alone_ {G : GT} {σ : ST} {n0 n1 w z w2 : Nat} {L : List va_E} {A A' : Nat → Prop} {H : Heap} (h : Pic cp_ft (cp_G G n0 A true) (fil (cp_s0 z w) n1 L w2) H) (hA : ∀ q, n0 ≤ q → q < n0 + 49 → A' q) (hA2 : ∀ q, H.size ≤ q → A' q) : Pic cp_ft (cp_G G n0 A' true) (cp_s0 H.size (tot H)) H := by
  obtain ⟨h1, h2, h3, h4⟩ := h
  refine ⟨fun j d hj => ?_, h2, fun b eb hb => (by cases hb), fun _ => ⟨rfl, rfl, hA2⟩⟩
  have hjl : j < 49 := lt_of_some hj
  have e1 : fxe (cp_G G n0 A' true) (cp_s0 H.size (tot H)) d = fxe (cp_G G n0 A true) (fil (cp_s0 z w) n1 L w2) d := by cases d <;> rfl
  rw [e1]
  refine ⟨(h1 j d hj).1, ?_⟩
  have hp : ∀ i, i < 49 → cp_pos.getD i 0 < 49 := by decide +kernel
  show A' (if j < 49 then n0 + cp_pos.getD j 0 else G.2.2.1 j)
  rw [if_pos hjl]
  exact hA _ (Nat.le_add_right _ _) (Nat.add_lt_add_left (hp j hjl) _)
theorem vk_S.mono {adK adV : Nat → Nat} {A A' : Nat → Prop} {U : State} {H : Heap} (h : vk_S 4 sk_len sk_byt adK adV A U H) (hA : ∀ q, A' q → A q) : vk_S 4 sk_len sk_byt adK adV A' U H := by
  refine ⟨fun i hi => ?_, h.2⟩
  obtain ⟨⟨c1, a1, a2, a3, a4⟩, ⟨b1, b2, b3, b4, b5, b6, b7, b8, b9, b10, b11⟩, ⟨d1, d2, d3, d4, d5, d6, d7, d8, d9, d10, d11⟩, ⟨e1, e2, e3, e4, e5, e6, e7, e8⟩⟩ := h.1 i hi
  exact ⟨⟨c1, a1, a2, a3, fun q => a4 (hA _ q)⟩, ⟨b1, b2, b3, b4, b5, b6, b7, b8, b9, b10, fun q => b11 (hA _ q)⟩, ⟨d1, d2, d3, d4, d5, d6, d7, d8, d9, d10, fun q => d11 (hA _ q)⟩, ⟨e1, e2, e3, e4, e5, e6, e7, fun q => e8 (hA _ q)⟩⟩
theorem zsT.mono {n d : String} {A A' : Nat → Prop} {U : State} {H : Heap} (h : zsT n d A U H) (hA : ∀ q, A' q → A q) : zsT n d A' U H := by
  obtain ⟨cf, kf, fi, f, a, cell, h0, h1, h2, h3, h4, h5, h6, h7, h8, h9, h10⟩ := h
  exact ⟨cf, kf, fi, f, a, cell, h0, h1, h2, h3, h4, h5, h6, h7, h8, h9, fun q => h10 (hA _ q)⟩
theorem EV.mono {D : va_G} {ks : Nat → ClassId} {ad : Nat → Nat} {A A' : Nat → Prop} {al : Bool} {U : State} (h : EV (D, ks, ad, A, al) U) (hA : ∀ q, A' q → A q) : EV (D, ks, ad, A', al) U := by
  intro hz
  obtain ⟨h1, h2, ⟨cf, kf, fi, f, a, cell, g1, g2, g3, g4, g5, g6, g7, g8⟩, h4, h5⟩ := h hz
  exact ⟨h1.mono hA, h2, ⟨cf, kf, fi, f, a, cell, g1, g2, g3, g4, g5, g6, g7, fun q => g8 (hA _ q)⟩, h4, h5.1.mono hA, h5.2.1.mono hA, h5.2.2⟩
theorem EV.cpG {D : va_G} {ks : Nat → ClassId} {ad : Nat → Nat} {A A0 : Nat → Prop} {al b : Bool} {n0 : Nat} {U : State} (h : EV (D, ks, ad, A, al) U) : EV (cp_G (D, ks, ad, A0, b) n0 A al) U := by
  intro hz
  obtain ⟨h1, h2, h3, h4, h5⟩ := h hz
  have e1 : (fun k => (cp_G (D, ks, ad, A0, b) n0 A al).2.2.1 (1000 + k)) = fun k => ad (1000 + k) := by
    funext k
    exact if_neg (by omega)
  have e2 : (fun k => (cp_G (D, ks, ad, A0, b) n0 A al).2.2.1 (2000 + k)) = fun k => ad (2000 + k) := by
    funext k
    exact if_neg (by omega)
  refine ⟨?_, fun k hk => ?_, h3, h4, h5⟩
  · rw [e1, e2]
    exact h1
  · have e9 : (cp_G (D, ks, ad, A0, b) n0 A al).2.2.1 (1000 + k) = ad (1000 + k) := if_neg (by omega)
    rw [e9]
    exact h2 k hk
