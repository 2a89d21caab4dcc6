/-! A CAST THAT FAILS: its text; a cast by the object's class; a call on null. -/
theorem fc_all {vm : Vm} {name : String} {c : ClassId} {k : Class} (h : vm.findClass name = some c) (hk : vm.classes[c]? = some k) : k.name = name ∧ k.hidden = none ∧ k.loader = none := by
  obtain ⟨hlt, hp, _⟩ := Array.findIdx?_eq_some_iff_getElem.mp h
  have e : vm.classes[c] = k := by have := hk; simp [hlt] at this; exact this
  rw [e] at hp
  simp only [Bool.and_eq_true, beq_iff_eq, Option.isNone_iff_eq_none] at hp
  exact ⟨hp.1.1.1, hp.1.1.2, hp.2⟩
theorem mod_java {vm : Vm} {k : Class} {m : ModuleInfo} (hM : ∀ m ∈ vm.modules, m.loader.isSome = true ∨ m.name = "java.base" ∨ m.packages.contains "" = false) (hl : k.loader = none) (hp : packageOf k.name = "") (h : vm.moduleOf k = some m) : m.name = "java.base" := by
  unfold Vm.moduleOf at h
  by_cases q : k.ofPrimitives = true
  · rw [if_pos q] at h
    have h1 := List.find?_some h
    simpa using h1
  · rw [if_neg q] at h
    have h1 := List.find?_some h
    have h2 := List.mem_of_find?_eq_some h
    rw [Bool.and_eq_true, beq_iff_eq] at h1
    rcases hM m h2 with z | z | z
    · rw [h1.1, hl] at z
      cases z
    · exact z
    · rw [hp] at h1
      rw [h1.2] at z
      cases z
theorem home_len {vm : Vm} {k : Class} (hM : ∀ m ∈ vm.modules, m.loader.isSome = true ∨ m.name = "java.base" ∨ m.packages.contains "" = false) (hl : k.loader = none) (hp : packageOf k.name = "") : (vm.home k).toList.length ≤ 38 := by
  unfold Vm.home
  rw [hl]
  cases h : vm.moduleOf k with
  | none =>
    show ("unnamed module" ++ " of loader " ++ "'bootstrap'").toList.length ≤ 38
    decide +kernel
  | some m =>
    show ("module " ++ m.name ++ " of loader " ++ "'bootstrap'").toList.length ≤ 38
    rw [mod_java hM hl hp h]
    decide +kernel
theorem ts_id (s : String) : toString s = s := rfl
theorem homes_len {vm : Vm} {a b : Class} (ha : (vm.home a).toList.length ≤ 38) (hb : (vm.home b).toList.length ≤ 38) : (vm.homes a b).toList.length ≤ a.shown.toList.length + b.shown.toList.length + 92 := by
  have l0 : "".toList.length = 0 := by decide +kernel
  have l1 : " and ".toList.length = 5 := by decide +kernel
  have l2 : " are in ".toList.length = 8 := by decide +kernel
  have l3 : " is in ".toList.length = 7 := by decide +kernel
  have l4 : "; ".toList.length = 2 := by decide +kernel
  unfold Vm.homes
  split
  · simp only [ts_id, String.toList_append, List.length_append]
    omega
  · simp only [ts_id, String.toList_append, List.length_append]
    omega
def mtx (a b h : String) : String := toString "class " ++ toString a ++ toString " cannot be cast to class " ++ toString b ++ toString " (" ++ toString h ++ toString ")"
theorem msg_eq (vm : Vm) (a b : Class) : checkcast.message vm a b = mtx a.shown b.shown (vm.homes a b) := rfl
theorem mtx_len (a b h : String) : (mtx a b h).toList.length = a.toList.length + b.toList.length + h.toList.length + 34 := by
  have l0 : "class ".toList.length = 6 := by decide +kernel
  have l1 : " cannot be cast to class ".toList.length = 25 := by decide +kernel
  have l2 : " (".toList.length = 2 := by decide +kernel
  have l3 : ")".toList.length = 1 := by decide +kernel
  unfold mtx
  simp only [ts_id, String.toList_append, List.length_append]
  omega
theorem shown_len {k : Class} (h : k.hidden = none) : k.shown.toList.length = k.name.toList.length := by
  unfold Class.shown
  rw [h]
  show (dotted k.name).toList.length = _
  unfold dotted turned
  rw [String.toList_ofList, List.length_map]
theorem mtx_mod (a b h : String) : (mtx a b h == notModelled) = false := by
  rw [beq_eq_false_iff_ne]
  intro q
  have h2 := congrArg String.toList q
  have h3 : (mtx a b h).toList = 'c' :: ("lass ".toList ++ a.toList ++ " cannot be cast to class ".toList ++ b.toList ++ " (".toList ++ h.toList ++ ")".toList) := by
    unfold mtx
    simp only [ts_id, String.toList_append]
    rfl
  rw [h3] at h2
  have h4 : notModelled.toList = '\u0000' :: " a message that is not modelled".toList := by decide
  rw [h4] at h2
  simp at h2
/-- the text of a failed cast between two of the program's classes: short, and modelled -/
theorem cce_text {s : State} {vm' : Vm} {C nm : String} {cC cT : ClassId} {ks kt : Class} (hM : MR s) (hW : s.WarmedH vm') (h1 : s.vm.findClass C = some cC) (h2 : s.vm.findClass nm = some cT) (g1 : vm'.classes[cC]? = some ks) (g2 : vm'.classes[cT]? = some kt) (hC : packageOf C = "" ∧ C.toList.length ≤ 24) (hn : packageOf nm = "" ∧ nm.toList.length ≤ 24) : (checkcast.message vm' ks kt == notModelled) = false ∧ (stringBytes (stringToUtf16 (checkcast.message vm' ks kt))).size ≤ 1200 := by
  have hM2 : ∀ m ∈ vm'.modules, m.loader.isSome = true ∨ m.name = "java.base" ∨ m.packages.contains "" = false := by
    have e : vm'.modules = s.vm.modules := by rw [hW.alike.1]
    rw [e]
    exact hM
  obtain ⟨a1, a2, a3⟩ := fc_all (by rw [hW.alike.findClass]; exact h1) g1
  obtain ⟨b1, b2, b3⟩ := fc_all (by rw [hW.alike.findClass]; exact h2) g2
  rw [msg_eq]
  refine ⟨mtx_mod _ _ _, ?_⟩
  have t1 := stringBytes_size_le (stringToUtf16 (mtx ks.shown kt.shown (vm'.homes ks kt)))
  have t2 := utf16_size_le (mtx ks.shown kt.shown (vm'.homes ks kt))
  have t3 := mtx_len ks.shown kt.shown (vm'.homes ks kt)
  have t4 := homes_len (home_len hM2 a3 (by rw [a1]; exact hC.1)) (home_len hM2 b3 (by rw [b1]; exact hn.1))
  have t5 := shown_len a2
  have t6 := shown_len b2
  rw [a1] at t5
  rw [b1] at t6
  have t7 := hC.2
  have t8 := hn.2
  omega
/-- a cast: null passes; objects of the classes cs pass, those of the classes bad throw -/
def ccx {α : Type} (σ : ST) (r : Option Nat) (cs bad : List Nat) (k kh : Option α) : Option α := match r with
  | none => k
  | some a => match σ.2.2.2.1 a with
    | some (.inr q) => if q.1 ∈ cs then k else if q.1 ∈ bad then kh else none
    | _ => none
theorem ccx_el {α : Type} {σ : ST} {r : Option Nat} {cs bad : List Nat} {k kh : Option α} {res : α} (h : ccx σ r cs bad k kh = some res) : (r = none ∧ k = some res) ∨ ∃ a ci fs, r = some a ∧ σ.2.2.2.1 a = some (.inr (ci, fs)) ∧ ((ci ∈ cs ∧ k = some res) ∨ (ci ∈ bad ∧ kh = some res)) := by
  cases r with
  | none => exact Or.inl ⟨rfl, h⟩
  | some a =>
    right
    unfold ccx at h
    cases hg : σ.2.2.2.1 a with
    | none => simp only [hg] at h; cases h
    | some e =>
      cases e with
      | inl q => simp only [hg] at h; cases h
      | inr q =>
        obtain ⟨ci, fs⟩ := q
        simp only [hg] at h
        refine ⟨a, ci, fs, rfl, hg, ?_⟩
        by_cases h1 : ci ∈ cs
        · rw [if_pos h1] at h
          exact Or.inl ⟨h1, h⟩
        · rw [if_neg h1] at h
          by_cases h2 : ci ∈ bad
          · rw [if_pos h2] at h
            exact Or.inr ⟨h2, h⟩
          · rw [if_neg h2] at h
            cases h
def nlx {α : Type} (r : Option Nat) (kh : Option α) (k : Nat → Option α) : Option α := match r with
  | none => kh
  | some a => k a
theorem nlx_el {α : Type} {r : Option Nat} {kh : Option α} {k : Nat → Option α} {res : α} (h : nlx r kh k = some res) : (r = none ∧ kh = some res) ∨ ∃ a, r = some a ∧ k a = some res := by
  cases r with
  | none => exact Or.inl ⟨rfl, h⟩
  | some a => exact Or.inr ⟨a, rfl, h⟩
/-- if the throwing road is met the handler's, else the other -/
def oex {α : Type} (t : Option Unit) (kh k : Option α) : Option α := match t with
  | some _ => kh
  | none => k
theorem oex_el {α : Type} {t : Option Unit} {kh k : Option α} {res : α} (h : oex t kh k = some res) : (t = some () ∧ kh = some res) ∨ k = some res := by
  cases t with
  | none => exact Or.inr h
  | some _ => exact Or.inl ⟨rfl, h⟩
theorem xr_v {α : Type} {r r0 : α} {u u0 : ST} (h : some (r, u) = some (r0, u0)) : r = r0 := congrArg Prod.fst (Option.some.inj h)
theorem xr_s {α : Type} {r r0 : α} {u u0 : ST} (h : some (r, u) = some (r0, u0)) : sm u u0 := by
  rw [show u = u0 from congrArg Prod.snd (Option.some.inj h)]
  exact sm_rf _
theorem xr_g {α : Type} {r r0 : α} {u u0 : ST} (H : Heap) (h : some (r, u) = some (r0, u0)) : sm (grw u H) u0 := by
  rw [show u = u0 from congrArg Prod.snd (Option.some.inj h)]
  exact sm_grw _ _
section CCE
variable {p : Program} {l : Launch} {e : Env} {R : Room} {s : State} {m : MethodId} {args : Array Value} {below : List Frame} {meth : Method} {c : Code} {H : Heap} {locs : List Loc} {cells slots : Nat} {Q : State → Prop}
variable {cc : ByteArray} {pc nL : Nat} {ls : Array Slot} {rest : List Value} {own : String} {ft : List FC} {G : GT} {σ : ST}
theorem r_ccx {α : Type} (X : CX G p m c cc nL s args own) (hal : G.2.2.2.2 = true) (hlt : l.stackTraces = false) (hP : PS ft G s σ H locs) {r : Option Nat} {cs bad : List Nat} {k kh : Option α} {res : α} (h : ccx σ r cs bad k kh = some res) {index : Nat} {nm : String} (hlk : Cond.classLink own index nm ∈ lw_all) (hcs : ∀ ci ∈ cs, ∃ (C : String) (T : u_T) (N : Nat), lk_cl[ci]? = some (C, T, N) ∧ (Cond.castable C nm ∈ lw_tbl ∨ C = nm)) (hbad : ∀ ci ∈ bad, ∃ (C : String) (T : u_T) (N : Nat), lk_cl[ci]? = some (C, T, N) ∧ (C, nm) ∈ ncl ∧ packageOf C = "" ∧ C.toList.length ≤ 24) (hnm : packageOf nm = "" ∧ nm.toList.length ≤ 24) (hsize : ls.size = nL) (hRf : 6 < R.frames) (hW : (rest.map fun v => v.category).sum ≤ 7) (hRl : 10248 ≤ R.locals) (hRc : cells + 3 ≤ R.cells) (hRs : slots + 1210 ≤ R.slots) (hdg : decode cc pc = .ok (.checkcast index, 3))
    (kk1 : k = some res → W p l e R s m args below meth c H locs cells slots Q (F0 m (pc + 3) ls (va_rf r :: rest)))
    (kk2 : ∀ (H1 : Heap) (locs1 : List Loc) (n : Nat) (o : Addr) (ce : Cell), kh = some res → n ≤ slots + 1210 → PS ft G s (grw σ H1) H1 locs1 → H1[o]? = some ce → s.vm.findClass "java/lang/ClassCastException" = some ce.cls → ce.vm = .none → WT p l e R s m args below meth c H1 locs1 (cells + 3) n Q o (F0 m pc ls (va_rf r :: rest))) : W p l e R s m args below meth c H locs cells slots Q (F0 m pc ls (va_rf r :: rest)) := by
  rcases ccx_el h with ⟨rfl, h⟩ | ⟨a, ci, fs, rfl, hg, ⟨hi, h⟩ | ⟨hi, h⟩⟩
  · exact lv_castN X.1.1 X.1.2.1 hdg (kk1 h)
  · obtain ⟨C, T, N, hc, hca⟩ := hcs ci hi
    rcases hca with hca | rfl
    · exact va_castY X.1.1 X.1.2.1 X.1.2.2.2.1 (X.1.2.2.2.2 _ hlk) (X.2.2.1 _ hca rfl) (recv_pool X hP hg hc) hdg (kk1 h)
    · exact va_castS X.1.1 X.1.2.1 X.1.2.2.2.1 (X.1.2.2.2.2 _ hlk) (X.2.1.1 ci _ hc).2 (recv_pool X hP hg hc) hdg (kk1 h)
  · obtain ⟨C, T, N, hc, hn, hC⟩ := hbad ci hi
    have hT := (X.2.2.2 hal).2.2.2.2
    refine r_castNo X hP ⟨fs, hg⟩ hc hlk (hT.2.2.1 _ hn) hdg (fun vm' ks kt cC cT hW1 f1 f2 g1 g2 => ?_)
    obtain ⟨t1, t2⟩ := cce_text hT.2.2.2 hW1 f1 f2 g1 g2 hC hnm
    exact r_thrM X hal hlt hP (names := ["java/lang/RuntimeException", "java/lang/Exception"]) (by decide) (by decide) rfl rfl (at_CCE X.1.2.2.2.2 X.2.2.1 hT) t1 t2 hsize hRf (by show 1 + (rest.map fun v => v.category).sum ≤ 8; omega) hRl (by decide) hRc hRs (fun H1 locs1 n ce hn1 hP1 hce hf hv => kk2 H1 locs1 n _ ce h hn1 hP1 hce hf hv)
/-- a call on null of a method that its class declares -/
theorem r_nullD (X : CX G p m c cc nL s args own) {index n maxL : Nat} {y : MethodName} {C : String} {bytes : ByteArray} {ret : Option FieldType} {As st0 : List Value} (hlk : Cond.methodLink own index y ∈ lw_all) (hin : Cond.instanceMethod y ∈ lw_all) (hse : Cond.selects C y y ∈ lw_all) (hco : Cond.code y bytes maxL ret ∈ lw_all) (hd : y.cls ≠ "java/lang/invoke/MethodHandle" ∧ y.cls ≠ "java/lang/invoke/VarHandle" ∧ (parseMethodDescriptor y.desc).map (fun d => d.parameters.length) = some n) (hn : As.length = n) (hstack : st0 = As.reverse ++ .null :: rest) (hdg : decode cc pc = .ok (.invokevirtual index, 3))
    (kk : WN p l e R s m args below meth c H locs cells slots Q "java/lang/NullPointerException" none (F0 m pc ls rest)) : W p l e R s m args below meth c H locs cells slots Q (F0 m pc ls st0) := by
  obtain ⟨hx, hb, hml, hown, hts⟩ := X.1
  intro T hT XS
  obtain ⟨mk, methM, hnamed, hmethM, hstM, -⟩ := Cond.instanceMethod_spec (hts _ hin)
  obtain ⟨methM', cM, hmethM', -, -, -, -, -, -, hsigM⟩ := Cond.code_spec hnamed (hts _ hco)
  cases hmethM.symm.trans hmethM'
  obtain ⟨c2, r2, m2, -, -, q3, -, kP, hkP, hkPi⟩ := Cond.selects_spec (hts _ hse)
  cases hnamed.symm.trans q3
  obtain ⟨vm', X1, go⟩ := XS.invokevirtualNull hx hown (hts _ hlk) hnamed hmethM hstM hkP hkPi ⟨hd.1, hd.2.1⟩ (g := F0 m pc ls st0) rfl (argsL := As) (rest := rest) (by
    have h2 := hd.2.2
    rw [hsigM] at h2
    exact hn.trans (Option.some.inj h2).symm) hstack (by rw [hb]; exact hdg)
  obtain ⟨t, h1, h2⟩ := kk (T.setVm vm') hT X1
  exact ⟨t, go _ h1, h2⟩
/-- the machine's null pointer exception -/
theorem r_npe (X : CX G p m c cc nL s args own) (hal : G.2.2.2.2 = true) (hlt : l.stackTraces = false) (hP : PS ft G s σ H locs) (hsize : ls.size = nL) (hRf : 7 < R.frames) (hW : (rest.map fun v => v.category).sum ≤ 8) (hRl : 10248 ≤ R.locals) (hRc : cells + 1 ≤ R.cells) (hRs : slots + 8 ≤ R.slots)
    (kk : ∀ (H1 : Heap) (locs1 : List Loc) (o : Addr) (ce : Cell), PS ft G s (grw σ H1) H1 locs1 → H1[o]? = some ce → s.vm.findClass "java/lang/NullPointerException" = some ce.cls → ce.vm = .none → WT p l e R s m args below meth c H1 locs1 (cells + 1) (slots + 8) Q o (F0 m pc ls rest)) : WN p l e R s m args below meth c H locs cells slots Q "java/lang/NullPointerException" none (F0 m pc ls rest) :=
  r_thrN X hal hlt hP hsize hRf hW hRl hRc hRs (fun H1 locs1 ce a1 a2 a3 a4 => kk H1 locs1 _ ce a1 a2 a3 a4)
variable {σ0 : ST}
theorem lim_ha (hal : G.2.2.2.2 = true) (hP : PS ft G s σ H locs) {lim slim a b : Nat} (h0 : s.heap.size = szo σ0 ∧ tot s.heap = suo σ0) (z1 : s.heap.size ≤ H.size) (z2 : tot s.heap ≤ tot H) (hlm : szo σ + a ≤ lim ∧ suo σ + b ≤ slim) (hR1 : R.cells = lim - szo σ0) (hR2 : R.slots = slim - suo σ0) : (szo σ - szo σ0) + a ≤ R.cells ∧ (suo σ - suo σ0) + b ≤ R.slots := by
  have k1 := hP.1.2.2.2 hal
  rw [hR1, hR2]
  omega
theorem lim_hb (hal : G.2.2.2.2 = true) (hP : PS ft G s σ H locs) {lim slim a b : Nat} (h0 : s.heap.size = szo σ0 ∧ tot s.heap = suo σ0) (z1 : s.heap.size ≤ H.size) (z2 : tot s.heap ≤ tot H) (hlm : szo σ + a ≤ lim ∧ suo σ + b ≤ slim) : (szo σ - szo σ0) + a ≤ lim - szo σ0 ∧ (suo σ - suo σ0) + b ≤ slim - suo σ0 := by
  have k1 := hP.1.2.2.2 hal
  omega
variable {y : MethodName} {bytes : ByteArray} {maxL n index : Nat} {ret : Option FieldType} {ws : List Cond} {rm : Room} {As st0 : List Value} {a : Array Value}
theorem r_calllL {r0 : Int64} {u0 : ST} (hal : G.2.2.2.2 = true) (h0 : s.heap.size = szo σ0 ∧ tot s.heap = suo σ0) (hr : va_Run p l e R s m args below meth c H locs cells slots 0 0 (F0 m pc ls st0) rest (va_Ql (fun (r : Int64) (u : ST) => (r, u) = (r0, u0)) (PicU ft G) G.2.2.2.1 a) G.2.2.2.1) (hP : PS ft G s σ H locs)
    (kk : ∀ (H : Heap) (locs : List Loc), PS ft G s u0 H locs → W p l e R s m args below meth c H locs (szo u0 - szo σ0) (suo u0 - suo σ0) Q (F0 m (pc + 3) ls (.long r0 :: rest))) : W p l e R s m args below meth c H locs cells slots Q (F0 m pc ls st0) :=
  r_calll hr hP fun H1 locs1 hP1 => by
    have k2 := hP1.1.2.2.2 hal
    exact W.tight (by omega) (by omega) (kk H1 locs1 hP1)
end CCE
