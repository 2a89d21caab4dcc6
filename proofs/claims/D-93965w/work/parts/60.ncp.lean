/-! System.arraycopy WHERE IT THROWS: a place outside, between two of the pool's arrays of one primitive type. -/
theorem int_print {z : Int} (h1 : -10000000000 < z) (h2 : z < 10000000000) : (toString z).toList.length ≤ 11 := by
  show (Int.repr z).toList.length ≤ 11
  cases z with
  | ofNat m =>
    have h2' : (m : Int) < 10000000000 := h2
    have := nat_print (n := m) (by omega)
    show (toString m).toList.length ≤ 11
    omega
  | negSucc m =>
    have h1' : -10000000000 < -((m : Int) + 1) := by simpa [Int.negSucc_eq] using h1
    have := nat_print (n := m.succ) (by omega)
    show ("-" ++ toString m.succ).toList.length ≤ 11
    rw [String.toList_append, List.length_append]
    have h0 : "-".toList.length = 1 := by decide
    omega
theorem kind_len (t : FieldType) : (Native.java_lang_System.arraycopy.kindName t).toList.length ≤ 12 := by
  cases t <;> first | decide +kernel | (show "object array".toList.length ≤ 12; decide +kernel)
theorem copy_out {E : CtlPost} {e : Env} {d : Bool} {acts : List Action} {s : State} {src dst : Addr} {srcPos destPos len : Int32} {cs cd : Cell} {ks kd : Class} {sComp dComp : ClassId} {sType dType : FieldType} {Q : Option Value → Pre}
    (hs : s.heap[src]? = some cs) (hd : s.heap[dst]? = some cd) (hsobj : ∀ k, cs.vm ≠ .statics k) (hdobj : ∀ k, cd.vm ≠ .statics k) (hks : s.vm.classes[cs.cls]? = some ks) (hkd : s.vm.classes[cd.cls]? = some kd) (hsk : ks.kind = .array sComp sType) (hdk : kd.kind = .array dComp dType)
    (hty : ((refKind sType != refKind dType) || (!refKind sType && sType != dType)) = false) (hn0 : cs.slots.size ≤ 60) (hn1 : cd.slots.size ≤ 60)
    (hout : srcPos < 0 ∨ destPos < 0 ∨ len < 0 ∨ srcPos.toInt + len.toInt > cs.slots.size ∨ destPos.toInt + len.toInt > cd.slots.size)
    (hE : ∀ (what : String) (acts' : List Action), what.toList.length ≤ 200 → E (.throwNew "java/lang/ArrayIndexOutOfBoundsException" (some ("arraycopy: " ++ what))) acts' s) :
    wp (Native.java_lang_System.arraycopy.sem #[.ref src, .int srcPos, .ref dst, .int destPos, .int len]) Q E e d acts s := by
  have l0 : "".toList.length = 0 := by decide +kernel
  have l1 : "source index ".toList.length = 13 := by decide +kernel
  have l2 : " out of bounds for ".toList.length = 19 := by decide +kernel
  have l3 : "destination index ".toList.length = 18 := by decide +kernel
  have l4 : "length ".toList.length = 7 := by decide +kernel
  have l5 : " is negative".toList.length = 12 := by decide +kernel
  have l6 : "last source index ".toList.length = 18 := by decide +kernel
  have l7 : "last destination index ".toList.length = 23 := by decide +kernel
  have l8 : "[".toList.length = 1 := by decide +kernel
  have l9 : "]".toList.length = 1 := by decide +kernel
  have k1 := kind_len sType
  have k2 := kind_len dType
  have p1 := nat_print (n := cs.slots.size) (by omega)
  have p2 := nat_print (n := cd.slots.size) (by omega)
  have i1 := int32_print srcPos
  have i2 := int32_print destPos
  have i3 := int32_print len
  have b1 := Int32.toInt_lt srcPos
  have b2 := Int32.le_toInt srcPos
  have b3 := Int32.toInt_lt destPos
  have b4 := Int32.le_toInt destPos
  have b5 := Int32.toInt_lt len
  have b6 := Int32.le_toInt len
  have j1 := int_print (z := srcPos.toInt + len.toInt) (by omega) (by omega)
  have j2 := int_print (z := destPos.toInt + len.toInt) (by omega) (by omega)
  rw [Native.java_lang_System.arraycopy.sem_refs]
  unfold Native.java_lang_System.arraycopy.behind
  simp only [wp_bind', W.classOf, W.theClass, hs, hd, hks, hkd, Option.some.injEq, exists_eq_left', hsk, hdk]
  refine ⟨hsobj, hdobj, ?_⟩
  unfold refKind at hty
  simp only [hty, Bool.false_eq_true, if_false]
  simp only [wp_bind', W.sizeOf, hs, hd, Option.some.injEq, exists_eq_left']
  by_cases h1 : srcPos < 0
  · simp only [h1, if_true, wp_bind', W.mark, W.throwNew]
    exact hE _ _ (by simp only [ts_id, String.toList_append, List.length_append]; omega)
  by_cases h2 : destPos < 0
  · simp only [h1, h2, if_true, if_false, wp_bind', W.mark, W.throwNew]
    exact hE _ _ (by simp only [ts_id, String.toList_append, List.length_append]; omega)
  by_cases h3 : len < 0
  · simp only [h1, h2, h3, if_true, if_false, wp_bind', W.mark, W.throwNew]
    exact hE _ _ (by simp only [ts_id, String.toList_append, List.length_append]; omega)
  by_cases h4 : srcPos.toInt + len.toInt > cs.slots.size
  · simp only [h1, h2, h3, h4, if_true, if_false, wp_bind', W.mark, W.throwNew]
    exact hE _ _ (by simp only [ts_id, String.toList_append, List.length_append]; omega)
  by_cases h5 : destPos.toInt + len.toInt > cd.slots.size
  · simp only [h1, h2, h3, h4, h5, if_true, if_false, wp_bind', W.mark, W.throwNew]
    exact hE _ _ (by simp only [ts_id, String.toList_append, List.length_append]; omega)
  exact absurd hout (by simp only [h1, h2, h3, h4, h5, or_self, not_false_eq_true])
theorem copy_mod (what : String) : (("arraycopy: " ++ what) == notModelled) = false := by
  rw [beq_eq_false_iff_ne]
  intro q
  have h2 := congrArg String.toList q
  have h3 : ("arraycopy: " ++ what).toList = 'a' :: ("rraycopy: ".toList ++ what.toList) := by
    rw [String.toList_append]
    rfl
  rw [h3] at h2
  have h4 : notModelled.toList = '\u0000' :: " a message that is not modelled".toList := by decide
  rw [h4] at h2
  simp at h2
theorem copy_len {what : String} (h : what.toList.length ≤ 200) : (stringBytes (stringToUtf16 ("arraycopy: " ++ what))).size ≤ 1200 := by
  have t1 := stringBytes_size_le (stringToUtf16 ("arraycopy: " ++ what))
  have t2 := utf16_size_le ("arraycopy: " ++ what)
  have l1 : "arraycopy: ".toList.length = 11 := by decide +kernel
  rw [String.toList_append, List.length_append] at t2
  omega
section NCP
variable {p : Program} {l : Launch} {e : Env} {R : Room} {s : State} {m : MethodId} {args : Array Value} {below : List Frame} {meth : Method} {c : Code} {H : Heap} {locs : List Loc} {cells slots : Nat} {Q : State → Prop}
variable {cc : ByteArray} {pc nL : Nat} {ls : Array Slot} {rest : List Value} {own : String} {ft : List FC} {G : GT} {σ : ST}
theorem r_copyOut (X : CX G p m c cc nL s args own) (hal : G.2.2.2.2 = true) (hlt : l.stackTraces = false) (hP : PS ft G s σ H locs) {a0 a1 n0 n1 t : Nat} {f0 f1 : (Nat → Int32) ⊕ (Nat → Int64) ⊕ (Nat → UInt32) ⊕ (Nat → UInt64) ⊕ (Nat → Option Nat)} (h0 : σ.2.2.2.1 a0 = some (.inl (G.2.1 t, n0, f0))) (h1 : σ.2.2.2.1 a1 = some (.inl (G.2.1 t, n1, f1))) (hb0 : n0 ≤ 60) (hb1 : n1 ≤ 60) {ty : FieldType} (ht : (lk_tys G)[t]? = some (G.2.1 t, ty)) (hprim : refKind ty = false)
    {sp dp n : Int32} (hout : sp < 0 ∨ dp < 0 ∨ n < 0 ∨ sp.toInt + n.toInt > n0 ∨ dp.toInt + n.toInt > n1) {index : Nat} (hlk : Cond.methodLink own index arraycopyName ∈ lw_all) (hsize : ls.size = nL) (hRf : 9 < R.frames) (hW : (rest.map fun v => v.category).sum ≤ 8) (hRl : 10248 ≤ R.locals) (hRc : cells + 3 ≤ R.cells) (hRs : slots + 1210 ≤ R.slots) (hdg : decode cc pc = .ok (.invokestatic index, 3))
    (kk : ∀ (H1 : Heap) (locs1 : List Loc) (n2 : Nat) (o : Addr) (ce : Cell), n2 ≤ slots + 1210 → PS ft G s (grw σ H1) H1 locs1 → H1[o]? = some ce → s.vm.findClass "java/lang/ArrayIndexOutOfBoundsException" = some ce.cls → ce.vm = .none → WT p l e R s m args below meth c H1 locs1 (cells + 3) n2 Q o (F0 m pc ls rest)) : W p l e R s m args below meth c H locs cells slots Q (F0 m pc ls (.int n :: .int dp :: .ref a1 :: .int sp :: .ref a0 :: rest)) := by
  have hT := (X.2.2.2 hal).2.2.2.2
  have hat := at_AIO X.1.2.2.2.2 X.2.2.1 hT
  have hK := X.2.1
  obtain ⟨hx, hb, hml, hown, hts⟩ := X.1
  obtain ⟨z0, hz0⟩ := vp_arr (G.2.1 t) (n0, f0)
  obtain ⟨z1, hz1⟩ := vp_arr (G.2.1 t) (n1, f1)
  have hc0 : H[a0]? = some (arrV (G.2.1 t) n0 z0) := by rw [← hz0]; exact (hP.1.2.2.1 a0 _ h0).1
  have hc1 : H[a1]? = some (arrV (G.2.1 t) n1 z1) := by rw [← hz1]; exact (hP.1.2.2.1 a1 _ h1).1
  obtain ⟨-, k0, hk0, cm0, hkk0⟩ := (hK.2 t _ ht).1 n0 z0
  obtain ⟨-, k1, hk1, cm1, hkk1⟩ := (hK.2 t _ ht).1 n1 z1
  intro U hU XS
  obtain ⟨r, kS, methS, hnS, hmS, hkS, N⟩ := NativeOf.of_static (hts _ q1555) (hts _ q1554) (ps := [.object "java/lang/Object", .int, .object "java/lang/Object", .int, .int]) (ret := none) (by decide +kernel)
  have hinitS : kS.init = .initialized := Cond.initialized_spec (findClass_of_methodNamed hnS) hkS (hts _ q156)
  obtain ⟨vm', X', step⟩ := XS.invokestatic hx hown (hts _ hlk) hnS hmS N.static hkS hinitS (by decide) (g := F0 m pc ls (.int n :: .int dp :: .ref a1 :: .int sp :: .ref a0 :: rest)) rfl (argsL := [.ref a0, .int sp, .ref a1, .int dp, .int n]) (rest := rest) (by rw [N.sig]; rfl) rfl (by rw [hb]; exact hdg)
  have hA' : s.vm.Alike vm' := X'.warmed.alike
  obtain ⟨kS', N'⟩ := N.alike hA'
  obtain ⟨k0', hk0', he0⟩ := hA'.2.2 _ _ hk0
  obtain ⟨k1', hk1', he1⟩ := hA'.2.2 _ _ hk1
  have hh : At (U.setVm vm') m c below := X'.here
  obtain ⟨g₀, hfr⟩ := X'.frames_eq
  have hseen : seenByNative methS #[.ref a0, .int sp, .ref a1, .int dp, .int n] = #[.ref a0, .int sp, .ref a1, .int dp, .int n] := by
    simp [seenByNative, N.static, N.sig, narrow]
  have hS0 : ((U.setVm vm').setTop (F0 m pc ls rest)).pushFrame (.native { method := r, args := #[.ref a0, .int sp, .ref a1, .int dp, .int n], locked := none }) = (U.setVm vm').setFrames (.native { method := r, args := #[.ref a0, .int sp, .ref a1, .int dp, .int n], locked := none } :: .java (F0 m pc ls rest) :: below) := by
    rw [State.pushFrame, State.frames_setTop _ hfr, State.setTop_of_frames _ hfr, State.setFrames_setFrames]
  have hw : wpRun (arraycopyRow.sem #[.ref a0, .int sp, .ref a1, .int dp, .int n]) (fun _ _ _ => False) (fun c9 s9 _ => ∃ what : String, what.toList.length ≤ 200 ∧ c9 = .throwNew "java/lang/ArrayIndexOutOfBoundsException" (some ("arraycopy: " ++ what)) ∧ s9 = (U.setVm vm').setFrames (.native { method := r, args := #[.ref a0, .int sp, .ref a1, .int dp, .int n], locked := none } :: .java (F0 m pc ls rest) :: below)) e ((U.setVm vm').setFrames (.native { method := r, args := #[.ref a0, .int sp, .ref a1, .int dp, .int n], locked := none } :: .java (F0 m pc ls rest) :: below)) := by
    rw [arraycopyRow_sem]
    exact copy_out (cs := arrV (G.2.1 t) n0 z0) (cd := arrV (G.2.1 t) n1 z1) (by show U.heap[a0]? = _; rw [hU]; exact hc0) (by show U.heap[a1]? = _; rw [hU]; exact hc1) (fun _ h => by cases h) (fun _ h => by cases h) hk0' hk1' (by rw [he0]; exact hkk0) (by rw [he1]; exact hkk1) (by simp [hprim]) (by rw [arrV_size]; exact hb0) (by rw [arrV_size]; exact hb1) (by rw [arrV_size, arrV_size]; exact hout) (fun what acts' hl => ⟨what, hl, rfl, rfl⟩)
  have hw2 := (wpRun_iff_run _ _ _ _ _).mp hw
  cases hr : (arraycopyRow.sem #[.ref a0, .int sp, .ref a1, .int dp, .int n]).run e ((U.setVm vm').setFrames (.native { method := r, args := #[.ref a0, .int sp, .ref a1, .int dp, .int n], locked := none } :: .java (F0 m pc ls rest) :: below)) with
  | ok v s1 acts1 => rw [hr] at hw2; exact hw2.elim
  | ctl x s1 acts1 =>
    rw [hr] at hw2
    have hw3 : ∃ what : String, what.toList.length ≤ 200 ∧ x = .throwNew "java/lang/ArrayIndexOutOfBoundsException" (some ("arraycopy: " ++ what)) ∧ s1 = (U.setVm vm').setFrames (.native { method := r, args := #[.ref a0, .int sp, .ref a1, .int dp, .int n], locked := none } :: .java (F0 m pc ls rest) :: below) := by
      cases x <;> first | exact hw2 | exact hw2.elim
    obtain ⟨what, hwl, rfl, rfl⟩ := hw3
    have key : WNN p l e R s m args below meth c H locs cells slots Q "java/lang/ArrayIndexOutOfBoundsException" (some ("arraycopy: " ++ what)) { method := r, args := #[.ref a0, .int sp, .ref a1, .int dp, .int n], locked := none } (F0 m pc ls rest) :=
      th_nat hx hlt hP.2 (pic_A hal hP) hT (names := ["java/lang/IndexOutOfBoundsException", "java/lang/RuntimeException", "java/lang/Exception"]) (by decide) (by decide) rfl rfl hat (copy_mod what) (copy_len hwl) rfl (hsize.trans hml.symm) (by show 3 + 5 < _; omega) rfl rfl rfl (rl_ok hW hRl) (by decide) hRc hRs (fun H1 locs1 n2 ce hn hz hk hce hf hv hS => kk H1 locs1 n2 _ ce hn ⟨hP.1.grow (by omega) hk, hS⟩ hce hf hv)
    obtain ⟨tt, q1, q2⟩ := key (U.setVm vm') hU X'
    refine ⟨tt, step tt fun acts => ?_, q2⟩
    have hm9 : ((U.setVm vm').setTop (F0 m pc ls rest)).vm.method? r = some methS := by
      show vm'.method? r = some methS
      simp [Vm.method?, N'.cls, N'.meth]
    have hroom9 : e.platform.stackFull ((((U.setVm vm').setTop (F0 m pc ls rest)).threads[((U.setVm vm').setTop (F0 m pc ls rest)).cur]?).getD { frames := [] }) ((U.setVm vm').setTop (F0 m pc ls rest)).frames (nativeFrameWords ((((((U.setVm vm').setTop (F0 m pc ls rest)).vm.classes[r.cls]?).map (·.name)).getD "")) methS.name (operandWords [.ref a0, .int sp, .ref a1, .int dp, .int n])) = false := by
      have e9 : ((((U.setVm vm').setTop (F0 m pc ls rest)).vm.classes[r.cls]?).map (·.name)).getD "" = "java/lang/System" := by
        show ((vm'.classes[r.cls]?).map (·.name)).getD "" = _
        rw [N'.cls]
        exact N'.className
      rw [e9, N'.name]
      have h8 := rl_ok (m := m) (pc := pc) (ls := ls) hW hRl
      exact X'.notFull (g := F0 m pc ls rest) (hsize.trans hml.symm) (vars := nativeFrameWords "java/lang/System" "arraycopy" 5) (by omega) (Nat.le_trans (Nat.add_le_add_left (by decide +kernel : nativeFrameWords "java/lang/System" "arraycopy" 5 + 11 ≤ 10240) _) h8)
    rw [(Fast.doInvoke_native (s := (U.setVm vm').setTop (F0 m pc ls rest)) (e := e) (acts := acts) (args := #[.ref a0, .int sp, .ref a1, .int dp, .int n]) hm9 N'.native N'.noCode N'.noLock hroom9).1, hseen, hS0]
    have hf9 : ((U.setVm vm').setFrames (.native { method := r, args := #[.ref a0, .int sp, .ref a1, .int dp, .int n], locked := none } :: .java (F0 m pc ls rest) :: below)).frames = .native { method := r, args := #[.ref a0, .int sp, .ref a1, .int dp, .int n], locked := none } :: .java (F0 m pc ls rest) :: below := State.frames_setFrames _ (State.cur_lt_of_frames hfr)
    refine Steps.head ⟨hh.running, by simpa using hh.runnable, by simpa using hh.alone⟩ ⟨[.native { method := r, args := #[.ref a0, .int sp, .ref a1, .int dp, .int n], locked := none }, .java (F0 m pc ls rest)], by rw [hf9]; rfl, by simp, by simp⟩ ?_
    rw [stepThread_native (f := { method := r, args := #[.ref a0, .int sp, .ref a1, .int dp, .int n], locked := none }) (k := kS') (x := methS) (row := arraycopyRow) hf9 N'.cls N'.meth N'.boot (by rw [N'.className, N'.name, N'.desc]; exact arraycopy_row p) rfl]
    show Steps p.tables e below (afterNative e _ _ ((arraycopyRow.sem #[.ref a0, .int sp, .ref a1, .int dp, .int n]).run e _)).1 tt
    rw [hr]
    show Steps p.tables e below (((U.setVm vm').setFrames _).pushFrame (.throwNew "java/lang/ArrayIndexOutOfBoundsException" (some ("arraycopy: " ++ what)) none)) tt
    rw [State.pushFrame, hf9, State.setFrames_setFrames]
    exact q1
end NCP
