section RWS
variable {p : Program} {l : Launch} {e : Env} {R : Room} {s : State} {m : MethodId} {args : Array Value} {below : List Frame} {meth : Method} {c : Code} {H : Heap} {locs : List Loc} {cells slots : Nat} {Q : State → Prop}
variable {cc : ByteArray} {pc nL : Nat} {ls : Array Slot} {rest : List Value} {own : String} {ft : List FC} {G : GT} {σ : ST}
theorem r_geti (X : CX G p m c cc nL s args own) (hP : PS ft G s σ H locs) (j : Nat) {o ci : Nat} {fl : List (Nat × Nat)} (hj : ft[j]? = some (.inr (o, ci, fl))) {C : String} {T : u_T} {N : Nat} (hc : lk_cl[ci]? = some (C, T, N)) (f : Nat) (hf : f < N) {index x : Nat} (hl : Cond.fieldLink own index (T f).1 (T f).2.1 (T f).2.2.1 ∈ lw_all) (hq : fl[f]? = some (0, x)) (hdg : decode cc pc = .ok (.getfield index, 3))
    (kk : W p l e R s m args below meth c H locs cells slots Q (F0 m (pc + 3) ls (.int (gI σ o f) :: rest))) : W p l e R s m args below meth c H locs cells slots Q (F0 m pc ls (.ref (G.2.2.1 j) :: rest)) := by
  obtain ⟨⟨hx, hb, hml, hown, hts⟩, hK, hN, hEV⟩ := X
  exact va_get hx hb hts (lk_ok ci C T N hc).1 hown hK (va_P1 (hP.1.1 j _ hj).1) 0 rfl hc f hf (hts _ hl) (fun _ h => h) (fxl_at hq) hdg kk
theorem r_geta (X : CX G p m c cc nL s args own) (hP : PS ft G s σ H locs) (j : Nat) {o ci : Nat} {fl : List (Nat × Nat)} (hj : ft[j]? = some (.inr (o, ci, fl))) {C : String} {T : u_T} {N : Nat} (hc : lk_cl[ci]? = some (C, T, N)) (f : Nat) (hf : f < N) {index x : Nat} (hl : Cond.fieldLink own index (T f).1 (T f).2.1 (T f).2.2.1 ∈ lw_all) (hq : fl[f]? = some (1, x)) (hdg : decode cc pc = .ok (.getfield index, 3))
    (kk : W p l e R s m args below meth c H locs cells slots Q (F0 m (pc + 3) ls (.ref (G.2.2.1 x) :: rest))) : W p l e R s m args below meth c H locs cells slots Q (F0 m pc ls (.ref (G.2.2.1 j) :: rest)) := by
  obtain ⟨⟨hx, hb, hml, hown, hts⟩, hK, hN, hEV⟩ := X
  exact va_get hx hb hts (lk_ok ci C T N hc).1 hown hK (va_P1 (hP.1.1 j _ hj).1) 0 rfl hc f hf (hts _ hl) (fun _ h => h) (fxl_at hq) hdg kk
theorem r_getr (X : CX G p m c cc nL s args own) (hP : PS ft G s σ H locs) (j : Nat) {o ci : Nat} {fl : List (Nat × Nat)} (hj : ft[j]? = some (.inr (o, ci, fl))) {C : String} {T : u_T} {N : Nat} (hc : lk_cl[ci]? = some (C, T, N)) (f : Nat) (hf : f < N) {index x : Nat} (hl : Cond.fieldLink own index (T f).1 (T f).2.1 (T f).2.2.1 ∈ lw_all) (hq : fl[f]? = some (2, x)) (hdg : decode cc pc = .ok (.getfield index, 3))
    (kk : W p l e R s m args below meth c H locs cells slots Q (F0 m (pc + 3) ls (va_rf (gR σ o f) :: rest))) : W p l e R s m args below meth c H locs cells slots Q (F0 m pc ls (.ref (G.2.2.1 j) :: rest)) := by
  obtain ⟨⟨hx, hb, hml, hown, hts⟩, hK, hN, hEV⟩ := X
  exact va_get hx hb hts (lk_ok ci C T N hc).1 hown hK (va_P1 (hP.1.1 j _ hj).1) 0 rfl hc f hf (hts _ hl) (fun _ h => h) (fxl_at hq) hdg kk
theorem r_getiN (X : CX G p m c cc nL s args own) (hP : PS ft G s σ H locs) (j : Nat) {o ci : Nat} {fl : List (Nat × Nat)} (hj : ft[j]? = some (.inr (o, ci, fl))) {C host : String} {T : u_T} {N : Nat} (hc : lk_cl[ci]? = some (C, T, N)) (f : Nat) (hf : f < N) {index x : Nat} (hl : Cond.fieldLinkNest own index (T f).1 (T f).2.1 (T f).2.2.1 host ∈ lw_tbl) (hq : fl[f]? = some (0, x)) (hdg : decode cc pc = .ok (.getfield index, 3))
    (kk : W p l e R s m args below meth c H locs cells slots Q (F0 m (pc + 3) ls (.int (gI σ o f) :: rest))) : W p l e R s m args below meth c H locs cells slots Q (F0 m pc ls (.ref (G.2.2.1 j) :: rest)) := by
  obtain ⟨⟨hx, hb, hml, hown, hts⟩, hK, hN, hEV⟩ := X
  exact va_getN hx hb hts (lk_ok ci C T N hc).1 hown hK (va_P1 (hP.1.1 j _ hj).1) 0 rfl hc f hf (va_Nw.use rfl (hN _ hl rfl)) (fun _ h => h) (fxl_at hq) hdg kk
theorem r_getaN (X : CX G p m c cc nL s args own) (hP : PS ft G s σ H locs) (j : Nat) {o ci : Nat} {fl : List (Nat × Nat)} (hj : ft[j]? = some (.inr (o, ci, fl))) {C host : String} {T : u_T} {N : Nat} (hc : lk_cl[ci]? = some (C, T, N)) (f : Nat) (hf : f < N) {index x : Nat} (hl : Cond.fieldLinkNest own index (T f).1 (T f).2.1 (T f).2.2.1 host ∈ lw_tbl) (hq : fl[f]? = some (1, x)) (hdg : decode cc pc = .ok (.getfield index, 3))
    (kk : W p l e R s m args below meth c H locs cells slots Q (F0 m (pc + 3) ls (.ref (G.2.2.1 x) :: rest))) : W p l e R s m args below meth c H locs cells slots Q (F0 m pc ls (.ref (G.2.2.1 j) :: rest)) := by
  obtain ⟨⟨hx, hb, hml, hown, hts⟩, hK, hN, hEV⟩ := X
  exact va_getN hx hb hts (lk_ok ci C T N hc).1 hown hK (va_P1 (hP.1.1 j _ hj).1) 0 rfl hc f hf (va_Nw.use rfl (hN _ hl rfl)) (fun _ h => h) (fxl_at hq) hdg kk
/-- a field of any cell is written: that cell is new, all others stay -/
theorem x_put (X : CX G p m c cc nL s args own) {H0 : Heap} {a ci : Nat} {fs : List Value} (hat : va_at G.1 lk_cl (a, .inr (ci, fs)) H) (hS0 : va_S G.2.2.2.1 H0 H locs) (hA : G.2.2.2.1 a) {C : String} {T : u_T} {N : Nat} (hc : lk_cl[ci]? = some (C, T, N)) (f : Nat) (hf : f < N) {index : Nat} (hl : Cond.fieldLink own index (T f).1 (T f).2.1 (T f).2.2.1 ∈ lw_all) (hfin : (T f).2.2.2 = false) {ty : FieldType} {v : Value} (hd : parseFieldDescriptor (T f).2.2.1 = some ty) (hn : narrow ty v = v) (hfit : fits ty v = true) (hlen : f < fs.length) (hdg : decode cc pc = .ok (.putfield index, 3))
    (kk : ∀ (H1 : Heap) (locs1 : List Loc), va_at G.1 lk_cl (a, .inr (ci, fs.set f v)) H1 → H1.size = H.size → tot H1 = tot H → (∀ q : Nat, q ≠ a → H1[q]? = H[q]?) → va_S G.2.2.2.1 H0 H1 locs1 → W p l e R s m args below meth c H1 locs1 cells slots Q (F0 m (pc + 3) ls rest)) : W p l e R s m args below meth c H locs cells slots Q (F0 m pc ls (v :: .ref a :: rest)) := by
  obtain ⟨⟨hx, hb, hml, hown, hts⟩, hK, hN, hEV⟩ := X
  obtain ⟨hin, ⟨ty0, hty⟩, hnm⟩ := lk_ok ci C T N hc
  have hap := lk_apart hts hin ty0 hty hnm hK hc
  obtain ⟨r, h1, cell, q1, q2, q3, q4⟩ := hat
  have hr : r = (C, T, N) := Option.some.inj (h1.symm.trans hc)
  subst hr
  obtain ⟨hS, hfc, kC, hkC, hkind⟩ := hK.1 ci _ hc
  obtain ⟨cf, kf, fi, fd, hi, hsl⟩ := hS f hf
  have hlay := hts _ (hin _ (u_in_lay hf))
  unfold u_lay at hlay
  rw [if_neg (by rw [hfin]; decide)] at hlay
  have hst := (u_facts hfc hkC (u_lays hts hin hf) hi).1
  have h6 := u_store hfc hkC hkind hlay hi hd hn hfit
  refine W.putK hx hb (f := fd) ⟨hown, hts _ hl, ⟨_, _, _, hi⟩, hst⟩ (by rw [q2]; exact h6) q1 q3 (by rw [hsl]; exact k2_hasslot (q4 f hf)) rfl rfl hdg fun H' e1 e2 e3 => ?_
  rw [hsl] at e1 ⊢
  exact kk H' _ ⟨_, hc, t_OB.to (V := updV (vp_V fs) f v) ⟨_, e1, q2, q3, t_set q4 hap hf v⟩ (fun j _ => vp_updV_set hlen v j)⟩ e2 (tot_set q1 e1 e3 (set_slots _ _ _)) e3 (hS0.put e2 e3 hA)
theorem r_puti (X : CX G p m c cc nL s args own) (hw : ftW ft) (hP : PS ft G s σ H locs) (j : Nat) {o ci : Nat} {fl : List (Nat × Nat)} (hj : ft[j]? = some (.inr (o, ci, fl))) {C : String} {T : u_T} {N : Nat} (hc : lk_cl[ci]? = some (C, T, N)) (f : Nat) (hf : f < N) {index x : Nat} (hl : Cond.fieldLink own index (T f).1 (T f).2.1 (T f).2.2.1 ∈ lw_all) (hq : fl[f]? = some (0, x)) (hfin : (T f).2.2.2 = false) {ty : FieldType} {v : Int32} (hd : parseFieldDescriptor (T f).2.2.1 = some ty) (hn : narrow ty (.int v) = .int v) (hfit : fits ty (.int v) = true) (hdg : decode cc pc = .ok (.putfield index, 3))
    (kk : ∀ (σ1 : ST) (H : Heap) (locs : List Loc), σ1 = pI σ o f v → PS ft G s σ1 H locs → W p l e R s m args below meth c H locs cells slots Q (F0 m (pc + 3) ls rest)) : W p l e R s m args below meth c H locs cells slots Q (F0 m pc ls (.int v :: .ref (G.2.2.1 j) :: rest)) := by
  refine x_put X (hP.1.1 j _ hj).1 hP.2 (hP.1.1 j _ hj).2 hc f hf hl hfin hd hn hfit (by rw [List.length_mapIdx]; exact lt_of_some hq) hdg fun H1 locs1 h1 h2 ht h3 h4 => kk _ H1 locs1 rfl ⟨hP.1.set hj ?_ h2 ht h3 (fx_pI hw hj) rfl, h4⟩
  have e : (fl.mapIdx (fun f x => fxv G σ o f x)).set f (.int v) = fl.mapIdx (fun f9 x => fxv G (pI σ o f v) o f9 x) := by
    refine fxl_set (fun q hq' => ?_) (fun f' q hne _ => ?_)
    · rw [hq] at hq'
      cases hq'
      show Value.int (up3 σ.1 o 0 f v o 0 f) = _
      simp [up3]
    · have e1 : (pI σ o f v).1 o 0 f' = σ.1 o 0 f' := if_neg fun z => hne z.2.2
      unfold fxv
      rw [e1]
      rfl
  rw [e] at h1
  exact h1
theorem r_putr (X : CX G p m c cc nL s args own) (hw : ftW ft) (hP : PS ft G s σ H locs) (j : Nat) {o ci : Nat} {fl : List (Nat × Nat)} (hj : ft[j]? = some (.inr (o, ci, fl))) {C : String} {T : u_T} {N : Nat} (hc : lk_cl[ci]? = some (C, T, N)) (f : Nat) (hf : f < N) {index x : Nat} (hl : Cond.fieldLink own index (T f).1 (T f).2.1 (T f).2.2.1 ∈ lw_all) (hq : fl[f]? = some (2, x)) (hfin : (T f).2.2.2 = false) {ty : FieldType} {v : Option Nat} (hd : parseFieldDescriptor (T f).2.2.1 = some ty) (hn : narrow ty (va_rf v) = va_rf v) (hfit : fits ty (va_rf v) = true) (hdg : decode cc pc = .ok (.putfield index, 3))
    (kk : ∀ (σ1 : ST) (H : Heap) (locs : List Loc), σ1 = pR σ o f v → PS ft G s σ1 H locs → W p l e R s m args below meth c H locs cells slots Q (F0 m (pc + 3) ls rest)) : W p l e R s m args below meth c H locs cells slots Q (F0 m pc ls (va_rf v :: .ref (G.2.2.1 j) :: rest)) := by
  refine x_put X (hP.1.1 j _ hj).1 hP.2 (hP.1.1 j _ hj).2 hc f hf hl hfin hd hn hfit (by rw [List.length_mapIdx]; exact lt_of_some hq) hdg fun H1 locs1 h1 h2 ht h3 h4 => kk _ H1 locs1 rfl ⟨hP.1.set hj ?_ h2 ht h3 (fx_pR hw hj) rfl, h4⟩
  have e : (fl.mapIdx (fun f x => fxv G σ o f x)).set f (va_rf v) = fl.mapIdx (fun f9 x => fxv G (pR σ o f v) o f9 x) := by
    refine fxl_set (fun q hq' => ?_) (fun f' q hne _ => ?_)
    · rw [hq] at hq'
      cases hq'
      show va_rf (up3 σ.2.2.1 o 0 f v o 0 f) = _
      simp [up3]
    · have e1 : (pR σ o f v).2.2.1 o 0 f' = σ.2.2.1 o 0 f' := if_neg fun z => hne z.2.2
      unfold fxv
      rw [e1]
      rfl
  rw [e] at h1
  exact h1
theorem r_iald (X : CX G p m c cc nL s args own) (hP : PS ft G s σ H locs) (j : Nat) {o k n : Nat} (hj : ft[j]? = some (.inl (o, k, n, 0))) {i : Int32} (hin : vp_in i n) (hdg : decode cc pc = .ok (.iaload, 1))
    (kk : W p l e R s m args below meth c H locs cells slots Q (F0 m (pc + 1) ls (.int (lI σ o k i) :: rest))) : W p l e R s m args below meth c H locs cells slots Q (F0 m pc ls (.int i :: .ref (G.2.2.1 j) :: rest)) :=
  va_iald X.1.1 X.1.2.1 X.2.1 (va_P1 (hP.1.1 j _ hj).1) 0 0 rfl rfl hin hdg kk
theorem r_bald (X : CX G p m c cc nL s args own) (hP : PS ft G s σ H locs) (j : Nat) {o k n : Nat} (hj : ft[j]? = some (.inl (o, k, n, 1))) {i : Int32} (hin : vp_in i n) (hdg : decode cc pc = .ok (.baload, 1))
    (kk : W p l e R s m args below meth c H locs cells slots Q (F0 m (pc + 1) ls (.int (lI σ o k i) :: rest))) : W p l e R s m args below meth c H locs cells slots Q (F0 m pc ls (.int i :: .ref (G.2.2.1 j) :: rest)) :=
  va_bald X.1.1 X.1.2.1 X.2.1 (va_P1 (hP.1.1 j _ hj).1) 0 1 rfl rfl hin hdg kk
theorem r_lald (X : CX G p m c cc nL s args own) (hP : PS ft G s σ H locs) (j : Nat) {o k n : Nat} (hj : ft[j]? = some (.inl (o, k, n, 2))) {i : Int32} (hin : vp_in i n) (hdg : decode cc pc = .ok (.laload, 1))
    (kk : W p l e R s m args below meth c H locs cells slots Q (F0 m (pc + 1) ls (.long (lL σ o k i) :: rest))) : W p l e R s m args below meth c H locs cells slots Q (F0 m pc ls (.int i :: .ref (G.2.2.1 j) :: rest)) :=
  va_lald X.1.1 X.1.2.1 X.2.1 (va_P1 (hP.1.1 j _ hj).1) 0 2 rfl rfl hin hdg kk
theorem r_alen (X : CX G p m c cc nL s args own) (hP : PS ft G s σ H locs) (j : Nat) {o k n t : Nat} (hj : ft[j]? = some (.inl (o, k, n, t))) {ty : FieldType} (ht : (lk_tys G)[t]? = some (G.2.1 t, ty)) {v : Int32} (hv : Int32.ofNat n = v) (hdg : decode cc pc = .ok (.arraylength, 1))
    (kk : W p l e R s m args below meth c H locs cells slots Q (F0 m (pc + 1) ls (.int v :: rest))) : W p l e R s m args below meth c H locs cells slots Q (F0 m pc ls (.ref (G.2.2.1 j) :: rest)) :=
  va_alen X.1.1 X.1.2.1 X.2.1 (va_P1 (hP.1.1 j _ hj).1) 0 t rfl ht hv hdg kk
theorem r_iast (X : CX G p m c cc nL s args own) (hw : ftW ft) (hP : PS ft G s σ H locs) (j : Nat) {o k n : Nat} (hj : ft[j]? = some (.inl (o, k, n, 0))) {i v : Int32} (hin : vp_in i n) (hdg : decode cc pc = .ok (.iastore, 1))
    (kk : ∀ (σ1 : ST) (H : Heap) (locs : List Loc), σ1 = aI σ o k i v → PS ft G s σ1 H locs → W p l e R s m args below meth c H locs cells slots Q (F0 m (pc + 1) ls rest)) : W p l e R s m args below meth c H locs cells slots Q (F0 m pc ls (.int v :: .int i :: .ref (G.2.2.1 j) :: rest)) := by
  obtain ⟨⟨hx, hb, hml, hown, hts⟩, hK, hN, hEV⟩ := X
  have ha : H[G.2.2.1 j]? = some (vp_cell (G.2.1 0) (n, .inl (σ.1 o (k + 1)))) := (hP.1.1 j _ hj).1
  refine W.iast hx hb ha ((hK.2 0 _ rfl).1 n (fun j => .int (σ.1 o (k + 1) j))) (fun q => by cases q) (by show ¬ (i < 0 ∨ (arrV _ _ _).slots.size ≤ _); rw [arrV_size]; exact hin) rfl rfl hdg fun H1 e1 z oq => kk _ H1 _ rfl ⟨hP.1.set hj ?_ z (tot_set ha e1 oq (set_slots _ _ _)) oq (fx_aI hw hj) rfl, hP.2.put z oq (hP.1.1 j _ hj).2⟩
  show H1[G.2.2.1 j]? = some (vp_cell (G.2.1 0) (n, .inl (up3 σ.1 o (k + 1) i.toNatClampNeg v o (k + 1))))
  rw [e1, up3_self, vp_cell_i, vp_cell_i, arrV_store]
  congr 2
  funext q
  by_cases hq : q = i.toNatClampNeg
  · subst hq
    simp [updV, upd]
  · simp [updV, upd, hq]
theorem r_bast (X : CX G p m c cc nL s args own) (hw : ftW ft) (hP : PS ft G s σ H locs) (j : Nat) {o k n : Nat} (hj : ft[j]? = some (.inl (o, k, n, 1))) {i v : Int32} (hin : vp_in i n) (hdg : decode cc pc = .ok (.bastore, 1))
    (kk : ∀ (σ1 : ST) (H : Heap) (locs : List Loc), σ1 = aI σ o k i (v.toInt8.toInt32) → PS ft G s σ1 H locs → W p l e R s m args below meth c H locs cells slots Q (F0 m (pc + 1) ls rest)) : W p l e R s m args below meth c H locs cells slots Q (F0 m pc ls (.int v :: .int i :: .ref (G.2.2.1 j) :: rest)) := by
  obtain ⟨⟨hx, hb, hml, hown, hts⟩, hK, hN, hEV⟩ := X
  have ha : H[G.2.2.1 j]? = some (vp_cell (G.2.1 1) (n, .inl (σ.1 o (k + 1)))) := (hP.1.1 j _ hj).1
  refine W.bast hx hb ha ((hK.2 1 _ rfl).1 n (fun j => .int (σ.1 o (k + 1) j))) (fun q => by cases q) (by show ¬ (i < 0 ∨ (arrV _ _ _).slots.size ≤ _); rw [arrV_size]; exact hin) rfl rfl hdg fun H1 e1 z oq => kk _ H1 _ rfl ⟨hP.1.set hj ?_ z (tot_set ha e1 oq (set_slots _ _ _)) oq (fx_aI hw hj) rfl, hP.2.put z oq (hP.1.1 j _ hj).2⟩
  show H1[G.2.2.1 j]? = some (vp_cell (G.2.1 1) (n, .inl (up3 σ.1 o (k + 1) i.toNatClampNeg v.toInt8.toInt32 o (k + 1))))
  rw [e1, up3_self, vp_cell_i, vp_cell_i, arrV_store, narrow_byte]
  congr 2
  funext q
  by_cases hq : q = i.toNatClampNeg
  · subst hq
    simp [updV, upd]
  · simp [updV, upd, hq]
theorem r_last (X : CX G p m c cc nL s args own) (hw : ftW ft) (hP : PS ft G s σ H locs) (j : Nat) {o k n : Nat} (hj : ft[j]? = some (.inl (o, k, n, 2))) {i : Int32} {v : Int64} (hin : vp_in i n) (hdg : decode cc pc = .ok (.lastore, 1))
    (kk : ∀ (σ1 : ST) (H : Heap) (locs : List Loc), σ1 = aL σ o k i v → PS ft G s σ1 H locs → W p l e R s m args below meth c H locs cells slots Q (F0 m (pc + 1) ls rest)) : W p l e R s m args below meth c H locs cells slots Q (F0 m pc ls (.long v :: .int i :: .ref (G.2.2.1 j) :: rest)) := by
  obtain ⟨⟨hx, hb, hml, hown, hts⟩, hK, hN, hEV⟩ := X
  have ha : H[G.2.2.1 j]? = some (vp_cell (G.2.1 2) (n, .inr (.inl (σ.2.1 o (k + 1))))) := (hP.1.1 j _ hj).1
  refine W.last hx hb ha ((hK.2 2 _ rfl).1 n (fun j => .long (σ.2.1 o (k + 1) j))) (fun q => by cases q) (by show ¬ (i < 0 ∨ (arrV _ _ _).slots.size ≤ _); rw [arrV_size]; exact hin) rfl rfl hdg fun H1 e1 z oq => kk _ H1 _ rfl ⟨hP.1.set hj ?_ z (tot_set ha e1 oq (set_slots _ _ _)) oq (fx_aL hw hj) rfl, hP.2.put z oq (hP.1.1 j _ hj).2⟩
  show H1[G.2.2.1 j]? = some (vp_cell (G.2.1 2) (n, .inr (.inl (up3 σ.2.1 o (k + 1) i.toNatClampNeg v o (k + 1)))))
  rw [e1, up3_selfL, vp_cell_l, vp_cell_l, arrV_store]
  congr 2
  funext q
  by_cases hq : q = i.toNatClampNeg
  · subst hq
    simp [updV, vp_updL]
  · simp [updV, vp_updL, hq]
end RWS
/-! contracts -/
/-- an int (or boolean) comes back: the answer and the new state are res -/
abbrev CI (l : Launch) (ft : List FC) (G : GT) (y : MethodName) (ws : List Cond) (rm : Room) (mc ms : Nat) (As : List Value) (σ : ST) (res : Int32 × ST) : Prop :=
  Met l y ws rm (va_Pc As (PicU ft G σ)) (va_Qi (fun (r : Int32) (u : ST) => (r, u) = res) (PicU ft G) G.2.2.2.1) mc ms G.2.2.2.1
abbrev CL (l : Launch) (ft : List FC) (G : GT) (y : MethodName) (ws : List Cond) (rm : Room) (mc ms : Nat) (As : List Value) (σ : ST) (res : Int64 × ST) : Prop :=
  Met l y ws rm (va_Pc As (PicU ft G σ)) (va_Ql (fun (r : Int64) (u : ST) => (r, u) = res) (PicU ft G) G.2.2.2.1) mc ms G.2.2.2.1
abbrev CV (l : Launch) (ft : List FC) (G : GT) (y : MethodName) (ws : List Cond) (rm : Room) (mc ms : Nat) (As : List Value) (σ : ST) (res : ST) : Prop :=
  Met l y ws rm (va_Pc As (PicU ft G σ)) (va_Qv (fun (u : ST) => u = res) (PicU ft G) G.2.2.2.1) mc ms G.2.2.2.1
abbrev CR (l : Launch) (ft : List FC) (G : GT) (y : MethodName) (ws : List Cond) (rm : Room) (mc ms : Nat) (As : List Value) (σ : ST) (res : Option Nat × ST) : Prop :=
  Met l y ws rm (va_Pc As (PicU ft G σ)) (va_Qq (fun (r : Option Nat) (u : ST) => (r, u) = res) (PicU ft G) G.2.2.2.1) mc ms G.2.2.2.1
theorem nw_blind {U : State} {g : JFrame} {mk : MethodId} {a : Array Value} (h : NW U) : NW (U.calling g mk a) := by
  intro w hw hi
  have h1 := h w hw hi
  cases w <;> first | exact va_Nw.same rfl (u := U) (U := U.calling g mk a) rfl h1 | (rename_i t; cases t <;> first | exact va_AO.moved (u := U) (U := U.calling g mk a) (Vm.Alike.refl U.vm) h1 | (simp [isN] at hi)) | (simp [isN] at hi)
theorem PicU.blind {ft : List FC} {G : GT} {σ : ST} {As : List Value} : FrameBlind (va_Pc As (PicU ft G σ)) := by
  intro a U g mk q
  obtain ⟨q0, q1, q2, q3, q4⟩ := q
  exact ⟨q0, q1, va_K.moved (u := U) (U := U.calling g mk a) (Vm.Alike.refl U.vm) q2, nw_blind q3, q4.blind⟩
/-- a method's walk begins -/
theorem m_enter {l : Launch} {ft : List FC} {G : GT} {σ : ST} {y : MethodName} {cc : ByteArray} {maxL : Nat} {ret : Option FieldType} {rm : Room} {Qc : Array Value → State → Outcome → State → Prop} {mc ms : Nat} {As : List Value} {lv : List (Nat × Value)} (hy : plainName y.cls = true) (hlen : Nat.ble (lg_sl As).length maxL = true) (hlv : lv_args 0 As = lv)
    (body : ∀ (p : Program) (e : Env) (s : State) (m : MethodId) (below : List Frame) (meth : Method) (c : Code) (H : Heap) (locs : List Loc) (ls : Array Slot), CX G p m c cc maxL s As.toArray y.cls → meth.sig.returnType = ret → meth.locks = false → meth.name = y.name → PS ft G s σ H locs → lv_has ls maxL lv →
      W p l e rm s m As.toArray below meth c H locs 0 0 (MQ below Qc As.toArray s mc ms G.2.2.2.1) (F0 m 0 ls [])) : Met l y (ws_ y cc maxL ret) rm (va_Pc As (PicU ft G σ)) Qc mc ms G.2.2.2.1 := by
  refine Met.ofW (cc := cc) (maxL := maxL) (ret := ret) hy rfl ?_
  intro p e s m args below meth c s₁ B hml hv
  obtain ⟨rfl, hP, hK, hN, hEV⟩ := hv
  have hts := atoms_spec (ws := ws_ y cc maxL ret) B.pre
  have hts : ∀ w ∈ lw_all, w.before _ s = true := fun w h => hts w (List.mem_cons_of_mem _ h)
  have hl := lv_entry As (n := maxL) (Nat.le_of_ble_eq_true hlen)
  rw [lg_entry_eq]
  subst hlv
  exact body p e s m below meth c s.heap [] _ ⟨⟨B.exec, B.bytes, hml, findClass_of_methodNamed B.named, hts⟩, hK, hN, hEV⟩ B.returns B.notSynchronized (name_of_methodNamed B.named B.method).1 ⟨hP, va_S.rf⟩ hl
section RCL
variable {p : Program} {l : Launch} {e : Env} {R : Room} {s : State} {m : MethodId} {args : Array Value} {below : List Frame} {meth : Method} {c : Code} {H : Heap} {locs : List Loc} {cells slots : Nat} {Q : State → Prop}
variable {cc : ByteArray} {pc nL : Nat} {ls : Array Slot} {rest st0 : List Value} {own : String} {ft : List FC} {G : GT} {σ : ST}
theorem picU_end (X : CX G p m c cc nL s args own) (hP : PS ft G s σ H locs) {t : State} (ht : t.heap = H) (hW : s.WarmedH t.vm) : PicU ft G σ t := ⟨by rw [ht]; exact hP.1, va_K.moved hW.alike X.2.1, X.2.2.1.warm hW, X.2.2.2.fin hP.2 ht hW⟩
theorem r_iret (X : CX G p m c cc nL s args own) (hP : PS ft G s σ H locs) (hr : meth.sig.returnType = some .int) (hlocks : meth.locks = false) {v : Int32} {res : Int32 × ST} (he : (v, σ) = res) (hdg : decode cc pc = .ok (.ireturn, 1)) : W p l e R s m args below meth c H locs cells slots (MQ below (va_Qi (fun (r : Int32) (u : ST) => (r, u) = res) (PicU ft G) G.2.2.2.1) args s cells slots G.2.2.2.1) (F0 m pc ls [.int v]) :=
  W.iret X.1.1 X.1.2.1 hr (fun t ht hW => ⟨⟨v, σ, rfl, he, picU_end X hP ht hW⟩, hP.2.F ht⟩) hP.2.2.2 hdg hlocks
theorem r_zret (X : CX G p m c cc nL s args own) (hP : PS ft G s σ H locs) {ty : FieldType} (hr : meth.sig.returnType = some ty) (hlocks : meth.locks = false) {v : Int32} (hn : narrow ty (.int v) = .int v) {res : Int32 × ST} (he : (v, σ) = res) (hdg : decode cc pc = .ok (.ireturn, 1)) : W p l e R s m args below meth c H locs cells slots (MQ below (va_Qi (fun (r : Int32) (u : ST) => (r, u) = res) (PicU ft G) G.2.2.2.1) args s cells slots G.2.2.2.1) (F0 m pc ls [.int v]) :=
  W.zret X.1.1 X.1.2.1 hr hn (fun t ht hW => ⟨⟨v, σ, rfl, he, picU_end X hP ht hW⟩, hP.2.F ht⟩) hP.2.2.2 hdg hlocks
theorem r_lret (X : CX G p m c cc nL s args own) (hP : PS ft G s σ H locs) (hr : meth.sig.returnType = some .long) (hlocks : meth.locks = false) {v : Int64} {res : Int64 × ST} (he : (v, σ) = res) (hdg : decode cc pc = .ok (.lreturn, 1)) : W p l e R s m args below meth c H locs cells slots (MQ below (va_Ql (fun (r : Int64) (u : ST) => (r, u) = res) (PicU ft G) G.2.2.2.1) args s cells slots G.2.2.2.1) (F0 m pc ls [.long v]) :=
  W.lret X.1.1 X.1.2.1 hr (fun t ht hW => ⟨⟨v, σ, rfl, he, picU_end X hP ht hW⟩, hP.2.F ht⟩) hP.2.2.2 hdg hlocks
theorem r_vret (X : CX G p m c cc nL s args own) (hP : PS ft G s σ H locs) (hr : meth.sig.returnType = none) (hlocks : meth.locks = false) {res : ST} (he : σ = res) (hdg : decode cc pc = .ok (.return_, 1)) : W p l e R s m args below meth c H locs cells slots (MQ below (va_Qv (fun (u : ST) => u = res) (PicU ft G) G.2.2.2.1) args s cells slots G.2.2.2.1) (F0 m pc ls []) :=
  W.vret X.1.1 X.1.2.1 hr (fun t ht hW => ⟨⟨σ, rfl, he, picU_end X hP ht hW⟩, hP.2.F ht⟩) hP.2.2.2 hdg hlocks
/-- before a call: the callee's start -/
theorem pre_call (X : CX G p m c cc nL s args own) (hP : PS ft G s σ H locs) (As : List Value) : PreS s H (va_Pc As (PicU ft G σ)) As :=
  ⟨PicU.blind, fun U hU hW => ⟨rfl, picU_end X hP hU hW⟩⟩
theorem recv_fix (X : CX G p m c cc nL s args own) (hP : PS ft G s σ H locs) (j : Nat) {o ci : Nat} {fl : List (Nat × Nat)} (hj : ft[j]? = some (.inr (o, ci, fl))) {C : String} {T : u_T} {N : Nat} (hc : lk_cl[ci]? = some (C, T, N)) : ∃ cell : Cell, H[G.2.2.1 j]? = some cell ∧ cell.vm.isStatics = false ∧ s.vm.findClass C = some cell.cls :=
  va_recv X.2.1 (va_P1 (hP.1.1 j _ hj).1) hc (q0 := 0) rfl
variable {y : MethodName} {bytes : ByteArray} {maxL mc ms n index : Nat} {ret : Option FieldType} {ws : List Cond} {rm : Room} {Qc : Array Value → State → Outcome → State → Prop} {As : List Value}
/-- a call through a fixed object -/
theorem r_runV (X : CX G p m c cc nL s args own) (hP : PS ft G s σ H locs) (j : Nat) {o ci : Nat} {fl : List (Nat × Nat)} (hj : ft[j]? = some (.inr (o, ci, fl))) {C : String} {T : u_T} {N : Nat} (hc : lk_cl[ci]? = some (C, T, N)) (hM : Met l y ws rm (va_Pc (.ref (G.2.2.1 j) :: As) (PicU ft G σ)) Qc mc ms G.2.2.2.1) (cw : CallW R s args own C index y bytes maxL ret ws rm mc ms n) (hn : As.length = n) (hsize : ls.size = nL) (hstack : st0 = As.reverse ++ .ref (G.2.2.1 j) :: rest) (hW : (rest.map fun v => v.category).sum ≤ 8) (hdg : decode cc pc = .ok (.invokevirtual index, 3)) (hf : cells + mc ≤ R.cells ∧ slots + ms ≤ R.slots) :
    va_Run p l e R s m args below meth c H locs cells slots mc ms (F0 m pc ls st0) rest (Qc (Value.ref (G.2.2.1 j) :: As).toArray) G.2.2.2.1 :=
  va_runV X.1 hM cw ⟨PicU.blind, recv_fix X hP j hj hc, (pre_call X hP _).2⟩ rfl hn hsize hstack (lv_room hW) hdg hf
theorem r_runS (X : CX G p m c cc nL s args own) (hP : PS ft G s σ H locs) (hM : Met l y ws rm (va_Pc As (PicU ft G σ)) Qc mc ms G.2.2.2.1) (cw : CallB R s args own index y bytes maxL ret ws rm mc ms n ∧ (Cond.static y).before args s = true) (hn : As.length = n) (hsize : ls.size = nL) (hstack : st0 = As.reverse ++ rest) (hW : (rest.map fun v => v.category).sum ≤ 8) (hdg : decode cc pc = .ok (.invokestatic index, 3)) (hf : cells + mc ≤ R.cells ∧ slots + ms ≤ R.slots) :
    va_Run p l e R s m args below meth c H locs cells slots mc ms (F0 m pc ls st0) rest (Qc As.toArray) G.2.2.2.1 :=
  va_runS X.1 hM cw (pre_call X hP _) rfl hn hsize hstack (lv_room hW) hdg hf
variable {a : Array Value}
theorem r_calli {r0 : Int32} {u0 : ST} (hr : va_Run p l e R s m args below meth c H locs cells slots 0 0 (F0 m pc ls st0) rest (va_Qi (fun (r : Int32) (u : ST) => (r, u) = (r0, u0)) (PicU ft G) G.2.2.2.1 a) G.2.2.2.1) (hP : PS ft G s σ H locs)
    (kk : ∀ (H : Heap) (locs : List Loc), PS ft G s u0 H locs → W p l e R s m args below meth c H locs cells slots Q (F0 m (pc + 3) ls (.int r0 :: rest))) : W p l e R s m args below meth c H locs cells slots Q (F0 m pc ls st0) := by
  refine va_calli hr hP.2 (fun _ _ h => h) (fun _ h => h) fun r u t H1 locs1 ht hvm hw hB hz hk hS => ?_
  cases hw
  exact kk H1 locs1 ⟨by rw [← ht]; exact hB.1, hS⟩
theorem r_calll {r0 : Int64} {u0 : ST} (hr : va_Run p l e R s m args below meth c H locs cells slots 0 0 (F0 m pc ls st0) rest (va_Ql (fun (r : Int64) (u : ST) => (r, u) = (r0, u0)) (PicU ft G) G.2.2.2.1 a) G.2.2.2.1) (hP : PS ft G s σ H locs)
    (kk : ∀ (H : Heap) (locs : List Loc), PS ft G s u0 H locs → W p l e R s m args below meth c H locs cells slots Q (F0 m (pc + 3) ls (.long r0 :: rest))) : W p l e R s m args below meth c H locs cells slots Q (F0 m pc ls st0) := by
  refine va_calll hr hP.2 (fun _ _ h => h) (fun _ h => h) fun r u t H1 locs1 ht hvm hw hB hz hk hS => ?_
  cases hw
  exact kk H1 locs1 ⟨by rw [← ht]; exact hB.1, hS⟩
theorem r_callv {u0 : ST} (hr : va_Run p l e R s m args below meth c H locs cells slots 0 0 (F0 m pc ls st0) rest (va_Qv (fun (u : ST) => u = u0) (PicU ft G) G.2.2.2.1 a) G.2.2.2.1) (hP : PS ft G s σ H locs)
    (kk : ∀ (H : Heap) (locs : List Loc), PS ft G s u0 H locs → W p l e R s m args below meth c H locs cells slots Q (F0 m (pc + 3) ls rest)) : W p l e R s m args below meth c H locs cells slots Q (F0 m pc ls st0) := by
  refine va_callv hr hP.2 (fun _ _ h => h) (fun _ h => h) fun u t H1 locs1 ht hvm hw hB hz hk hS => ?_
  cases hw
  exact kk H1 locs1 ⟨by rw [← ht]; exact hB.1, hS⟩
end RCL
/-! the functions that copy the code: what can go wrong is none -/
/-- an index is asked -/
def ck {α : Type} (i : Int32) (n : Nat) (k : Option α) : Option α := if i < 0 ∨ n ≤ i.toNatClampNeg then none else k
/-- a value is asked not to be 0 -/
def nz {α : Type} (i : Int32) (k : Option α) : Option α := if i = 0 then none else k
/-- a boolean's own values -/
def bz {α : Type} (i : Int32) (k : Option α) : Option α := if i = 0 ∨ i = 1 then k else none
def bo {α β : Type} (x : Option α) (k : α → Option β) : Option β := match x with
  | none => none
  | some a => k a
theorem ck_in {α : Type} {i : Int32} {n : Nat} {k : Option α} {r : α} (h : ck i n k = some r) : vp_in i n := by
  unfold ck at h
  intro q
  rw [if_pos q] at h
  cases h
theorem ck_k {α : Type} {i : Int32} {n : Nat} {k : Option α} {r : α} (h : ck i n k = some r) : k = some r := by
  have h1 := ck_in h
  unfold ck at h
  rw [if_neg h1] at h
  exact h
theorem nz_ne {α : Type} {i : Int32} {k : Option α} {r : α} (h : nz i k = some r) : ¬ i = 0 := by
  intro q
  unfold nz at h
  rw [if_pos q] at h
  cases h
theorem nz_k {α : Type} {i : Int32} {k : Option α} {r : α} (h : nz i k = some r) : k = some r := by
  have h1 := nz_ne h
  unfold nz at h
  rw [if_neg h1] at h
  exact h
theorem bz_or {α : Type} {i : Int32} {k : Option α} {r : α} (h : bz i k = some r) : narrow .boolean (.int i) = .int i := by
  unfold bz at h
  by_cases q : i = 0 ∨ i = 1
  · rcases q with rfl | rfl <;> rfl
  · rw [if_neg q] at h
    cases h
theorem bz_k {α : Type} {i : Int32} {k : Option α} {r : α} (h : bz i k = some r) : k = some r := by
  unfold bz at h
  by_cases q : i = 0 ∨ i = 1
  · rw [if_pos q] at h
    exact h
  · rw [if_neg q] at h
    cases h
theorem bo_ex {α β : Type} {x : Option α} {k : α → Option β} {r : β} (h : bo x k = some r) : ∃ a, x = some a ∧ k a = some r := by
  cases x with
  | none => cases h
  | some a => exact ⟨a, rfl, h⟩
theorem it_t {α : Type} {c : Prop} [Decidable c] {a b : Option α} {r : α} (h : (if c then a else b) = some r) (hc : c) : a = some r := by
  rw [if_pos hc] at h
  exact h
theorem it_f {α : Type} {c : Prop} [Decidable c] {a b : Option α} {r : α} (h : (if c then a else b) = some r) (hc : ¬ c) : b = some r := by
  rw [if_neg hc] at h
  exact h
def st_ {α β : Type} (x : α) (k : α → Option β) : Option β := k x
theorem st_k {α β : Type} {x a : α} {k : α → Option β} {r : β} (h : st_ x k = some r) (e : a = x) : k a = some r := by
  rw [e]
  exact h
/-- a join: what comes behind is named once -/
def jn {α β : Type} (f : α) (k : α → Option β) : Option β := k f
theorem jn_ex {α β : Type} {f : α} {k : α → Option β} {r : β} (h : jn f k = some r) : ∃ j, j = f ∧ k j = some r := ⟨f, rfl, h⟩
def bo2 {α β γ : Type} (x : Option (α × β)) (k : α → β → Option γ) : Option γ := bo x fun q => k q.1 q.2
def bo3 {α β γ δ : Type} (x : Option (α × β × γ)) (k : α → β → γ → Option δ) : Option δ := bo x fun q => k q.1 q.2.1 q.2.2
def bo4 {α β γ δ ε : Type} (x : Option (α × β × γ × δ)) (k : α → β → γ → δ → Option ε) : Option ε := bo x fun q => k q.1 q.2.1 q.2.2.1 q.2.2.2
def bo5 {α β γ δ ε ζ : Type} (x : Option (α × β × γ × δ × ε)) (k : α → β → γ → δ → ε → Option ζ) : Option ζ := bo x fun q => k q.1 q.2.1 q.2.2.1 q.2.2.2.1 q.2.2.2.2
def bo6 {α β γ δ ε ζ η : Type} (x : Option (α × β × γ × δ × ε × ζ)) (k : α → β → γ → δ → ε → ζ → Option η) : Option η := bo x fun q => k q.1 q.2.1 q.2.2.1 q.2.2.2.1 q.2.2.2.2.1 q.2.2.2.2.2
theorem bo2_ex {α β γ : Type} {x : Option (α × β)} {k : α → β → Option γ} {r : γ} (h : bo2 x k = some r) : ∃ a b, x = some (a, b) ∧ k a b = some r := by
  obtain ⟨⟨a, b⟩, h1, h2⟩ := bo_ex h
  exact ⟨a, b, h1, h2⟩
theorem bo3_ex {α β γ δ : Type} {x : Option (α × β × γ)} {k : α → β → γ → Option δ} {r : δ} (h : bo3 x k = some r) : ∃ a b c, x = some (a, b, c) ∧ k a b c = some r := by
  obtain ⟨⟨a, b, c⟩, h1, h2⟩ := bo_ex h
  exact ⟨a, b, c, h1, h2⟩
theorem bo4_ex {α β γ δ ε : Type} {x : Option (α × β × γ × δ)} {k : α → β → γ → δ → Option ε} {r : ε} (h : bo4 x k = some r) : ∃ a b c d, x = some (a, b, c, d) ∧ k a b c d = some r := by
  obtain ⟨⟨a, b, c, d⟩, h1, h2⟩ := bo_ex h
  exact ⟨a, b, c, d, h1, h2⟩
theorem bo5_ex {α β γ δ ε ζ : Type} {x : Option (α × β × γ × δ × ε)} {k : α → β → γ → δ → ε → Option ζ} {r : ζ} (h : bo5 x k = some r) : ∃ a b c d f, x = some (a, b, c, d, f) ∧ k a b c d f = some r := by
  obtain ⟨⟨a, b, c, d, f⟩, h1, h2⟩ := bo_ex h
  exact ⟨a, b, c, d, f, h1, h2⟩
theorem bo6_ex {α β γ δ ε ζ η : Type} {x : Option (α × β × γ × δ × ε × ζ)} {k : α → β → γ → δ → ε → ζ → Option η} {r : η} (h : bo6 x k = some r) : ∃ a b c d f g, x = some (a, b, c, d, f, g) ∧ k a b c d f g = some r := by
  obtain ⟨⟨a, b, c, d, f, g⟩, h1, h2⟩ := bo_ex h
  exact ⟨a, b, c, d, f, g, h1, h2⟩
/-- loops, by the number of what varies -/
def wl1 {α τ : Type} (B : (α → Option τ) → α → Option τ) : Nat → α → Option τ
  | 0, _ => none
  | n + 1, a => B (wl1 B n) a
def wl2 {α β τ : Type} (B : (α → β → Option τ) → α → β → Option τ) : Nat → α → β → Option τ
  | 0, _, _ => none
  | n + 1, a, b => B (wl2 B n) a b
def wl3 {α β γ τ : Type} (B : (α → β → γ → Option τ) → α → β → γ → Option τ) : Nat → α → β → γ → Option τ
  | 0, _, _, _ => none
  | n + 1, a, b, c => B (wl3 B n) a b c
def wl4 {α β γ δ τ : Type} (B : (α → β → γ → δ → Option τ) → α → β → γ → δ → Option τ) : Nat → α → β → γ → δ → Option τ
  | 0, _, _, _, _ => none
  | n + 1, a, b, c, d => B (wl4 B n) a b c d
def wl5 {α β γ δ ε τ : Type} (B : (α → β → γ → δ → ε → Option τ) → α → β → γ → δ → ε → Option τ) : Nat → α → β → γ → δ → ε → Option τ
  | 0, _, _, _, _, _ => none
  | n + 1, a, b, c, d, f => B (wl5 B n) a b c d f
def FU : Nat := 1000
abbrev rmf (f lo : Nat) : Room := { frames := f, cells := 0, slots := 0, locals := lo }
section ENT
variable {l : Launch} {ft : List FC} {G : GT} {σ u0 : ST} {y : MethodName} {cc : ByteArray} {maxL : Nat} {rm : Room} {mc ms : Nat} {As : List Value} {lv : List (Nat × Value)}
theorem m_enterI {rt : FieldType} {r0 : Int32} (hy : plainName y.cls = true) (hlen : Nat.ble (lg_sl As).length maxL = true) (hlv : lv_args 0 As = lv)
    (body : ∀ (p : Program) (e : Env) (s : State) (m : MethodId) (args : Array Value) (below : List Frame) (meth : Method) (c : Code) (H : Heap) (locs : List Loc) (ls : Array Slot) (Q : State → Prop), CX G p m c cc maxL s args y.cls →
      (∀ (v : Int32) (σ' : ST) (H : Heap) (locs : List Loc) (ls : Array Slot) (pc : Nat), decode cc pc = .ok (.ireturn, 1) → narrow rt (.int v) = .int v → (v, σ') = (r0, u0) → PS ft G s σ' H locs → W p l e rm s m args below meth c H locs mc ms Q (F0 m pc ls [.int v])) →
      PS ft G s σ H locs → lv_has ls maxL lv → W p l e rm s m args below meth c H locs 0 0 Q (F0 m 0 ls [])) : CI l ft G y (ws_ y cc maxL (some rt)) rm mc ms As σ (r0, u0) :=
  m_enter hy hlen hlv fun p e s m below meth c H locs ls X hr hk _ hP hl => body p e s m _ below meth c H locs ls _ X (fun _ _ _ _ _ _ hd hn he hP' => r_zret X hP' hr hk hn he hd) hP hl
theorem m_enterL {r0 : Int64} (hy : plainName y.cls = true) (hlen : Nat.ble (lg_sl As).length maxL = true) (hlv : lv_args 0 As = lv)
    (body : ∀ (p : Program) (e : Env) (s : State) (m : MethodId) (args : Array Value) (below : List Frame) (meth : Method) (c : Code) (H : Heap) (locs : List Loc) (ls : Array Slot) (Q : State → Prop), CX G p m c cc maxL s args y.cls →
      (∀ (v : Int64) (σ' : ST) (H : Heap) (locs : List Loc) (ls : Array Slot) (pc : Nat), decode cc pc = .ok (.lreturn, 1) → (v, σ') = (r0, u0) → PS ft G s σ' H locs → W p l e rm s m args below meth c H locs mc ms Q (F0 m pc ls [.long v])) →
      PS ft G s σ H locs → lv_has ls maxL lv → W p l e rm s m args below meth c H locs 0 0 Q (F0 m 0 ls [])) : CL l ft G y (ws_ y cc maxL (some .long)) rm mc ms As σ (r0, u0) :=
  m_enter hy hlen hlv fun p e s m below meth c H locs ls X hr hk _ hP hl => body p e s m _ below meth c H locs ls _ X (fun _ _ _ _ _ _ hd he hP' => r_lret X hP' hr hk he hd) hP hl
theorem m_enterV (hy : plainName y.cls = true) (hlen : Nat.ble (lg_sl As).length maxL = true) (hlv : lv_args 0 As = lv)
    (body : ∀ (p : Program) (e : Env) (s : State) (m : MethodId) (args : Array Value) (below : List Frame) (meth : Method) (c : Code) (H : Heap) (locs : List Loc) (ls : Array Slot) (Q : State → Prop), CX G p m c cc maxL s args y.cls → meth.name = y.name →
      (∀ (σ' : ST) (H : Heap) (locs : List Loc) (ls : Array Slot) (pc : Nat), decode cc pc = .ok (.return_, 1) → σ' = u0 → PS ft G s σ' H locs → W p l e rm s m args below meth c H locs mc ms Q (F0 m pc ls [])) →
      PS ft G s σ H locs → lv_has ls maxL lv → W p l e rm s m args below meth c H locs 0 0 Q (F0 m 0 ls [])) : CV l ft G y (ws_ y cc maxL none) rm mc ms As σ u0 :=
  m_enter hy hlen hlv fun p e s m below meth c H locs ls X hr hk hnm hP hl => body p e s m _ below meth c H locs ls _ X hnm (fun _ _ _ _ _ hd he hP' => r_vret X hP' hr hk he hd) hP hl
end ENT
