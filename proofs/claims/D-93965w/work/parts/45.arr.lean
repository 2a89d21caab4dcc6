/-! ARRAYS OF THE POOL. The class of an array is told by its number d. -/
def pan (σ : ST) (r : Option Nat) (d : ClassId) : Option Nat := match r with
  | none => none
  | some a => match σ.2.2.2.1 a with
    | some (.inl (d', n, _)) => if d' = d then some n else none
    | _ => none
def pai (σ : ST) (r : Option Nat) (d : ClassId) (i : Int32) : Option Int32 := match r with
  | none => none
  | some a => match σ.2.2.2.1 a with
    | some (.inl (d', n, .inl f)) => if d' = d ∧ ¬ (i < 0 ∨ n ≤ i.toNatClampNeg) then some (f i.toNatClampNeg) else none
    | _ => none
def pal (σ : ST) (r : Option Nat) (d : ClassId) (i : Int32) : Option Int64 := match r with
  | none => none
  | some a => match σ.2.2.2.1 a with
    | some (.inl (d', n, .inr (.inl f))) => if d' = d ∧ ¬ (i < 0 ∨ n ≤ i.toNatClampNeg) then some (f i.toNatClampNeg) else none
    | _ => none
def psi (σ : ST) (r : Option Nat) (d : ClassId) (i v : Int32) : Option ST := match r with
  | none => none
  | some a => match σ.2.2.2.1 a with
    | some (.inl (d', n, .inl f)) => if d' = d ∧ ¬ (i < 0 ∨ n ≤ i.toNatClampNeg) then some (setg σ (gset σ.2.2.2.1 a (.inl (d, n, .inl (upd f i.toNatClampNeg v))))) else none
    | _ => none
def psl (σ : ST) (r : Option Nat) (d : ClassId) (i : Int32) (v : Int64) : Option ST := match r with
  | none => none
  | some a => match σ.2.2.2.1 a with
    | some (.inl (d', n, .inr (.inl f))) => if d' = d ∧ ¬ (i < 0 ∨ n ≤ i.toNatClampNeg) then some (setg σ (gset σ.2.2.2.1 a (.inl (d, n, .inr (.inl (vp_updL f i.toNatClampNeg v)))))) else none
    | _ => none
def aloi (σ : ST) (d : ClassId) (n : Nat) : ST := (σ.1, σ.2.1, σ.2.2.1, gset σ.2.2.2.1 (szo σ) (.inl (d, n, .inl (fun _ => 0))), szo σ + 1, suo σ + n)
def alol (σ : ST) (d : ClassId) (n : Nat) : ST := (σ.1, σ.2.1, σ.2.2.1, gset σ.2.2.2.1 (szo σ) (.inl (d, n, .inr (.inl (fun _ => 0)))), szo σ + 1, suo σ + n)
theorem pan_ex {σ : ST} {r : Option Nat} {d : ClassId} {n : Nat} (h : pan σ r d = some n) : ∃ a f, r = some a ∧ σ.2.2.2.1 a = some (.inl (d, n, f)) := by
  unfold pan at h
  split at h
  · cases h
  · split at h
    · rename_i he
      split at h
      · rename_i hd
        subst hd
        cases h
        exact ⟨_, _, rfl, he⟩
      · cases h
    · cases h
theorem pai_ex {σ : ST} {r : Option Nat} {d : ClassId} {i v : Int32} (h : pai σ r d i = some v) : ∃ a n f, r = some a ∧ σ.2.2.2.1 a = some (.inl (d, n, .inl f)) ∧ vp_in i n ∧ v = f i.toNatClampNeg := by
  unfold pai at h
  split at h
  · cases h
  · split at h
    · rename_i he
      split at h
      · rename_i hd
        obtain ⟨rfl, hi⟩ := hd
        cases h
        exact ⟨_, _, _, rfl, he, hi, rfl⟩
      · cases h
    · cases h
theorem pal_ex {σ : ST} {r : Option Nat} {d : ClassId} {i : Int32} {v : Int64} (h : pal σ r d i = some v) : ∃ a n f, r = some a ∧ σ.2.2.2.1 a = some (.inl (d, n, .inr (.inl f))) ∧ vp_in i n ∧ v = f i.toNatClampNeg := by
  unfold pal at h
  split at h
  · cases h
  · split at h
    · rename_i he
      split at h
      · rename_i hd
        obtain ⟨rfl, hi⟩ := hd
        cases h
        exact ⟨_, _, _, rfl, he, hi, rfl⟩
      · cases h
    · cases h
theorem psi_ex {σ σ1 : ST} {r : Option Nat} {d : ClassId} {i v : Int32} (h : psi σ r d i v = some σ1) : ∃ a n f, r = some a ∧ σ.2.2.2.1 a = some (.inl (d, n, .inl f)) ∧ vp_in i n ∧ σ1 = setg σ (gset σ.2.2.2.1 a (.inl (d, n, .inl (upd f i.toNatClampNeg v)))) := by
  unfold psi at h
  split at h
  · cases h
  · split at h
    · rename_i he
      split at h
      · rename_i hd
        obtain ⟨rfl, hi⟩ := hd
        cases h
        exact ⟨_, _, _, rfl, he, hi, rfl⟩
      · cases h
    · cases h
theorem psl_ex {σ σ1 : ST} {r : Option Nat} {d : ClassId} {i : Int32} {v : Int64} (h : psl σ r d i v = some σ1) : ∃ a n f, r = some a ∧ σ.2.2.2.1 a = some (.inl (d, n, .inr (.inl f))) ∧ vp_in i n ∧ σ1 = setg σ (gset σ.2.2.2.1 a (.inl (d, n, .inr (.inl (vp_updL f i.toNatClampNeg v))))) := by
  unfold psl at h
  split at h
  · cases h
  · split at h
    · rename_i he
      split at h
      · rename_i hd
        obtain ⟨rfl, hi⟩ := hd
        cases h
        exact ⟨_, _, _, rfl, he, hi, rfl⟩
      · cases h
    · cases h
section PAR
variable {p : Program} {l : Launch} {e : Env} {R : Room} {s : State} {m : MethodId} {args : Array Value} {below : List Frame} {meth : Method} {c : Code} {H : Heap} {locs : List Loc} {cells slots : Nat} {Q : State → Prop}
variable {cc : ByteArray} {pc nL : Nat} {ls : Array Slot} {rest : List Value} {own : String} {ft : List FC} {G : GT} {σ : ST}
theorem r_pan (X : CX G p m c cc nL s args own) (hP : PS ft G s σ H locs) (t : Nat) {ty : FieldType} (ht : (lk_tys G)[t]? = some (G.2.1 t, ty)) {r : Option Nat} {n : Nat} (hg : pan σ r (G.2.1 t) = some n) (hdg : decode cc pc = .ok (.arraylength, 1))
    (kk : W p l e R s m args below meth c H locs cells slots Q (F0 m (pc + 1) ls (.int (Int32.ofNat n) :: rest))) : W p l e R s m args below meth c H locs cells slots Q (F0 m pc ls (va_rf r :: rest)) := by
  obtain ⟨a, f, rfl, h1⟩ := pan_ex hg
  exact va_alen X.1.1 X.1.2.1 X.2.1 (va_P1 (hP.1.2.2.1 a _ h1).1) 0 t rfl ht rfl hdg kk
theorem r_pai (X : CX G p m c cc nL s args own) (hP : PS ft G s σ H locs) {r : Option Nat} {i v : Int32} (hg : pai σ r (G.2.1 0) i = some v) (hdg : decode cc pc = .ok (.iaload, 1))
    (kk : W p l e R s m args below meth c H locs cells slots Q (F0 m (pc + 1) ls (.int v :: rest))) : W p l e R s m args below meth c H locs cells slots Q (F0 m pc ls (.int i :: va_rf r :: rest)) := by
  obtain ⟨a, n, f, rfl, h1, hin, rfl⟩ := pai_ex hg
  exact va_iald X.1.1 X.1.2.1 X.2.1 (va_P1 (hP.1.2.2.1 a _ h1).1) 0 0 rfl rfl hin hdg kk
theorem r_pab (X : CX G p m c cc nL s args own) (hP : PS ft G s σ H locs) {r : Option Nat} {i v : Int32} (hg : pai σ r (G.2.1 1) i = some v) (hdg : decode cc pc = .ok (.baload, 1))
    (kk : W p l e R s m args below meth c H locs cells slots Q (F0 m (pc + 1) ls (.int v :: rest))) : W p l e R s m args below meth c H locs cells slots Q (F0 m pc ls (.int i :: va_rf r :: rest)) := by
  obtain ⟨a, n, f, rfl, h1, hin, rfl⟩ := pai_ex hg
  exact va_bald X.1.1 X.1.2.1 X.2.1 (va_P1 (hP.1.2.2.1 a _ h1).1) 0 1 rfl rfl hin hdg kk
theorem r_pas (X : CX G p m c cc nL s args own) (hP : PS ft G s σ H locs) {r : Option Nat} {i v : Int32} (hg : pai σ r (G.2.1 9) i = some v) (hdg : decode cc pc = .ok (.saload, 1))
    (kk : W p l e R s m args below meth c H locs cells slots Q (F0 m (pc + 1) ls (.int v :: rest))) : W p l e R s m args below meth c H locs cells slots Q (F0 m pc ls (.int i :: va_rf r :: rest)) := by
  obtain ⟨a, n, f, rfl, h1, hin, rfl⟩ := pai_ex hg
  exact va_sald X.1.1 X.1.2.1 X.2.1 (va_P1 (hP.1.2.2.1 a _ h1).1) 0 9 rfl rfl hin hdg kk
theorem r_paz (X : CX G p m c cc nL s args own) (hP : PS ft G s σ H locs) {r : Option Nat} {i v : Int32} (hg : pai σ r (G.2.1 10) i = some v) (hdg : decode cc pc = .ok (.baload, 1))
    (kk : W p l e R s m args below meth c H locs cells slots Q (F0 m (pc + 1) ls (.int v :: rest))) : W p l e R s m args below meth c H locs cells slots Q (F0 m pc ls (.int i :: va_rf r :: rest)) := by
  obtain ⟨a, n, f, rfl, h1, hin, rfl⟩ := pai_ex hg
  exact va_zald X.1.1 X.1.2.1 X.2.1 (va_P1 (hP.1.2.2.1 a _ h1).1) 0 10 rfl rfl hin hdg kk
theorem r_pal (X : CX G p m c cc nL s args own) (hP : PS ft G s σ H locs) {r : Option Nat} {i : Int32} {v : Int64} (hg : pal σ r (G.2.1 2) i = some v) (hdg : decode cc pc = .ok (.laload, 1))
    (kk : W p l e R s m args below meth c H locs cells slots Q (F0 m (pc + 1) ls (.long v :: rest))) : W p l e R s m args below meth c H locs cells slots Q (F0 m pc ls (.int i :: va_rf r :: rest)) := by
  obtain ⟨a, n, f, rfl, h1, hin, rfl⟩ := pal_ex hg
  exact va_lald X.1.1 X.1.2.1 X.2.1 (va_P1 (hP.1.2.2.1 a _ h1).1) 0 2 rfl rfl hin hdg kk
theorem r_psi (X : CX G p m c cc nL s args own) (hP : PS ft G s σ H locs) {r : Option Nat} {i v : Int32} {σ1 : ST} (hg : psi σ r (G.2.1 0) i v = some σ1) (hdg : decode cc pc = .ok (.iastore, 1))
    (kk : ∀ (H : Heap) (locs : List Loc), PS ft G s σ1 H locs → W p l e R s m args below meth c H locs cells slots Q (F0 m (pc + 1) ls rest)) : W p l e R s m args below meth c H locs cells slots Q (F0 m pc ls (.int v :: .int i :: va_rf r :: rest)) := by
  obtain ⟨a, n, f, rfl, h1, hin, rfl⟩ := psi_ex hg
  obtain ⟨⟨hx, hb, hml, hown, hts⟩, hK, hN, hEV⟩ := X
  obtain ⟨g1, g2, g3⟩ := hP.1.2.2.1 a _ h1
  have ha : H[a]? = some (vp_cell (G.2.1 0) (n, .inl f)) := g1
  refine W.iast hx hb ha ((hK.2 0 _ rfl).1 n (fun j => .int (f j))) (fun q => by cases q) (by show ¬ (i < 0 ∨ (arrV _ _ _).slots.size ≤ _); rw [arrV_size]; exact hin) rfl rfl hdg fun H1 e1 z oq => kk H1 _ ⟨hP.1.pset h1 ?_ z (tot_set ha e1 oq (set_slots _ _ _)) oq, hP.2.put z oq g2⟩
  show H1[a]? = some (vp_cell _ _)
  rw [e1, vp_cell_i, vp_cell_i, arrV_store]
  congr 2
  funext q
  by_cases hq : q = i.toNatClampNeg
  · subst hq
    simp [updV, upd]
  · simp [updV, upd, hq]
theorem r_psb (X : CX G p m c cc nL s args own) (hP : PS ft G s σ H locs) {r : Option Nat} {i v : Int32} {σ1 : ST} (hg : psi σ r (G.2.1 1) i v.toInt8.toInt32 = some σ1) (hdg : decode cc pc = .ok (.bastore, 1))
    (kk : ∀ (H : Heap) (locs : List Loc), PS ft G s σ1 H locs → W p l e R s m args below meth c H locs cells slots Q (F0 m (pc + 1) ls rest)) : W p l e R s m args below meth c H locs cells slots Q (F0 m pc ls (.int v :: .int i :: va_rf r :: rest)) := by
  obtain ⟨a, n, f, rfl, h1, hin, rfl⟩ := psi_ex hg
  obtain ⟨⟨hx, hb, hml, hown, hts⟩, hK, hN, hEV⟩ := X
  obtain ⟨g1, g2, g3⟩ := hP.1.2.2.1 a _ h1
  have ha : H[a]? = some (vp_cell (G.2.1 1) (n, .inl f)) := g1
  refine W.bast hx hb ha ((hK.2 1 _ rfl).1 n (fun j => .int (f j))) (fun q => by cases q) (by show ¬ (i < 0 ∨ (arrV _ _ _).slots.size ≤ _); rw [arrV_size]; exact hin) rfl rfl hdg fun H1 e1 z oq => kk H1 _ ⟨hP.1.pset h1 ?_ z (tot_set ha e1 oq (set_slots _ _ _)) oq, hP.2.put z oq g2⟩
  show H1[a]? = some (vp_cell _ _)
  rw [e1, vp_cell_i, vp_cell_i, arrV_store, narrow_byte]
  congr 2
  funext q
  by_cases hq : q = i.toNatClampNeg
  · subst hq
    simp [updV, upd]
  · simp [updV, upd, hq]
theorem r_pss (X : CX G p m c cc nL s args own) (hP : PS ft G s σ H locs) {r : Option Nat} {i v : Int32} {σ1 : ST} (hg : psi σ r (G.2.1 9) i (vp_nar .short v) = some σ1) (hdg : decode cc pc = .ok (.sastore, 1))
    (kk : ∀ (H : Heap) (locs : List Loc), PS ft G s σ1 H locs → W p l e R s m args below meth c H locs cells slots Q (F0 m (pc + 1) ls rest)) : W p l e R s m args below meth c H locs cells slots Q (F0 m pc ls (.int v :: .int i :: va_rf r :: rest)) := by
  obtain ⟨a, n, f, rfl, h1, hin, rfl⟩ := psi_ex hg
  obtain ⟨⟨hx, hb, hml, hown, hts⟩, hK, hN, hEV⟩ := X
  obtain ⟨g1, g2, g3⟩ := hP.1.2.2.1 a _ h1
  have ha : H[a]? = some (vp_cell (G.2.1 9) (n, .inl f)) := g1
  refine W.sast hx hb ha ((hK.2 9 _ rfl).1 n (fun j => .int (f j))) (fun q => by cases q) (by show ¬ (i < 0 ∨ (arrV _ _ _).slots.size ≤ _); rw [arrV_size]; exact hin) rfl rfl hdg fun H1 e1 z oq => kk H1 _ ⟨hP.1.pset h1 ?_ z (tot_set ha e1 oq (set_slots _ _ _)) oq, hP.2.put z oq g2⟩
  show H1[a]? = some (vp_cell _ _)
  rw [e1, vp_cell_i, vp_cell_i, arrV_store]
  congr 2
  funext q
  by_cases hq : q = i.toNatClampNeg
  · subst hq
    simp [updV, upd, vp_nar]
    try rfl
  · simp [updV, upd, hq]
theorem r_psz (X : CX G p m c cc nL s args own) (hP : PS ft G s σ H locs) {r : Option Nat} {i v : Int32} {σ1 : ST} (hg : psi σ r (G.2.1 10) i (vp_nar .boolean v) = some σ1) (hdg : decode cc pc = .ok (.bastore, 1))
    (kk : ∀ (H : Heap) (locs : List Loc), PS ft G s σ1 H locs → W p l e R s m args below meth c H locs cells slots Q (F0 m (pc + 1) ls rest)) : W p l e R s m args below meth c H locs cells slots Q (F0 m pc ls (.int v :: .int i :: va_rf r :: rest)) := by
  obtain ⟨a, n, f, rfl, h1, hin, rfl⟩ := psi_ex hg
  obtain ⟨⟨hx, hb, hml, hown, hts⟩, hK, hN, hEV⟩ := X
  obtain ⟨g1, g2, g3⟩ := hP.1.2.2.1 a _ h1
  have ha : H[a]? = some (vp_cell (G.2.1 10) (n, .inl f)) := g1
  refine W.zast hx hb ha ((hK.2 10 _ rfl).1 n (fun j => .int (f j))) (fun q => by cases q) (by show ¬ (i < 0 ∨ (arrV _ _ _).slots.size ≤ _); rw [arrV_size]; exact hin) rfl rfl hdg fun H1 e1 z oq => kk H1 _ ⟨hP.1.pset h1 ?_ z (tot_set ha e1 oq (set_slots _ _ _)) oq, hP.2.put z oq g2⟩
  show H1[a]? = some (vp_cell _ _)
  rw [e1, vp_cell_i, vp_cell_i, arrV_store]
  congr 2
  funext q
  by_cases hq : q = i.toNatClampNeg
  · subst hq
    simp [updV, upd, vp_nar]
    try rfl
  · simp [updV, upd, hq]
theorem r_psl (X : CX G p m c cc nL s args own) (hP : PS ft G s σ H locs) {r : Option Nat} {i : Int32} {v : Int64} {σ1 : ST} (hg : psl σ r (G.2.1 2) i v = some σ1) (hdg : decode cc pc = .ok (.lastore, 1))
    (kk : ∀ (H : Heap) (locs : List Loc), PS ft G s σ1 H locs → W p l e R s m args below meth c H locs cells slots Q (F0 m (pc + 1) ls rest)) : W p l e R s m args below meth c H locs cells slots Q (F0 m pc ls (.long v :: .int i :: va_rf r :: rest)) := by
  obtain ⟨a, n, f, rfl, h1, hin, rfl⟩ := psl_ex hg
  obtain ⟨⟨hx, hb, hml, hown, hts⟩, hK, hN, hEV⟩ := X
  obtain ⟨g1, g2, g3⟩ := hP.1.2.2.1 a _ h1
  have ha : H[a]? = some (vp_cell (G.2.1 2) (n, .inr (.inl f))) := g1
  refine W.last hx hb ha ((hK.2 2 _ rfl).1 n (fun j => .long (f j))) (fun q => by cases q) (by show ¬ (i < 0 ∨ (arrV _ _ _).slots.size ≤ _); rw [arrV_size]; exact hin) rfl rfl hdg fun H1 e1 z oq => kk H1 _ ⟨hP.1.pset h1 ?_ z (tot_set ha e1 oq (set_slots _ _ _)) oq, hP.2.put z oq g2⟩
  show H1[a]? = some (vp_cell _ _)
  rw [e1, vp_cell_l, vp_cell_l, arrV_store]
  congr 2
  funext q
  by_cases hq : q = i.toNatClampNeg
  · subst hq
    simp [updV, vp_updL]
  · simp [updV, vp_updL, hq]
theorem r_nai (X : CX G p m c cc nL s args own) (hal : G.2.2.2.2 = true) (hP : PS ft G s σ H locs) {n : Int32} (hn : ¬ n < 0) (hbig : n.toNatClampNeg ≤ 400) (har : Cond.arrayClass .int ∈ lw_all) (hcells : cells + 1 ≤ R.cells) (hslots : slots + n.toNatClampNeg ≤ R.slots) (hdg : decode cc pc = .ok (.newarray .int, 2))
    (kk : ∀ (σ1 : ST) (H : Heap), σ1 = aloi σ (G.2.1 0) n.toNatClampNeg → PS ft G s σ1 H locs → W p l e R s m args below meth c H locs (cells + 1) (slots + n.toNatClampNeg) Q (F0 m (pc + 2) ls (.ref (szo σ) :: rest))) : W p l e R s m args below meth c H locs cells slots Q (F0 m pc ls (.int n :: rest)) := by
  obtain ⟨⟨hx, hb, hml, hown, hts⟩, hK, hN, hEV⟩ := X
  have hsz := (hP.1.2.2.2 hal).1
  refine va_newaK hx hb (atype := .int) (hts _ har) rfl hdg rfl hn rfl (by simp only [newarray.typeOf, componentBytes]; omega) hcells hslots rfl fun H1 cA e1 z1 o1 hAr hNm => ?_
  have hid : cA = G.2.1 0 := Option.some.inj (hNm.symm.trans (hK.2 0 _ rfl).2)
  subst hid
  have hat : va_at G.1 lk_cl (szo σ, .inl (G.2.1 0, n.toNatClampNeg, .inl (fun _ => 0))) H1 := by
    show H1[szo σ]? = some (vp_cell _ _)
    rw [← hsz, e1]
    rfl
  have key := kk _ H1 rfl ⟨hP.1.push hal hat z1 e1 (by rw [arrV_size]) o1, Nat.le_trans hP.2.1 (by omega), fun x g1 g2 => (o1 x (Nat.lt_of_lt_of_le g1 hP.2.1)).trans (hP.2.2.1 x g1 g2), hP.2.2.2⟩
  rw [hsz]
  exact key
theorem r_nab (X : CX G p m c cc nL s args own) (hal : G.2.2.2.2 = true) (hP : PS ft G s σ H locs) {n : Int32} (hn : ¬ n < 0) (hbig : n.toNatClampNeg ≤ 400) (har : Cond.arrayClass .byte ∈ lw_all) (hcells : cells + 1 ≤ R.cells) (hslots : slots + n.toNatClampNeg ≤ R.slots) (hdg : decode cc pc = .ok (.newarray .byte, 2))
    (kk : ∀ (σ1 : ST) (H : Heap), σ1 = aloi σ (G.2.1 1) n.toNatClampNeg → PS ft G s σ1 H locs → W p l e R s m args below meth c H locs (cells + 1) (slots + n.toNatClampNeg) Q (F0 m (pc + 2) ls (.ref (szo σ) :: rest))) : W p l e R s m args below meth c H locs cells slots Q (F0 m pc ls (.int n :: rest)) := by
  obtain ⟨⟨hx, hb, hml, hown, hts⟩, hK, hN, hEV⟩ := X
  have hsz := (hP.1.2.2.2 hal).1
  refine va_newaK hx hb (atype := .byte) (hts _ har) rfl hdg rfl hn rfl (by simp only [newarray.typeOf, componentBytes]; omega) hcells hslots rfl fun H1 cA e1 z1 o1 hAr hNm => ?_
  have hid : cA = G.2.1 1 := Option.some.inj (hNm.symm.trans (hK.2 1 _ rfl).2)
  subst hid
  have hat : va_at G.1 lk_cl (szo σ, .inl (G.2.1 1, n.toNatClampNeg, .inl (fun _ => 0))) H1 := by
    show H1[szo σ]? = some (vp_cell _ _)
    rw [← hsz, e1]
    rfl
  have key := kk _ H1 rfl ⟨hP.1.push hal hat z1 e1 (by rw [arrV_size]) o1, Nat.le_trans hP.2.1 (by omega), fun x g1 g2 => (o1 x (Nat.lt_of_lt_of_le g1 hP.2.1)).trans (hP.2.2.1 x g1 g2), hP.2.2.2⟩
  rw [hsz]
  exact key
theorem r_nas (X : CX G p m c cc nL s args own) (hal : G.2.2.2.2 = true) (hP : PS ft G s σ H locs) {n : Int32} (hn : ¬ n < 0) (hbig : n.toNatClampNeg ≤ 400) (har : Cond.arrayClass .short ∈ lw_all) (hcells : cells + 1 ≤ R.cells) (hslots : slots + n.toNatClampNeg ≤ R.slots) (hdg : decode cc pc = .ok (.newarray .short, 2))
    (kk : ∀ (σ1 : ST) (H : Heap), σ1 = aloi σ (G.2.1 9) n.toNatClampNeg → PS ft G s σ1 H locs → W p l e R s m args below meth c H locs (cells + 1) (slots + n.toNatClampNeg) Q (F0 m (pc + 2) ls (.ref (szo σ) :: rest))) : W p l e R s m args below meth c H locs cells slots Q (F0 m pc ls (.int n :: rest)) := by
  obtain ⟨⟨hx, hb, hml, hown, hts⟩, hK, hN, hEV⟩ := X
  have hsz := (hP.1.2.2.2 hal).1
  refine va_newaK hx hb (atype := .short) (hts _ har) rfl hdg rfl hn rfl (by simp only [newarray.typeOf, componentBytes]; omega) hcells hslots rfl fun H1 cA e1 z1 o1 hAr hNm => ?_
  have hid : cA = G.2.1 9 := Option.some.inj (hNm.symm.trans (hK.2 9 _ rfl).2)
  subst hid
  have hat : va_at G.1 lk_cl (szo σ, .inl (G.2.1 9, n.toNatClampNeg, .inl (fun _ => 0))) H1 := by
    show H1[szo σ]? = some (vp_cell _ _)
    rw [← hsz, e1]
    rfl
  have key := kk _ H1 rfl ⟨hP.1.push hal hat z1 e1 (by rw [arrV_size]) o1, Nat.le_trans hP.2.1 (by omega), fun x g1 g2 => (o1 x (Nat.lt_of_lt_of_le g1 hP.2.1)).trans (hP.2.2.1 x g1 g2), hP.2.2.2⟩
  rw [hsz]
  exact key
theorem r_naz (X : CX G p m c cc nL s args own) (hal : G.2.2.2.2 = true) (hP : PS ft G s σ H locs) {n : Int32} (hn : ¬ n < 0) (hbig : n.toNatClampNeg ≤ 400) (har : Cond.arrayClass .boolean ∈ lw_all) (hcells : cells + 1 ≤ R.cells) (hslots : slots + n.toNatClampNeg ≤ R.slots) (hdg : decode cc pc = .ok (.newarray .boolean, 2))
    (kk : ∀ (σ1 : ST) (H : Heap), σ1 = aloi σ (G.2.1 10) n.toNatClampNeg → PS ft G s σ1 H locs → W p l e R s m args below meth c H locs (cells + 1) (slots + n.toNatClampNeg) Q (F0 m (pc + 2) ls (.ref (szo σ) :: rest))) : W p l e R s m args below meth c H locs cells slots Q (F0 m pc ls (.int n :: rest)) := by
  obtain ⟨⟨hx, hb, hml, hown, hts⟩, hK, hN, hEV⟩ := X
  have hsz := (hP.1.2.2.2 hal).1
  refine va_newaK hx hb (atype := .boolean) (hts _ har) rfl hdg rfl hn rfl (by simp only [newarray.typeOf, componentBytes]; omega) hcells hslots rfl fun H1 cA e1 z1 o1 hAr hNm => ?_
  have hid : cA = G.2.1 10 := Option.some.inj (hNm.symm.trans (hK.2 10 _ rfl).2)
  subst hid
  have hat : va_at G.1 lk_cl (szo σ, .inl (G.2.1 10, n.toNatClampNeg, .inl (fun _ => 0))) H1 := by
    show H1[szo σ]? = some (vp_cell _ _)
    rw [← hsz, e1]
    rfl
  have key := kk _ H1 rfl ⟨hP.1.push hal hat z1 e1 (by rw [arrV_size]) o1, Nat.le_trans hP.2.1 (by omega), fun x g1 g2 => (o1 x (Nat.lt_of_lt_of_le g1 hP.2.1)).trans (hP.2.2.1 x g1 g2), hP.2.2.2⟩
  rw [hsz]
  exact key
theorem r_nal (X : CX G p m c cc nL s args own) (hal : G.2.2.2.2 = true) (hP : PS ft G s σ H locs) {n : Int32} (hn : ¬ n < 0) (hbig : n.toNatClampNeg ≤ 400) (har : Cond.arrayClass .long ∈ lw_all) (hcells : cells + 1 ≤ R.cells) (hslots : slots + n.toNatClampNeg ≤ R.slots) (hdg : decode cc pc = .ok (.newarray .long, 2))
    (kk : ∀ (σ1 : ST) (H : Heap), σ1 = alol σ (G.2.1 2) n.toNatClampNeg → PS ft G s σ1 H locs → W p l e R s m args below meth c H locs (cells + 1) (slots + n.toNatClampNeg) Q (F0 m (pc + 2) ls (.ref (szo σ) :: rest))) : W p l e R s m args below meth c H locs cells slots Q (F0 m pc ls (.int n :: rest)) := by
  obtain ⟨⟨hx, hb, hml, hown, hts⟩, hK, hN, hEV⟩ := X
  have hsz := (hP.1.2.2.2 hal).1
  refine va_newaK hx hb (atype := .long) (hts _ har) rfl hdg rfl hn rfl (by simp only [newarray.typeOf, componentBytes]; omega) hcells hslots rfl fun H1 cA e1 z1 o1 hAr hNm => ?_
  have hid : cA = G.2.1 2 := Option.some.inj (hNm.symm.trans (hK.2 2 _ rfl).2)
  subst hid
  have hat : va_at G.1 lk_cl (szo σ, .inl (G.2.1 2, n.toNatClampNeg, .inr (.inl (fun _ => 0)))) H1 := by
    show H1[szo σ]? = some (vp_cell _ _)
    rw [← hsz, e1]
    rfl
  have key := kk _ H1 rfl ⟨hP.1.push hal hat z1 e1 (by rw [arrV_size]) o1, Nat.le_trans hP.2.1 (by omega), fun x g1 g2 => (o1 x (Nat.lt_of_lt_of_le g1 hP.2.1)).trans (hP.2.2.1 x g1 g2), hP.2.2.2⟩
  rw [hsz]
  exact key
end PAR
