/-! COPIES BETWEEN ARRAYS OF THE POOL. -/
def pcy (σ : ST) (r0 r1 : Option Nat) (d : ClassId) (ty : FieldType) (sp dp n : Int32) : Option ST := match r0, r1 with
  | some a0, some a1 => match σ.2.2.2.1 a0, σ.2.2.2.1 a1 with
    | some (.inl (d0, n0, .inl f)), some (.inl (d1, n1, .inl g)) => if d0 = d ∧ d1 = d ∧ ¬ sp < 0 ∧ ¬ dp < 0 ∧ ¬ n < 0 ∧ sp.toNatClampNeg + n.toNatClampNeg ≤ n0 ∧ dp.toNatClampNeg + n.toNatClampNeg ≤ n1 ∧ (∀ i, i < n.toNatClampNeg → fits ty (.int (f (sp.toNatClampNeg + i))) = true) then some (setg σ (gset σ.2.2.2.1 a1 (.inl (d, n1, .inl (va_cpy f g sp.toNatClampNeg dp.toNatClampNeg n.toNatClampNeg))))) else none
    | _, _ => none
  | _, _ => none
def pcl_ (σ : ST) (r0 r1 : Option Nat) (d : ClassId) (sp dp n : Int32) : Option ST := match r0, r1 with
  | some a0, some a1 => match σ.2.2.2.1 a0, σ.2.2.2.1 a1 with
    | some (.inl (d0, n0, .inr (.inl f))), some (.inl (d1, n1, .inr (.inl g))) => if d0 = d ∧ d1 = d ∧ ¬ sp < 0 ∧ ¬ dp < 0 ∧ ¬ n < 0 ∧ sp.toNatClampNeg + n.toNatClampNeg ≤ n0 ∧ dp.toNatClampNeg + n.toNatClampNeg ≤ n1 then some (setg σ (gset σ.2.2.2.1 a1 (.inl (d, n1, .inr (.inl (va_cpy f g sp.toNatClampNeg dp.toNatClampNeg n.toNatClampNeg)))))) else none
    | _, _ => none
  | _, _ => none
/-- a place outside -/
def pcx (σ : ST) (r0 r1 : Option Nat) (d : ClassId) (sp dp n : Int32) : Option Unit := match r0, r1 with
  | some a0, some a1 => match σ.2.2.2.1 a0, σ.2.2.2.1 a1 with
    | some (.inl (d0, n0, _)), some (.inl (d1, n1, _)) => if d0 = d ∧ d1 = d ∧ n0 ≤ 60 ∧ n1 ≤ 60 ∧ (sp < 0 ∨ dp < 0 ∨ n < 0 ∨ sp.toInt + n.toInt > n0 ∨ dp.toInt + n.toInt > n1) then some () else none
    | _, _ => none
  | _, _ => none
theorem pcy_ex {σ σ1 : ST} {r0 r1 : Option Nat} {d : ClassId} {ty : FieldType} {sp dp n : Int32} (h : pcy σ r0 r1 d ty sp dp n = some σ1) : ∃ a0 a1 n0 n1 f g, r0 = some a0 ∧ r1 = some a1 ∧ σ.2.2.2.1 a0 = some (.inl (d, n0, .inl f)) ∧ σ.2.2.2.1 a1 = some (.inl (d, n1, .inl g)) ∧ ¬ sp < 0 ∧ ¬ dp < 0 ∧ ¬ n < 0 ∧ sp.toNatClampNeg + n.toNatClampNeg ≤ n0 ∧ dp.toNatClampNeg + n.toNatClampNeg ≤ n1 ∧ (∀ i, i < n.toNatClampNeg → fits ty (.int (f (sp.toNatClampNeg + i))) = true) ∧ σ1 = setg σ (gset σ.2.2.2.1 a1 (.inl (d, n1, .inl (va_cpy f g sp.toNatClampNeg dp.toNatClampNeg n.toNatClampNeg)))) := by
  unfold pcy at h
  split at h
  · rename_i a0 a1
    split at h
    · rename_i d0 n0 f d1 n1 g h0 h1
      split at h
      · rename_i hc
        obtain ⟨rfl, rfl, h2, h3, h4, h5, h6, h7⟩ := hc
        exact ⟨a0, a1, n0, n1, f, g, rfl, rfl, h0, h1, h2, h3, h4, h5, h6, h7, (Option.some.inj h).symm⟩
      · cases h
    · cases h
  · cases h
theorem pcl_ex_ {σ σ1 : ST} {r0 r1 : Option Nat} {d : ClassId} {sp dp n : Int32} (h : pcl_ σ r0 r1 d sp dp n = some σ1) : ∃ a0 a1 n0 n1 f g, r0 = some a0 ∧ r1 = some a1 ∧ σ.2.2.2.1 a0 = some (.inl (d, n0, .inr (.inl f))) ∧ σ.2.2.2.1 a1 = some (.inl (d, n1, .inr (.inl g))) ∧ ¬ sp < 0 ∧ ¬ dp < 0 ∧ ¬ n < 0 ∧ sp.toNatClampNeg + n.toNatClampNeg ≤ n0 ∧ dp.toNatClampNeg + n.toNatClampNeg ≤ n1 ∧ σ1 = setg σ (gset σ.2.2.2.1 a1 (.inl (d, n1, .inr (.inl (va_cpy f g sp.toNatClampNeg dp.toNatClampNeg n.toNatClampNeg))))) := by
  unfold pcl_ at h
  split at h
  · rename_i a0 a1
    split at h
    · rename_i d0 n0 f d1 n1 g h0 h1
      split at h
      · rename_i hc
        obtain ⟨rfl, rfl, h2, h3, h4, h5, h6⟩ := hc
        exact ⟨a0, a1, n0, n1, f, g, rfl, rfl, h0, h1, h2, h3, h4, h5, h6, (Option.some.inj h).symm⟩
      · cases h
    · cases h
  · cases h
theorem pcx_ex {σ : ST} {r0 r1 : Option Nat} {d : ClassId} {sp dp n : Int32} (h : pcx σ r0 r1 d sp dp n = some ()) : ∃ a0 a1 n0 n1 f g, r0 = some a0 ∧ r1 = some a1 ∧ σ.2.2.2.1 a0 = some (.inl (d, n0, f)) ∧ σ.2.2.2.1 a1 = some (.inl (d, n1, g)) ∧ n0 ≤ 60 ∧ n1 ≤ 60 ∧ (sp < 0 ∨ dp < 0 ∨ n < 0 ∨ sp.toInt + n.toInt > n0 ∨ dp.toInt + n.toInt > n1) := by
  unfold pcx at h
  split at h
  · rename_i a0 a1
    split at h
    · rename_i d0 n0 f d1 n1 g h0 h1
      split at h
      · rename_i hc
        obtain ⟨rfl, rfl, h2, h3, h4⟩ := hc
        exact ⟨a0, a1, n0, n1, f, g, rfl, rfl, h0, h1, h2, h3, h4⟩
      · cases h
    · cases h
  · cases h
theorem nn_I {z : Int32} (hz : ¬ z < 0) : z.toInt = (z.toNatClampNeg : Int) := (toNatClampNeg_of_not_neg32 z hz).symm
section PCP
variable {p : Program} {l : Launch} {e : Env} {R : Room} {s : State} {m : MethodId} {args : Array Value} {below : List Frame} {meth : Method} {c : Code} {H : Heap} {locs : List Loc} {cells slots : Nat} {Q : State → Prop}
variable {cc : ByteArray} {pc nL : Nat} {ls : Array Slot} {rest : List Value} {own : String} {ft : List FC} {G : GT} {σ : ST}
theorem copied_sz (cs cd : Cell) (sp dp n : Int32) : (copied cs cd sp dp n).slots.size = cd.slots.size := (Cell.storeRun_facts cd _ _).2.2.1
theorem r_cpV {α : Type} (mk : α → Value) (hmk : ∀ (x : α), (mk x).isRef = false) (X : CX G p m c cc nL s args own) (hP : PS ft G s σ H locs) {a0 a1 n0 n1 t : Nat} {f g : Nat → α} {u0 u1 u2 : (Nat → Int32) ⊕ (Nat → Int64) ⊕ (Nat → UInt32) ⊕ (Nat → UInt64) ⊕ (Nat → Option Nat)} {sp dp n : Int32} (h0 : σ.2.2.2.1 a0 = some (.inl (G.2.1 t, n0, u0))) (h1 : σ.2.2.2.1 a1 = some (.inl (G.2.1 t, n1, u1)))
    (e0 : vp_cell (G.2.1 t) (n0, u0) = arrV (G.2.1 t) n0 (fun j => mk (f j))) (e1 : vp_cell (G.2.1 t) (n1, u1) = arrV (G.2.1 t) n1 (fun j => mk (g j))) (e2 : vp_cell (G.2.1 t) (n1, u2) = arrV (G.2.1 t) n1 (fun j => mk (va_cpy f g sp.toNatClampNeg dp.toNatClampNeg n.toNatClampNeg j))) {ty : FieldType} (ht : (lk_tys G)[t]? = some (G.2.1 t, ty)) (hprim : refKind ty = false)
    (g1 : ¬ sp < 0) (g2 : ¬ dp < 0) (g3 : ¬ n < 0) (g4 : sp.toNatClampNeg + n.toNatClampNeg ≤ n0) (g5 : dp.toNatClampNeg + n.toNatClampNeg ≤ n1) (hfit : ∀ i, i < n.toNatClampNeg → fits ty (mk (f (sp.toNatClampNeg + i))) = true) {index : Nat} (hlk : Cond.methodLink own index arraycopyName ∈ lw_all) (hsize : ls.size = nL) (hRf : 1 ≤ R.frames) (hlocals : (rest.map fun v => v.category).sum + (nativeFrameWords "java/lang/System" "arraycopy" 5 + 11) ≤ R.locals) (hdg : decode cc pc = .ok (.invokestatic index, 3))
    (kk : ∀ (H : Heap) (locs : List Loc), PS ft G s (setg σ (gset σ.2.2.2.1 a1 (.inl (G.2.1 t, n1, u2)))) H locs → W p l e R s m args below meth c H locs cells slots Q (F0 m (pc + 3) ls rest)) : W p l e R s m args below meth c H locs cells slots Q (F0 m pc ls (.int n :: .int dp :: .ref a1 :: .int sp :: .ref a0 :: rest)) := by
  obtain ⟨⟨hx, hb, hml, hown, hts⟩, hK, hN, hEV⟩ := X
  obtain ⟨b1, b2, b3⟩ := hP.1.2.2.1 a1 _ h1
  have hc0 : H[a0]? = some (arrV (G.2.1 t) n0 (fun j => mk (f j))) := by rw [← e0]; exact (hP.1.2.2.1 a0 _ h0).1
  have hc1 : H[a1]? = some (arrV (G.2.1 t) n1 (fun j => mk (g j))) := by rw [← e1]; exact b1
  obtain ⟨-, k0, hk0, cm0, hkk0⟩ := (hK.2 t _ ht).1 n0 (fun j => mk (f j))
  obtain ⟨-, k1, hk1, cm1, hkk1⟩ := (hK.2 t _ ht).1 n1 (fun j => mk (g j))
  intro T hT X
  obtain ⟨vm', X', step⟩ := X.arraycopy hx hown (hts _ hlk) (hts _ q1555) (hts _ q1554) (hts _ q156) (src := a0) (dst := a1) (cs := arrV (G.2.1 t) n0 (fun j => mk (f j))) (cd := arrV (G.2.1 t) n1 (fun j => mk (g j))) (srcPos := sp) (destPos := dp) (n := n) (by rw [hT]; exact hc0) (by rw [hT]; exact hc1)
    (fun _ h => by cases h) (fun _ h => by cases h) (fun h => by cases h) (fun h => by cases h) hk0 hk1 hkk0 hkk1 (by simp [hprim]) g1 g2 g3
    (by rw [nn_I g1, nn_I g3, arrV_size]; omega) (by rw [nn_I g2, nn_I g3, arrV_size]; omega)
    (fun vm₁ _ i hi => by
      have e : (arrV (G.2.1 t) n0 (fun j => mk (f j))).slots.getD (sp.toNatClampNeg + i) .null = mk (f (sp.toNatClampNeg + i)) := by
        rw [Array.getD_eq_getD_getElem?, arrV_read _ _ (by omega)]
        rfl
      refine ⟨?_, ?_⟩
      · rw [e]
        exact hfit i hi
      · rw [e]
        have := hmk (f (sp.toNatClampNeg + i))
        cases hv : mk (f (sp.toNatClampNeg + i)) <;> first | exact trivial | (rw [hv] at this; cases this))
    (g := F0 m pc ls (.int n :: .int dp :: .ref a1 :: .int sp :: .ref a0 :: rest)) rfl (by rw [hml]; exact hsize) (rest := rest) rfl (by rw [hb]; exact hdg) hRf (by show 2 * 0 + _ + _ ≤ _; omega)
  have ec : copied (arrV (G.2.1 t) n0 (fun j => mk (f j))) (arrV (G.2.1 t) n1 (fun j => mk (g j))) sp dp n = vp_cell (G.2.1 t) (n1, u2) := (va_copied mk (G.2.1 t) (G.2.1 t) f g g4).trans e2.symm
  rw [ec] at X' step
  have hl : a1 < H.size := (Array.getElem?_eq_some_iff.mp hc1).1
  have oq : ∀ q : Nat, q ≠ a1 → (H.setIfInBounds a1 (vp_cell (G.2.1 t) (n1, u2)))[q]? = H[q]? := fun q hq => by simp [Array.getElem?_setIfInBounds, Ne.symm hq]
  have h9 : (H.setIfInBounds a1 (vp_cell (G.2.1 t) (n1, u2)))[a1]? = some (vp_cell (G.2.1 t) (n1, u2)) := by simp [Array.getElem?_setIfInBounds, hl]
  have z9 : (H.setIfInBounds a1 (vp_cell (G.2.1 t) (n1, u2))).size = H.size := by simp
  have s9 : (vp_cell (G.2.1 t) (n1, u2)).slots.size = (arrV (G.2.1 t) n1 (fun j => mk (g j))).slots.size := by rw [e2, arrV_size, arrV_size]
  have hheap : ((T.setVm vm').setCell a1 (vp_cell (G.2.1 t) (n1, u2))).heap = H.setIfInBounds a1 (vp_cell (G.2.1 t) (n1, u2)) := by rw [← hT]; rfl
  have hS9 := hP.2.put (k := 0) z9 oq b2
  obtain ⟨t2, q1, q2⟩ := kk (H.setIfInBounds a1 (vp_cell (G.2.1 t) (n1, u2))) _ ⟨hP.1.pset h1 h9 z9 (tot_set hc1 h9 oq s9) oq, hS9.1, hS9.2.1, fun q hq => by
      rcases List.mem_append.mp hq with h | h
      · exact hP.2.2.2 q h
      · obtain ⟨z, -, hz⟩ := List.mem_map.mp h
        rw [← hz]
        exact b2⟩ _ hheap X'
  exact ⟨t2, step t2 q1, q2⟩
theorem r_cpi (X : CX G p m c cc nL s args own) (hP : PS ft G s σ H locs) {r0 r1 : Option Nat} {t : Nat} {ty : FieldType} {sp dp n : Int32} {σ1 : ST} (ht : (lk_tys G)[t]? = some (G.2.1 t, ty)) (hprim : refKind ty = false) (h : pcy σ r0 r1 (G.2.1 t) ty sp dp n = some σ1) {index : Nat} (hlk : Cond.methodLink own index arraycopyName ∈ lw_all) (hsize : ls.size = nL) (hRf : 1 ≤ R.frames) (hlocals : (rest.map fun v => v.category).sum + (nativeFrameWords "java/lang/System" "arraycopy" 5 + 11) ≤ R.locals) (hdg : decode cc pc = .ok (.invokestatic index, 3))
    (kk : ∀ (H : Heap) (locs : List Loc), PS ft G s σ1 H locs → W p l e R s m args below meth c H locs cells slots Q (F0 m (pc + 3) ls rest)) : W p l e R s m args below meth c H locs cells slots Q (F0 m pc ls (.int n :: .int dp :: va_rf r1 :: .int sp :: va_rf r0 :: rest)) := by
  obtain ⟨a0, a1, n0, n1, f, g, rfl, rfl, h0, h1, g1, g2, g3, g4, g5, g6, rfl⟩ := pcy_ex h
  exact r_cpV (fun z => .int z) (fun _ => rfl) X hP (u2 := .inl (va_cpy f g sp.toNatClampNeg dp.toNatClampNeg n.toNatClampNeg)) h0 h1 (vp_cell_i _ _ _) (vp_cell_i _ _ _) (vp_cell_i _ _ _) ht hprim g1 g2 g3 g4 g5 g6 hlk hsize hRf hlocals hdg kk
theorem r_cpl (X : CX G p m c cc nL s args own) (hP : PS ft G s σ H locs) {r0 r1 : Option Nat} {sp dp n : Int32} {σ1 : ST} (h : pcl_ σ r0 r1 (G.2.1 2) sp dp n = some σ1) {index : Nat} (hlk : Cond.methodLink own index arraycopyName ∈ lw_all) (hsize : ls.size = nL) (hRf : 1 ≤ R.frames) (hlocals : (rest.map fun v => v.category).sum + (nativeFrameWords "java/lang/System" "arraycopy" 5 + 11) ≤ R.locals) (hdg : decode cc pc = .ok (.invokestatic index, 3))
    (kk : ∀ (H : Heap) (locs : List Loc), PS ft G s σ1 H locs → W p l e R s m args below meth c H locs cells slots Q (F0 m (pc + 3) ls rest)) : W p l e R s m args below meth c H locs cells slots Q (F0 m pc ls (.int n :: .int dp :: va_rf r1 :: .int sp :: va_rf r0 :: rest)) := by
  obtain ⟨a0, a1, n0, n1, f, g, rfl, rfl, h0, h1, g1, g2, g3, g4, g5, rfl⟩ := pcl_ex_ h
  exact r_cpV (fun z => .long z) (fun _ => rfl) X hP (u2 := .inr (.inl (va_cpy f g sp.toNatClampNeg dp.toNatClampNeg n.toNatClampNeg))) h0 h1 (vp_cell_l _ _ _) (vp_cell_l _ _ _) (vp_cell_l _ _ _) (ty := .long) rfl rfl g1 g2 g3 g4 g5 (fun _ _ => rfl) hlk hsize hRf hlocals hdg kk
theorem r_cpo (X : CX G p m c cc nL s args own) (hal : G.2.2.2.2 = true) (hlt : l.stackTraces = false) (hP : PS ft G s σ H locs) {r0 r1 : Option Nat} {t : Nat} {ty : FieldType} {sp dp n : Int32} (ht : (lk_tys G)[t]? = some (G.2.1 t, ty)) (hprim : refKind ty = false) (h : pcx σ r0 r1 (G.2.1 t) sp dp n = some ()) {index : Nat} (hlk : Cond.methodLink own index arraycopyName ∈ lw_all) (hsize : ls.size = nL) (hRf : 9 < R.frames) (hW : (rest.map fun v => v.category).sum ≤ 8) (hRl : 10248 ≤ R.locals) (hRc : cells + 3 ≤ R.cells) (hRs : slots + 1210 ≤ R.slots) (hdg : decode cc pc = .ok (.invokestatic index, 3))
    (kk : ∀ (H1 : Heap) (locs1 : List Loc) (n2 : Nat) (o : Addr) (ce : Cell), n2 ≤ slots + 1210 → PS ft G s (grw σ H1) H1 locs1 → H1[o]? = some ce → s.vm.findClass "java/lang/ArrayIndexOutOfBoundsException" = some ce.cls → ce.vm = .none → WT p l e R s m args below meth c H1 locs1 (cells + 3) n2 Q o (F0 m pc ls rest)) : W p l e R s m args below meth c H locs cells slots Q (F0 m pc ls (.int n :: .int dp :: va_rf r1 :: .int sp :: va_rf r0 :: rest)) := by
  obtain ⟨a0, a1, n0, n1, f, g, rfl, rfl, h0, h1, g1, g2, g3⟩ := pcx_ex h
  exact r_copyOut X hal hlt hP h0 h1 g1 g2 ht hprim g3 hlk hsize hRf hW hRl hRc hRs hdg kk
/-- a cast to the object's own class -/
theorem r_castP (X : CX G p m c cc nL s args own) (hP : PS ft G s σ H locs) {r : Option Nat} {ci a index : Nat} {C : String} {T : u_T} {N : Nat} (hc : lk_cl[ci]? = some (C, T, N)) (h : pis σ r ci = some a) (hlk : Cond.classLink own index C ∈ lw_all) (hdg : decode cc pc = .ok (.checkcast index, 3))
    (kk : W p l e R s m args below meth c H locs cells slots Q (F0 m (pc + 3) ls (va_rf r :: rest))) : W p l e R s m args below meth c H locs cells slots Q (F0 m pc ls (va_rf r :: rest)) := by
  obtain ⟨rfl, fs, hg⟩ := pis_ex h
  exact va_castS X.1.1 X.1.2.1 X.1.2.2.2.1 (X.1.2.2.2.2 _ hlk) (X.2.1.1 ci _ hc).2 (recv_pool X hP hg hc) hdg kk
end PCP
