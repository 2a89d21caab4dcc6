set_option maxRecDepth 100000
def itx (i : Int32) (n : Nat) : String := toString "Index " ++ toString i ++ toString " out of bounds for length " ++ toString n
def ou {α : Type} (n : Nat) (i : Int32) (k : Option α) : Option α := if n ≤ 60 ∧ (i < 0 ∨ n ≤ i.toNatClampNeg) then k else none
theorem ou_in {α : Type} {n : Nat} {i : Int32} {k : Option α} {r : α} (h : ou n i k = some r) : n ≤ 60 ∧ (i < 0 ∨ n ≤ i.toNatClampNeg) := by
  unfold ou at h
  by_cases q : n ≤ 60 ∧ (i < 0 ∨ n ≤ i.toNatClampNeg)
  · exact q
  · rw [if_neg q] at h
    cases h
theorem vp_arr (d : ClassId) (a : vp_A) : ∃ z, vp_cell d a = arrV d a.1 z := by
  obtain ⟨n, f⟩ := a
  rcases f with f | f | f | f | f
  · exact ⟨_, vp_cell_i d n f⟩
  · exact ⟨_, vp_cell_l d n f⟩
  · exact ⟨_, vp_cell_f d n f⟩
  · exact ⟨_, vp_cell_d d n f⟩
  · exact ⟨_, vp_cell_q d n f⟩
section OUT
variable {p : Program} {l : Launch} {e : Env} {R : Room} {s : State} {m : MethodId} {args : Array Value} {below : List Frame} {meth : Method} {c : Code} {H : Heap} {locs : List Loc} {cells slots : Nat} {Q : State → Prop}
variable {cc : ByteArray} {pc nL : Nat} {ls : Array Slot} {rest : List Value} {own : String} {ft : List FC} {G : GT} {σ : ST}
theorem r_outli (X : CX G p m c cc nL s args own) (hP : PS ft G s σ H locs) {r : Option Nat} {n : Nat} {i : Int32} (hg : pan σ r (G.2.1 0) = some n) (hout : i < 0 ∨ n ≤ i.toNatClampNeg) (hdg : decode cc pc = .ok (.iaload, 1))
    (kk : WN p l e R s m args below meth c H locs cells slots Q "java/lang/ArrayIndexOutOfBoundsException" (some (itx i n)) (F0 m pc ls rest)) : W p l e R s m args below meth c H locs cells slots Q (F0 m pc ls (.int i :: va_rf r :: rest)) := by
  obtain ⟨a, f, rfl, h1⟩ := pan_ex hg
  obtain ⟨⟨hx, hb, hml, hown, hts⟩, hK, hN, hEV⟩ := X
  obtain ⟨g1, g2, g3⟩ := hP.1.2.2.1 a _ h1
  obtain ⟨z, hz⟩ := vp_arr (G.2.1 0) (n, f)
  have ha : H[a]? = some (arrV (G.2.1 0) n z) := by rw [← hz]; exact g1
  intro T hT XS
  obtain ⟨t, k1, k2⟩ := kk T hT XS
  have go := XS.ialoadOut hx (a := a) (cell := arrV (G.2.1 0) n z) (j := i) (by rw [hT]; exact ha) ((hK.2 0 _ rfl).1 n z) (by rw [arrV_size]; exact hout) (g := F0 m pc ls (.int i :: .ref a :: rest)) rfl rfl (by rw [hb]; exact hdg)
  rw [arrV_size] at go
  exact ⟨t, go t k1, k2⟩
theorem r_outsi (X : CX G p m c cc nL s args own) (hP : PS ft G s σ H locs) {r : Option Nat} {n : Nat} {i : Int32} {v : Int32} (hg : pan σ r (G.2.1 0) = some n) (hout : i < 0 ∨ n ≤ i.toNatClampNeg) (hdg : decode cc pc = .ok (.iastore, 1))
    (kk : WN p l e R s m args below meth c H locs cells slots Q "java/lang/ArrayIndexOutOfBoundsException" (some (itx i n)) (F0 m pc ls rest)) : W p l e R s m args below meth c H locs cells slots Q (F0 m pc ls (.int v :: .int i :: va_rf r :: rest)) := by
  obtain ⟨a, f, rfl, h1⟩ := pan_ex hg
  obtain ⟨⟨hx, hb, hml, hown, hts⟩, hK, hN, hEV⟩ := X
  obtain ⟨g1, g2, g3⟩ := hP.1.2.2.1 a _ h1
  obtain ⟨z, hz⟩ := vp_arr (G.2.1 0) (n, f)
  have ha : H[a]? = some (arrV (G.2.1 0) n z) := by rw [← hz]; exact g1
  intro T hT XS
  obtain ⟨t, k1, k2⟩ := kk T hT XS
  have go := XS.iastoreOut hx (a := a) (cell := arrV (G.2.1 0) n z) (j := i) (by rw [hT]; exact ha) ((hK.2 0 _ rfl).1 n z) (by rw [arrV_size]; exact hout) (g := F0 m pc ls (.int v :: .int i :: .ref a :: rest)) rfl rfl (by rw [hb]; exact hdg)
  rw [arrV_size] at go
  exact ⟨t, go t k1, k2⟩
theorem r_outlb (X : CX G p m c cc nL s args own) (hP : PS ft G s σ H locs) {r : Option Nat} {n : Nat} {i : Int32} (hg : pan σ r (G.2.1 1) = some n) (hout : i < 0 ∨ n ≤ i.toNatClampNeg) (hdg : decode cc pc = .ok (.baload, 1))
    (kk : WN p l e R s m args below meth c H locs cells slots Q "java/lang/ArrayIndexOutOfBoundsException" (some (itx i n)) (F0 m pc ls rest)) : W p l e R s m args below meth c H locs cells slots Q (F0 m pc ls (.int i :: va_rf r :: rest)) := by
  obtain ⟨a, f, rfl, h1⟩ := pan_ex hg
  obtain ⟨⟨hx, hb, hml, hown, hts⟩, hK, hN, hEV⟩ := X
  obtain ⟨g1, g2, g3⟩ := hP.1.2.2.1 a _ h1
  obtain ⟨z, hz⟩ := vp_arr (G.2.1 1) (n, f)
  have ha : H[a]? = some (arrV (G.2.1 1) n z) := by rw [← hz]; exact g1
  intro T hT XS
  obtain ⟨t, k1, k2⟩ := kk T hT XS
  have go := XS.baloadOut hx (a := a) (cell := arrV (G.2.1 1) n z) (j := i) (by rw [hT]; exact ha) ((hK.2 1 _ rfl).1 n z) (by rw [arrV_size]; exact hout) (g := F0 m pc ls (.int i :: .ref a :: rest)) rfl rfl (by rw [hb]; exact hdg)
  rw [arrV_size] at go
  exact ⟨t, go t k1, k2⟩
theorem r_outsb (X : CX G p m c cc nL s args own) (hP : PS ft G s σ H locs) {r : Option Nat} {n : Nat} {i : Int32} {v : Int32} (hg : pan σ r (G.2.1 1) = some n) (hout : i < 0 ∨ n ≤ i.toNatClampNeg) (hdg : decode cc pc = .ok (.bastore, 1))
    (kk : WN p l e R s m args below meth c H locs cells slots Q "java/lang/ArrayIndexOutOfBoundsException" (some (itx i n)) (F0 m pc ls rest)) : W p l e R s m args below meth c H locs cells slots Q (F0 m pc ls (.int v :: .int i :: va_rf r :: rest)) := by
  obtain ⟨a, f, rfl, h1⟩ := pan_ex hg
  obtain ⟨⟨hx, hb, hml, hown, hts⟩, hK, hN, hEV⟩ := X
  obtain ⟨g1, g2, g3⟩ := hP.1.2.2.1 a _ h1
  obtain ⟨z, hz⟩ := vp_arr (G.2.1 1) (n, f)
  have ha : H[a]? = some (arrV (G.2.1 1) n z) := by rw [← hz]; exact g1
  intro T hT XS
  obtain ⟨t, k1, k2⟩ := kk T hT XS
  have go := XS.bastoreOut hx (a := a) (cell := arrV (G.2.1 1) n z) (j := i) (by rw [hT]; exact ha) ((hK.2 1 _ rfl).1 n z) (by rw [arrV_size]; exact hout) (g := F0 m pc ls (.int v :: .int i :: .ref a :: rest)) rfl rfl (by rw [hb]; exact hdg)
  rw [arrV_size] at go
  exact ⟨t, go t k1, k2⟩
theorem r_outls (X : CX G p m c cc nL s args own) (hP : PS ft G s σ H locs) {r : Option Nat} {n : Nat} {i : Int32} (hg : pan σ r (G.2.1 9) = some n) (hout : i < 0 ∨ n ≤ i.toNatClampNeg) (hdg : decode cc pc = .ok (.saload, 1))
    (kk : WN p l e R s m args below meth c H locs cells slots Q "java/lang/ArrayIndexOutOfBoundsException" (some (itx i n)) (F0 m pc ls rest)) : W p l e R s m args below meth c H locs cells slots Q (F0 m pc ls (.int i :: va_rf r :: rest)) := by
  obtain ⟨a, f, rfl, h1⟩ := pan_ex hg
  obtain ⟨⟨hx, hb, hml, hown, hts⟩, hK, hN, hEV⟩ := X
  obtain ⟨g1, g2, g3⟩ := hP.1.2.2.1 a _ h1
  obtain ⟨z, hz⟩ := vp_arr (G.2.1 9) (n, f)
  have ha : H[a]? = some (arrV (G.2.1 9) n z) := by rw [← hz]; exact g1
  intro T hT XS
  obtain ⟨t, k1, k2⟩ := kk T hT XS
  have go := XS.saloadOut hx (a := a) (cell := arrV (G.2.1 9) n z) (j := i) (by rw [hT]; exact ha) ((hK.2 9 _ rfl).1 n z) (by rw [arrV_size]; exact hout) (g := F0 m pc ls (.int i :: .ref a :: rest)) rfl rfl (by rw [hb]; exact hdg)
  rw [arrV_size] at go
  exact ⟨t, go t k1, k2⟩
theorem r_outss (X : CX G p m c cc nL s args own) (hP : PS ft G s σ H locs) {r : Option Nat} {n : Nat} {i : Int32} {v : Int32} (hg : pan σ r (G.2.1 9) = some n) (hout : i < 0 ∨ n ≤ i.toNatClampNeg) (hdg : decode cc pc = .ok (.sastore, 1))
    (kk : WN p l e R s m args below meth c H locs cells slots Q "java/lang/ArrayIndexOutOfBoundsException" (some (itx i n)) (F0 m pc ls rest)) : W p l e R s m args below meth c H locs cells slots Q (F0 m pc ls (.int v :: .int i :: va_rf r :: rest)) := by
  obtain ⟨a, f, rfl, h1⟩ := pan_ex hg
  obtain ⟨⟨hx, hb, hml, hown, hts⟩, hK, hN, hEV⟩ := X
  obtain ⟨g1, g2, g3⟩ := hP.1.2.2.1 a _ h1
  obtain ⟨z, hz⟩ := vp_arr (G.2.1 9) (n, f)
  have ha : H[a]? = some (arrV (G.2.1 9) n z) := by rw [← hz]; exact g1
  intro T hT XS
  obtain ⟨t, k1, k2⟩ := kk T hT XS
  have go := XS.sastoreOut hx (a := a) (cell := arrV (G.2.1 9) n z) (j := i) (by rw [hT]; exact ha) ((hK.2 9 _ rfl).1 n z) (by rw [arrV_size]; exact hout) (g := F0 m pc ls (.int v :: .int i :: .ref a :: rest)) rfl rfl (by rw [hb]; exact hdg)
  rw [arrV_size] at go
  exact ⟨t, go t k1, k2⟩
theorem r_outlz (X : CX G p m c cc nL s args own) (hP : PS ft G s σ H locs) {r : Option Nat} {n : Nat} {i : Int32} (hg : pan σ r (G.2.1 10) = some n) (hout : i < 0 ∨ n ≤ i.toNatClampNeg) (hdg : decode cc pc = .ok (.baload, 1))
    (kk : WN p l e R s m args below meth c H locs cells slots Q "java/lang/ArrayIndexOutOfBoundsException" (some (itx i n)) (F0 m pc ls rest)) : W p l e R s m args below meth c H locs cells slots Q (F0 m pc ls (.int i :: va_rf r :: rest)) := by
  obtain ⟨a, f, rfl, h1⟩ := pan_ex hg
  obtain ⟨⟨hx, hb, hml, hown, hts⟩, hK, hN, hEV⟩ := X
  obtain ⟨g1, g2, g3⟩ := hP.1.2.2.1 a _ h1
  obtain ⟨z, hz⟩ := vp_arr (G.2.1 10) (n, f)
  have ha : H[a]? = some (arrV (G.2.1 10) n z) := by rw [← hz]; exact g1
  intro T hT XS
  obtain ⟨t, k1, k2⟩ := kk T hT XS
  have go := XS.baloadOut hx (a := a) (cell := arrV (G.2.1 10) n z) (j := i) (by rw [hT]; exact ha) ((hK.2 10 _ rfl).1 n z) (by rw [arrV_size]; exact hout) (g := F0 m pc ls (.int i :: .ref a :: rest)) rfl rfl (by rw [hb]; exact hdg)
  rw [arrV_size] at go
  exact ⟨t, go t k1, k2⟩
theorem r_outsz (X : CX G p m c cc nL s args own) (hP : PS ft G s σ H locs) {r : Option Nat} {n : Nat} {i : Int32} {v : Int32} (hg : pan σ r (G.2.1 10) = some n) (hout : i < 0 ∨ n ≤ i.toNatClampNeg) (hdg : decode cc pc = .ok (.bastore, 1))
    (kk : WN p l e R s m args below meth c H locs cells slots Q "java/lang/ArrayIndexOutOfBoundsException" (some (itx i n)) (F0 m pc ls rest)) : W p l e R s m args below meth c H locs cells slots Q (F0 m pc ls (.int v :: .int i :: va_rf r :: rest)) := by
  obtain ⟨a, f, rfl, h1⟩ := pan_ex hg
  obtain ⟨⟨hx, hb, hml, hown, hts⟩, hK, hN, hEV⟩ := X
  obtain ⟨g1, g2, g3⟩ := hP.1.2.2.1 a _ h1
  obtain ⟨z, hz⟩ := vp_arr (G.2.1 10) (n, f)
  have ha : H[a]? = some (arrV (G.2.1 10) n z) := by rw [← hz]; exact g1
  intro T hT XS
  obtain ⟨t, k1, k2⟩ := kk T hT XS
  have go := XS.bastoreOut hx (a := a) (cell := arrV (G.2.1 10) n z) (j := i) (by rw [hT]; exact ha) ((hK.2 10 _ rfl).1 n z) (by rw [arrV_size]; exact hout) (g := F0 m pc ls (.int v :: .int i :: .ref a :: rest)) rfl rfl (by rw [hb]; exact hdg)
  rw [arrV_size] at go
  exact ⟨t, go t k1, k2⟩
theorem r_outll (X : CX G p m c cc nL s args own) (hP : PS ft G s σ H locs) {r : Option Nat} {n : Nat} {i : Int32} (hg : pan σ r (G.2.1 2) = some n) (hout : i < 0 ∨ n ≤ i.toNatClampNeg) (hdg : decode cc pc = .ok (.laload, 1))
    (kk : WN p l e R s m args below meth c H locs cells slots Q "java/lang/ArrayIndexOutOfBoundsException" (some (itx i n)) (F0 m pc ls rest)) : W p l e R s m args below meth c H locs cells slots Q (F0 m pc ls (.int i :: va_rf r :: rest)) := by
  obtain ⟨a, f, rfl, h1⟩ := pan_ex hg
  obtain ⟨⟨hx, hb, hml, hown, hts⟩, hK, hN, hEV⟩ := X
  obtain ⟨g1, g2, g3⟩ := hP.1.2.2.1 a _ h1
  obtain ⟨z, hz⟩ := vp_arr (G.2.1 2) (n, f)
  have ha : H[a]? = some (arrV (G.2.1 2) n z) := by rw [← hz]; exact g1
  intro T hT XS
  obtain ⟨t, k1, k2⟩ := kk T hT XS
  have go := XS.laloadOut hx (a := a) (cell := arrV (G.2.1 2) n z) (j := i) (by rw [hT]; exact ha) ((hK.2 2 _ rfl).1 n z) (by rw [arrV_size]; exact hout) (g := F0 m pc ls (.int i :: .ref a :: rest)) rfl rfl (by rw [hb]; exact hdg)
  rw [arrV_size] at go
  exact ⟨t, go t k1, k2⟩
theorem r_outsl (X : CX G p m c cc nL s args own) (hP : PS ft G s σ H locs) {r : Option Nat} {n : Nat} {i : Int32} {v : Int64} (hg : pan σ r (G.2.1 2) = some n) (hout : i < 0 ∨ n ≤ i.toNatClampNeg) (hdg : decode cc pc = .ok (.lastore, 1))
    (kk : WN p l e R s m args below meth c H locs cells slots Q "java/lang/ArrayIndexOutOfBoundsException" (some (itx i n)) (F0 m pc ls rest)) : W p l e R s m args below meth c H locs cells slots Q (F0 m pc ls (.long v :: .int i :: va_rf r :: rest)) := by
  obtain ⟨a, f, rfl, h1⟩ := pan_ex hg
  obtain ⟨⟨hx, hb, hml, hown, hts⟩, hK, hN, hEV⟩ := X
  obtain ⟨g1, g2, g3⟩ := hP.1.2.2.1 a _ h1
  obtain ⟨z, hz⟩ := vp_arr (G.2.1 2) (n, f)
  have ha : H[a]? = some (arrV (G.2.1 2) n z) := by rw [← hz]; exact g1
  intro T hT XS
  obtain ⟨t, k1, k2⟩ := kk T hT XS
  have go := XS.lastoreOut hx (a := a) (cell := arrV (G.2.1 2) n z) (j := i) (by rw [hT]; exact ha) ((hK.2 2 _ rfl).1 n z) (by rw [arrV_size]; exact hout) (g := F0 m pc ls (.long v :: .int i :: .ref a :: rest)) rfl rfl (by rw [hb]; exact hdg)
  rw [arrV_size] at go
  exact ⟨t, go t k1, k2⟩
end OUT
def r15_at_T (ks : Nat → ClassId) (σ : ST) (t0 : Nat) (a1 : Int32) : Option Unit :=
  bo (pgr σ (some t0) 15 0) (fun (v_2 : Option Nat) => bo (pan σ v_2 (ks 1)) (fun (n_4 : Nat) => ou n_4 a1 (some ())))
abbrev rm_X26_at_T : Room := rmc 9 10300 3 1210
theorem mt_X26_at_T (l : Launch) (G : GT) (hal : G.2.2.2.2 = true) (hlt : l.stackTraces = false) (σ : ST) (t0 : Nat) (a1 : Int32) (h : r15_at_T G.2.1 σ t0 a1 = some ()) : MetT l yX26_at (ws_ yX26_at cX26_at 2 (some .long)) rm_X26_at_T (va_Pc [.ref t0, .int a1] (PicU cp_ft G σ)) (QTx "java/lang/ArrayIndexOutOfBoundsException" cp_ft G σ) 3 1210 G.2.2.2.1 := by
  refine m_enterT (by decide) rfl (lv := [(0, .ref t0), (1, .int a1)]) rfl ?_
  intro p e s m args below meth c H locs ls X hlocks htab hP hl
  have hP0 := hP
  have hx := X.1.1
  have hb := X.1.2.1
  have hown := X.1.2.2.2.1
  have hts := X.1.2.2.2.2
  unfold r15_at_T at h
  refine lv_aload_n hx hb dX26_at_0 rfl (lv_at hl 0 rfl) ?_
  obtain ⟨v_2, e_1, h⟩ := bo_ex h
  refine r_pgr (r := (some t0)) X hP lk_15 0 (Nat.le_of_ble_eq_true rfl) e_1 q1454 dX26_at_1 ?_
  refine lv_iload_n hx hb dX26_at_4 rfl (lv_at hl 1 rfl) ?_
  obtain ⟨n_4, e_3, h⟩ := bo_ex h
  have hz_5 := ou_in h
  refine r_outlb (r := v_2) X hP e_3 hz_5.2 dX26_at_5 ?_
  refine r_thrM X hal hlt hP (names := ["java/lang/IndexOutOfBoundsException", "java/lang/RuntimeException", "java/lang/Exception"]) (by decide) (by decide) rfl rfl (at_AIO hts X.2.2.1 (X.2.2.2 hal).2.2.2.2) (index_text_modelled _ _) (Nat.le_trans (index_text_bytes _ (by have := hz_5.1; omega)) (by decide)) hl.1 (Nat.le_of_ble_eq_true rfl) (Nat.le_of_ble_eq_true rfl) (Nat.le_of_ble_eq_true rfl) (Nat.le_of_ble_eq_true rfl) (Nat.le_of_ble_eq_true rfl) (Nat.le_of_ble_eq_true rfl) (fun H1 locs1 n1 ce hn1 hP1 hce hf hv => ?_)
  exact r_leaveT X hP1 hce hf hv hlocks htab (Nat.le_refl _) (Nat.le_trans hn1 (Nat.le_of_ble_eq_true rfl))
def r15_put_T (ks : Nat → ClassId) (σ : ST) (t0 : Nat) (a1 : Int32) (a2 : Int64) : Option Unit :=
  bo (pgr σ (some t0) 15 0) (fun (v_2 : Option Nat) => bo (pan σ v_2 (ks 1)) (fun (n_4 : Nat) => ou n_4 a1 (some ())))
abbrev rm_X26_put_T : Room := rmc 9 10300 3 1210
theorem mt_X26_put_T (l : Launch) (G : GT) (hal : G.2.2.2.2 = true) (hlt : l.stackTraces = false) (σ : ST) (t0 : Nat) (a1 : Int32) (a2 : Int64) (h : r15_put_T G.2.1 σ t0 a1 a2 = some ()) : MetT l yX26_put (ws_ yX26_put cX26_put 4 (some .boolean)) rm_X26_put_T (va_Pc [.ref t0, .int a1, .long a2] (PicU cp_ft G σ)) (QTx "java/lang/ArrayIndexOutOfBoundsException" cp_ft G σ) 3 1210 G.2.2.2.1 := by
  refine m_enterT (by decide) rfl (lv := [(0, .ref t0), (1, .int a1), (2, .long a2)]) rfl ?_
  intro p e s m args below meth c H locs ls X hlocks htab hP hl
  have hP0 := hP
  have hx := X.1.1
  have hb := X.1.2.1
  have hown := X.1.2.2.2.1
  have hts := X.1.2.2.2.2
  unfold r15_put_T at h
  refine lv_aload_n hx hb dX26_put_0 rfl (lv_at hl 0 rfl) ?_
  obtain ⟨v_2, e_1, h⟩ := bo_ex h
  refine r_pgr (r := (some t0)) X hP lk_15 0 (Nat.le_of_ble_eq_true rfl) e_1 q1454 dX26_put_1 ?_
  refine lv_iload_n hx hb dX26_put_4 rfl (lv_at hl 1 rfl) ?_
  refine lv_lload_n hx hb dX26_put_5 rfl (lv_at hl 2 rfl) ?_
  refine lv_l2i hx hb dX26_put_6 rfl ?_
  refine lv_i2b hx hb dX26_put_7 rfl ?_
  obtain ⟨n_4, e_3, h⟩ := bo_ex h
  have hz_5 := ou_in h
  refine r_outsb (r := v_2) X hP e_3 hz_5.2 dX26_put_8 ?_
  refine r_thrM X hal hlt hP (names := ["java/lang/IndexOutOfBoundsException", "java/lang/RuntimeException", "java/lang/Exception"]) (by decide) (by decide) rfl rfl (at_AIO hts X.2.2.1 (X.2.2.2 hal).2.2.2.2) (index_text_modelled _ _) (Nat.le_trans (index_text_bytes _ (by have := hz_5.1; omega)) (by decide)) hl.1 (Nat.le_of_ble_eq_true rfl) (Nat.le_of_ble_eq_true rfl) (Nat.le_of_ble_eq_true rfl) (Nat.le_of_ble_eq_true rfl) (Nat.le_of_ble_eq_true rfl) (Nat.le_of_ble_eq_true rfl) (fun H1 locs1 n1 ce hn1 hP1 hce hf hv => ?_)
  exact r_leaveT X hP1 hce hf hv hlocks htab (Nat.le_refl _) (Nat.le_trans hn1 (Nat.le_of_ble_eq_true rfl))
def r16_at_T (ks : Nat → ClassId) (σ : ST) (t0 : Nat) (a1 : Int32) : Option Unit :=
  bo (pgr σ (some t0) 16 0) (fun (v_2 : Option Nat) => bo (pan σ v_2 (ks 9)) (fun (n_4 : Nat) => ou n_4 a1 (some ())))
abbrev rm_X27_at_T : Room := rmc 9 10300 3 1210
theorem mt_X27_at_T (l : Launch) (G : GT) (hal : G.2.2.2.2 = true) (hlt : l.stackTraces = false) (σ : ST) (t0 : Nat) (a1 : Int32) (h : r16_at_T G.2.1 σ t0 a1 = some ()) : MetT l yX27_at (ws_ yX27_at cX27_at 2 (some .long)) rm_X27_at_T (va_Pc [.ref t0, .int a1] (PicU cp_ft G σ)) (QTx "java/lang/ArrayIndexOutOfBoundsException" cp_ft G σ) 3 1210 G.2.2.2.1 := by
  refine m_enterT (by decide) rfl (lv := [(0, .ref t0), (1, .int a1)]) rfl ?_
  intro p e s m args below meth c H locs ls X hlocks htab hP hl
  have hP0 := hP
  have hx := X.1.1
  have hb := X.1.2.1
  have hown := X.1.2.2.2.1
  have hts := X.1.2.2.2.2
  unfold r16_at_T at h
  refine lv_aload_n hx hb dX27_at_0 rfl (lv_at hl 0 rfl) ?_
  obtain ⟨v_2, e_1, h⟩ := bo_ex h
  refine r_pgr (r := (some t0)) X hP lk_16 0 (Nat.le_of_ble_eq_true rfl) e_1 q1463 dX27_at_1 ?_
  refine lv_iload_n hx hb dX27_at_4 rfl (lv_at hl 1 rfl) ?_
  obtain ⟨n_4, e_3, h⟩ := bo_ex h
  have hz_5 := ou_in h
  refine r_outls (r := v_2) X hP e_3 hz_5.2 dX27_at_5 ?_
  refine r_thrM X hal hlt hP (names := ["java/lang/IndexOutOfBoundsException", "java/lang/RuntimeException", "java/lang/Exception"]) (by decide) (by decide) rfl rfl (at_AIO hts X.2.2.1 (X.2.2.2 hal).2.2.2.2) (index_text_modelled _ _) (Nat.le_trans (index_text_bytes _ (by have := hz_5.1; omega)) (by decide)) hl.1 (Nat.le_of_ble_eq_true rfl) (Nat.le_of_ble_eq_true rfl) (Nat.le_of_ble_eq_true rfl) (Nat.le_of_ble_eq_true rfl) (Nat.le_of_ble_eq_true rfl) (Nat.le_of_ble_eq_true rfl) (fun H1 locs1 n1 ce hn1 hP1 hce hf hv => ?_)
  exact r_leaveT X hP1 hce hf hv hlocks htab (Nat.le_refl _) (Nat.le_trans hn1 (Nat.le_of_ble_eq_true rfl))
def r16_put_T (ks : Nat → ClassId) (σ : ST) (t0 : Nat) (a1 : Int32) (a2 : Int64) : Option Unit :=
  bo (pgr σ (some t0) 16 0) (fun (v_2 : Option Nat) => bo (pan σ v_2 (ks 9)) (fun (n_4 : Nat) => ou n_4 a1 (some ())))
abbrev rm_X27_put_T : Room := rmc 9 10300 3 1210
theorem mt_X27_put_T (l : Launch) (G : GT) (hal : G.2.2.2.2 = true) (hlt : l.stackTraces = false) (σ : ST) (t0 : Nat) (a1 : Int32) (a2 : Int64) (h : r16_put_T G.2.1 σ t0 a1 a2 = some ()) : MetT l yX27_put (ws_ yX27_put cX27_put 4 (some .boolean)) rm_X27_put_T (va_Pc [.ref t0, .int a1, .long a2] (PicU cp_ft G σ)) (QTx "java/lang/ArrayIndexOutOfBoundsException" cp_ft G σ) 3 1210 G.2.2.2.1 := by
  refine m_enterT (by decide) rfl (lv := [(0, .ref t0), (1, .int a1), (2, .long a2)]) rfl ?_
  intro p e s m args below meth c H locs ls X hlocks htab hP hl
  have hP0 := hP
  have hx := X.1.1
  have hb := X.1.2.1
  have hown := X.1.2.2.2.1
  have hts := X.1.2.2.2.2
  unfold r16_put_T at h
  refine lv_aload_n hx hb dX27_put_0 rfl (lv_at hl 0 rfl) ?_
  obtain ⟨v_2, e_1, h⟩ := bo_ex h
  refine r_pgr (r := (some t0)) X hP lk_16 0 (Nat.le_of_ble_eq_true rfl) e_1 q1463 dX27_put_1 ?_
  refine lv_iload_n hx hb dX27_put_4 rfl (lv_at hl 1 rfl) ?_
  refine lv_lload_n hx hb dX27_put_5 rfl (lv_at hl 2 rfl) ?_
  refine lv_l2i hx hb dX27_put_6 rfl ?_
  refine lv_i2s hx hb dX27_put_7 rfl ?_
  obtain ⟨n_4, e_3, h⟩ := bo_ex h
  have hz_5 := ou_in h
  refine r_outss (r := v_2) X hP e_3 hz_5.2 dX27_put_8 ?_
  refine r_thrM X hal hlt hP (names := ["java/lang/IndexOutOfBoundsException", "java/lang/RuntimeException", "java/lang/Exception"]) (by decide) (by decide) rfl rfl (at_AIO hts X.2.2.1 (X.2.2.2 hal).2.2.2.2) (index_text_modelled _ _) (Nat.le_trans (index_text_bytes _ (by have := hz_5.1; omega)) (by decide)) hl.1 (Nat.le_of_ble_eq_true rfl) (Nat.le_of_ble_eq_true rfl) (Nat.le_of_ble_eq_true rfl) (Nat.le_of_ble_eq_true rfl) (Nat.le_of_ble_eq_true rfl) (Nat.le_of_ble_eq_true rfl) (fun H1 locs1 n1 ce hn1 hP1 hce hf hv => ?_)
  exact r_leaveT X hP1 hce hf hv hlocks htab (Nat.le_refl _) (Nat.le_trans hn1 (Nat.le_of_ble_eq_true rfl))
def r17_at_T (ks : Nat → ClassId) (σ : ST) (t0 : Nat) (a1 : Int32) : Option Unit :=
  bo (pgr σ (some t0) 17 0) (fun (v_2 : Option Nat) => bo (pan σ v_2 (ks 0)) (fun (n_4 : Nat) => ou n_4 a1 (some ())))
abbrev rm_X28_at_T : Room := rmc 9 10300 3 1210
theorem mt_X28_at_T (l : Launch) (G : GT) (hal : G.2.2.2.2 = true) (hlt : l.stackTraces = false) (σ : ST) (t0 : Nat) (a1 : Int32) (h : r17_at_T G.2.1 σ t0 a1 = some ()) : MetT l yX28_at (ws_ yX28_at cX28_at 2 (some .long)) rm_X28_at_T (va_Pc [.ref t0, .int a1] (PicU cp_ft G σ)) (QTx "java/lang/ArrayIndexOutOfBoundsException" cp_ft G σ) 3 1210 G.2.2.2.1 := by
  refine m_enterT (by decide) rfl (lv := [(0, .ref t0), (1, .int a1)]) rfl ?_
  intro p e s m args below meth c H locs ls X hlocks htab hP hl
  have hP0 := hP
  have hx := X.1.1
  have hb := X.1.2.1
  have hown := X.1.2.2.2.1
  have hts := X.1.2.2.2.2
  unfold r17_at_T at h
  refine lv_aload_n hx hb dX28_at_0 rfl (lv_at hl 0 rfl) ?_
  obtain ⟨v_2, e_1, h⟩ := bo_ex h
  refine r_pgr (r := (some t0)) X hP lk_17 0 (Nat.le_of_ble_eq_true rfl) e_1 q1474 dX28_at_1 ?_
  refine lv_iload_n hx hb dX28_at_4 rfl (lv_at hl 1 rfl) ?_
  obtain ⟨n_4, e_3, h⟩ := bo_ex h
  have hz_5 := ou_in h
  refine r_outli (r := v_2) X hP e_3 hz_5.2 dX28_at_5 ?_
  refine r_thrM X hal hlt hP (names := ["java/lang/IndexOutOfBoundsException", "java/lang/RuntimeException", "java/lang/Exception"]) (by decide) (by decide) rfl rfl (at_AIO hts X.2.2.1 (X.2.2.2 hal).2.2.2.2) (index_text_modelled _ _) (Nat.le_trans (index_text_bytes _ (by have := hz_5.1; omega)) (by decide)) hl.1 (Nat.le_of_ble_eq_true rfl) (Nat.le_of_ble_eq_true rfl) (Nat.le_of_ble_eq_true rfl) (Nat.le_of_ble_eq_true rfl) (Nat.le_of_ble_eq_true rfl) (Nat.le_of_ble_eq_true rfl) (fun H1 locs1 n1 ce hn1 hP1 hce hf hv => ?_)
  exact r_leaveT X hP1 hce hf hv hlocks htab (Nat.le_refl _) (Nat.le_trans hn1 (Nat.le_of_ble_eq_true rfl))
def r17_put_T (ks : Nat → ClassId) (σ : ST) (t0 : Nat) (a1 : Int32) (a2 : Int64) : Option Unit :=
  bo (pgr σ (some t0) 17 0) (fun (v_2 : Option Nat) => bo (pan σ v_2 (ks 0)) (fun (n_4 : Nat) => ou n_4 a1 (some ())))
abbrev rm_X28_put_T : Room := rmc 9 10300 3 1210
theorem mt_X28_put_T (l : Launch) (G : GT) (hal : G.2.2.2.2 = true) (hlt : l.stackTraces = false) (σ : ST) (t0 : Nat) (a1 : Int32) (a2 : Int64) (h : r17_put_T G.2.1 σ t0 a1 a2 = some ()) : MetT l yX28_put (ws_ yX28_put cX28_put 4 (some .boolean)) rm_X28_put_T (va_Pc [.ref t0, .int a1, .long a2] (PicU cp_ft G σ)) (QTx "java/lang/ArrayIndexOutOfBoundsException" cp_ft G σ) 3 1210 G.2.2.2.1 := by
  refine m_enterT (by decide) rfl (lv := [(0, .ref t0), (1, .int a1), (2, .long a2)]) rfl ?_
  intro p e s m args below meth c H locs ls X hlocks htab hP hl
  have hP0 := hP
  have hx := X.1.1
  have hb := X.1.2.1
  have hown := X.1.2.2.2.1
  have hts := X.1.2.2.2.2
  unfold r17_put_T at h
  refine lv_aload_n hx hb dX28_put_0 rfl (lv_at hl 0 rfl) ?_
  obtain ⟨v_2, e_1, h⟩ := bo_ex h
  refine r_pgr (r := (some t0)) X hP lk_17 0 (Nat.le_of_ble_eq_true rfl) e_1 q1474 dX28_put_1 ?_
  refine lv_iload_n hx hb dX28_put_4 rfl (lv_at hl 1 rfl) ?_
  refine lv_lload_n hx hb dX28_put_5 rfl (lv_at hl 2 rfl) ?_
  refine lv_l2i hx hb dX28_put_6 rfl ?_
  obtain ⟨n_4, e_3, h⟩ := bo_ex h
  have hz_5 := ou_in h
  refine r_outsi (r := v_2) X hP e_3 hz_5.2 dX28_put_7 ?_
  refine r_thrM X hal hlt hP (names := ["java/lang/IndexOutOfBoundsException", "java/lang/RuntimeException", "java/lang/Exception"]) (by decide) (by decide) rfl rfl (at_AIO hts X.2.2.1 (X.2.2.2 hal).2.2.2.2) (index_text_modelled _ _) (Nat.le_trans (index_text_bytes _ (by have := hz_5.1; omega)) (by decide)) hl.1 (Nat.le_of_ble_eq_true rfl) (Nat.le_of_ble_eq_true rfl) (Nat.le_of_ble_eq_true rfl) (Nat.le_of_ble_eq_true rfl) (Nat.le_of_ble_eq_true rfl) (Nat.le_of_ble_eq_true rfl) (fun H1 locs1 n1 ce hn1 hP1 hce hf hv => ?_)
  exact r_leaveT X hP1 hce hf hv hlocks htab (Nat.le_refl _) (Nat.le_trans hn1 (Nat.le_of_ble_eq_true rfl))
def r18_at_T (ks : Nat → ClassId) (σ : ST) (t0 : Nat) (a1 : Int32) : Option Unit :=
  bo (pgr σ (some t0) 18 0) (fun (v_2 : Option Nat) => bo (pan σ v_2 (ks 2)) (fun (n_4 : Nat) => ou n_4 a1 (some ())))
abbrev rm_X29_at_T : Room := rmc 9 10300 3 1210
theorem mt_X29_at_T (l : Launch) (G : GT) (hal : G.2.2.2.2 = true) (hlt : l.stackTraces = false) (σ : ST) (t0 : Nat) (a1 : Int32) (h : r18_at_T G.2.1 σ t0 a1 = some ()) : MetT l yX29_at (ws_ yX29_at cX29_at 2 (some .long)) rm_X29_at_T (va_Pc [.ref t0, .int a1] (PicU cp_ft G σ)) (QTx "java/lang/ArrayIndexOutOfBoundsException" cp_ft G σ) 3 1210 G.2.2.2.1 := by
  refine m_enterT (by decide) rfl (lv := [(0, .ref t0), (1, .int a1)]) rfl ?_
  intro p e s m args below meth c H locs ls X hlocks htab hP hl
  have hP0 := hP
  have hx := X.1.1
  have hb := X.1.2.1
  have hown := X.1.2.2.2.1
  have hts := X.1.2.2.2.2
  unfold r18_at_T at h
  refine lv_aload_n hx hb dX29_at_0 rfl (lv_at hl 0 rfl) ?_
  obtain ⟨v_2, e_1, h⟩ := bo_ex h
  refine r_pgr (r := (some t0)) X hP lk_18 0 (Nat.le_of_ble_eq_true rfl) e_1 q1484 dX29_at_1 ?_
  refine lv_iload_n hx hb dX29_at_4 rfl (lv_at hl 1 rfl) ?_
  obtain ⟨n_4, e_3, h⟩ := bo_ex h
  have hz_5 := ou_in h
  refine r_outll (r := v_2) X hP e_3 hz_5.2 dX29_at_5 ?_
  refine r_thrM X hal hlt hP (names := ["java/lang/IndexOutOfBoundsException", "java/lang/RuntimeException", "java/lang/Exception"]) (by decide) (by decide) rfl rfl (at_AIO hts X.2.2.1 (X.2.2.2 hal).2.2.2.2) (index_text_modelled _ _) (Nat.le_trans (index_text_bytes _ (by have := hz_5.1; omega)) (by decide)) hl.1 (Nat.le_of_ble_eq_true rfl) (Nat.le_of_ble_eq_true rfl) (Nat.le_of_ble_eq_true rfl) (Nat.le_of_ble_eq_true rfl) (Nat.le_of_ble_eq_true rfl) (Nat.le_of_ble_eq_true rfl) (fun H1 locs1 n1 ce hn1 hP1 hce hf hv => ?_)
  exact r_leaveT X hP1 hce hf hv hlocks htab (Nat.le_refl _) (Nat.le_trans hn1 (Nat.le_of_ble_eq_true rfl))
def r18_put_T (ks : Nat → ClassId) (σ : ST) (t0 : Nat) (a1 : Int32) (a2 : Int64) : Option Unit :=
  bo (pgr σ (some t0) 18 0) (fun (v_2 : Option Nat) => bo (pan σ v_2 (ks 2)) (fun (n_4 : Nat) => ou n_4 a1 (some ())))
abbrev rm_X29_put_T : Room := rmc 9 10300 3 1210
theorem mt_X29_put_T (l : Launch) (G : GT) (hal : G.2.2.2.2 = true) (hlt : l.stackTraces = false) (σ : ST) (t0 : Nat) (a1 : Int32) (a2 : Int64) (h : r18_put_T G.2.1 σ t0 a1 a2 = some ()) : MetT l yX29_put (ws_ yX29_put cX29_put 4 (some .boolean)) rm_X29_put_T (va_Pc [.ref t0, .int a1, .long a2] (PicU cp_ft G σ)) (QTx "java/lang/ArrayIndexOutOfBoundsException" cp_ft G σ) 3 1210 G.2.2.2.1 := by
  refine m_enterT (by decide) rfl (lv := [(0, .ref t0), (1, .int a1), (2, .long a2)]) rfl ?_
  intro p e s m args below meth c H locs ls X hlocks htab hP hl
  have hP0 := hP
  have hx := X.1.1
  have hb := X.1.2.1
  have hown := X.1.2.2.2.1
  have hts := X.1.2.2.2.2
  unfold r18_put_T at h
  refine lv_aload_n hx hb dX29_put_0 rfl (lv_at hl 0 rfl) ?_
  obtain ⟨v_2, e_1, h⟩ := bo_ex h
  refine r_pgr (r := (some t0)) X hP lk_18 0 (Nat.le_of_ble_eq_true rfl) e_1 q1484 dX29_put_1 ?_
  refine lv_iload_n hx hb dX29_put_4 rfl (lv_at hl 1 rfl) ?_
  refine lv_lload_n hx hb dX29_put_5 rfl (lv_at hl 2 rfl) ?_
  obtain ⟨n_4, e_3, h⟩ := bo_ex h
  have hz_5 := ou_in h
  refine r_outsl (r := v_2) X hP e_3 hz_5.2 dX29_put_6 ?_
  refine r_thrM X hal hlt hP (names := ["java/lang/IndexOutOfBoundsException", "java/lang/RuntimeException", "java/lang/Exception"]) (by decide) (by decide) rfl rfl (at_AIO hts X.2.2.1 (X.2.2.2 hal).2.2.2.2) (index_text_modelled _ _) (Nat.le_trans (index_text_bytes _ (by have := hz_5.1; omega)) (by decide)) hl.1 (Nat.le_of_ble_eq_true rfl) (Nat.le_of_ble_eq_true rfl) (Nat.le_of_ble_eq_true rfl) (Nat.le_of_ble_eq_true rfl) (Nat.le_of_ble_eq_true rfl) (Nat.le_of_ble_eq_true rfl) (fun H1 locs1 n1 ce hn1 hP1 hce hf hv => ?_)
  exact r_leaveT X hP1 hce hf hv hlocks htab (Nat.le_refl _) (Nat.le_trans hn1 (Nat.le_of_ble_eq_true rfl))
def r19_at_T (ks : Nat → ClassId) (σ : ST) (t0 : Nat) (a1 : Int32) : Option Unit :=
  bo (pgr σ (some t0) 19 0) (fun (v_2 : Option Nat) => bo (pan σ v_2 (ks 10)) (fun (n_4 : Nat) => ou n_4 a1 (some ())))
abbrev rm_X30_at_T : Room := rmc 9 10300 3 1210
theorem mt_X30_at_T (l : Launch) (G : GT) (hal : G.2.2.2.2 = true) (hlt : l.stackTraces = false) (σ : ST) (t0 : Nat) (a1 : Int32) (h : r19_at_T G.2.1 σ t0 a1 = some ()) : MetT l yX30_at (ws_ yX30_at cX30_at 2 (some .long)) rm_X30_at_T (va_Pc [.ref t0, .int a1] (PicU cp_ft G σ)) (QTx "java/lang/ArrayIndexOutOfBoundsException" cp_ft G σ) 3 1210 G.2.2.2.1 := by
  refine m_enterT (by decide) rfl (lv := [(0, .ref t0), (1, .int a1)]) rfl ?_
  intro p e s m args below meth c H locs ls X hlocks htab hP hl
  have hP0 := hP
  have hx := X.1.1
  have hb := X.1.2.1
  have hown := X.1.2.2.2.1
  have hts := X.1.2.2.2.2
  unfold r19_at_T at h
  refine lv_aload_n hx hb dX30_at_0 rfl (lv_at hl 0 rfl) ?_
  obtain ⟨v_2, e_1, h⟩ := bo_ex h
  refine r_pgr (r := (some t0)) X hP lk_19 0 (Nat.le_of_ble_eq_true rfl) e_1 q1495 dX30_at_1 ?_
  refine lv_iload_n hx hb dX30_at_4 rfl (lv_at hl 1 rfl) ?_
  obtain ⟨n_4, e_3, h⟩ := bo_ex h
  have hz_5 := ou_in h
  refine r_outlz (r := v_2) X hP e_3 hz_5.2 dX30_at_5 ?_
  refine r_thrM X hal hlt hP (names := ["java/lang/IndexOutOfBoundsException", "java/lang/RuntimeException", "java/lang/Exception"]) (by decide) (by decide) rfl rfl (at_AIO hts X.2.2.1 (X.2.2.2 hal).2.2.2.2) (index_text_modelled _ _) (Nat.le_trans (index_text_bytes _ (by have := hz_5.1; omega)) (by decide)) hl.1 (Nat.le_of_ble_eq_true rfl) (Nat.le_of_ble_eq_true rfl) (Nat.le_of_ble_eq_true rfl) (Nat.le_of_ble_eq_true rfl) (Nat.le_of_ble_eq_true rfl) (Nat.le_of_ble_eq_true rfl) (fun H1 locs1 n1 ce hn1 hP1 hce hf hv => ?_)
  exact r_leaveT X hP1 hce hf hv hlocks htab (Nat.le_refl _) (Nat.le_trans hn1 (Nat.le_of_ble_eq_true rfl))
def r19_put_T (ks : Nat → ClassId) (σ : ST) (t0 : Nat) (a1 : Int32) (a2 : Int64) : Option Unit :=
  bo (pgr σ (some t0) 19 0) (fun (v_2 : Option Nat) => (if (lg_cmp a2 (0 : Int64)) = 0 then bo (pan σ v_2 (ks 10)) (fun (n_5 : Nat) => ou n_5 a1 (some ())) else bo (pan σ v_2 (ks 10)) (fun (n_8 : Nat) => ou n_8 a1 (some ()))))
abbrev rm_X30_put_T : Room := rmc 9 10300 3 1210
theorem mt_X30_put_T (l : Launch) (G : GT) (hal : G.2.2.2.2 = true) (hlt : l.stackTraces = false) (σ : ST) (t0 : Nat) (a1 : Int32) (a2 : Int64) (h : r19_put_T G.2.1 σ t0 a1 a2 = some ()) : MetT l yX30_put (ws_ yX30_put cX30_put 4 (some .boolean)) rm_X30_put_T (va_Pc [.ref t0, .int a1, .long a2] (PicU cp_ft G σ)) (QTx "java/lang/ArrayIndexOutOfBoundsException" cp_ft G σ) 3 1210 G.2.2.2.1 := by
  refine m_enterT (by decide) rfl (lv := [(0, .ref t0), (1, .int a1), (2, .long a2)]) rfl ?_
  intro p e s m args below meth c H locs ls X hlocks htab hP hl
  have hP0 := hP
  have hx := X.1.1
  have hb := X.1.2.1
  have hown := X.1.2.2.2.1
  have hts := X.1.2.2.2.2
  unfold r19_put_T at h
  refine lv_aload_n hx hb dX30_put_0 rfl (lv_at hl 0 rfl) ?_
  obtain ⟨v_2, e_1, h⟩ := bo_ex h
  refine r_pgr (r := (some t0)) X hP lk_19 0 (Nat.le_of_ble_eq_true rfl) e_1 q1495 dX30_put_1 ?_
  refine lv_iload_n hx hb dX30_put_4 rfl (lv_at hl 1 rfl) ?_
  refine lv_lload_n hx hb dX30_put_5 rfl (lv_at hl 2 rfl) ?_
  refine lv_lconst (v := (0 : Int64)) hx hb dX30_put_6 (by decide) ?_
  refine W.lcmp hx hb dX30_put_7 ?_
  refine lv_if_eq (tgt := 15) hx hb dX30_put_8 (by decide) (fun c_3 => ?_) (fun c_3 => ?_)
  · have h := it_t h c_3
    refine lv_iconst (v := (0 : Int32)) hx hb dX30_put_15 (by decide) ?_
    obtain ⟨n_5, e_4, h⟩ := bo_ex h
    have hz_6 := ou_in h
    refine r_outsz (r := v_2) X hP e_4 hz_6.2 dX30_put_16 ?_
    refine r_thrM X hal hlt hP (names := ["java/lang/IndexOutOfBoundsException", "java/lang/RuntimeException", "java/lang/Exception"]) (by decide) (by decide) rfl rfl (at_AIO hts X.2.2.1 (X.2.2.2 hal).2.2.2.2) (index_text_modelled _ _) (Nat.le_trans (index_text_bytes _ (by have := hz_6.1; omega)) (by decide)) hl.1 (Nat.le_of_ble_eq_true rfl) (Nat.le_of_ble_eq_true rfl) (Nat.le_of_ble_eq_true rfl) (Nat.le_of_ble_eq_true rfl) (Nat.le_of_ble_eq_true rfl) (Nat.le_of_ble_eq_true rfl) (fun H1 locs1 n1 ce hn1 hP1 hce hf hv => ?_)
    exact r_leaveT X hP1 hce hf hv hlocks htab (Nat.le_refl _) (Nat.le_trans hn1 (Nat.le_of_ble_eq_true rfl))
  · have h := it_f h c_3
    refine lv_iconst (v := (1 : Int32)) hx hb dX30_put_11 (by decide) ?_
    refine lv_goto (tgt := 16) hx hb dX30_put_12 (by decide) ?_
    obtain ⟨n_8, e_7, h⟩ := bo_ex h
    have hz_9 := ou_in h
    refine r_outsz (r := v_2) X hP e_7 hz_9.2 dX30_put_16 ?_
    refine r_thrM X hal hlt hP (names := ["java/lang/IndexOutOfBoundsException", "java/lang/RuntimeException", "java/lang/Exception"]) (by decide) (by decide) rfl rfl (at_AIO hts X.2.2.1 (X.2.2.2 hal).2.2.2.2) (index_text_modelled _ _) (Nat.le_trans (index_text_bytes _ (by have := hz_9.1; omega)) (by decide)) hl.1 (Nat.le_of_ble_eq_true rfl) (Nat.le_of_ble_eq_true rfl) (Nat.le_of_ble_eq_true rfl) (Nat.le_of_ble_eq_true rfl) (Nat.le_of_ble_eq_true rfl) (Nat.le_of_ble_eq_true rfl) (fun H1 locs1 n1 ce hn1 hP1 hce hf hv => ?_)
    exact r_leaveT X hP1 hce hf hv hlocks htab (Nat.le_refl _) (Nat.le_trans hn1 (Nat.le_of_ble_eq_true rfl))
def ng {α : Type} (n : Int32) (k : Option α) : Option α := if n < 0 then k else none
theorem ng_in {α : Type} {n : Int32} {k : Option α} {r : α} (h : ng n k = some r) : n < 0 := by
  unfold ng at h
  by_cases q : n < 0
  · exact q
  · rw [if_neg q] at h
    cases h
theorem r_naneg {p : Program} {l : Launch} {e : Env} {R : Room} {s : State} {m : MethodId} {args : Array Value} {below : List Frame} {meth : Method} {c : Code} {H : Heap} {locs : List Loc} {cells slots : Nat} {Q : State → Prop} {cc : ByteArray} {pc nL : Nat} {ls : Array Slot} {rest : List Value} {own : String} {G : GT} (X : CX G p m c cc nL s args own) {n : Int32} {at_ : ArrayType} (hn : n < 0) (hdg : decode cc pc = .ok (.newarray at_, 2))
    (kk : WN p l e R s m args below meth c H locs cells slots Q "java/lang/NegativeArraySizeException" (some (toString n)) (F0 m pc ls rest)) : W p l e R s m args below meth c H locs cells slots Q (F0 m pc ls (.int n :: rest)) := by
  obtain ⟨⟨hx, hb, hml, hown, hts⟩, hK, hN, hEV⟩ := X
  intro T hT XS
  obtain ⟨t, k1, k2⟩ := kk T hT XS
  exact ⟨t, XS.newarrayNegative hx (g := F0 m pc ls (.int n :: rest)) rfl hn rfl (by rw [hb]; exact hdg) t k1, k2⟩
def r15_init_T (ks : Nat → ClassId) (σ : ST) (t0 : Nat) (a1 : Int32) : Option Unit :=
  bo (rw_init σ t0) (fun (_ : Unit) => ng a1 (some ()))
abbrev rm_X26_init_T : Room := rmc 9 10300 3 1210
theorem mt_X26_init_T (l : Launch) (G : GT) (hal : G.2.2.2.2 = true) (hlt : l.stackTraces = false) (σ : ST) (t0 : Nat) (a1 : Int32) (h : r15_init_T G.2.1 σ t0 a1 = some ()) : MetT l yX26_init (ws_ yX26_init cX26_init 2 none) rm_X26_init_T (va_Pc [.ref t0, .int a1] (PicU cp_ft G σ)) (QTx "java/lang/NegativeArraySizeException" cp_ft G σ) 3 1210 G.2.2.2.1 := by
  refine m_enterT (by decide) rfl (lv := [(0, .ref t0), (1, .int a1)]) rfl ?_
  intro p e s m args below meth c H locs ls X hlocks htab hP hl
  have hP0 := hP
  have hx := X.1.1
  have hb := X.1.2.1
  have hown := X.1.2.2.2.1
  have hts := X.1.2.2.2.2
  unfold r15_init_T at h
  refine lv_aload_n hx hb dX26_init_0 rfl (lv_at hl 0 rfl) ?_
  obtain ⟨_, e_1, h⟩ := bo_ex h
  refine r_callv (r_runIN (rest := []) X hP (mt_X25_init l G σ t0 e_1) ⟨va_cnB 0 hts (lw_meth q1452) rfl rfl rfl (X.2.2.1 _ q1450 rfl) (hts _ q150) cdX25_init ⟨Nat.le_of_ble_eq_true rfl, Nat.le_of_ble_eq_true rfl⟩, rfl, hts _ q1451⟩ rfl hl.1 rfl (Nat.le_of_ble_eq_true rfl) dX26_init_1 ⟨Nat.le_of_ble_eq_true rfl, Nat.le_of_ble_eq_true rfl⟩) hP (fun H locs hP => ?_)
  refine lv_aload_n hx hb dX26_init_4 rfl (lv_at hl 0 rfl) ?_
  refine lv_iload_n hx hb dX26_init_5 rfl (lv_at hl 1 rfl) ?_
  have hz_2 := ng_in h
  refine r_naneg X hz_2 dX26_init_6 ?_
  refine r_thrM X hal hlt hP (names := ["java/lang/RuntimeException", "java/lang/Exception"]) (by decide) (by decide) rfl rfl (at_NAS hts X.2.2.1 (X.2.2.2 hal).2.2.2.2) (negative_text_modelled hz_2) (Nat.le_trans (negative_text_bytes _) (by decide)) hl.1 (Nat.le_of_ble_eq_true rfl) (Nat.le_of_ble_eq_true rfl) (Nat.le_of_ble_eq_true rfl) (Nat.le_of_ble_eq_true rfl) (Nat.le_of_ble_eq_true rfl) (Nat.le_of_ble_eq_true rfl) (fun H1 locs1 n1 ce hn1 hP1 hce hf hv => ?_)
  exact r_leaveT X hP1 hce hf hv hlocks htab (Nat.le_refl _) (Nat.le_trans hn1 (Nat.le_of_ble_eq_true rfl))
def r16_init_T (ks : Nat → ClassId) (σ : ST) (t0 : Nat) (a1 : Int32) : Option Unit :=
  bo (rw_init σ t0) (fun (_ : Unit) => ng a1 (some ()))
abbrev rm_X27_init_T : Room := rmc 9 10300 3 1210
theorem mt_X27_init_T (l : Launch) (G : GT) (hal : G.2.2.2.2 = true) (hlt : l.stackTraces = false) (σ : ST) (t0 : Nat) (a1 : Int32) (h : r16_init_T G.2.1 σ t0 a1 = some ()) : MetT l yX27_init (ws_ yX27_init cX27_init 2 none) rm_X27_init_T (va_Pc [.ref t0, .int a1] (PicU cp_ft G σ)) (QTx "java/lang/NegativeArraySizeException" cp_ft G σ) 3 1210 G.2.2.2.1 := by
  refine m_enterT (by decide) rfl (lv := [(0, .ref t0), (1, .int a1)]) rfl ?_
  intro p e s m args below meth c H locs ls X hlocks htab hP hl
  have hP0 := hP
  have hx := X.1.1
  have hb := X.1.2.1
  have hown := X.1.2.2.2.1
  have hts := X.1.2.2.2.2
  unfold r16_init_T at h
  refine lv_aload_n hx hb dX27_init_0 rfl (lv_at hl 0 rfl) ?_
  obtain ⟨_, e_1, h⟩ := bo_ex h
  refine r_callv (r_runIN (rest := []) X hP (mt_X25_init l G σ t0 e_1) ⟨va_cnB 0 hts (lw_meth q1452) rfl rfl rfl (X.2.2.1 _ q1462 rfl) (hts _ q150) cdX25_init ⟨Nat.le_of_ble_eq_true rfl, Nat.le_of_ble_eq_true rfl⟩, rfl, hts _ q1451⟩ rfl hl.1 rfl (Nat.le_of_ble_eq_true rfl) dX27_init_1 ⟨Nat.le_of_ble_eq_true rfl, Nat.le_of_ble_eq_true rfl⟩) hP (fun H locs hP => ?_)
  refine lv_aload_n hx hb dX27_init_4 rfl (lv_at hl 0 rfl) ?_
  refine lv_iload_n hx hb dX27_init_5 rfl (lv_at hl 1 rfl) ?_
  have hz_2 := ng_in h
  refine r_naneg X hz_2 dX27_init_6 ?_
  refine r_thrM X hal hlt hP (names := ["java/lang/RuntimeException", "java/lang/Exception"]) (by decide) (by decide) rfl rfl (at_NAS hts X.2.2.1 (X.2.2.2 hal).2.2.2.2) (negative_text_modelled hz_2) (Nat.le_trans (negative_text_bytes _) (by decide)) hl.1 (Nat.le_of_ble_eq_true rfl) (Nat.le_of_ble_eq_true rfl) (Nat.le_of_ble_eq_true rfl) (Nat.le_of_ble_eq_true rfl) (Nat.le_of_ble_eq_true rfl) (Nat.le_of_ble_eq_true rfl) (fun H1 locs1 n1 ce hn1 hP1 hce hf hv => ?_)
  exact r_leaveT X hP1 hce hf hv hlocks htab (Nat.le_refl _) (Nat.le_trans hn1 (Nat.le_of_ble_eq_true rfl))
def r17_init_T (ks : Nat → ClassId) (σ : ST) (t0 : Nat) (a1 : Int32) : Option Unit :=
  bo (rw_init σ t0) (fun (_ : Unit) => ng a1 (some ()))
abbrev rm_X28_init_T : Room := rmc 9 10300 3 1210
theorem mt_X28_init_T (l : Launch) (G : GT) (hal : G.2.2.2.2 = true) (hlt : l.stackTraces = false) (σ : ST) (t0 : Nat) (a1 : Int32) (h : r17_init_T G.2.1 σ t0 a1 = some ()) : MetT l yX28_init (ws_ yX28_init cX28_init 2 none) rm_X28_init_T (va_Pc [.ref t0, .int a1] (PicU cp_ft G σ)) (QTx "java/lang/NegativeArraySizeException" cp_ft G σ) 3 1210 G.2.2.2.1 := by
  refine m_enterT (by decide) rfl (lv := [(0, .ref t0), (1, .int a1)]) rfl ?_
  intro p e s m args below meth c H locs ls X hlocks htab hP hl
  have hP0 := hP
  have hx := X.1.1
  have hb := X.1.2.1
  have hown := X.1.2.2.2.1
  have hts := X.1.2.2.2.2
  unfold r17_init_T at h
  refine lv_aload_n hx hb dX28_init_0 rfl (lv_at hl 0 rfl) ?_
  obtain ⟨_, e_1, h⟩ := bo_ex h
  refine r_callv (r_runIN (rest := []) X hP (mt_X25_init l G σ t0 e_1) ⟨va_cnB 0 hts (lw_meth q1452) rfl rfl rfl (X.2.2.1 _ q1473 rfl) (hts _ q150) cdX25_init ⟨Nat.le_of_ble_eq_true rfl, Nat.le_of_ble_eq_true rfl⟩, rfl, hts _ q1451⟩ rfl hl.1 rfl (Nat.le_of_ble_eq_true rfl) dX28_init_1 ⟨Nat.le_of_ble_eq_true rfl, Nat.le_of_ble_eq_true rfl⟩) hP (fun H locs hP => ?_)
  refine lv_aload_n hx hb dX28_init_4 rfl (lv_at hl 0 rfl) ?_
  refine lv_iload_n hx hb dX28_init_5 rfl (lv_at hl 1 rfl) ?_
  have hz_2 := ng_in h
  refine r_naneg X hz_2 dX28_init_6 ?_
  refine r_thrM X hal hlt hP (names := ["java/lang/RuntimeException", "java/lang/Exception"]) (by decide) (by decide) rfl rfl (at_NAS hts X.2.2.1 (X.2.2.2 hal).2.2.2.2) (negative_text_modelled hz_2) (Nat.le_trans (negative_text_bytes _) (by decide)) hl.1 (Nat.le_of_ble_eq_true rfl) (Nat.le_of_ble_eq_true rfl) (Nat.le_of_ble_eq_true rfl) (Nat.le_of_ble_eq_true rfl) (Nat.le_of_ble_eq_true rfl) (Nat.le_of_ble_eq_true rfl) (fun H1 locs1 n1 ce hn1 hP1 hce hf hv => ?_)
  exact r_leaveT X hP1 hce hf hv hlocks htab (Nat.le_refl _) (Nat.le_trans hn1 (Nat.le_of_ble_eq_true rfl))
def r18_init_T (ks : Nat → ClassId) (σ : ST) (t0 : Nat) (a1 : Int32) : Option Unit :=
  bo (rw_init σ t0) (fun (_ : Unit) => ng a1 (some ()))
abbrev rm_X29_init_T : Room := rmc 9 10300 3 1210
theorem mt_X29_init_T (l : Launch) (G : GT) (hal : G.2.2.2.2 = true) (hlt : l.stackTraces = false) (σ : ST) (t0 : Nat) (a1 : Int32) (h : r18_init_T G.2.1 σ t0 a1 = some ()) : MetT l yX29_init (ws_ yX29_init cX29_init 2 none) rm_X29_init_T (va_Pc [.ref t0, .int a1] (PicU cp_ft G σ)) (QTx "java/lang/NegativeArraySizeException" cp_ft G σ) 3 1210 G.2.2.2.1 := by
  refine m_enterT (by decide) rfl (lv := [(0, .ref t0), (1, .int a1)]) rfl ?_
  intro p e s m args below meth c H locs ls X hlocks htab hP hl
  have hP0 := hP
  have hx := X.1.1
  have hb := X.1.2.1
  have hown := X.1.2.2.2.1
  have hts := X.1.2.2.2.2
  unfold r18_init_T at h
  refine lv_aload_n hx hb dX29_init_0 rfl (lv_at hl 0 rfl) ?_
  obtain ⟨_, e_1, h⟩ := bo_ex h
  refine r_callv (r_runIN (rest := []) X hP (mt_X25_init l G σ t0 e_1) ⟨va_cnB 0 hts (lw_meth q1452) rfl rfl rfl (X.2.2.1 _ q1483 rfl) (hts _ q150) cdX25_init ⟨Nat.le_of_ble_eq_true rfl, Nat.le_of_ble_eq_true rfl⟩, rfl, hts _ q1451⟩ rfl hl.1 rfl (Nat.le_of_ble_eq_true rfl) dX29_init_1 ⟨Nat.le_of_ble_eq_true rfl, Nat.le_of_ble_eq_true rfl⟩) hP (fun H locs hP => ?_)
  refine lv_aload_n hx hb dX29_init_4 rfl (lv_at hl 0 rfl) ?_
  refine lv_iload_n hx hb dX29_init_5 rfl (lv_at hl 1 rfl) ?_
  have hz_2 := ng_in h
  refine r_naneg X hz_2 dX29_init_6 ?_
  refine r_thrM X hal hlt hP (names := ["java/lang/RuntimeException", "java/lang/Exception"]) (by decide) (by decide) rfl rfl (at_NAS hts X.2.2.1 (X.2.2.2 hal).2.2.2.2) (negative_text_modelled hz_2) (Nat.le_trans (negative_text_bytes _) (by decide)) hl.1 (Nat.le_of_ble_eq_true rfl) (Nat.le_of_ble_eq_true rfl) (Nat.le_of_ble_eq_true rfl) (Nat.le_of_ble_eq_true rfl) (Nat.le_of_ble_eq_true rfl) (Nat.le_of_ble_eq_true rfl) (fun H1 locs1 n1 ce hn1 hP1 hce hf hv => ?_)
  exact r_leaveT X hP1 hce hf hv hlocks htab (Nat.le_refl _) (Nat.le_trans hn1 (Nat.le_of_ble_eq_true rfl))
def r19_init_T (ks : Nat → ClassId) (σ : ST) (t0 : Nat) (a1 : Int32) : Option Unit :=
  bo (rw_init σ t0) (fun (_ : Unit) => ng a1 (some ()))
abbrev rm_X30_init_T : Room := rmc 9 10300 3 1210
theorem mt_X30_init_T (l : Launch) (G : GT) (hal : G.2.2.2.2 = true) (hlt : l.stackTraces = false) (σ : ST) (t0 : Nat) (a1 : Int32) (h : r19_init_T G.2.1 σ t0 a1 = some ()) : MetT l yX30_init (ws_ yX30_init cX30_init 2 none) rm_X30_init_T (va_Pc [.ref t0, .int a1] (PicU cp_ft G σ)) (QTx "java/lang/NegativeArraySizeException" cp_ft G σ) 3 1210 G.2.2.2.1 := by
  refine m_enterT (by decide) rfl (lv := [(0, .ref t0), (1, .int a1)]) rfl ?_
  intro p e s m args below meth c H locs ls X hlocks htab hP hl
  have hP0 := hP
  have hx := X.1.1
  have hb := X.1.2.1
  have hown := X.1.2.2.2.1
  have hts := X.1.2.2.2.2
  unfold r19_init_T at h
  refine lv_aload_n hx hb dX30_init_0 rfl (lv_at hl 0 rfl) ?_
  obtain ⟨_, e_1, h⟩ := bo_ex h
  refine r_callv (r_runIN (rest := []) X hP (mt_X25_init l G σ t0 e_1) ⟨va_cnB 0 hts (lw_meth q1452) rfl rfl rfl (X.2.2.1 _ q1494 rfl) (hts _ q150) cdX25_init ⟨Nat.le_of_ble_eq_true rfl, Nat.le_of_ble_eq_true rfl⟩, rfl, hts _ q1451⟩ rfl hl.1 rfl (Nat.le_of_ble_eq_true rfl) dX30_init_1 ⟨Nat.le_of_ble_eq_true rfl, Nat.le_of_ble_eq_true rfl⟩) hP (fun H locs hP => ?_)
  refine lv_aload_n hx hb dX30_init_4 rfl (lv_at hl 0 rfl) ?_
  refine lv_iload_n hx hb dX30_init_5 rfl (lv_at hl 1 rfl) ?_
  have hz_2 := ng_in h
  refine r_naneg X hz_2 dX30_init_6 ?_
  refine r_thrM X hal hlt hP (names := ["java/lang/RuntimeException", "java/lang/Exception"]) (by decide) (by decide) rfl rfl (at_NAS hts X.2.2.1 (X.2.2.2 hal).2.2.2.2) (negative_text_modelled hz_2) (Nat.le_trans (negative_text_bytes _) (by decide)) hl.1 (Nat.le_of_ble_eq_true rfl) (Nat.le_of_ble_eq_true rfl) (Nat.le_of_ble_eq_true rfl) (Nat.le_of_ble_eq_true rfl) (Nat.le_of_ble_eq_true rfl) (Nat.le_of_ble_eq_true rfl) (fun H1 locs1 n1 ce hn1 hP1 hce hf hv => ?_)
  exact r_leaveT X hP1 hce hf hv hlocks htab (Nat.le_refl _) (Nat.le_trans hn1 (Nat.le_of_ble_eq_true rfl))
