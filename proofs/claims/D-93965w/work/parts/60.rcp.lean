set_option maxRecDepth 100000
def r15_copy (ks : Nat → ClassId) (σ : ST) (t0 : Nat) (a1 : Int32) (a2 : Option Nat) (a3 : Int32) (a4 : Int32) : Option ST :=
  bo (pgr σ (some t0) 15 0) (fun (v_2 : Option Nat) => bo (pis σ a2 15) (fun (_ : Nat) => bo (pgr σ a2 15 0) (fun (v_5 : Option Nat) => bo (pcy σ v_2 v_5 (ks 1) .byte a1 a3 a4) (fun (σ_7 : ST) => some σ_7))))
abbrev rm_X26_copy : Room := rmf 1 600
set_option maxHeartbeats 4000000 in
set_option maxRecDepth 100000 in
theorem mt_X26_copy (l : Launch) (G : GT) (σ : ST) (t0 : Nat) (a1 : Int32) (a2 : Option Nat) (a3 : Int32) (a4 : Int32) {u : ST} (h : r15_copy G.2.1 σ t0 a1 a2 a3 a4 = some u) : CV l cp_ft G yX26_copy (ws_ yX26_copy cX26_copy 5 none) rm_X26_copy 0 0 [.ref t0, .int a1, va_rf a2, .int a3, .int a4] σ u := by
  refine m_enterV (by decide) (by cases a2 <;> rfl) (lv := [(0, .ref t0), (1, .int a1), (2, va_rf a2), (3, .int a3), (4, .int a4)]) (by cases a2 <;> rfl) ?_
  intro p e s m args below meth c H locs ls Q X hnm hret hP hl
  have hx := X.1.1
  have hb := X.1.2.1
  have hown := X.1.2.2.2.1
  have hts := X.1.2.2.2.2
  unfold r15_copy at h
  refine lv_aload_n hx hb dX26_copy_0 rfl (lv_at hl 0 rfl) ?_
  obtain ⟨v_2, e_1, h⟩ := bo_ex h
  refine r_pgr (r := (some t0)) X hP lk_15 0 (Nat.le_of_ble_eq_true rfl) e_1 q1454 dX26_copy_1 ?_
  refine lv_iload_n hx hb dX26_copy_4 rfl (lv_at hl 1 rfl) ?_
  refine rr_aload_n hx hb dX26_copy_5 rfl (lv_at hl 2 rfl) ?_
  obtain ⟨_, e_3, h⟩ := bo_ex h
  refine r_castP (r := a2) X hP lk_15 e_3 q1559 dX26_copy_6 ?_
  obtain ⟨v_5, e_4, h⟩ := bo_ex h
  refine r_pgr (r := a2) X hP lk_15 0 (Nat.le_of_ble_eq_true rfl) e_4 q1454 dX26_copy_9 ?_
  refine lv_iload_n hx hb dX26_copy_12 rfl (lv_at hl 3 rfl) ?_
  refine lv_iload hx hb dX26_copy_13 (lv_at hl 4 rfl) ?_
  obtain ⟨σ_7, e_6, h⟩ := bo_ex h
  refine r_cpi (rest := []) (t := 1) (ty := .byte) X hP rfl rfl e_6 q1560 hl.1 (Nat.le_of_ble_eq_true rfl) (by decide +kernel) dX26_copy_15 (fun H locs hP => ?_)
  exact hret _ _ _ _ _ dX26_copy_18 (Option.some.inj h) hP
def r15_copy_C (ks : Nat → ClassId) (σ : ST) (t0 : Nat) (a1 : Int32) (a2 : Option Nat) (a3 : Int32) (a4 : Int32) : Option Unit :=
  bo (pgr σ (some t0) 15 0) (fun (v_2 : Option Nat) => ccx σ a2 [] [16, 17, 18, 19, 20, 21, 22, 23, 24, 25, 26, 27] none (some ()))
abbrev rm_X26_copy_C : Room := rmc 11 10300 3 1210
theorem mt_X26_copy_C (l : Launch) (G : GT) (hal : G.2.2.2.2 = true) (hlt : l.stackTraces = false) (σ : ST) (t0 : Nat) (a1 : Int32) (a2 : Option Nat) (a3 : Int32) (a4 : Int32) (h : r15_copy_C G.2.1 σ t0 a1 a2 a3 a4 = some ()) : MetT l yX26_copy (ws_ yX26_copy cX26_copy 5 none) rm_X26_copy_C (va_Pc [.ref t0, .int a1, va_rf a2, .int a3, .int a4] (PicU cp_ft G σ)) (QTx "java/lang/ClassCastException" cp_ft G σ) 3 1210 G.2.2.2.1 := by
  refine m_enterT (by decide) (by cases a2 <;> rfl) (lv := [(0, .ref t0), (1, .int a1), (2, va_rf a2), (3, .int a3), (4, .int a4)]) (by cases a2 <;> rfl) ?_
  intro p e s m args below meth c H locs ls X hlocks htab hP hl
  have hP0 := hP
  have hx := X.1.1
  have hb := X.1.2.1
  have hown := X.1.2.2.2.1
  have hts := X.1.2.2.2.2
  unfold r15_copy_C at h
  refine lv_aload_n hx hb dX26_copy_0 rfl (lv_at hl 0 rfl) ?_
  obtain ⟨v_2, e_1, h⟩ := bo_ex h
  refine r_pgr (r := (some t0)) X hP lk_15 0 (Nat.le_of_ble_eq_true rfl) e_1 q1454 dX26_copy_1 ?_
  refine lv_iload_n hx hb dX26_copy_4 rfl (lv_at hl 1 rfl) ?_
  refine rr_aload_n hx hb dX26_copy_5 rfl (lv_at hl 2 rfl) ?_
  refine r_ccx (rest := [.int a1, va_rf v_2]) (cs := []) X hal hlt hP h q1559 (fun ci hci => by cases hci) hbd_ByteRow cc_ByteRow hl.1 (Nat.le_of_ble_eq_true rfl) (by simp only [List.map_cons, List.map_nil, rr_cat, List.sum_cons, List.sum_nil]; exact Nat.le_of_ble_eq_true rfl) (Nat.le_of_ble_eq_true rfl) (Nat.le_of_ble_eq_true rfl) (Nat.le_of_ble_eq_true rfl) dX26_copy_6 (fun hno => by cases hno) (fun H1 locs1 n1 o1 ce _ hn1 hP1 hce hf hv => ?_)
  exact r_leaveT X hP1 hce hf hv hlocks htab (Nat.le_refl _) (Nat.le_trans hn1 (Nat.le_of_ble_eq_true rfl))
def r15_copy_T (ks : Nat → ClassId) (σ : ST) (t0 : Nat) (a1 : Int32) (a2 : Option Nat) (a3 : Int32) (a4 : Int32) : Option Unit :=
  bo (pgr σ (some t0) 15 0) (fun (v_2 : Option Nat) => bo (pis σ a2 15) (fun (_ : Nat) => bo (pgr σ a2 15 0) (fun (v_5 : Option Nat) => pcx σ v_2 v_5 (ks 1) a1 a3 a4)))
abbrev rm_X26_copy_T : Room := rmc 11 10300 3 1210
theorem mt_X26_copy_T (l : Launch) (G : GT) (hal : G.2.2.2.2 = true) (hlt : l.stackTraces = false) (σ : ST) (t0 : Nat) (a1 : Int32) (a2 : Option Nat) (a3 : Int32) (a4 : Int32) (h : r15_copy_T G.2.1 σ t0 a1 a2 a3 a4 = some ()) : MetT l yX26_copy (ws_ yX26_copy cX26_copy 5 none) rm_X26_copy_T (va_Pc [.ref t0, .int a1, va_rf a2, .int a3, .int a4] (PicU cp_ft G σ)) (QTx "java/lang/ArrayIndexOutOfBoundsException" cp_ft G σ) 3 1210 G.2.2.2.1 := by
  refine m_enterT (by decide) (by cases a2 <;> rfl) (lv := [(0, .ref t0), (1, .int a1), (2, va_rf a2), (3, .int a3), (4, .int a4)]) (by cases a2 <;> rfl) ?_
  intro p e s m args below meth c H locs ls X hlocks htab hP hl
  have hP0 := hP
  have hx := X.1.1
  have hb := X.1.2.1
  have hown := X.1.2.2.2.1
  have hts := X.1.2.2.2.2
  unfold r15_copy_T at h
  refine lv_aload_n hx hb dX26_copy_0 rfl (lv_at hl 0 rfl) ?_
  obtain ⟨v_2, e_1, h⟩ := bo_ex h
  refine r_pgr (r := (some t0)) X hP lk_15 0 (Nat.le_of_ble_eq_true rfl) e_1 q1454 dX26_copy_1 ?_
  refine lv_iload_n hx hb dX26_copy_4 rfl (lv_at hl 1 rfl) ?_
  refine rr_aload_n hx hb dX26_copy_5 rfl (lv_at hl 2 rfl) ?_
  obtain ⟨_, e_3, h⟩ := bo_ex h
  refine r_castP (r := a2) X hP lk_15 e_3 q1559 dX26_copy_6 ?_
  obtain ⟨v_5, e_4, h⟩ := bo_ex h
  refine r_pgr (r := a2) X hP lk_15 0 (Nat.le_of_ble_eq_true rfl) e_4 q1454 dX26_copy_9 ?_
  refine lv_iload_n hx hb dX26_copy_12 rfl (lv_at hl 3 rfl) ?_
  refine lv_iload hx hb dX26_copy_13 (lv_at hl 4 rfl) ?_
  refine r_cpo (rest := []) (t := 1) (ty := .byte) X hal hlt hP rfl rfl h q1560 hl.1 (Nat.le_of_ble_eq_true rfl) (Nat.le_of_ble_eq_true rfl) (Nat.le_of_ble_eq_true rfl) (Nat.le_of_ble_eq_true rfl) (Nat.le_of_ble_eq_true rfl) dX26_copy_15 (fun H1 locs1 n1 o1 ce hn1 hP1 hce hf hv => ?_)
  exact r_leaveT X hP1 hce hf hv hlocks htab (Nat.le_refl _) (Nat.le_trans hn1 (Nat.le_of_ble_eq_true rfl))
def r16_copy (ks : Nat → ClassId) (σ : ST) (t0 : Nat) (a1 : Int32) (a2 : Option Nat) (a3 : Int32) (a4 : Int32) : Option ST :=
  bo (pgr σ (some t0) 16 0) (fun (v_2 : Option Nat) => bo (pis σ a2 16) (fun (_ : Nat) => bo (pgr σ a2 16 0) (fun (v_5 : Option Nat) => bo (pcy σ v_2 v_5 (ks 9) .short a1 a3 a4) (fun (σ_7 : ST) => some σ_7))))
abbrev rm_X27_copy : Room := rmf 1 600
set_option maxHeartbeats 4000000 in
set_option maxRecDepth 100000 in
theorem mt_X27_copy (l : Launch) (G : GT) (σ : ST) (t0 : Nat) (a1 : Int32) (a2 : Option Nat) (a3 : Int32) (a4 : Int32) {u : ST} (h : r16_copy G.2.1 σ t0 a1 a2 a3 a4 = some u) : CV l cp_ft G yX27_copy (ws_ yX27_copy cX27_copy 5 none) rm_X27_copy 0 0 [.ref t0, .int a1, va_rf a2, .int a3, .int a4] σ u := by
  refine m_enterV (by decide) (by cases a2 <;> rfl) (lv := [(0, .ref t0), (1, .int a1), (2, va_rf a2), (3, .int a3), (4, .int a4)]) (by cases a2 <;> rfl) ?_
  intro p e s m args below meth c H locs ls Q X hnm hret hP hl
  have hx := X.1.1
  have hb := X.1.2.1
  have hown := X.1.2.2.2.1
  have hts := X.1.2.2.2.2
  unfold r16_copy at h
  refine lv_aload_n hx hb dX27_copy_0 rfl (lv_at hl 0 rfl) ?_
  obtain ⟨v_2, e_1, h⟩ := bo_ex h
  refine r_pgr (r := (some t0)) X hP lk_16 0 (Nat.le_of_ble_eq_true rfl) e_1 q1463 dX27_copy_1 ?_
  refine lv_iload_n hx hb dX27_copy_4 rfl (lv_at hl 1 rfl) ?_
  refine rr_aload_n hx hb dX27_copy_5 rfl (lv_at hl 2 rfl) ?_
  obtain ⟨_, e_3, h⟩ := bo_ex h
  refine r_castP (r := a2) X hP lk_16 e_3 q1574 dX27_copy_6 ?_
  obtain ⟨v_5, e_4, h⟩ := bo_ex h
  refine r_pgr (r := a2) X hP lk_16 0 (Nat.le_of_ble_eq_true rfl) e_4 q1463 dX27_copy_9 ?_
  refine lv_iload_n hx hb dX27_copy_12 rfl (lv_at hl 3 rfl) ?_
  refine lv_iload hx hb dX27_copy_13 (lv_at hl 4 rfl) ?_
  obtain ⟨σ_7, e_6, h⟩ := bo_ex h
  refine r_cpi (rest := []) (t := 9) (ty := .short) X hP rfl rfl e_6 q1575 hl.1 (Nat.le_of_ble_eq_true rfl) (by decide +kernel) dX27_copy_15 (fun H locs hP => ?_)
  exact hret _ _ _ _ _ dX27_copy_18 (Option.some.inj h) hP
def r16_copy_C (ks : Nat → ClassId) (σ : ST) (t0 : Nat) (a1 : Int32) (a2 : Option Nat) (a3 : Int32) (a4 : Int32) : Option Unit :=
  bo (pgr σ (some t0) 16 0) (fun (v_2 : Option Nat) => ccx σ a2 [] [15, 17, 18, 19, 20, 21, 22, 23, 24, 25, 26, 27] none (some ()))
abbrev rm_X27_copy_C : Room := rmc 11 10300 3 1210
theorem mt_X27_copy_C (l : Launch) (G : GT) (hal : G.2.2.2.2 = true) (hlt : l.stackTraces = false) (σ : ST) (t0 : Nat) (a1 : Int32) (a2 : Option Nat) (a3 : Int32) (a4 : Int32) (h : r16_copy_C G.2.1 σ t0 a1 a2 a3 a4 = some ()) : MetT l yX27_copy (ws_ yX27_copy cX27_copy 5 none) rm_X27_copy_C (va_Pc [.ref t0, .int a1, va_rf a2, .int a3, .int a4] (PicU cp_ft G σ)) (QTx "java/lang/ClassCastException" cp_ft G σ) 3 1210 G.2.2.2.1 := by
  refine m_enterT (by decide) (by cases a2 <;> rfl) (lv := [(0, .ref t0), (1, .int a1), (2, va_rf a2), (3, .int a3), (4, .int a4)]) (by cases a2 <;> rfl) ?_
  intro p e s m args below meth c H locs ls X hlocks htab hP hl
  have hP0 := hP
  have hx := X.1.1
  have hb := X.1.2.1
  have hown := X.1.2.2.2.1
  have hts := X.1.2.2.2.2
  unfold r16_copy_C at h
  refine lv_aload_n hx hb dX27_copy_0 rfl (lv_at hl 0 rfl) ?_
  obtain ⟨v_2, e_1, h⟩ := bo_ex h
  refine r_pgr (r := (some t0)) X hP lk_16 0 (Nat.le_of_ble_eq_true rfl) e_1 q1463 dX27_copy_1 ?_
  refine lv_iload_n hx hb dX27_copy_4 rfl (lv_at hl 1 rfl) ?_
  refine rr_aload_n hx hb dX27_copy_5 rfl (lv_at hl 2 rfl) ?_
  refine r_ccx (rest := [.int a1, va_rf v_2]) (cs := []) X hal hlt hP h q1574 (fun ci hci => by cases hci) hbd_ShortRow cc_ShortRow hl.1 (Nat.le_of_ble_eq_true rfl) (by simp only [List.map_cons, List.map_nil, rr_cat, List.sum_cons, List.sum_nil]; exact Nat.le_of_ble_eq_true rfl) (Nat.le_of_ble_eq_true rfl) (Nat.le_of_ble_eq_true rfl) (Nat.le_of_ble_eq_true rfl) dX27_copy_6 (fun hno => by cases hno) (fun H1 locs1 n1 o1 ce _ hn1 hP1 hce hf hv => ?_)
  exact r_leaveT X hP1 hce hf hv hlocks htab (Nat.le_refl _) (Nat.le_trans hn1 (Nat.le_of_ble_eq_true rfl))
def r16_copy_T (ks : Nat → ClassId) (σ : ST) (t0 : Nat) (a1 : Int32) (a2 : Option Nat) (a3 : Int32) (a4 : Int32) : Option Unit :=
  bo (pgr σ (some t0) 16 0) (fun (v_2 : Option Nat) => bo (pis σ a2 16) (fun (_ : Nat) => bo (pgr σ a2 16 0) (fun (v_5 : Option Nat) => pcx σ v_2 v_5 (ks 9) a1 a3 a4)))
abbrev rm_X27_copy_T : Room := rmc 11 10300 3 1210
theorem mt_X27_copy_T (l : Launch) (G : GT) (hal : G.2.2.2.2 = true) (hlt : l.stackTraces = false) (σ : ST) (t0 : Nat) (a1 : Int32) (a2 : Option Nat) (a3 : Int32) (a4 : Int32) (h : r16_copy_T G.2.1 σ t0 a1 a2 a3 a4 = some ()) : MetT l yX27_copy (ws_ yX27_copy cX27_copy 5 none) rm_X27_copy_T (va_Pc [.ref t0, .int a1, va_rf a2, .int a3, .int a4] (PicU cp_ft G σ)) (QTx "java/lang/ArrayIndexOutOfBoundsException" cp_ft G σ) 3 1210 G.2.2.2.1 := by
  refine m_enterT (by decide) (by cases a2 <;> rfl) (lv := [(0, .ref t0), (1, .int a1), (2, va_rf a2), (3, .int a3), (4, .int a4)]) (by cases a2 <;> rfl) ?_
  intro p e s m args below meth c H locs ls X hlocks htab hP hl
  have hP0 := hP
  have hx := X.1.1
  have hb := X.1.2.1
  have hown := X.1.2.2.2.1
  have hts := X.1.2.2.2.2
  unfold r16_copy_T at h
  refine lv_aload_n hx hb dX27_copy_0 rfl (lv_at hl 0 rfl) ?_
  obtain ⟨v_2, e_1, h⟩ := bo_ex h
  refine r_pgr (r := (some t0)) X hP lk_16 0 (Nat.le_of_ble_eq_true rfl) e_1 q1463 dX27_copy_1 ?_
  refine lv_iload_n hx hb dX27_copy_4 rfl (lv_at hl 1 rfl) ?_
  refine rr_aload_n hx hb dX27_copy_5 rfl (lv_at hl 2 rfl) ?_
  obtain ⟨_, e_3, h⟩ := bo_ex h
  refine r_castP (r := a2) X hP lk_16 e_3 q1574 dX27_copy_6 ?_
  obtain ⟨v_5, e_4, h⟩ := bo_ex h
  refine r_pgr (r := a2) X hP lk_16 0 (Nat.le_of_ble_eq_true rfl) e_4 q1463 dX27_copy_9 ?_
  refine lv_iload_n hx hb dX27_copy_12 rfl (lv_at hl 3 rfl) ?_
  refine lv_iload hx hb dX27_copy_13 (lv_at hl 4 rfl) ?_
  refine r_cpo (rest := []) (t := 9) (ty := .short) X hal hlt hP rfl rfl h q1575 hl.1 (Nat.le_of_ble_eq_true rfl) (Nat.le_of_ble_eq_true rfl) (Nat.le_of_ble_eq_true rfl) (Nat.le_of_ble_eq_true rfl) (Nat.le_of_ble_eq_true rfl) dX27_copy_15 (fun H1 locs1 n1 o1 ce hn1 hP1 hce hf hv => ?_)
  exact r_leaveT X hP1 hce hf hv hlocks htab (Nat.le_refl _) (Nat.le_trans hn1 (Nat.le_of_ble_eq_true rfl))
def r17_copy (ks : Nat → ClassId) (σ : ST) (t0 : Nat) (a1 : Int32) (a2 : Option Nat) (a3 : Int32) (a4 : Int32) : Option ST :=
  bo (pgr σ (some t0) 17 0) (fun (v_2 : Option Nat) => bo (pis σ a2 17) (fun (_ : Nat) => bo (pgr σ a2 17 0) (fun (v_5 : Option Nat) => bo (pcy σ v_2 v_5 (ks 0) .int a1 a3 a4) (fun (σ_7 : ST) => some σ_7))))
abbrev rm_X28_copy : Room := rmf 1 600
set_option maxHeartbeats 4000000 in
set_option maxRecDepth 100000 in
theorem mt_X28_copy (l : Launch) (G : GT) (σ : ST) (t0 : Nat) (a1 : Int32) (a2 : Option Nat) (a3 : Int32) (a4 : Int32) {u : ST} (h : r17_copy G.2.1 σ t0 a1 a2 a3 a4 = some u) : CV l cp_ft G yX28_copy (ws_ yX28_copy cX28_copy 5 none) rm_X28_copy 0 0 [.ref t0, .int a1, va_rf a2, .int a3, .int a4] σ u := by
  refine m_enterV (by decide) (by cases a2 <;> rfl) (lv := [(0, .ref t0), (1, .int a1), (2, va_rf a2), (3, .int a3), (4, .int a4)]) (by cases a2 <;> rfl) ?_
  intro p e s m args below meth c H locs ls Q X hnm hret hP hl
  have hx := X.1.1
  have hb := X.1.2.1
  have hown := X.1.2.2.2.1
  have hts := X.1.2.2.2.2
  unfold r17_copy at h
  refine lv_aload_n hx hb dX28_copy_0 rfl (lv_at hl 0 rfl) ?_
  obtain ⟨v_2, e_1, h⟩ := bo_ex h
  refine r_pgr (r := (some t0)) X hP lk_17 0 (Nat.le_of_ble_eq_true rfl) e_1 q1474 dX28_copy_1 ?_
  refine lv_iload_n hx hb dX28_copy_4 rfl (lv_at hl 1 rfl) ?_
  refine rr_aload_n hx hb dX28_copy_5 rfl (lv_at hl 2 rfl) ?_
  obtain ⟨_, e_3, h⟩ := bo_ex h
  refine r_castP (r := a2) X hP lk_17 e_3 q1564 dX28_copy_6 ?_
  obtain ⟨v_5, e_4, h⟩ := bo_ex h
  refine r_pgr (r := a2) X hP lk_17 0 (Nat.le_of_ble_eq_true rfl) e_4 q1474 dX28_copy_9 ?_
  refine lv_iload_n hx hb dX28_copy_12 rfl (lv_at hl 3 rfl) ?_
  refine lv_iload hx hb dX28_copy_13 (lv_at hl 4 rfl) ?_
  obtain ⟨σ_7, e_6, h⟩ := bo_ex h
  refine r_cpi (rest := []) (t := 0) (ty := .int) X hP rfl rfl e_6 q1565 hl.1 (Nat.le_of_ble_eq_true rfl) (by decide +kernel) dX28_copy_15 (fun H locs hP => ?_)
  exact hret _ _ _ _ _ dX28_copy_18 (Option.some.inj h) hP
def r17_copy_C (ks : Nat → ClassId) (σ : ST) (t0 : Nat) (a1 : Int32) (a2 : Option Nat) (a3 : Int32) (a4 : Int32) : Option Unit :=
  bo (pgr σ (some t0) 17 0) (fun (v_2 : Option Nat) => ccx σ a2 [] [15, 16, 18, 19, 20, 21, 22, 23, 24, 25, 26, 27] none (some ()))
abbrev rm_X28_copy_C : Room := rmc 11 10300 3 1210
theorem mt_X28_copy_C (l : Launch) (G : GT) (hal : G.2.2.2.2 = true) (hlt : l.stackTraces = false) (σ : ST) (t0 : Nat) (a1 : Int32) (a2 : Option Nat) (a3 : Int32) (a4 : Int32) (h : r17_copy_C G.2.1 σ t0 a1 a2 a3 a4 = some ()) : MetT l yX28_copy (ws_ yX28_copy cX28_copy 5 none) rm_X28_copy_C (va_Pc [.ref t0, .int a1, va_rf a2, .int a3, .int a4] (PicU cp_ft G σ)) (QTx "java/lang/ClassCastException" cp_ft G σ) 3 1210 G.2.2.2.1 := by
  refine m_enterT (by decide) (by cases a2 <;> rfl) (lv := [(0, .ref t0), (1, .int a1), (2, va_rf a2), (3, .int a3), (4, .int a4)]) (by cases a2 <;> rfl) ?_
  intro p e s m args below meth c H locs ls X hlocks htab hP hl
  have hP0 := hP
  have hx := X.1.1
  have hb := X.1.2.1
  have hown := X.1.2.2.2.1
  have hts := X.1.2.2.2.2
  unfold r17_copy_C at h
  refine lv_aload_n hx hb dX28_copy_0 rfl (lv_at hl 0 rfl) ?_
  obtain ⟨v_2, e_1, h⟩ := bo_ex h
  refine r_pgr (r := (some t0)) X hP lk_17 0 (Nat.le_of_ble_eq_true rfl) e_1 q1474 dX28_copy_1 ?_
  refine lv_iload_n hx hb dX28_copy_4 rfl (lv_at hl 1 rfl) ?_
  refine rr_aload_n hx hb dX28_copy_5 rfl (lv_at hl 2 rfl) ?_
  refine r_ccx (rest := [.int a1, va_rf v_2]) (cs := []) X hal hlt hP h q1564 (fun ci hci => by cases hci) hbd_IntRow cc_IntRow hl.1 (Nat.le_of_ble_eq_true rfl) (by simp only [List.map_cons, List.map_nil, rr_cat, List.sum_cons, List.sum_nil]; exact Nat.le_of_ble_eq_true rfl) (Nat.le_of_ble_eq_true rfl) (Nat.le_of_ble_eq_true rfl) (Nat.le_of_ble_eq_true rfl) dX28_copy_6 (fun hno => by cases hno) (fun H1 locs1 n1 o1 ce _ hn1 hP1 hce hf hv => ?_)
  exact r_leaveT X hP1 hce hf hv hlocks htab (Nat.le_refl _) (Nat.le_trans hn1 (Nat.le_of_ble_eq_true rfl))
def r17_copy_T (ks : Nat → ClassId) (σ : ST) (t0 : Nat) (a1 : Int32) (a2 : Option Nat) (a3 : Int32) (a4 : Int32) : Option Unit :=
  bo (pgr σ (some t0) 17 0) (fun (v_2 : Option Nat) => bo (pis σ a2 17) (fun (_ : Nat) => bo (pgr σ a2 17 0) (fun (v_5 : Option Nat) => pcx σ v_2 v_5 (ks 0) a1 a3 a4)))
abbrev rm_X28_copy_T : Room := rmc 11 10300 3 1210
theorem mt_X28_copy_T (l : Launch) (G : GT) (hal : G.2.2.2.2 = true) (hlt : l.stackTraces = false) (σ : ST) (t0 : Nat) (a1 : Int32) (a2 : Option Nat) (a3 : Int32) (a4 : Int32) (h : r17_copy_T G.2.1 σ t0 a1 a2 a3 a4 = some ()) : MetT l yX28_copy (ws_ yX28_copy cX28_copy 5 none) rm_X28_copy_T (va_Pc [.ref t0, .int a1, va_rf a2, .int a3, .int a4] (PicU cp_ft G σ)) (QTx "java/lang/ArrayIndexOutOfBoundsException" cp_ft G σ) 3 1210 G.2.2.2.1 := by
  refine m_enterT (by decide) (by cases a2 <;> rfl) (lv := [(0, .ref t0), (1, .int a1), (2, va_rf a2), (3, .int a3), (4, .int a4)]) (by cases a2 <;> rfl) ?_
  intro p e s m args below meth c H locs ls X hlocks htab hP hl
  have hP0 := hP
  have hx := X.1.1
  have hb := X.1.2.1
  have hown := X.1.2.2.2.1
  have hts := X.1.2.2.2.2
  unfold r17_copy_T at h
  refine lv_aload_n hx hb dX28_copy_0 rfl (lv_at hl 0 rfl) ?_
  obtain ⟨v_2, e_1, h⟩ := bo_ex h
  refine r_pgr (r := (some t0)) X hP lk_17 0 (Nat.le_of_ble_eq_true rfl) e_1 q1474 dX28_copy_1 ?_
  refine lv_iload_n hx hb dX28_copy_4 rfl (lv_at hl 1 rfl) ?_
  refine rr_aload_n hx hb dX28_copy_5 rfl (lv_at hl 2 rfl) ?_
  obtain ⟨_, e_3, h⟩ := bo_ex h
  refine r_castP (r := a2) X hP lk_17 e_3 q1564 dX28_copy_6 ?_
  obtain ⟨v_5, e_4, h⟩ := bo_ex h
  refine r_pgr (r := a2) X hP lk_17 0 (Nat.le_of_ble_eq_true rfl) e_4 q1474 dX28_copy_9 ?_
  refine lv_iload_n hx hb dX28_copy_12 rfl (lv_at hl 3 rfl) ?_
  refine lv_iload hx hb dX28_copy_13 (lv_at hl 4 rfl) ?_
  refine r_cpo (rest := []) (t := 0) (ty := .int) X hal hlt hP rfl rfl h q1565 hl.1 (Nat.le_of_ble_eq_true rfl) (Nat.le_of_ble_eq_true rfl) (Nat.le_of_ble_eq_true rfl) (Nat.le_of_ble_eq_true rfl) (Nat.le_of_ble_eq_true rfl) dX28_copy_15 (fun H1 locs1 n1 o1 ce hn1 hP1 hce hf hv => ?_)
  exact r_leaveT X hP1 hce hf hv hlocks htab (Nat.le_refl _) (Nat.le_trans hn1 (Nat.le_of_ble_eq_true rfl))
def r18_copy (ks : Nat → ClassId) (σ : ST) (t0 : Nat) (a1 : Int32) (a2 : Option Nat) (a3 : Int32) (a4 : Int32) : Option ST :=
  bo (pgr σ (some t0) 18 0) (fun (v_2 : Option Nat) => bo (pis σ a2 18) (fun (_ : Nat) => bo (pgr σ a2 18 0) (fun (v_5 : Option Nat) => bo (pcl_ σ v_2 v_5 (ks 2) a1 a3 a4) (fun (σ_7 : ST) => some σ_7))))
abbrev rm_X29_copy : Room := rmf 1 600
set_option maxHeartbeats 4000000 in
set_option maxRecDepth 100000 in
theorem mt_X29_copy (l : Launch) (G : GT) (σ : ST) (t0 : Nat) (a1 : Int32) (a2 : Option Nat) (a3 : Int32) (a4 : Int32) {u : ST} (h : r18_copy G.2.1 σ t0 a1 a2 a3 a4 = some u) : CV l cp_ft G yX29_copy (ws_ yX29_copy cX29_copy 5 none) rm_X29_copy 0 0 [.ref t0, .int a1, va_rf a2, .int a3, .int a4] σ u := by
  refine m_enterV (by decide) (by cases a2 <;> rfl) (lv := [(0, .ref t0), (1, .int a1), (2, va_rf a2), (3, .int a3), (4, .int a4)]) (by cases a2 <;> rfl) ?_
  intro p e s m args below meth c H locs ls Q X hnm hret hP hl
  have hx := X.1.1
  have hb := X.1.2.1
  have hown := X.1.2.2.2.1
  have hts := X.1.2.2.2.2
  unfold r18_copy at h
  refine lv_aload_n hx hb dX29_copy_0 rfl (lv_at hl 0 rfl) ?_
  obtain ⟨v_2, e_1, h⟩ := bo_ex h
  refine r_pgr (r := (some t0)) X hP lk_18 0 (Nat.le_of_ble_eq_true rfl) e_1 q1484 dX29_copy_1 ?_
  refine lv_iload_n hx hb dX29_copy_4 rfl (lv_at hl 1 rfl) ?_
  refine rr_aload_n hx hb dX29_copy_5 rfl (lv_at hl 2 rfl) ?_
  obtain ⟨_, e_3, h⟩ := bo_ex h
  refine r_castP (r := a2) X hP lk_18 e_3 q1569 dX29_copy_6 ?_
  obtain ⟨v_5, e_4, h⟩ := bo_ex h
  refine r_pgr (r := a2) X hP lk_18 0 (Nat.le_of_ble_eq_true rfl) e_4 q1484 dX29_copy_9 ?_
  refine lv_iload_n hx hb dX29_copy_12 rfl (lv_at hl 3 rfl) ?_
  refine lv_iload hx hb dX29_copy_13 (lv_at hl 4 rfl) ?_
  obtain ⟨σ_7, e_6, h⟩ := bo_ex h
  refine r_cpl (rest := []) X hP e_6 q1570 hl.1 (Nat.le_of_ble_eq_true rfl) (by decide +kernel) dX29_copy_15 (fun H locs hP => ?_)
  exact hret _ _ _ _ _ dX29_copy_18 (Option.some.inj h) hP
def r18_copy_C (ks : Nat → ClassId) (σ : ST) (t0 : Nat) (a1 : Int32) (a2 : Option Nat) (a3 : Int32) (a4 : Int32) : Option Unit :=
  bo (pgr σ (some t0) 18 0) (fun (v_2 : Option Nat) => ccx σ a2 [] [15, 16, 17, 19, 20, 21, 22, 23, 24, 25, 26, 27] none (some ()))
abbrev rm_X29_copy_C : Room := rmc 11 10300 3 1210
theorem mt_X29_copy_C (l : Launch) (G : GT) (hal : G.2.2.2.2 = true) (hlt : l.stackTraces = false) (σ : ST) (t0 : Nat) (a1 : Int32) (a2 : Option Nat) (a3 : Int32) (a4 : Int32) (h : r18_copy_C G.2.1 σ t0 a1 a2 a3 a4 = some ()) : MetT l yX29_copy (ws_ yX29_copy cX29_copy 5 none) rm_X29_copy_C (va_Pc [.ref t0, .int a1, va_rf a2, .int a3, .int a4] (PicU cp_ft G σ)) (QTx "java/lang/ClassCastException" cp_ft G σ) 3 1210 G.2.2.2.1 := by
  refine m_enterT (by decide) (by cases a2 <;> rfl) (lv := [(0, .ref t0), (1, .int a1), (2, va_rf a2), (3, .int a3), (4, .int a4)]) (by cases a2 <;> rfl) ?_
  intro p e s m args below meth c H locs ls X hlocks htab hP hl
  have hP0 := hP
  have hx := X.1.1
  have hb := X.1.2.1
  have hown := X.1.2.2.2.1
  have hts := X.1.2.2.2.2
  unfold r18_copy_C at h
  refine lv_aload_n hx hb dX29_copy_0 rfl (lv_at hl 0 rfl) ?_
  obtain ⟨v_2, e_1, h⟩ := bo_ex h
  refine r_pgr (r := (some t0)) X hP lk_18 0 (Nat.le_of_ble_eq_true rfl) e_1 q1484 dX29_copy_1 ?_
  refine lv_iload_n hx hb dX29_copy_4 rfl (lv_at hl 1 rfl) ?_
  refine rr_aload_n hx hb dX29_copy_5 rfl (lv_at hl 2 rfl) ?_
  refine r_ccx (rest := [.int a1, va_rf v_2]) (cs := []) X hal hlt hP h q1569 (fun ci hci => by cases hci) hbd_LongRow cc_LongRow hl.1 (Nat.le_of_ble_eq_true rfl) (by simp only [List.map_cons, List.map_nil, rr_cat, List.sum_cons, List.sum_nil]; exact Nat.le_of_ble_eq_true rfl) (Nat.le_of_ble_eq_true rfl) (Nat.le_of_ble_eq_true rfl) (Nat.le_of_ble_eq_true rfl) dX29_copy_6 (fun hno => by cases hno) (fun H1 locs1 n1 o1 ce _ hn1 hP1 hce hf hv => ?_)
  exact r_leaveT X hP1 hce hf hv hlocks htab (Nat.le_refl _) (Nat.le_trans hn1 (Nat.le_of_ble_eq_true rfl))
def r18_copy_T (ks : Nat → ClassId) (σ : ST) (t0 : Nat) (a1 : Int32) (a2 : Option Nat) (a3 : Int32) (a4 : Int32) : Option Unit :=
  bo (pgr σ (some t0) 18 0) (fun (v_2 : Option Nat) => bo (pis σ a2 18) (fun (_ : Nat) => bo (pgr σ a2 18 0) (fun (v_5 : Option Nat) => pcx σ v_2 v_5 (ks 2) a1 a3 a4)))
abbrev rm_X29_copy_T : Room := rmc 11 10300 3 1210
theorem mt_X29_copy_T (l : Launch) (G : GT) (hal : G.2.2.2.2 = true) (hlt : l.stackTraces = false) (σ : ST) (t0 : Nat) (a1 : Int32) (a2 : Option Nat) (a3 : Int32) (a4 : Int32) (h : r18_copy_T G.2.1 σ t0 a1 a2 a3 a4 = some ()) : MetT l yX29_copy (ws_ yX29_copy cX29_copy 5 none) rm_X29_copy_T (va_Pc [.ref t0, .int a1, va_rf a2, .int a3, .int a4] (PicU cp_ft G σ)) (QTx "java/lang/ArrayIndexOutOfBoundsException" cp_ft G σ) 3 1210 G.2.2.2.1 := by
  refine m_enterT (by decide) (by cases a2 <;> rfl) (lv := [(0, .ref t0), (1, .int a1), (2, va_rf a2), (3, .int a3), (4, .int a4)]) (by cases a2 <;> rfl) ?_
  intro p e s m args below meth c H locs ls X hlocks htab hP hl
  have hP0 := hP
  have hx := X.1.1
  have hb := X.1.2.1
  have hown := X.1.2.2.2.1
  have hts := X.1.2.2.2.2
  unfold r18_copy_T at h
  refine lv_aload_n hx hb dX29_copy_0 rfl (lv_at hl 0 rfl) ?_
  obtain ⟨v_2, e_1, h⟩ := bo_ex h
  refine r_pgr (r := (some t0)) X hP lk_18 0 (Nat.le_of_ble_eq_true rfl) e_1 q1484 dX29_copy_1 ?_
  refine lv_iload_n hx hb dX29_copy_4 rfl (lv_at hl 1 rfl) ?_
  refine rr_aload_n hx hb dX29_copy_5 rfl (lv_at hl 2 rfl) ?_
  obtain ⟨_, e_3, h⟩ := bo_ex h
  refine r_castP (r := a2) X hP lk_18 e_3 q1569 dX29_copy_6 ?_
  obtain ⟨v_5, e_4, h⟩ := bo_ex h
  refine r_pgr (r := a2) X hP lk_18 0 (Nat.le_of_ble_eq_true rfl) e_4 q1484 dX29_copy_9 ?_
  refine lv_iload_n hx hb dX29_copy_12 rfl (lv_at hl 3 rfl) ?_
  refine lv_iload hx hb dX29_copy_13 (lv_at hl 4 rfl) ?_
  refine r_cpo (rest := []) (t := 2) (ty := .long) X hal hlt hP rfl rfl h q1570 hl.1 (Nat.le_of_ble_eq_true rfl) (Nat.le_of_ble_eq_true rfl) (Nat.le_of_ble_eq_true rfl) (Nat.le_of_ble_eq_true rfl) (Nat.le_of_ble_eq_true rfl) dX29_copy_15 (fun H1 locs1 n1 o1 ce hn1 hP1 hce hf hv => ?_)
  exact r_leaveT X hP1 hce hf hv hlocks htab (Nat.le_refl _) (Nat.le_trans hn1 (Nat.le_of_ble_eq_true rfl))
def r19_copy (ks : Nat → ClassId) (σ : ST) (t0 : Nat) (a1 : Int32) (a2 : Option Nat) (a3 : Int32) (a4 : Int32) : Option ST :=
  bo (pgr σ (some t0) 19 0) (fun (v_2 : Option Nat) => bo (pis σ a2 19) (fun (_ : Nat) => bo (pgr σ a2 19 0) (fun (v_5 : Option Nat) => bo (pcy σ v_2 v_5 (ks 10) .boolean a1 a3 a4) (fun (σ_7 : ST) => some σ_7))))
abbrev rm_X30_copy : Room := rmf 1 600
set_option maxHeartbeats 4000000 in
set_option maxRecDepth 100000 in
theorem mt_X30_copy (l : Launch) (G : GT) (σ : ST) (t0 : Nat) (a1 : Int32) (a2 : Option Nat) (a3 : Int32) (a4 : Int32) {u : ST} (h : r19_copy G.2.1 σ t0 a1 a2 a3 a4 = some u) : CV l cp_ft G yX30_copy (ws_ yX30_copy cX30_copy 5 none) rm_X30_copy 0 0 [.ref t0, .int a1, va_rf a2, .int a3, .int a4] σ u := by
  refine m_enterV (by decide) (by cases a2 <;> rfl) (lv := [(0, .ref t0), (1, .int a1), (2, va_rf a2), (3, .int a3), (4, .int a4)]) (by cases a2 <;> rfl) ?_
  intro p e s m args below meth c H locs ls Q X hnm hret hP hl
  have hx := X.1.1
  have hb := X.1.2.1
  have hown := X.1.2.2.2.1
  have hts := X.1.2.2.2.2
  unfold r19_copy at h
  refine lv_aload_n hx hb dX30_copy_0 rfl (lv_at hl 0 rfl) ?_
  obtain ⟨v_2, e_1, h⟩ := bo_ex h
  refine r_pgr (r := (some t0)) X hP lk_19 0 (Nat.le_of_ble_eq_true rfl) e_1 q1495 dX30_copy_1 ?_
  refine lv_iload_n hx hb dX30_copy_4 rfl (lv_at hl 1 rfl) ?_
  refine rr_aload_n hx hb dX30_copy_5 rfl (lv_at hl 2 rfl) ?_
  obtain ⟨_, e_3, h⟩ := bo_ex h
  refine r_castP (r := a2) X hP lk_19 e_3 q1552 dX30_copy_6 ?_
  obtain ⟨v_5, e_4, h⟩ := bo_ex h
  refine r_pgr (r := a2) X hP lk_19 0 (Nat.le_of_ble_eq_true rfl) e_4 q1495 dX30_copy_9 ?_
  refine lv_iload_n hx hb dX30_copy_12 rfl (lv_at hl 3 rfl) ?_
  refine lv_iload hx hb dX30_copy_13 (lv_at hl 4 rfl) ?_
  obtain ⟨σ_7, e_6, h⟩ := bo_ex h
  refine r_cpi (rest := []) (t := 10) (ty := .boolean) X hP rfl rfl e_6 q1553 hl.1 (Nat.le_of_ble_eq_true rfl) (by decide +kernel) dX30_copy_15 (fun H locs hP => ?_)
  exact hret _ _ _ _ _ dX30_copy_18 (Option.some.inj h) hP
def r19_copy_C (ks : Nat → ClassId) (σ : ST) (t0 : Nat) (a1 : Int32) (a2 : Option Nat) (a3 : Int32) (a4 : Int32) : Option Unit :=
  bo (pgr σ (some t0) 19 0) (fun (v_2 : Option Nat) => ccx σ a2 [] [15, 16, 17, 18, 20, 21, 22, 23, 24, 25, 26, 27] none (some ()))
abbrev rm_X30_copy_C : Room := rmc 11 10300 3 1210
theorem mt_X30_copy_C (l : Launch) (G : GT) (hal : G.2.2.2.2 = true) (hlt : l.stackTraces = false) (σ : ST) (t0 : Nat) (a1 : Int32) (a2 : Option Nat) (a3 : Int32) (a4 : Int32) (h : r19_copy_C G.2.1 σ t0 a1 a2 a3 a4 = some ()) : MetT l yX30_copy (ws_ yX30_copy cX30_copy 5 none) rm_X30_copy_C (va_Pc [.ref t0, .int a1, va_rf a2, .int a3, .int a4] (PicU cp_ft G σ)) (QTx "java/lang/ClassCastException" cp_ft G σ) 3 1210 G.2.2.2.1 := by
  refine m_enterT (by decide) (by cases a2 <;> rfl) (lv := [(0, .ref t0), (1, .int a1), (2, va_rf a2), (3, .int a3), (4, .int a4)]) (by cases a2 <;> rfl) ?_
  intro p e s m args below meth c H locs ls X hlocks htab hP hl
  have hP0 := hP
  have hx := X.1.1
  have hb := X.1.2.1
  have hown := X.1.2.2.2.1
  have hts := X.1.2.2.2.2
  unfold r19_copy_C at h
  refine lv_aload_n hx hb dX30_copy_0 rfl (lv_at hl 0 rfl) ?_
  obtain ⟨v_2, e_1, h⟩ := bo_ex h
  refine r_pgr (r := (some t0)) X hP lk_19 0 (Nat.le_of_ble_eq_true rfl) e_1 q1495 dX30_copy_1 ?_
  refine lv_iload_n hx hb dX30_copy_4 rfl (lv_at hl 1 rfl) ?_
  refine rr_aload_n hx hb dX30_copy_5 rfl (lv_at hl 2 rfl) ?_
  refine r_ccx (rest := [.int a1, va_rf v_2]) (cs := []) X hal hlt hP h q1552 (fun ci hci => by cases hci) hbd_BooleanRow cc_BooleanRow hl.1 (Nat.le_of_ble_eq_true rfl) (by simp only [List.map_cons, List.map_nil, rr_cat, List.sum_cons, List.sum_nil]; exact Nat.le_of_ble_eq_true rfl) (Nat.le_of_ble_eq_true rfl) (Nat.le_of_ble_eq_true rfl) (Nat.le_of_ble_eq_true rfl) dX30_copy_6 (fun hno => by cases hno) (fun H1 locs1 n1 o1 ce _ hn1 hP1 hce hf hv => ?_)
  exact r_leaveT X hP1 hce hf hv hlocks htab (Nat.le_refl _) (Nat.le_trans hn1 (Nat.le_of_ble_eq_true rfl))
def r19_copy_T (ks : Nat → ClassId) (σ : ST) (t0 : Nat) (a1 : Int32) (a2 : Option Nat) (a3 : Int32) (a4 : Int32) : Option Unit :=
  bo (pgr σ (some t0) 19 0) (fun (v_2 : Option Nat) => bo (pis σ a2 19) (fun (_ : Nat) => bo (pgr σ a2 19 0) (fun (v_5 : Option Nat) => pcx σ v_2 v_5 (ks 10) a1 a3 a4)))
abbrev rm_X30_copy_T : Room := rmc 11 10300 3 1210
theorem mt_X30_copy_T (l : Launch) (G : GT) (hal : G.2.2.2.2 = true) (hlt : l.stackTraces = false) (σ : ST) (t0 : Nat) (a1 : Int32) (a2 : Option Nat) (a3 : Int32) (a4 : Int32) (h : r19_copy_T G.2.1 σ t0 a1 a2 a3 a4 = some ()) : MetT l yX30_copy (ws_ yX30_copy cX30_copy 5 none) rm_X30_copy_T (va_Pc [.ref t0, .int a1, va_rf a2, .int a3, .int a4] (PicU cp_ft G σ)) (QTx "java/lang/ArrayIndexOutOfBoundsException" cp_ft G σ) 3 1210 G.2.2.2.1 := by
  refine m_enterT (by decide) (by cases a2 <;> rfl) (lv := [(0, .ref t0), (1, .int a1), (2, va_rf a2), (3, .int a3), (4, .int a4)]) (by cases a2 <;> rfl) ?_
  intro p e s m args below meth c H locs ls X hlocks htab hP hl
  have hP0 := hP
  have hx := X.1.1
  have hb := X.1.2.1
  have hown := X.1.2.2.2.1
  have hts := X.1.2.2.2.2
  unfold r19_copy_T at h
  refine lv_aload_n hx hb dX30_copy_0 rfl (lv_at hl 0 rfl) ?_
  obtain ⟨v_2, e_1, h⟩ := bo_ex h
  refine r_pgr (r := (some t0)) X hP lk_19 0 (Nat.le_of_ble_eq_true rfl) e_1 q1495 dX30_copy_1 ?_
  refine lv_iload_n hx hb dX30_copy_4 rfl (lv_at hl 1 rfl) ?_
  refine rr_aload_n hx hb dX30_copy_5 rfl (lv_at hl 2 rfl) ?_
  obtain ⟨_, e_3, h⟩ := bo_ex h
  refine r_castP (r := a2) X hP lk_19 e_3 q1552 dX30_copy_6 ?_
  obtain ⟨v_5, e_4, h⟩ := bo_ex h
  refine r_pgr (r := a2) X hP lk_19 0 (Nat.le_of_ble_eq_true rfl) e_4 q1495 dX30_copy_9 ?_
  refine lv_iload_n hx hb dX30_copy_12 rfl (lv_at hl 3 rfl) ?_
  refine lv_iload hx hb dX30_copy_13 (lv_at hl 4 rfl) ?_
  refine r_cpo (rest := []) (t := 10) (ty := .boolean) X hal hlt hP rfl rfl h q1553 hl.1 (Nat.le_of_ble_eq_true rfl) (Nat.le_of_ble_eq_true rfl) (Nat.le_of_ble_eq_true rfl) (Nat.le_of_ble_eq_true rfl) (Nat.le_of_ble_eq_true rfl) dX30_copy_15 (fun H1 locs1 n1 o1 ce hn1 hP1 hce hf hv => ?_)
  exact r_leaveT X hP1 hce hf hv hlocks htab (Nat.le_refl _) (Nat.le_trans hn1 (Nat.le_of_ble_eq_true rfl))
abbrev yR_copy : MethodName := ⟨"SpeaksInTurn$Row", "copy", "(ILSpeaksInTurn$Row;II)V"⟩
theorem cdR_copy : "SpeaksInTurn$Row" ≠ "java/lang/invoke/MethodHandle" ∧ "SpeaksInTurn$Row" ≠ "java/lang/invoke/VarHandle" ∧ (parseMethodDescriptor yR_copy.desc).map (fun d => d.parameters.length) = some 4 := by decide +kernel
def rv_copy (ks : Nat → ClassId) (σ : ST) (r : Option Nat) (i : Int32) (to : Option Nat) (j n : Int32) : Option ST := bo2 (pcl σ r) fun (a c : Nat) => if c = 15 then r15_copy ks σ a i to j n else if c = 16 then r16_copy ks σ a i to j n else if c = 17 then r17_copy ks σ a i to j n else if c = 18 then r18_copy ks σ a i to j n else if c = 19 then r19_copy ks σ a i to j n else none
def rv_copy_C (ks : Nat → ClassId) (σ : ST) (r : Option Nat) (i : Int32) (to : Option Nat) (j n : Int32) : Option Unit := bo2 (pcl σ r) fun (a c : Nat) => if c = 15 then r15_copy_C ks σ a i to j n else if c = 16 then r16_copy_C ks σ a i to j n else if c = 17 then r17_copy_C ks σ a i to j n else if c = 18 then r18_copy_C ks σ a i to j n else if c = 19 then r19_copy_C ks σ a i to j n else none
def rv_copy_T (ks : Nat → ClassId) (σ : ST) (r : Option Nat) (i : Int32) (to : Option Nat) (j n : Int32) : Option Unit := bo2 (pcl σ r) fun (a c : Nat) => if c = 15 then r15_copy_T ks σ a i to j n else if c = 16 then r16_copy_T ks σ a i to j n else if c = 17 then r17_copy_T ks σ a i to j n else if c = 18 then r18_copy_T ks σ a i to j n else if c = 19 then r19_copy_T ks σ a i to j n else none
section RVC
variable {p : Program} {l : Launch} {e : Env} {R : Room} {s : State} {m : MethodId} {args : Array Value} {below : List Frame} {meth : Method} {c : Code} {H : Heap} {locs : List Loc} {cells slots : Nat} {Q : State → Prop}
variable {cc : ByteArray} {pc nL : Nat} {ls : Array Slot} {rest : List Value} {own : String} {G : GT} {σ : ST}
theorem r_rv_copy (X : CX G p m c cc nL s args own) (hP : PS cp_ft G s σ H locs) {r : Option Nat} {i j n : Int32} {to : Option Nat} {u : ST} {index : Nat} (h : rv_copy G.2.1 σ r i to j n = some u) (hlk : Cond.methodLink own index yR_copy ∈ lw_all) (hf : 1 + 1 ≤ R.frames) (hlo : 624 ≤ R.locals) (hsize : ls.size = nL) (hW : (rest.map fun v => v.category).sum ≤ 8) (hdg : decode cc pc = .ok (.invokevirtual index, 3)) (hroom : cells + 0 ≤ R.cells ∧ slots + 0 ≤ R.slots)
    (kk : ∀ (H : Heap) (locs : List Loc), PS cp_ft G s u H locs → W p l e R s m args below meth c H locs cells slots Q (F0 m (pc + 3) ls rest)) : W p l e R s m args below meth c H locs cells slots Q (F0 m pc ls (.int n :: .int j :: va_rf to :: .int i :: va_rf r :: rest)) := by
  unfold rv_copy at h
  obtain ⟨a, c0, e0, h9⟩ := bo2_ex h
  obtain ⟨rfl, hb⟩ := pcl_ex e0
  have hts := X.1.2.2.2.2
  by_cases c15 : c0 = 15
  · subst c15
    have h9 := it_t h9 rfl
    exact r_callv (r_runUP (As := [.int i, va_rf to, .int j, .int n]) (rest := rest) X hP hb lk_15 (mt_X26_copy l G σ a i to j n h9) (va_cwA (owner := "SpeaksInTurn$Row") (x := yR_copy) 4 hts (lw_U hlk q1548 q1556 q1557 q151 q1558) rfl rfl rfl (X.2.2.1 _ q1547 rfl) cdR_copy ⟨Nat.le_trans (Nat.le_of_ble_eq_true rfl) hf, Nat.le_trans (Nat.le_of_ble_eq_true rfl) hlo⟩) rfl hsize rfl hW hdg hroom) hP kk
  have h9 := it_f h9 c15
  by_cases c16 : c0 = 16
  · subst c16
    have h9 := it_t h9 rfl
    exact r_callv (r_runUP (As := [.int i, va_rf to, .int j, .int n]) (rest := rest) X hP hb lk_16 (mt_X27_copy l G σ a i to j n h9) (va_cwA (owner := "SpeaksInTurn$Row") (x := yR_copy) 4 hts (lw_U hlk q1548 q1571 q1572 q152 q1573) rfl rfl rfl (X.2.2.1 _ q1547 rfl) cdR_copy ⟨Nat.le_trans (Nat.le_of_ble_eq_true rfl) hf, Nat.le_trans (Nat.le_of_ble_eq_true rfl) hlo⟩) rfl hsize rfl hW hdg hroom) hP kk
  have h9 := it_f h9 c16
  by_cases c17 : c0 = 17
  · subst c17
    have h9 := it_t h9 rfl
    exact r_callv (r_runUP (As := [.int i, va_rf to, .int j, .int n]) (rest := rest) X hP hb lk_17 (mt_X28_copy l G σ a i to j n h9) (va_cwA (owner := "SpeaksInTurn$Row") (x := yR_copy) 4 hts (lw_U hlk q1548 q1561 q1562 q153 q1563) rfl rfl rfl (X.2.2.1 _ q1547 rfl) cdR_copy ⟨Nat.le_trans (Nat.le_of_ble_eq_true rfl) hf, Nat.le_trans (Nat.le_of_ble_eq_true rfl) hlo⟩) rfl hsize rfl hW hdg hroom) hP kk
  have h9 := it_f h9 c17
  by_cases c18 : c0 = 18
  · subst c18
    have h9 := it_t h9 rfl
    exact r_callv (r_runUP (As := [.int i, va_rf to, .int j, .int n]) (rest := rest) X hP hb lk_18 (mt_X29_copy l G σ a i to j n h9) (va_cwA (owner := "SpeaksInTurn$Row") (x := yR_copy) 4 hts (lw_U hlk q1548 q1566 q1567 q154 q1568) rfl rfl rfl (X.2.2.1 _ q1547 rfl) cdR_copy ⟨Nat.le_trans (Nat.le_of_ble_eq_true rfl) hf, Nat.le_trans (Nat.le_of_ble_eq_true rfl) hlo⟩) rfl hsize rfl hW hdg hroom) hP kk
  have h9 := it_f h9 c18
  by_cases c19 : c0 = 19
  · subst c19
    have h9 := it_t h9 rfl
    exact r_callv (r_runUP (As := [.int i, va_rf to, .int j, .int n]) (rest := rest) X hP hb lk_19 (mt_X30_copy l G σ a i to j n h9) (va_cwA (owner := "SpeaksInTurn$Row") (x := yR_copy) 4 hts (lw_U hlk q1548 q1549 q1550 q155 q1551) rfl rfl rfl (X.2.2.1 _ q1547 rfl) cdR_copy ⟨Nat.le_trans (Nat.le_of_ble_eq_true rfl) hf, Nat.le_trans (Nat.le_of_ble_eq_true rfl) hlo⟩) rfl hsize rfl hW hdg hroom) hP kk
  have h9 := it_f h9 c19
  cases h9
theorem r_rvC_copy (X : CX G p m c cc nL s args own) (hal : G.2.2.2.2 = true) (hlt : l.stackTraces = false) (hP : PS cp_ft G s σ H locs) {r : Option Nat} {i j n : Int32} {to : Option Nat} {index : Nat} (h : rv_copy_C G.2.1 σ r i to j n = some ()) (hlk : Cond.methodLink own index yR_copy ∈ lw_all) (hf : 11 + 1 ≤ R.frames) (hlo : 10325 ≤ R.locals) (hsize : ls.size = nL) (hW : (rest.map fun v => v.category).sum ≤ 8) (hdg : decode cc pc = .ok (.invokevirtual index, 3)) (hroom : cells + 3 ≤ R.cells ∧ slots + 1210 ≤ R.slots)
    (kk : ∀ (H1 : Heap) (locs1 : List Loc) (o : Addr) (ce : Cell), PS cp_ft G s (grw σ H1) H1 locs1 → H1[o]? = some ce → s.vm.findClass "java/lang/ClassCastException" = some ce.cls → ce.vm = .none → WT p l e R s m args below meth c H1 locs1 (cells + 3) (slots + 1210) Q o (F0 m pc ls rest)) : W p l e R s m args below meth c H locs cells slots Q (F0 m pc ls (.int n :: .int j :: va_rf to :: .int i :: va_rf r :: rest)) := by
  unfold rv_copy_C at h
  obtain ⟨a, c0, e0, h9⟩ := bo2_ex h
  obtain ⟨rfl, hb⟩ := pcl_ex e0
  have hts := X.1.2.2.2.2
  by_cases c15 : c0 = 15
  · subst c15
    have h9 := it_t h9 rfl
    refine r_callT (As := [.int i, va_rf to, .int j, .int n]) (rest := rest) X hP hb lk_15 (mt_X26_copy_C l G hal hlt σ a i to j n h9) (va_cwA (owner := "SpeaksInTurn$Row") (x := yR_copy) 4 hts (lw_U hlk q1548 q1556 q1557 q151 q1558) rfl rfl rfl (X.2.2.1 _ q1547 rfl) cdR_copy ⟨Nat.le_trans (Nat.le_of_ble_eq_true rfl) hf, Nat.le_trans (Nat.le_of_ble_eq_true rfl) hlo⟩) rfl hsize rfl hW hdg hroom (fun o1 st t H1 locs1 hst ht hW1 hq hL => ?_)
    obtain ⟨ce, hP1, hce, hv, hf1⟩ := hq.ps hst ht hW1 hP hL
    exact kk _ _ _ _ hP1 hce hf1 hv
  have h9 := it_f h9 c15
  by_cases c16 : c0 = 16
  · subst c16
    have h9 := it_t h9 rfl
    refine r_callT (As := [.int i, va_rf to, .int j, .int n]) (rest := rest) X hP hb lk_16 (mt_X27_copy_C l G hal hlt σ a i to j n h9) (va_cwA (owner := "SpeaksInTurn$Row") (x := yR_copy) 4 hts (lw_U hlk q1548 q1571 q1572 q152 q1573) rfl rfl rfl (X.2.2.1 _ q1547 rfl) cdR_copy ⟨Nat.le_trans (Nat.le_of_ble_eq_true rfl) hf, Nat.le_trans (Nat.le_of_ble_eq_true rfl) hlo⟩) rfl hsize rfl hW hdg hroom (fun o1 st t H1 locs1 hst ht hW1 hq hL => ?_)
    obtain ⟨ce, hP1, hce, hv, hf1⟩ := hq.ps hst ht hW1 hP hL
    exact kk _ _ _ _ hP1 hce hf1 hv
  have h9 := it_f h9 c16
  by_cases c17 : c0 = 17
  · subst c17
    have h9 := it_t h9 rfl
    refine r_callT (As := [.int i, va_rf to, .int j, .int n]) (rest := rest) X hP hb lk_17 (mt_X28_copy_C l G hal hlt σ a i to j n h9) (va_cwA (owner := "SpeaksInTurn$Row") (x := yR_copy) 4 hts (lw_U hlk q1548 q1561 q1562 q153 q1563) rfl rfl rfl (X.2.2.1 _ q1547 rfl) cdR_copy ⟨Nat.le_trans (Nat.le_of_ble_eq_true rfl) hf, Nat.le_trans (Nat.le_of_ble_eq_true rfl) hlo⟩) rfl hsize rfl hW hdg hroom (fun o1 st t H1 locs1 hst ht hW1 hq hL => ?_)
    obtain ⟨ce, hP1, hce, hv, hf1⟩ := hq.ps hst ht hW1 hP hL
    exact kk _ _ _ _ hP1 hce hf1 hv
  have h9 := it_f h9 c17
  by_cases c18 : c0 = 18
  · subst c18
    have h9 := it_t h9 rfl
    refine r_callT (As := [.int i, va_rf to, .int j, .int n]) (rest := rest) X hP hb lk_18 (mt_X29_copy_C l G hal hlt σ a i to j n h9) (va_cwA (owner := "SpeaksInTurn$Row") (x := yR_copy) 4 hts (lw_U hlk q1548 q1566 q1567 q154 q1568) rfl rfl rfl (X.2.2.1 _ q1547 rfl) cdR_copy ⟨Nat.le_trans (Nat.le_of_ble_eq_true rfl) hf, Nat.le_trans (Nat.le_of_ble_eq_true rfl) hlo⟩) rfl hsize rfl hW hdg hroom (fun o1 st t H1 locs1 hst ht hW1 hq hL => ?_)
    obtain ⟨ce, hP1, hce, hv, hf1⟩ := hq.ps hst ht hW1 hP hL
    exact kk _ _ _ _ hP1 hce hf1 hv
  have h9 := it_f h9 c18
  by_cases c19 : c0 = 19
  · subst c19
    have h9 := it_t h9 rfl
    refine r_callT (As := [.int i, va_rf to, .int j, .int n]) (rest := rest) X hP hb lk_19 (mt_X30_copy_C l G hal hlt σ a i to j n h9) (va_cwA (owner := "SpeaksInTurn$Row") (x := yR_copy) 4 hts (lw_U hlk q1548 q1549 q1550 q155 q1551) rfl rfl rfl (X.2.2.1 _ q1547 rfl) cdR_copy ⟨Nat.le_trans (Nat.le_of_ble_eq_true rfl) hf, Nat.le_trans (Nat.le_of_ble_eq_true rfl) hlo⟩) rfl hsize rfl hW hdg hroom (fun o1 st t H1 locs1 hst ht hW1 hq hL => ?_)
    obtain ⟨ce, hP1, hce, hv, hf1⟩ := hq.ps hst ht hW1 hP hL
    exact kk _ _ _ _ hP1 hce hf1 hv
  have h9 := it_f h9 c19
  cases h9
theorem r_rvT_copy (X : CX G p m c cc nL s args own) (hal : G.2.2.2.2 = true) (hlt : l.stackTraces = false) (hP : PS cp_ft G s σ H locs) {r : Option Nat} {i j n : Int32} {to : Option Nat} {index : Nat} (h : rv_copy_T G.2.1 σ r i to j n = some ()) (hlk : Cond.methodLink own index yR_copy ∈ lw_all) (hf : 11 + 1 ≤ R.frames) (hlo : 10325 ≤ R.locals) (hsize : ls.size = nL) (hW : (rest.map fun v => v.category).sum ≤ 8) (hdg : decode cc pc = .ok (.invokevirtual index, 3)) (hroom : cells + 3 ≤ R.cells ∧ slots + 1210 ≤ R.slots)
    (kk : ∀ (H1 : Heap) (locs1 : List Loc) (o : Addr) (ce : Cell), PS cp_ft G s (grw σ H1) H1 locs1 → H1[o]? = some ce → s.vm.findClass "java/lang/ArrayIndexOutOfBoundsException" = some ce.cls → ce.vm = .none → WT p l e R s m args below meth c H1 locs1 (cells + 3) (slots + 1210) Q o (F0 m pc ls rest)) : W p l e R s m args below meth c H locs cells slots Q (F0 m pc ls (.int n :: .int j :: va_rf to :: .int i :: va_rf r :: rest)) := by
  unfold rv_copy_T at h
  obtain ⟨a, c0, e0, h9⟩ := bo2_ex h
  obtain ⟨rfl, hb⟩ := pcl_ex e0
  have hts := X.1.2.2.2.2
  by_cases c15 : c0 = 15
  · subst c15
    have h9 := it_t h9 rfl
    refine r_callT (As := [.int i, va_rf to, .int j, .int n]) (rest := rest) X hP hb lk_15 (mt_X26_copy_T l G hal hlt σ a i to j n h9) (va_cwA (owner := "SpeaksInTurn$Row") (x := yR_copy) 4 hts (lw_U hlk q1548 q1556 q1557 q151 q1558) rfl rfl rfl (X.2.2.1 _ q1547 rfl) cdR_copy ⟨Nat.le_trans (Nat.le_of_ble_eq_true rfl) hf, Nat.le_trans (Nat.le_of_ble_eq_true rfl) hlo⟩) rfl hsize rfl hW hdg hroom (fun o1 st t H1 locs1 hst ht hW1 hq hL => ?_)
    obtain ⟨ce, hP1, hce, hv, hf1⟩ := hq.ps hst ht hW1 hP hL
    exact kk _ _ _ _ hP1 hce hf1 hv
  have h9 := it_f h9 c15
  by_cases c16 : c0 = 16
  · subst c16
    have h9 := it_t h9 rfl
    refine r_callT (As := [.int i, va_rf to, .int j, .int n]) (rest := rest) X hP hb lk_16 (mt_X27_copy_T l G hal hlt σ a i to j n h9) (va_cwA (owner := "SpeaksInTurn$Row") (x := yR_copy) 4 hts (lw_U hlk q1548 q1571 q1572 q152 q1573) rfl rfl rfl (X.2.2.1 _ q1547 rfl) cdR_copy ⟨Nat.le_trans (Nat.le_of_ble_eq_true rfl) hf, Nat.le_trans (Nat.le_of_ble_eq_true rfl) hlo⟩) rfl hsize rfl hW hdg hroom (fun o1 st t H1 locs1 hst ht hW1 hq hL => ?_)
    obtain ⟨ce, hP1, hce, hv, hf1⟩ := hq.ps hst ht hW1 hP hL
    exact kk _ _ _ _ hP1 hce hf1 hv
  have h9 := it_f h9 c16
  by_cases c17 : c0 = 17
  · subst c17
    have h9 := it_t h9 rfl
    refine r_callT (As := [.int i, va_rf to, .int j, .int n]) (rest := rest) X hP hb lk_17 (mt_X28_copy_T l G hal hlt σ a i to j n h9) (va_cwA (owner := "SpeaksInTurn$Row") (x := yR_copy) 4 hts (lw_U hlk q1548 q1561 q1562 q153 q1563) rfl rfl rfl (X.2.2.1 _ q1547 rfl) cdR_copy ⟨Nat.le_trans (Nat.le_of_ble_eq_true rfl) hf, Nat.le_trans (Nat.le_of_ble_eq_true rfl) hlo⟩) rfl hsize rfl hW hdg hroom (fun o1 st t H1 locs1 hst ht hW1 hq hL => ?_)
    obtain ⟨ce, hP1, hce, hv, hf1⟩ := hq.ps hst ht hW1 hP hL
    exact kk _ _ _ _ hP1 hce hf1 hv
  have h9 := it_f h9 c17
  by_cases c18 : c0 = 18
  · subst c18
    have h9 := it_t h9 rfl
    refine r_callT (As := [.int i, va_rf to, .int j, .int n]) (rest := rest) X hP hb lk_18 (mt_X29_copy_T l G hal hlt σ a i to j n h9) (va_cwA (owner := "SpeaksInTurn$Row") (x := yR_copy) 4 hts (lw_U hlk q1548 q1566 q1567 q154 q1568) rfl rfl rfl (X.2.2.1 _ q1547 rfl) cdR_copy ⟨Nat.le_trans (Nat.le_of_ble_eq_true rfl) hf, Nat.le_trans (Nat.le_of_ble_eq_true rfl) hlo⟩) rfl hsize rfl hW hdg hroom (fun o1 st t H1 locs1 hst ht hW1 hq hL => ?_)
    obtain ⟨ce, hP1, hce, hv, hf1⟩ := hq.ps hst ht hW1 hP hL
    exact kk _ _ _ _ hP1 hce hf1 hv
  have h9 := it_f h9 c18
  by_cases c19 : c0 = 19
  · subst c19
    have h9 := it_t h9 rfl
    refine r_callT (As := [.int i, va_rf to, .int j, .int n]) (rest := rest) X hP hb lk_19 (mt_X30_copy_T l G hal hlt σ a i to j n h9) (va_cwA (owner := "SpeaksInTurn$Row") (x := yR_copy) 4 hts (lw_U hlk q1548 q1549 q1550 q155 q1551) rfl rfl rfl (X.2.2.1 _ q1547 rfl) cdR_copy ⟨Nat.le_trans (Nat.le_of_ble_eq_true rfl) hf, Nat.le_trans (Nat.le_of_ble_eq_true rfl) hlo⟩) rfl hsize rfl hW hdg hroom (fun o1 st t H1 locs1 hst ht hW1 hq hL => ?_)
    obtain ⟨ce, hP1, hce, hv, hf1⟩ := hq.ps hst ht hW1 hP hL
    exact kk _ _ _ _ hP1 hce hf1 hv
  have h9 := it_f h9 c19
  cases h9
end RVC
def cp_shift (ks : Nat → ClassId) (σ : ST) (a1 : Int32) (a2 : Int32) (a3 : Int32) (a4 : Int32) (a5 : Int32) : Option (Int32 × ST) :=
  bo (cp_isShelf a1) (fun (r_2 : Int32) => (if r_2 = 0 then some ((-1 : Int32), σ) else bo (cp_isShelf a3) (fun (r_5 : Int32) => (if r_5 = 0 then some ((-1 : Int32), σ) else ck a1 6 ((if (lR σ 0 33 a1) = none then some ((-11 : Int32), σ) else ck a3 6 ((if (lR σ 0 33 a3) = none then some ((-11 : Int32), σ) else ck a1 6 ((ccx σ (lR σ 0 33 a1) [15, 16, 17, 18, 19] [20, 21, 22, 23, 24, 25, 26, 27] (ck a3 6 ((ccx σ (lR σ 0 33 a3) [15, 16, 17, 18, 19] [20, 21, 22, 23, 24, 25, 26, 27] (bo (lR σ 0 33 a1) (fun (a_9 : Nat) => oex (rv_copy_C ks σ (some a_9) a2 (lR σ 0 33 a3) a4 a5) (some ((-12 : Int32), σ)) (oex (rv_copy_T ks σ (some a_9) a2 (lR σ 0 33 a3) a4 a5) (some ((-13 : Int32), σ)) (bo (rv_copy ks σ (some a_9) a2 (lR σ 0 33 a3) a4 a5) (fun (σ_14 : ST) => some (a5, σ_14)))))) (some ((-12 : Int32), σ))))) (some ((-12 : Int32), σ))))))))))))
abbrev rm_X0_shift : Room := rmc 12 10325 3 1210
set_option maxHeartbeats 4000000 in
set_option maxRecDepth 100000 in
theorem mt_X0_shift (l : Launch) (G : GT) (hal : G.2.2.2.2 = true) (hlt : l.stackTraces = false) (σ : ST) (a1 : Int32) (a2 : Int32) (a3 : Int32) (a4 : Int32) (a5 : Int32) {r : Int32} {u : ST} (h : cp_shift G.2.1 σ a1 a2 a3 a4 a5 = some (r, u)) : XI l cp_ft G yX0_shift (wsW_ yX0_shift cX0_shift 7 (some .int) [(37, 63, 66, 130), (37, 63, 71, 134)]) rm_X0_shift 3 1210 [.ref (G.2.2.1 0), .int a1, .int a2, .int a3, .int a4, .int a5] σ (r, u) := by
  refine m_enterWI (by decide) rfl (lv := [(0, .ref (G.2.2.1 0)), (1, .int a1), (2, .int a2), (3, .int a3), (4, .int a4), (5, .int a5)]) rfl ?_
  intro p e s m args below meth c H locs ls Q X htab hret hP hl
  have hx := X.1.1
  have hb := X.1.2.1
  have hown := X.1.2.2.2.1
  have hts := X.1.2.2.2.2
  unfold cp_shift at h
  refine lv_iload_n hx hb dX0_shift_0 rfl (lv_at hl 1 rfl) ?_
  obtain ⟨r_2, e_1, h⟩ := bo_ex h
  refine r_calli (r_runS (rest := []) X hP (mt_X0_isShelf l G σ a1 e_1) (va_cwS 1 hts (lw_S q612 q613 q110 q614) rfl rfl rfl cdX0_isShelf ⟨Nat.le_of_ble_eq_true rfl, Nat.le_of_ble_eq_true rfl⟩) rfl hl.1 rfl (Nat.le_of_ble_eq_true rfl) dX0_shift_1 ⟨Nat.le_of_ble_eq_true rfl, Nat.le_of_ble_eq_true rfl⟩) hP (fun H locs hP => ?_)
  refine lv_if_eq (tgt := 14) hx hb dX0_shift_4 (by decide) (fun c_3 => ?_) (fun c_3 => ?_)
  · have h := it_t h c_3
    refine lv_iconst (v := (-1 : Int32)) hx hb dX0_shift_14 (by decide) ?_
    refine W.widen (k := 3) (n := 1210) (Nat.le_of_ble_eq_true rfl) (Nat.le_of_ble_eq_true rfl) ?_
    exact hret _ _ _ _ _ _ dX0_shift_15 (xr_v h) (xr_s h) hP
  · have h := it_f h c_3
    refine lv_iload_n hx hb dX0_shift_7 rfl (lv_at hl 3 rfl) ?_
    obtain ⟨r_5, e_4, h⟩ := bo_ex h
    refine r_calli (r_runS (rest := []) X hP (mt_X0_isShelf l G σ a3 e_4) (va_cwS 1 hts (lw_S q612 q613 q110 q614) rfl rfl rfl cdX0_isShelf ⟨Nat.le_of_ble_eq_true rfl, Nat.le_of_ble_eq_true rfl⟩) rfl hl.1 rfl (Nat.le_of_ble_eq_true rfl) dX0_shift_8 ⟨Nat.le_of_ble_eq_true rfl, Nat.le_of_ble_eq_true rfl⟩) hP (fun H locs hP => ?_)
    refine lv_if_ne (tgt := 16) hx hb dX0_shift_11 (by decide) (fun c_6 => ?_) (fun c_6 => ?_)
    · have h := it_f h c_6
      refine lv_aload_n hx hb dX0_shift_16 rfl (lv_at hl 0 rfl) ?_
      refine r_geta X hP 0 cp_c0 lk_0 33 (Nat.le_of_ble_eq_true rfl) q322 cp_f33 dX0_shift_17 ?_
      refine lv_iload_n hx hb dX0_shift_20 rfl (lv_at hl 1 rfl) ?_
      refine r_aald (t := 5) X hP 12 cp_c12 rfl (ck_in h) dX0_shift_21 ?_
      have h := ck_k h
      refine rr_ifnull (tgt := 34) hx hb dX0_shift_22 (by decide) (fun c_7 => ?_) (fun c_7 => ?_)
      · have h := it_t h c_7
        refine lv_bipush (v := (-11 : Int32)) hx hb dX0_shift_34 (by decide) ?_
        refine W.widen (k := 3) (n := 1210) (Nat.le_of_ble_eq_true rfl) (Nat.le_of_ble_eq_true rfl) ?_
        exact hret _ _ _ _ _ _ dX0_shift_36 (xr_v h) (xr_s h) hP
      · have h := it_f h c_7
        refine lv_aload_n hx hb dX0_shift_25 rfl (lv_at hl 0 rfl) ?_
        refine r_geta X hP 0 cp_c0 lk_0 33 (Nat.le_of_ble_eq_true rfl) q322 cp_f33 dX0_shift_26 ?_
        refine lv_iload_n hx hb dX0_shift_29 rfl (lv_at hl 3 rfl) ?_
        refine r_aald (t := 5) X hP 12 cp_c12 rfl (ck_in h) dX0_shift_30 ?_
        have h := ck_k h
        refine rr_ifnonnull (tgt := 37) hx hb dX0_shift_31 (by decide) (fun c_8 => ?_) (fun c_8 => ?_)
        · have h := it_f h c_8
          refine lv_aload_n hx hb dX0_shift_37 rfl (lv_at hl 0 rfl) ?_
          refine r_geta X hP 0 cp_c0 lk_0 33 (Nat.le_of_ble_eq_true rfl) q322 cp_f33 dX0_shift_38 ?_
          refine lv_iload_n hx hb dX0_shift_41 rfl (lv_at hl 1 rfl) ?_
          refine r_aald (t := 5) X hP 12 cp_c12 rfl (ck_in h) dX0_shift_42 ?_
          have h := ck_k h
          refine r_ccx (rest := []) X hal hlt hP h q1504 hcs_Row hbd_Row cc_Row hl.1 (Nat.le_of_ble_eq_true rfl) (Nat.le_of_ble_eq_true rfl) (Nat.le_of_ble_eq_true rfl) (Nat.le_of_ble_eq_true rfl) (Nat.le_of_ble_eq_true rfl) dX0_shift_43 (fun h => ?_) (fun H locs n1 o1 ce h hn1 hP hce hf hv => ?_)
          · refine lv_iload_n hx hb dX0_shift_46 rfl (lv_at hl 2 rfl) ?_
            refine lv_aload_n hx hb dX0_shift_47 rfl (lv_at hl 0 rfl) ?_
            refine r_geta X hP 0 cp_c0 lk_0 33 (Nat.le_of_ble_eq_true rfl) q322 cp_f33 dX0_shift_48 ?_
            refine lv_iload_n hx hb dX0_shift_51 rfl (lv_at hl 3 rfl) ?_
            refine r_aald (t := 5) X hP 12 cp_c12 rfl (ck_in h) dX0_shift_52 ?_
            have h := ck_k h
            refine r_ccx (rest := [.int a2, va_rf (lR σ 0 33 a1)]) X hal hlt hP h q1504 hcs_Row hbd_Row cc_Row hl.1 (Nat.le_of_ble_eq_true rfl) (by simp only [List.map_cons, List.map_nil, rr_cat, List.sum_cons, List.sum_nil]; exact Nat.le_of_ble_eq_true rfl) (Nat.le_of_ble_eq_true rfl) (Nat.le_of_ble_eq_true rfl) (Nat.le_of_ble_eq_true rfl) dX0_shift_53 (fun h => ?_) (fun H locs n1 o1 ce h hn1 hP hce hf hv => ?_)
            · refine lv_iload hx hb dX0_shift_56 (lv_at hl 4 rfl) ?_
              refine lv_iload hx hb dX0_shift_58 (lv_at hl 5 rfl) ?_
              obtain ⟨a_9, ha_10, h⟩ := bo_ex h
              rw [ha_10]
              rcases oex_el h with ⟨e_11, h⟩ | h
              · refine r_rvC_copy (rest := []) (r := some a_9) X hal hlt hP e_11 q1546 (Nat.le_of_ble_eq_true rfl) (Nat.le_of_ble_eq_true rfl) hl.1 (Nat.le_of_ble_eq_true rfl) dX0_shift_60 ⟨(Nat.le_of_ble_eq_true rfl), (Nat.le_of_ble_eq_true rfl)⟩ (fun H locs o1 ce hP hce hf hv => ?_)
                refine r_catch (h := 66) hce hv hf (fun mag => by rw [htab]; exact hf_hit X mag q484 (by decide) (by decide) hf (X.2.2.1 _ q546 rfl)) ?_
                refine lv_astore (lv' := [(6, .ref o1), (0, .ref (G.2.2.1 0)), (1, .int a1), (2, .int a2), (3, .int a3), (4, .int a4), (5, .int a5)]) hx hb dX0_shift_66 hl (by decide) rfl (fun ls hl => ?_)
                refine lv_bipush (v := (-12 : Int32)) hx hb dX0_shift_68 (by decide) ?_
                refine W.widen (k := 3) (n := 1210) (Nat.le_of_ble_eq_true rfl) (Nat.le_of_ble_eq_true rfl) ?_
                exact hret _ _ _ _ _ _ dX0_shift_70 (xr_v h) (xr_g _ h) hP
              · have hdone := trivial
                rcases oex_el h with ⟨e_12, h⟩ | h
                · refine r_rvT_copy (rest := []) (r := some a_9) X hal hlt hP e_12 q1546 (Nat.le_of_ble_eq_true rfl) (Nat.le_of_ble_eq_true rfl) hl.1 (Nat.le_of_ble_eq_true rfl) dX0_shift_60 ⟨(Nat.le_of_ble_eq_true rfl), (Nat.le_of_ble_eq_true rfl)⟩ (fun H locs o1 ce hP hce hf hv => ?_)
                  refine r_catch (h := 71) hce hv hf (fun mag => by rw [htab]; exact hf_no X mag q484 (by decide) (by decide) hf ((X.2.2.2 hal).2.2.2.2.2.2.1 _ (List.mem_of_getElem? (i := 1) rfl : ("java/lang/ArrayIndexOutOfBoundsException", "java/lang/ClassCastException") ∈ ncl)) (hf_hit X mag q593 (by decide) (by decide) hf (X.2.2.1 _ q2300 rfl))) ?_
                  refine lv_astore (lv' := [(6, .ref o1), (0, .ref (G.2.2.1 0)), (1, .int a1), (2, .int a2), (3, .int a3), (4, .int a4), (5, .int a5)]) hx hb dX0_shift_71 hl (by decide) rfl (fun ls hl => ?_)
                  refine lv_bipush (v := (-13 : Int32)) hx hb dX0_shift_73 (by decide) ?_
                  refine W.widen (k := 3) (n := 1210) (Nat.le_of_ble_eq_true rfl) (Nat.le_of_ble_eq_true rfl) ?_
                  exact hret _ _ _ _ _ _ dX0_shift_75 (xr_v h) (xr_g _ h) hP
                · have hdone := trivial
                  obtain ⟨σ_14, e_13, h⟩ := bo_ex h
                  refine r_rv_copy (rest := []) (r := some a_9) X hP e_13 q1546 (Nat.le_of_ble_eq_true rfl) (Nat.le_of_ble_eq_true rfl) hl.1 (Nat.le_of_ble_eq_true rfl) dX0_shift_60 ⟨(Nat.le_of_ble_eq_true rfl), (Nat.le_of_ble_eq_true rfl)⟩ (fun H locs hP => ?_)
                  refine lv_goto (tgt := 76) hx hb dX0_shift_63 (by decide) ?_
                  refine lv_iload hx hb dX0_shift_76 (lv_at hl 5 rfl) ?_
                  refine W.widen (k := 3) (n := 1210) (Nat.le_of_ble_eq_true rfl) (Nat.le_of_ble_eq_true rfl) ?_
                  exact hret _ _ _ _ _ _ dX0_shift_78 (xr_v h) (xr_s h) hP
            · refine r_catch (h := 66) hce hv hf (fun mag => by rw [htab]; exact hf_hit X mag q484 (by decide) (by decide) hf (X.2.2.1 _ q546 rfl)) ?_
              refine lv_astore (lv' := [(6, .ref o1), (0, .ref (G.2.2.1 0)), (1, .int a1), (2, .int a2), (3, .int a3), (4, .int a4), (5, .int a5)]) hx hb dX0_shift_66 hl (by decide) rfl (fun ls hl => ?_)
              refine lv_bipush (v := (-12 : Int32)) hx hb dX0_shift_68 (by decide) ?_
              refine W.widen (k := 3) (n := 1210) (Nat.le_of_ble_eq_true rfl) (Nat.le_trans hn1 (Nat.le_of_ble_eq_true rfl)) ?_
              exact hret _ _ _ _ _ _ dX0_shift_70 (xr_v h) (xr_g _ h) hP
          · refine r_catch (h := 66) hce hv hf (fun mag => by rw [htab]; exact hf_hit X mag q484 (by decide) (by decide) hf (X.2.2.1 _ q546 rfl)) ?_
            refine lv_astore (lv' := [(6, .ref o1), (0, .ref (G.2.2.1 0)), (1, .int a1), (2, .int a2), (3, .int a3), (4, .int a4), (5, .int a5)]) hx hb dX0_shift_66 hl (by decide) rfl (fun ls hl => ?_)
            refine lv_bipush (v := (-12 : Int32)) hx hb dX0_shift_68 (by decide) ?_
            refine W.widen (k := 3) (n := 1210) (Nat.le_of_ble_eq_true rfl) (Nat.le_trans hn1 (Nat.le_of_ble_eq_true rfl)) ?_
            exact hret _ _ _ _ _ _ dX0_shift_70 (xr_v h) (xr_g _ h) hP
        · have h := it_t h c_8
          refine lv_bipush (v := (-11 : Int32)) hx hb dX0_shift_34 (by decide) ?_
          refine W.widen (k := 3) (n := 1210) (Nat.le_of_ble_eq_true rfl) (Nat.le_of_ble_eq_true rfl) ?_
          exact hret _ _ _ _ _ _ dX0_shift_36 (xr_v h) (xr_s h) hP
    · have h := it_t h c_6
      refine lv_iconst (v := (-1 : Int32)) hx hb dX0_shift_14 (by decide) ?_
      refine W.widen (k := 3) (n := 1210) (Nat.le_of_ble_eq_true rfl) (Nat.le_of_ble_eq_true rfl) ?_
      exact hret _ _ _ _ _ _ dX0_shift_15 (xr_v h) (xr_s h) hP
