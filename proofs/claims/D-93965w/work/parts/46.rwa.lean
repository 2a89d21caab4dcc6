set_option maxRecDepth 100000
theorem rr_narA (t : FieldType) (r : Option Nat) : narrow (.array t) (va_rf r) = va_rf r := by cases r <;> rfl
theorem rr_fitA (t : FieldType) (r : Option Nat) : fits (.array t) (va_rf r) = true := by cases r <;> rfl
def nb {α : Type} (n : Int32) (k : Option α) : Option α := if n < 0 ∨ 60 < n.toNatClampNeg then none else k
theorem nb_in {α : Type} {n : Int32} {k : Option α} {r : α} (h : nb n k = some r) : ¬ n < 0 ∧ n.toNatClampNeg ≤ 60 := by
  unfold nb at h
  by_cases q : n < 0 ∨ 60 < n.toNatClampNeg
  · rw [if_pos q] at h
    cases h
  · exact ⟨fun z => q (Or.inl z), Nat.not_lt.mp fun z => q (Or.inr z)⟩
theorem nb_k {α : Type} {n : Int32} {k : Option α} {r : α} (h : nb n k = some r) : k = some r := by
  have h1 := nb_in h
  unfold nb at h
  rw [if_neg (fun q => q.elim h1.1 (fun z => absurd h1.2 (Nat.not_le.mpr z)))] at h
  exact h
def rw_init (σ : ST) (t0 : Nat) : Option Unit :=
  bo (he_init σ t0) (fun (_ : Unit) => some ())
abbrev rm_X25_init : Room := rmf 2 32
set_option maxHeartbeats 4000000 in
set_option maxRecDepth 100000 in
theorem mt_X25_init (l : Launch) (G : GT) (σ : ST) (t0 : Nat) (h : rw_init σ t0 = some ()) : CV l cp_ft G yX25_init (ws_ yX25_init cX25_init 1 none) rm_X25_init 0 0 [.ref t0] σ σ := by
  refine m_enterV (by decide) rfl (lv := [(0, .ref t0)]) rfl ?_
  intro p e s m args below meth c H locs ls Q X hnm hret hP hl
  have hx := X.1.1
  have hb := X.1.2.1
  have hown := X.1.2.2.2.1
  have hts := X.1.2.2.2.2
  unfold rw_init at h
  refine lv_aload_n hx hb dX25_init_0 rfl (lv_at hl 0 rfl) ?_
  obtain ⟨_, e_1, h⟩ := bo_ex h
  refine r_callv (r_runIN (rest := []) X hP (mt_X16_init l G σ t0 e_1) ⟨va_cnB 0 hts (lw_meth q1178) rfl rfl rfl (X.2.2.1 _ q1453 rfl) (hts _ q140) cdX16_init ⟨Nat.le_of_ble_eq_true rfl, Nat.le_of_ble_eq_true rfl⟩, rfl, hts _ q1177⟩ rfl hl.1 rfl (Nat.le_of_ble_eq_true rfl) dX25_init_1 ⟨Nat.le_refl _, Nat.le_refl _⟩) hP (fun H locs hP => ?_)
  exact hret _ _ _ _ _ dX25_init_4 rfl hP
def r15_size (ks : Nat → ClassId) (σ : ST) (t0 : Nat) : Option Int32 :=
  bo (pgr σ (some t0) 15 0) (fun (v_2 : Option Nat) => bo (pan σ v_2 (ks 1)) (fun (n_4 : Nat) => some (Int32.ofNat n_4)))
abbrev rm_X26_size : Room := rmf 0 0
set_option maxHeartbeats 4000000 in
set_option maxRecDepth 100000 in
theorem mt_X26_size (l : Launch) (G : GT) (σ : ST) (t0 : Nat) {r : Int32} (h : r15_size G.2.1 σ t0 = some r) : CI l cp_ft G yX26_size (ws_ yX26_size cX26_size 1 (some .int)) rm_X26_size 0 0 [.ref t0] σ (r, σ) := by
  refine m_enterI (by decide) rfl (lv := [(0, .ref t0)]) rfl ?_
  intro p e s m args below meth c H locs ls Q X hret hP hl
  have hx := X.1.1
  have hb := X.1.2.1
  have hown := X.1.2.2.2.1
  have hts := X.1.2.2.2.2
  unfold r15_size at h
  refine lv_aload_n hx hb dX26_size_0 rfl (lv_at hl 0 rfl) ?_
  obtain ⟨v_2, e_1, h⟩ := bo_ex h
  refine r_pgr (r := (some t0)) X hP lk_15 0 (Nat.le_of_ble_eq_true rfl) e_1 q1454 dX26_size_1 ?_
  obtain ⟨n_4, e_3, h⟩ := bo_ex h
  refine r_pan (r := v_2) X hP 1 rfl e_3 dX26_size_4 ?_
  exact hret _ _ _ _ _ _ dX26_size_5 rfl (congrArg (fun z9 => (z9, σ)) (Option.some.inj h)) hP
def r15_at (ks : Nat → ClassId) (σ : ST) (t0 : Nat) (a1 : Int32) : Option Int64 :=
  bo (pgr σ (some t0) 15 0) (fun (v_2 : Option Nat) => bo (pai σ v_2 (ks 1) a1) (fun (v_4 : Int32) => some ((v_4).toInt64)))
abbrev rm_X26_at : Room := rmf 0 0
set_option maxHeartbeats 4000000 in
set_option maxRecDepth 100000 in
theorem mt_X26_at (l : Launch) (G : GT) (σ : ST) (t0 : Nat) (a1 : Int32) {r : Int64} (h : r15_at G.2.1 σ t0 a1 = some r) : CL l cp_ft G yX26_at (ws_ yX26_at cX26_at 2 (some .long)) rm_X26_at 0 0 [.ref t0, .int a1] σ (r, σ) := by
  refine m_enterL (by decide) rfl (lv := [(0, .ref t0), (1, .int a1)]) rfl ?_
  intro p e s m args below meth c H locs ls Q X hret hP hl
  have hx := X.1.1
  have hb := X.1.2.1
  have hown := X.1.2.2.2.1
  have hts := X.1.2.2.2.2
  unfold r15_at at h
  refine lv_aload_n hx hb dX26_at_0 rfl (lv_at hl 0 rfl) ?_
  obtain ⟨v_2, e_1, h⟩ := bo_ex h
  refine r_pgr (r := (some t0)) X hP lk_15 0 (Nat.le_of_ble_eq_true rfl) e_1 q1454 dX26_at_1 ?_
  refine lv_iload_n hx hb dX26_at_4 rfl (lv_at hl 1 rfl) ?_
  obtain ⟨v_4, e_3, h⟩ := bo_ex h
  refine r_pab (r := v_2) X hP e_3 dX26_at_5 ?_
  refine lv_i2l hx hb dX26_at_6 rfl ?_
  exact hret _ _ _ _ _ _ dX26_at_7 (congrArg (fun z9 => (z9, σ)) (Option.some.inj h)) hP
def r15_init (ks : Nat → ClassId) (σ : ST) (t0 : Nat) (a1 : Int32) : Option ST :=
  bo (rw_init σ t0) (fun (_ : Unit) => nb a1 (st_ (aloi σ (ks 1) (a1).toNatClampNeg) (fun (σ_2 : ST) => bo (ppv σ_2 (some t0) 15 0 (va_rf (some (szo σ)))) (fun (σ_6 : ST) => some σ_6))))
abbrev rm_X26_init : Room := rmc 3 52 1 60
set_option maxHeartbeats 4000000 in
set_option maxRecDepth 100000 in
theorem mt_X26_init (l : Launch) (G : GT) (hal : G.2.2.2.2 = true) (σ : ST) (t0 : Nat) (a1 : Int32) {u : ST} (h : r15_init G.2.1 σ t0 a1 = some u) : CV l cp_ft G yX26_init (ws_ yX26_init cX26_init 2 none) rm_X26_init 1 60 [.ref t0, .int a1] σ u := by
  refine m_enterV (by decide) rfl (lv := [(0, .ref t0), (1, .int a1)]) rfl ?_
  intro p e s m args below meth c H locs ls Q X hnm hret hP hl
  have hx := X.1.1
  have hb := X.1.2.1
  have hown := X.1.2.2.2.1
  have hts := X.1.2.2.2.2
  unfold r15_init at h
  refine lv_aload_n hx hb dX26_init_0 rfl (lv_at hl 0 rfl) ?_
  obtain ⟨_, e_1, h⟩ := bo_ex h
  refine r_callv (r_runIN (rest := []) X hP (mt_X25_init l G σ t0 e_1) ⟨va_cnB 0 hts (lw_meth q1452) rfl rfl rfl (X.2.2.1 _ q1450 rfl) (hts _ q150) cdX25_init ⟨Nat.le_of_ble_eq_true rfl, Nat.le_of_ble_eq_true rfl⟩, rfl, hts _ q1451⟩ rfl hl.1 rfl (Nat.le_of_ble_eq_true rfl) dX26_init_1 ⟨Nat.le_of_ble_eq_true rfl, Nat.le_of_ble_eq_true rfl⟩) hP (fun H locs hP => ?_)
  refine lv_aload_n hx hb dX26_init_4 rfl (lv_at hl 0 rfl) ?_
  refine lv_iload_n hx hb dX26_init_5 rfl (lv_at hl 1 rfl) ?_
  have hnb_4 := nb_in h
  have h := nb_k h
  refine r_nab X hal hP hnb_4.1 (Nat.le_trans hnb_4.2 (by decide)) q185 (Nat.le_of_ble_eq_true rfl) (Nat.le_trans (Nat.add_le_add_left hnb_4.2 _) (Nat.le_of_ble_eq_true rfl)) dX26_init_6 (fun σ_2 H e_3 hP => ?_)
  have h := st_k h e_3
  refine W.widen (k := 1) (n := 60) (Nat.le_of_ble_eq_true rfl) (Nat.add_le_add_left hnb_4.2 _) ?_
  obtain ⟨σ_6, e_5, h⟩ := bo_ex h
  refine r_ppvF (r := (some t0)) X hP lk_15 0 (Nat.le_of_ble_eq_true rfl) e_5 q1454 rfl hnm rfl (tyX26_ok 0 (by decide)) (rr_narA _ (some (szo σ))) (rr_fitA _ (some (szo σ))) dX26_init_8 (fun H locs hP => ?_)
  refine W.widen (k := 1) (n := 60) (Nat.le_of_ble_eq_true rfl) (Nat.le_of_ble_eq_true rfl) ?_
  exact hret _ _ _ _ _ dX26_init_11 (Option.some.inj h) hP
def r15_put (ks : Nat → ClassId) (σ : ST) (t0 : Nat) (a1 : Int32) (a2 : Int64) : Option (Int32 × ST) :=
  bo (pgr σ (some t0) 15 0) (fun (v_2 : Option Nat) => bo (psi σ v_2 (ks 1) a1 ((((((a2).toInt32)).toInt8.toInt32)).toInt8.toInt32)) (fun (σ_4 : ST) => some ((1 : Int32), σ_4)))
abbrev rm_X26_put : Room := rmf 0 0
set_option maxHeartbeats 4000000 in
set_option maxRecDepth 100000 in
theorem mt_X26_put (l : Launch) (G : GT) (σ : ST) (t0 : Nat) (a1 : Int32) (a2 : Int64) {r : Int32} {u : ST} (h : r15_put G.2.1 σ t0 a1 a2 = some (r, u)) : CI l cp_ft G yX26_put (ws_ yX26_put cX26_put 4 (some .boolean)) rm_X26_put 0 0 [.ref t0, .int a1, .long a2] σ (r, u) := by
  refine m_enterI (by decide) rfl (lv := [(0, .ref t0), (1, .int a1), (2, .long a2)]) rfl ?_
  intro p e s m args below meth c H locs ls Q X hret hP hl
  have hx := X.1.1
  have hb := X.1.2.1
  have hown := X.1.2.2.2.1
  have hts := X.1.2.2.2.2
  unfold r15_put at h
  refine lv_aload_n hx hb dX26_put_0 rfl (lv_at hl 0 rfl) ?_
  obtain ⟨v_2, e_1, h⟩ := bo_ex h
  refine r_pgr (r := (some t0)) X hP lk_15 0 (Nat.le_of_ble_eq_true rfl) e_1 q1454 dX26_put_1 ?_
  refine lv_iload_n hx hb dX26_put_4 rfl (lv_at hl 1 rfl) ?_
  refine lv_lload_n hx hb dX26_put_5 rfl (lv_at hl 2 rfl) ?_
  refine lv_l2i hx hb dX26_put_6 rfl ?_
  refine lv_i2b hx hb dX26_put_7 rfl ?_
  obtain ⟨σ_4, e_3, h⟩ := bo_ex h
  refine r_psb (r := v_2) X hP e_3 dX26_put_8 (fun H locs hP => ?_)
  refine lv_iconst (v := (1 : Int32)) hx hb dX26_put_9 (by decide) ?_
  exact hret _ _ _ _ _ _ dX26_put_10 rfl (Option.some.inj h) hP
def r16_at (ks : Nat → ClassId) (σ : ST) (t0 : Nat) (a1 : Int32) : Option Int64 :=
  bo (pgr σ (some t0) 16 0) (fun (v_2 : Option Nat) => bo (pai σ v_2 (ks 9) a1) (fun (v_4 : Int32) => some ((v_4).toInt64)))
abbrev rm_X27_at : Room := rmf 0 0
set_option maxHeartbeats 4000000 in
set_option maxRecDepth 100000 in
theorem mt_X27_at (l : Launch) (G : GT) (σ : ST) (t0 : Nat) (a1 : Int32) {r : Int64} (h : r16_at G.2.1 σ t0 a1 = some r) : CL l cp_ft G yX27_at (ws_ yX27_at cX27_at 2 (some .long)) rm_X27_at 0 0 [.ref t0, .int a1] σ (r, σ) := by
  refine m_enterL (by decide) rfl (lv := [(0, .ref t0), (1, .int a1)]) rfl ?_
  intro p e s m args below meth c H locs ls Q X hret hP hl
  have hx := X.1.1
  have hb := X.1.2.1
  have hown := X.1.2.2.2.1
  have hts := X.1.2.2.2.2
  unfold r16_at at h
  refine lv_aload_n hx hb dX27_at_0 rfl (lv_at hl 0 rfl) ?_
  obtain ⟨v_2, e_1, h⟩ := bo_ex h
  refine r_pgr (r := (some t0)) X hP lk_16 0 (Nat.le_of_ble_eq_true rfl) e_1 q1463 dX27_at_1 ?_
  refine lv_iload_n hx hb dX27_at_4 rfl (lv_at hl 1 rfl) ?_
  obtain ⟨v_4, e_3, h⟩ := bo_ex h
  refine r_pas (r := v_2) X hP e_3 dX27_at_5 ?_
  refine lv_i2l hx hb dX27_at_6 rfl ?_
  exact hret _ _ _ _ _ _ dX27_at_7 (congrArg (fun z9 => (z9, σ)) (Option.some.inj h)) hP
def r16_init (ks : Nat → ClassId) (σ : ST) (t0 : Nat) (a1 : Int32) : Option ST :=
  bo (rw_init σ t0) (fun (_ : Unit) => nb a1 (st_ (aloi σ (ks 9) (a1).toNatClampNeg) (fun (σ_2 : ST) => bo (ppv σ_2 (some t0) 16 0 (va_rf (some (szo σ)))) (fun (σ_6 : ST) => some σ_6))))
abbrev rm_X27_init : Room := rmc 3 52 1 60
set_option maxHeartbeats 4000000 in
set_option maxRecDepth 100000 in
theorem mt_X27_init (l : Launch) (G : GT) (hal : G.2.2.2.2 = true) (σ : ST) (t0 : Nat) (a1 : Int32) {u : ST} (h : r16_init G.2.1 σ t0 a1 = some u) : CV l cp_ft G yX27_init (ws_ yX27_init cX27_init 2 none) rm_X27_init 1 60 [.ref t0, .int a1] σ u := by
  refine m_enterV (by decide) rfl (lv := [(0, .ref t0), (1, .int a1)]) rfl ?_
  intro p e s m args below meth c H locs ls Q X hnm hret hP hl
  have hx := X.1.1
  have hb := X.1.2.1
  have hown := X.1.2.2.2.1
  have hts := X.1.2.2.2.2
  unfold r16_init at h
  refine lv_aload_n hx hb dX27_init_0 rfl (lv_at hl 0 rfl) ?_
  obtain ⟨_, e_1, h⟩ := bo_ex h
  refine r_callv (r_runIN (rest := []) X hP (mt_X25_init l G σ t0 e_1) ⟨va_cnB 0 hts (lw_meth q1452) rfl rfl rfl (X.2.2.1 _ q1462 rfl) (hts _ q150) cdX25_init ⟨Nat.le_of_ble_eq_true rfl, Nat.le_of_ble_eq_true rfl⟩, rfl, hts _ q1451⟩ rfl hl.1 rfl (Nat.le_of_ble_eq_true rfl) dX27_init_1 ⟨Nat.le_of_ble_eq_true rfl, Nat.le_of_ble_eq_true rfl⟩) hP (fun H locs hP => ?_)
  refine lv_aload_n hx hb dX27_init_4 rfl (lv_at hl 0 rfl) ?_
  refine lv_iload_n hx hb dX27_init_5 rfl (lv_at hl 1 rfl) ?_
  have hnb_4 := nb_in h
  have h := nb_k h
  refine r_nas X hal hP hnb_4.1 (Nat.le_trans hnb_4.2 (by decide)) q1467 (Nat.le_of_ble_eq_true rfl) (Nat.le_trans (Nat.add_le_add_left hnb_4.2 _) (Nat.le_of_ble_eq_true rfl)) dX27_init_6 (fun σ_2 H e_3 hP => ?_)
  have h := st_k h e_3
  refine W.widen (k := 1) (n := 60) (Nat.le_of_ble_eq_true rfl) (Nat.add_le_add_left hnb_4.2 _) ?_
  obtain ⟨σ_6, e_5, h⟩ := bo_ex h
  refine r_ppvF (r := (some t0)) X hP lk_16 0 (Nat.le_of_ble_eq_true rfl) e_5 q1463 rfl hnm rfl (tyX27_ok 0 (by decide)) (rr_narA _ (some (szo σ))) (rr_fitA _ (some (szo σ))) dX27_init_8 (fun H locs hP => ?_)
  refine W.widen (k := 1) (n := 60) (Nat.le_of_ble_eq_true rfl) (Nat.le_of_ble_eq_true rfl) ?_
  exact hret _ _ _ _ _ dX27_init_11 (Option.some.inj h) hP
def r16_put (ks : Nat → ClassId) (σ : ST) (t0 : Nat) (a1 : Int32) (a2 : Int64) : Option (Int32 × ST) :=
  bo (pgr σ (some t0) 16 0) (fun (v_2 : Option Nat) => bo (psi σ v_2 (ks 9) a1 (vp_nar .short ((((a2).toInt32)).toInt16.toInt32))) (fun (σ_4 : ST) => some ((1 : Int32), σ_4)))
abbrev rm_X27_put : Room := rmf 0 0
set_option maxHeartbeats 4000000 in
set_option maxRecDepth 100000 in
theorem mt_X27_put (l : Launch) (G : GT) (σ : ST) (t0 : Nat) (a1 : Int32) (a2 : Int64) {r : Int32} {u : ST} (h : r16_put G.2.1 σ t0 a1 a2 = some (r, u)) : CI l cp_ft G yX27_put (ws_ yX27_put cX27_put 4 (some .boolean)) rm_X27_put 0 0 [.ref t0, .int a1, .long a2] σ (r, u) := by
  refine m_enterI (by decide) rfl (lv := [(0, .ref t0), (1, .int a1), (2, .long a2)]) rfl ?_
  intro p e s m args below meth c H locs ls Q X hret hP hl
  have hx := X.1.1
  have hb := X.1.2.1
  have hown := X.1.2.2.2.1
  have hts := X.1.2.2.2.2
  unfold r16_put at h
  refine lv_aload_n hx hb dX27_put_0 rfl (lv_at hl 0 rfl) ?_
  obtain ⟨v_2, e_1, h⟩ := bo_ex h
  refine r_pgr (r := (some t0)) X hP lk_16 0 (Nat.le_of_ble_eq_true rfl) e_1 q1463 dX27_put_1 ?_
  refine lv_iload_n hx hb dX27_put_4 rfl (lv_at hl 1 rfl) ?_
  refine lv_lload_n hx hb dX27_put_5 rfl (lv_at hl 2 rfl) ?_
  refine lv_l2i hx hb dX27_put_6 rfl ?_
  refine lv_i2s hx hb dX27_put_7 rfl ?_
  obtain ⟨σ_4, e_3, h⟩ := bo_ex h
  refine r_pss (r := v_2) X hP e_3 dX27_put_8 (fun H locs hP => ?_)
  refine lv_iconst (v := (1 : Int32)) hx hb dX27_put_9 (by decide) ?_
  exact hret _ _ _ _ _ _ dX27_put_10 rfl (Option.some.inj h) hP
def r17_init (ks : Nat → ClassId) (σ : ST) (t0 : Nat) (a1 : Int32) : Option ST :=
  bo (rw_init σ t0) (fun (_ : Unit) => nb a1 (st_ (aloi σ (ks 0) (a1).toNatClampNeg) (fun (σ_2 : ST) => bo (ppv σ_2 (some t0) 17 0 (va_rf (some (szo σ)))) (fun (σ_6 : ST) => some σ_6))))
abbrev rm_X28_init : Room := rmc 3 52 1 60
set_option maxHeartbeats 4000000 in
set_option maxRecDepth 100000 in
theorem mt_X28_init (l : Launch) (G : GT) (hal : G.2.2.2.2 = true) (σ : ST) (t0 : Nat) (a1 : Int32) {u : ST} (h : r17_init G.2.1 σ t0 a1 = some u) : CV l cp_ft G yX28_init (ws_ yX28_init cX28_init 2 none) rm_X28_init 1 60 [.ref t0, .int a1] σ u := by
  refine m_enterV (by decide) rfl (lv := [(0, .ref t0), (1, .int a1)]) rfl ?_
  intro p e s m args below meth c H locs ls Q X hnm hret hP hl
  have hx := X.1.1
  have hb := X.1.2.1
  have hown := X.1.2.2.2.1
  have hts := X.1.2.2.2.2
  unfold r17_init at h
  refine lv_aload_n hx hb dX28_init_0 rfl (lv_at hl 0 rfl) ?_
  obtain ⟨_, e_1, h⟩ := bo_ex h
  refine r_callv (r_runIN (rest := []) X hP (mt_X25_init l G σ t0 e_1) ⟨va_cnB 0 hts (lw_meth q1452) rfl rfl rfl (X.2.2.1 _ q1473 rfl) (hts _ q150) cdX25_init ⟨Nat.le_of_ble_eq_true rfl, Nat.le_of_ble_eq_true rfl⟩, rfl, hts _ q1451⟩ rfl hl.1 rfl (Nat.le_of_ble_eq_true rfl) dX28_init_1 ⟨Nat.le_of_ble_eq_true rfl, Nat.le_of_ble_eq_true rfl⟩) hP (fun H locs hP => ?_)
  refine lv_aload_n hx hb dX28_init_4 rfl (lv_at hl 0 rfl) ?_
  refine lv_iload_n hx hb dX28_init_5 rfl (lv_at hl 1 rfl) ?_
  have hnb_4 := nb_in h
  have h := nb_k h
  refine r_nai X hal hP hnb_4.1 (Nat.le_trans hnb_4.2 (by decide)) q186 (Nat.le_of_ble_eq_true rfl) (Nat.le_trans (Nat.add_le_add_left hnb_4.2 _) (Nat.le_of_ble_eq_true rfl)) dX28_init_6 (fun σ_2 H e_3 hP => ?_)
  have h := st_k h e_3
  refine W.widen (k := 1) (n := 60) (Nat.le_of_ble_eq_true rfl) (Nat.add_le_add_left hnb_4.2 _) ?_
  obtain ⟨σ_6, e_5, h⟩ := bo_ex h
  refine r_ppvF (r := (some t0)) X hP lk_17 0 (Nat.le_of_ble_eq_true rfl) e_5 q1474 rfl hnm rfl (tyX28_ok 0 (by decide)) (rr_narA _ (some (szo σ))) (rr_fitA _ (some (szo σ))) dX28_init_8 (fun H locs hP => ?_)
  refine W.widen (k := 1) (n := 60) (Nat.le_of_ble_eq_true rfl) (Nat.le_of_ble_eq_true rfl) ?_
  exact hret _ _ _ _ _ dX28_init_11 (Option.some.inj h) hP
def r17_put (ks : Nat → ClassId) (σ : ST) (t0 : Nat) (a1 : Int32) (a2 : Int64) : Option (Int32 × ST) :=
  bo (pgr σ (some t0) 17 0) (fun (v_2 : Option Nat) => bo (psi σ v_2 (ks 0) a1 ((a2).toInt32)) (fun (σ_4 : ST) => some ((1 : Int32), σ_4)))
abbrev rm_X28_put : Room := rmf 0 0
set_option maxHeartbeats 4000000 in
set_option maxRecDepth 100000 in
theorem mt_X28_put (l : Launch) (G : GT) (σ : ST) (t0 : Nat) (a1 : Int32) (a2 : Int64) {r : Int32} {u : ST} (h : r17_put G.2.1 σ t0 a1 a2 = some (r, u)) : CI l cp_ft G yX28_put (ws_ yX28_put cX28_put 4 (some .boolean)) rm_X28_put 0 0 [.ref t0, .int a1, .long a2] σ (r, u) := by
  refine m_enterI (by decide) rfl (lv := [(0, .ref t0), (1, .int a1), (2, .long a2)]) rfl ?_
  intro p e s m args below meth c H locs ls Q X hret hP hl
  have hx := X.1.1
  have hb := X.1.2.1
  have hown := X.1.2.2.2.1
  have hts := X.1.2.2.2.2
  unfold r17_put at h
  refine lv_aload_n hx hb dX28_put_0 rfl (lv_at hl 0 rfl) ?_
  obtain ⟨v_2, e_1, h⟩ := bo_ex h
  refine r_pgr (r := (some t0)) X hP lk_17 0 (Nat.le_of_ble_eq_true rfl) e_1 q1474 dX28_put_1 ?_
  refine lv_iload_n hx hb dX28_put_4 rfl (lv_at hl 1 rfl) ?_
  refine lv_lload_n hx hb dX28_put_5 rfl (lv_at hl 2 rfl) ?_
  refine lv_l2i hx hb dX28_put_6 rfl ?_
  obtain ⟨σ_4, e_3, h⟩ := bo_ex h
  refine r_psi (r := v_2) X hP e_3 dX28_put_7 (fun H locs hP => ?_)
  refine lv_iconst (v := (1 : Int32)) hx hb dX28_put_8 (by decide) ?_
  exact hret _ _ _ _ _ _ dX28_put_9 rfl (Option.some.inj h) hP
def r17_at (ks : Nat → ClassId) (σ : ST) (t0 : Nat) (a1 : Int32) : Option Int64 :=
  bo (pgr σ (some t0) 17 0) (fun (v_2 : Option Nat) => bo (pai σ v_2 (ks 0) a1) (fun (v_4 : Int32) => some ((v_4).toInt64)))
abbrev rm_X28_at : Room := rmf 0 0
set_option maxHeartbeats 4000000 in
set_option maxRecDepth 100000 in
theorem mt_X28_at (l : Launch) (G : GT) (σ : ST) (t0 : Nat) (a1 : Int32) {r : Int64} (h : r17_at G.2.1 σ t0 a1 = some r) : CL l cp_ft G yX28_at (ws_ yX28_at cX28_at 2 (some .long)) rm_X28_at 0 0 [.ref t0, .int a1] σ (r, σ) := by
  refine m_enterL (by decide) rfl (lv := [(0, .ref t0), (1, .int a1)]) rfl ?_
  intro p e s m args below meth c H locs ls Q X hret hP hl
  have hx := X.1.1
  have hb := X.1.2.1
  have hown := X.1.2.2.2.1
  have hts := X.1.2.2.2.2
  unfold r17_at at h
  refine lv_aload_n hx hb dX28_at_0 rfl (lv_at hl 0 rfl) ?_
  obtain ⟨v_2, e_1, h⟩ := bo_ex h
  refine r_pgr (r := (some t0)) X hP lk_17 0 (Nat.le_of_ble_eq_true rfl) e_1 q1474 dX28_at_1 ?_
  refine lv_iload_n hx hb dX28_at_4 rfl (lv_at hl 1 rfl) ?_
  obtain ⟨v_4, e_3, h⟩ := bo_ex h
  refine r_pai (r := v_2) X hP e_3 dX28_at_5 ?_
  refine lv_i2l hx hb dX28_at_6 rfl ?_
  exact hret _ _ _ _ _ _ dX28_at_7 (congrArg (fun z9 => (z9, σ)) (Option.some.inj h)) hP
def r18_init (ks : Nat → ClassId) (σ : ST) (t0 : Nat) (a1 : Int32) : Option ST :=
  bo (rw_init σ t0) (fun (_ : Unit) => nb a1 (st_ (alol σ (ks 2) (a1).toNatClampNeg) (fun (σ_2 : ST) => bo (ppv σ_2 (some t0) 18 0 (va_rf (some (szo σ)))) (fun (σ_6 : ST) => some σ_6))))
abbrev rm_X29_init : Room := rmc 3 52 1 60
set_option maxHeartbeats 4000000 in
set_option maxRecDepth 100000 in
theorem mt_X29_init (l : Launch) (G : GT) (hal : G.2.2.2.2 = true) (σ : ST) (t0 : Nat) (a1 : Int32) {u : ST} (h : r18_init G.2.1 σ t0 a1 = some u) : CV l cp_ft G yX29_init (ws_ yX29_init cX29_init 2 none) rm_X29_init 1 60 [.ref t0, .int a1] σ u := by
  refine m_enterV (by decide) rfl (lv := [(0, .ref t0), (1, .int a1)]) rfl ?_
  intro p e s m args below meth c H locs ls Q X hnm hret hP hl
  have hx := X.1.1
  have hb := X.1.2.1
  have hown := X.1.2.2.2.1
  have hts := X.1.2.2.2.2
  unfold r18_init at h
  refine lv_aload_n hx hb dX29_init_0 rfl (lv_at hl 0 rfl) ?_
  obtain ⟨_, e_1, h⟩ := bo_ex h
  refine r_callv (r_runIN (rest := []) X hP (mt_X25_init l G σ t0 e_1) ⟨va_cnB 0 hts (lw_meth q1452) rfl rfl rfl (X.2.2.1 _ q1483 rfl) (hts _ q150) cdX25_init ⟨Nat.le_of_ble_eq_true rfl, Nat.le_of_ble_eq_true rfl⟩, rfl, hts _ q1451⟩ rfl hl.1 rfl (Nat.le_of_ble_eq_true rfl) dX29_init_1 ⟨Nat.le_of_ble_eq_true rfl, Nat.le_of_ble_eq_true rfl⟩) hP (fun H locs hP => ?_)
  refine lv_aload_n hx hb dX29_init_4 rfl (lv_at hl 0 rfl) ?_
  refine lv_iload_n hx hb dX29_init_5 rfl (lv_at hl 1 rfl) ?_
  have hnb_4 := nb_in h
  have h := nb_k h
  refine r_nal X hal hP hnb_4.1 (Nat.le_trans hnb_4.2 (by decide)) q1488 (Nat.le_of_ble_eq_true rfl) (Nat.le_trans (Nat.add_le_add_left hnb_4.2 _) (Nat.le_of_ble_eq_true rfl)) dX29_init_6 (fun σ_2 H e_3 hP => ?_)
  have h := st_k h e_3
  refine W.widen (k := 1) (n := 60) (Nat.le_of_ble_eq_true rfl) (Nat.add_le_add_left hnb_4.2 _) ?_
  obtain ⟨σ_6, e_5, h⟩ := bo_ex h
  refine r_ppvF (r := (some t0)) X hP lk_18 0 (Nat.le_of_ble_eq_true rfl) e_5 q1484 rfl hnm rfl (tyX29_ok 0 (by decide)) (rr_narA _ (some (szo σ))) (rr_fitA _ (some (szo σ))) dX29_init_8 (fun H locs hP => ?_)
  refine W.widen (k := 1) (n := 60) (Nat.le_of_ble_eq_true rfl) (Nat.le_of_ble_eq_true rfl) ?_
  exact hret _ _ _ _ _ dX29_init_11 (Option.some.inj h) hP
def r18_put (ks : Nat → ClassId) (σ : ST) (t0 : Nat) (a1 : Int32) (a2 : Int64) : Option (Int32 × ST) :=
  bo (pgr σ (some t0) 18 0) (fun (v_2 : Option Nat) => bo (psl σ v_2 (ks 2) a1 a2) (fun (σ_4 : ST) => some ((1 : Int32), σ_4)))
abbrev rm_X29_put : Room := rmf 0 0
set_option maxHeartbeats 4000000 in
set_option maxRecDepth 100000 in
theorem mt_X29_put (l : Launch) (G : GT) (σ : ST) (t0 : Nat) (a1 : Int32) (a2 : Int64) {r : Int32} {u : ST} (h : r18_put G.2.1 σ t0 a1 a2 = some (r, u)) : CI l cp_ft G yX29_put (ws_ yX29_put cX29_put 4 (some .boolean)) rm_X29_put 0 0 [.ref t0, .int a1, .long a2] σ (r, u) := by
  refine m_enterI (by decide) rfl (lv := [(0, .ref t0), (1, .int a1), (2, .long a2)]) rfl ?_
  intro p e s m args below meth c H locs ls Q X hret hP hl
  have hx := X.1.1
  have hb := X.1.2.1
  have hown := X.1.2.2.2.1
  have hts := X.1.2.2.2.2
  unfold r18_put at h
  refine lv_aload_n hx hb dX29_put_0 rfl (lv_at hl 0 rfl) ?_
  obtain ⟨v_2, e_1, h⟩ := bo_ex h
  refine r_pgr (r := (some t0)) X hP lk_18 0 (Nat.le_of_ble_eq_true rfl) e_1 q1484 dX29_put_1 ?_
  refine lv_iload_n hx hb dX29_put_4 rfl (lv_at hl 1 rfl) ?_
  refine lv_lload_n hx hb dX29_put_5 rfl (lv_at hl 2 rfl) ?_
  obtain ⟨σ_4, e_3, h⟩ := bo_ex h
  refine r_psl (r := v_2) X hP e_3 dX29_put_6 (fun H locs hP => ?_)
  refine lv_iconst (v := (1 : Int32)) hx hb dX29_put_7 (by decide) ?_
  exact hret _ _ _ _ _ _ dX29_put_8 rfl (Option.some.inj h) hP
def r18_at (ks : Nat → ClassId) (σ : ST) (t0 : Nat) (a1 : Int32) : Option Int64 :=
  bo (pgr σ (some t0) 18 0) (fun (v_2 : Option Nat) => bo (pal σ v_2 (ks 2) a1) (fun (v_4 : Int64) => some v_4))
abbrev rm_X29_at : Room := rmf 0 0
set_option maxHeartbeats 4000000 in
set_option maxRecDepth 100000 in
theorem mt_X29_at (l : Launch) (G : GT) (σ : ST) (t0 : Nat) (a1 : Int32) {r : Int64} (h : r18_at G.2.1 σ t0 a1 = some r) : CL l cp_ft G yX29_at (ws_ yX29_at cX29_at 2 (some .long)) rm_X29_at 0 0 [.ref t0, .int a1] σ (r, σ) := by
  refine m_enterL (by decide) rfl (lv := [(0, .ref t0), (1, .int a1)]) rfl ?_
  intro p e s m args below meth c H locs ls Q X hret hP hl
  have hx := X.1.1
  have hb := X.1.2.1
  have hown := X.1.2.2.2.1
  have hts := X.1.2.2.2.2
  unfold r18_at at h
  refine lv_aload_n hx hb dX29_at_0 rfl (lv_at hl 0 rfl) ?_
  obtain ⟨v_2, e_1, h⟩ := bo_ex h
  refine r_pgr (r := (some t0)) X hP lk_18 0 (Nat.le_of_ble_eq_true rfl) e_1 q1484 dX29_at_1 ?_
  refine lv_iload_n hx hb dX29_at_4 rfl (lv_at hl 1 rfl) ?_
  obtain ⟨v_4, e_3, h⟩ := bo_ex h
  refine r_pal (r := v_2) X hP e_3 dX29_at_5 ?_
  exact hret _ _ _ _ _ _ dX29_at_6 (congrArg (fun z9 => (z9, σ)) (Option.some.inj h)) hP
def r19_init (ks : Nat → ClassId) (σ : ST) (t0 : Nat) (a1 : Int32) : Option ST :=
  bo (rw_init σ t0) (fun (_ : Unit) => nb a1 (st_ (aloi σ (ks 10) (a1).toNatClampNeg) (fun (σ_2 : ST) => bo (ppv σ_2 (some t0) 19 0 (va_rf (some (szo σ)))) (fun (σ_6 : ST) => some σ_6))))
abbrev rm_X30_init : Room := rmc 3 52 1 60
set_option maxHeartbeats 4000000 in
set_option maxRecDepth 100000 in
theorem mt_X30_init (l : Launch) (G : GT) (hal : G.2.2.2.2 = true) (σ : ST) (t0 : Nat) (a1 : Int32) {u : ST} (h : r19_init G.2.1 σ t0 a1 = some u) : CV l cp_ft G yX30_init (ws_ yX30_init cX30_init 2 none) rm_X30_init 1 60 [.ref t0, .int a1] σ u := by
  refine m_enterV (by decide) rfl (lv := [(0, .ref t0), (1, .int a1)]) rfl ?_
  intro p e s m args below meth c H locs ls Q X hnm hret hP hl
  have hx := X.1.1
  have hb := X.1.2.1
  have hown := X.1.2.2.2.1
  have hts := X.1.2.2.2.2
  unfold r19_init at h
  refine lv_aload_n hx hb dX30_init_0 rfl (lv_at hl 0 rfl) ?_
  obtain ⟨_, e_1, h⟩ := bo_ex h
  refine r_callv (r_runIN (rest := []) X hP (mt_X25_init l G σ t0 e_1) ⟨va_cnB 0 hts (lw_meth q1452) rfl rfl rfl (X.2.2.1 _ q1494 rfl) (hts _ q150) cdX25_init ⟨Nat.le_of_ble_eq_true rfl, Nat.le_of_ble_eq_true rfl⟩, rfl, hts _ q1451⟩ rfl hl.1 rfl (Nat.le_of_ble_eq_true rfl) dX30_init_1 ⟨Nat.le_of_ble_eq_true rfl, Nat.le_of_ble_eq_true rfl⟩) hP (fun H locs hP => ?_)
  refine lv_aload_n hx hb dX30_init_4 rfl (lv_at hl 0 rfl) ?_
  refine lv_iload_n hx hb dX30_init_5 rfl (lv_at hl 1 rfl) ?_
  have hnb_4 := nb_in h
  have h := nb_k h
  refine r_naz X hal hP hnb_4.1 (Nat.le_trans hnb_4.2 (by decide)) q1499 (Nat.le_of_ble_eq_true rfl) (Nat.le_trans (Nat.add_le_add_left hnb_4.2 _) (Nat.le_of_ble_eq_true rfl)) dX30_init_6 (fun σ_2 H e_3 hP => ?_)
  have h := st_k h e_3
  refine W.widen (k := 1) (n := 60) (Nat.le_of_ble_eq_true rfl) (Nat.add_le_add_left hnb_4.2 _) ?_
  obtain ⟨σ_6, e_5, h⟩ := bo_ex h
  refine r_ppvF (r := (some t0)) X hP lk_19 0 (Nat.le_of_ble_eq_true rfl) e_5 q1495 rfl hnm rfl (tyX30_ok 0 (by decide)) (rr_narA _ (some (szo σ))) (rr_fitA _ (some (szo σ))) dX30_init_8 (fun H locs hP => ?_)
  refine W.widen (k := 1) (n := 60) (Nat.le_of_ble_eq_true rfl) (Nat.le_of_ble_eq_true rfl) ?_
  exact hret _ _ _ _ _ dX30_init_11 (Option.some.inj h) hP
def r19_put (ks : Nat → ClassId) (σ : ST) (t0 : Nat) (a1 : Int32) (a2 : Int64) : Option (Int32 × ST) :=
  bo (pgr σ (some t0) 19 0) (fun (v_2 : Option Nat) => (if (lg_cmp a2 (0 : Int64)) = 0 then bo (psi σ v_2 (ks 10) a1 (vp_nar .boolean (0 : Int32))) (fun (σ_5 : ST) => some ((1 : Int32), σ_5)) else bo (psi σ v_2 (ks 10) a1 (vp_nar .boolean (1 : Int32))) (fun (σ_7 : ST) => some ((1 : Int32), σ_7))))
abbrev rm_X30_put : Room := rmf 0 0
set_option maxHeartbeats 4000000 in
set_option maxRecDepth 100000 in
theorem mt_X30_put (l : Launch) (G : GT) (σ : ST) (t0 : Nat) (a1 : Int32) (a2 : Int64) {r : Int32} {u : ST} (h : r19_put G.2.1 σ t0 a1 a2 = some (r, u)) : CI l cp_ft G yX30_put (ws_ yX30_put cX30_put 4 (some .boolean)) rm_X30_put 0 0 [.ref t0, .int a1, .long a2] σ (r, u) := by
  refine m_enterI (by decide) rfl (lv := [(0, .ref t0), (1, .int a1), (2, .long a2)]) rfl ?_
  intro p e s m args below meth c H locs ls Q X hret hP hl
  have hx := X.1.1
  have hb := X.1.2.1
  have hown := X.1.2.2.2.1
  have hts := X.1.2.2.2.2
  unfold r19_put at h
  refine lv_aload_n hx hb dX30_put_0 rfl (lv_at hl 0 rfl) ?_
  obtain ⟨v_2, e_1, h⟩ := bo_ex h
  refine r_pgr (r := (some t0)) X hP lk_19 0 (Nat.le_of_ble_eq_true rfl) e_1 q1495 dX30_put_1 ?_
  refine lv_iload_n hx hb dX30_put_4 rfl (lv_at hl 1 rfl) ?_
  refine lv_lload_n hx hb dX30_put_5 rfl (lv_at hl 2 rfl) ?_
  refine lv_lconst (v := (0 : Int64)) hx hb dX30_put_6 (by decide) ?_
  refine W.lcmp hx hb dX30_put_7 ?_
  refine lv_if_eq (tgt := 15) hx hb dX30_put_8 (by decide) (fun c_3 => ?_) (fun c_3 => ?_)
  · have h := it_t h c_3
    refine lv_iconst (v := (0 : Int32)) hx hb dX30_put_15 (by decide) ?_
    obtain ⟨σ_5, e_4, h⟩ := bo_ex h
    refine r_psz (r := v_2) X hP e_4 dX30_put_16 (fun H locs hP => ?_)
    refine lv_iconst (v := (1 : Int32)) hx hb dX30_put_17 (by decide) ?_
    exact hret _ _ _ _ _ _ dX30_put_18 rfl (Option.some.inj h) hP
  · have h := it_f h c_3
    refine lv_iconst (v := (1 : Int32)) hx hb dX30_put_11 (by decide) ?_
    refine lv_goto (tgt := 16) hx hb dX30_put_12 (by decide) ?_
    obtain ⟨σ_7, e_6, h⟩ := bo_ex h
    refine r_psz (r := v_2) X hP e_6 dX30_put_16 (fun H locs hP => ?_)
    refine lv_iconst (v := (1 : Int32)) hx hb dX30_put_17 (by decide) ?_
    exact hret _ _ _ _ _ _ dX30_put_18 rfl (Option.some.inj h) hP
def r19_at (ks : Nat → ClassId) (σ : ST) (t0 : Nat) (a1 : Int32) : Option Int64 :=
  bo (pgr σ (some t0) 19 0) (fun (v_2 : Option Nat) => bo (pai σ v_2 (ks 10) a1) (fun (v_4 : Int32) => (if v_4 = 0 then some (0 : Int64) else some (1 : Int64))))
abbrev rm_X30_at : Room := rmf 0 0
set_option maxHeartbeats 4000000 in
set_option maxRecDepth 100000 in
theorem mt_X30_at (l : Launch) (G : GT) (σ : ST) (t0 : Nat) (a1 : Int32) {r : Int64} (h : r19_at G.2.1 σ t0 a1 = some r) : CL l cp_ft G yX30_at (ws_ yX30_at cX30_at 2 (some .long)) rm_X30_at 0 0 [.ref t0, .int a1] σ (r, σ) := by
  refine m_enterL (by decide) rfl (lv := [(0, .ref t0), (1, .int a1)]) rfl ?_
  intro p e s m args below meth c H locs ls Q X hret hP hl
  have hx := X.1.1
  have hb := X.1.2.1
  have hown := X.1.2.2.2.1
  have hts := X.1.2.2.2.2
  unfold r19_at at h
  refine lv_aload_n hx hb dX30_at_0 rfl (lv_at hl 0 rfl) ?_
  obtain ⟨v_2, e_1, h⟩ := bo_ex h
  refine r_pgr (r := (some t0)) X hP lk_19 0 (Nat.le_of_ble_eq_true rfl) e_1 q1495 dX30_at_1 ?_
  refine lv_iload_n hx hb dX30_at_4 rfl (lv_at hl 1 rfl) ?_
  obtain ⟨v_4, e_3, h⟩ := bo_ex h
  refine r_paz (r := v_2) X hP e_3 dX30_at_5 ?_
  refine lv_if_eq (tgt := 13) hx hb dX30_at_6 (by decide) (fun c_5 => ?_) (fun c_5 => ?_)
  · have h := it_t h c_5
    refine lv_lconst (v := (0 : Int64)) hx hb dX30_at_13 (by decide) ?_
    exact hret _ _ _ _ _ _ dX30_at_14 (congrArg (fun z9 => (z9, σ)) (Option.some.inj h)) hP
  · have h := it_f h c_5
    refine lv_lconst (v := (1 : Int64)) hx hb dX30_at_9 (by decide) ?_
    refine lv_goto (tgt := 14) hx hb dX30_at_10 (by decide) ?_
    exact hret _ _ _ _ _ _ dX30_at_14 (congrArg (fun z9 => (z9, σ)) (Option.some.inj h)) hP
def cp_newRow (ks : Nat → ClassId) (σ : ST) (a0 : Int32) (a1 : Int32) : Option (Option Nat × ST) :=
  (if a0 = (0 : Int32) then st_ (aloc σ 15 [.null] 1) (fun (σ_2 : ST) => bo (r15_init ks σ_2 (szo σ) a1) (fun (σ_5 : ST) => some ((some (szo σ)), σ_5))) else (if a0 = (1 : Int32) then st_ (aloc σ 16 [.null] 1) (fun (σ_7 : ST) => bo (r16_init ks σ_7 (szo σ) a1) (fun (σ_10 : ST) => some ((some (szo σ)), σ_10))) else (if a0 = (2 : Int32) then st_ (aloc σ 17 [.null] 1) (fun (σ_12 : ST) => bo (r17_init ks σ_12 (szo σ) a1) (fun (σ_15 : ST) => some ((some (szo σ)), σ_15))) else (if a0 = (3 : Int32) then st_ (aloc σ 18 [.null] 1) (fun (σ_17 : ST) => bo (r18_init ks σ_17 (szo σ) a1) (fun (σ_20 : ST) => some ((some (szo σ)), σ_20))) else st_ (aloc σ 19 [.null] 1) (fun (σ_21 : ST) => bo (r19_init ks σ_21 (szo σ) a1) (fun (σ_24 : ST) => some ((some (szo σ)), σ_24)))))))
abbrev rm_X0_newRow : Room := rmc 4 73 2 61
set_option maxHeartbeats 4000000 in
set_option maxRecDepth 100000 in
theorem mt_X0_newRow (l : Launch) (G : GT) (hal : G.2.2.2.2 = true) (σ : ST) (a0 : Int32) (a1 : Int32) {r : Option Nat} {u : ST} (h : cp_newRow G.2.1 σ a0 a1 = some (r, u)) : CR l cp_ft G yX0_newRow (ws_ yX0_newRow cX0_newRow 2 (some (.object "SpeaksInTurn$Row"))) rm_X0_newRow 2 61 [.int a0, .int a1] σ (r, u) := by
  refine m_enterR (Or.inl ⟨_, rfl⟩) (by decide) rfl (lv := [(0, .int a0), (1, .int a1)]) rfl ?_
  intro p e s m args below meth c H locs ls Q X hret hP hl
  have hx := X.1.1
  have hb := X.1.2.1
  have hown := X.1.2.2.2.1
  have hts := X.1.2.2.2.2
  unfold cp_newRow at h
  refine lv_iload_n hx hb dX0_newRow_0 rfl (lv_at hl 0 rfl) ?_
  by_cases c_1 : a0 = (0 : Int32)
  · have h := it_t h c_1
    refine lv_tableIn (tgt := 32) hx hb dX0_newRow_1 (by rw [c_1]; decide) (by rw [c_1]; decide) (by rw [c_1]; rfl) (by decide) ?_
    refine r_new X hal hP 15 lk_15 tyX26 tyX26_ok (fs := [.null]) rfl q1141 q1446 q151 (Nat.le_of_ble_eq_true rfl) (Nat.le_of_ble_eq_true rfl) dX0_newRow_32 (fun σ_2 H e_3 hP => ?_)
    have h := st_k h e_3
    refine lv_dup hx hb dX0_newRow_35 rfl ?_
    refine lv_iload_n hx hb dX0_newRow_36 rfl (lv_at hl 1 rfl) ?_
    obtain ⟨σ_5, e_4, h⟩ := bo_ex h
    refine r_callvM (r_runI (rest := [.ref (szo σ)]) X hP (mt_X26_init l G hal σ_2 (szo σ) a1 e_4) (cwI 1 hts (lw_meth q1449) rfl rfl rfl (hts _ q151) (hts _ q1447) (hts _ q1448) rfl cdX26_init ⟨Nat.le_of_ble_eq_true rfl, Nat.le_of_ble_eq_true rfl⟩) rfl hl.1 rfl (Nat.le_of_ble_eq_true rfl) dX0_newRow_37 ⟨Nat.le_of_ble_eq_true rfl, Nat.le_of_ble_eq_true rfl⟩) hP (fun H locs hP => ?_)
    refine W.widen (k := 2) (n := 61) (Nat.le_of_ble_eq_true rfl) (Nat.le_of_ble_eq_true rfl) ?_
    exact hret _ _ _ _ _ _ dX0_newRow_40 (Option.some.inj h) hP
  · have h := it_f h c_1
    by_cases c_6 : a0 = (1 : Int32)
    · have h := it_t h c_6
      refine lv_tableIn (tgt := 41) hx hb dX0_newRow_1 (by rw [c_6]; decide) (by rw [c_6]; decide) (by rw [c_6]; rfl) (by decide) ?_
      refine r_new X hal hP 16 lk_16 tyX27 tyX27_ok (fs := [.null]) rfl q615 q1458 q152 (Nat.le_of_ble_eq_true rfl) (Nat.le_of_ble_eq_true rfl) dX0_newRow_41 (fun σ_7 H e_8 hP => ?_)
      have h := st_k h e_8
      refine lv_dup hx hb dX0_newRow_44 rfl ?_
      refine lv_iload_n hx hb dX0_newRow_45 rfl (lv_at hl 1 rfl) ?_
      obtain ⟨σ_10, e_9, h⟩ := bo_ex h
      refine r_callvM (r_runI (rest := [.ref (szo σ)]) X hP (mt_X27_init l G hal σ_7 (szo σ) a1 e_9) (cwI 1 hts (lw_meth q1461) rfl rfl rfl (hts _ q152) (hts _ q1459) (hts _ q1460) rfl cdX27_init ⟨Nat.le_of_ble_eq_true rfl, Nat.le_of_ble_eq_true rfl⟩) rfl hl.1 rfl (Nat.le_of_ble_eq_true rfl) dX0_newRow_46 ⟨Nat.le_of_ble_eq_true rfl, Nat.le_of_ble_eq_true rfl⟩) hP (fun H locs hP => ?_)
      refine W.widen (k := 2) (n := 61) (Nat.le_of_ble_eq_true rfl) (Nat.le_of_ble_eq_true rfl) ?_
      exact hret _ _ _ _ _ _ dX0_newRow_49 (Option.some.inj h) hP
    · have h := it_f h c_6
      by_cases c_11 : a0 = (2 : Int32)
      · have h := it_t h c_11
        refine lv_tableIn (tgt := 50) hx hb dX0_newRow_1 (by rw [c_11]; decide) (by rw [c_11]; decide) (by rw [c_11]; rfl) (by decide) ?_
        refine r_new X hal hP 17 lk_17 tyX28 tyX28_ok (fs := [.null]) rfl q1468 q1469 q153 (Nat.le_of_ble_eq_true rfl) (Nat.le_of_ble_eq_true rfl) dX0_newRow_50 (fun σ_12 H e_13 hP => ?_)
        have h := st_k h e_13
        refine lv_dup hx hb dX0_newRow_53 rfl ?_
        refine lv_iload_n hx hb dX0_newRow_54 rfl (lv_at hl 1 rfl) ?_
        obtain ⟨σ_15, e_14, h⟩ := bo_ex h
        refine r_callvM (r_runI (rest := [.ref (szo σ)]) X hP (mt_X28_init l G hal σ_12 (szo σ) a1 e_14) (cwI 1 hts (lw_meth q1472) rfl rfl rfl (hts _ q153) (hts _ q1470) (hts _ q1471) rfl cdX28_init ⟨Nat.le_of_ble_eq_true rfl, Nat.le_of_ble_eq_true rfl⟩) rfl hl.1 rfl (Nat.le_of_ble_eq_true rfl) dX0_newRow_55 ⟨Nat.le_of_ble_eq_true rfl, Nat.le_of_ble_eq_true rfl⟩) hP (fun H locs hP => ?_)
        refine W.widen (k := 2) (n := 61) (Nat.le_of_ble_eq_true rfl) (Nat.le_of_ble_eq_true rfl) ?_
        exact hret _ _ _ _ _ _ dX0_newRow_58 (Option.some.inj h) hP
      · have h := it_f h c_11
        by_cases c_16 : a0 = (3 : Int32)
        · have h := it_t h c_16
          refine lv_tableIn (tgt := 59) hx hb dX0_newRow_1 (by rw [c_16]; decide) (by rw [c_16]; decide) (by rw [c_16]; rfl) (by decide) ?_
          refine r_new X hal hP 18 lk_18 tyX29 tyX29_ok (fs := [.null]) rfl q1478 q1479 q154 (Nat.le_of_ble_eq_true rfl) (Nat.le_of_ble_eq_true rfl) dX0_newRow_59 (fun σ_17 H e_18 hP => ?_)
          have h := st_k h e_18
          refine lv_dup hx hb dX0_newRow_62 rfl ?_
          refine lv_iload_n hx hb dX0_newRow_63 rfl (lv_at hl 1 rfl) ?_
          obtain ⟨σ_20, e_19, h⟩ := bo_ex h
          refine r_callvM (r_runI (rest := [.ref (szo σ)]) X hP (mt_X29_init l G hal σ_17 (szo σ) a1 e_19) (cwI 1 hts (lw_meth q1482) rfl rfl rfl (hts _ q154) (hts _ q1480) (hts _ q1481) rfl cdX29_init ⟨Nat.le_of_ble_eq_true rfl, Nat.le_of_ble_eq_true rfl⟩) rfl hl.1 rfl (Nat.le_of_ble_eq_true rfl) dX0_newRow_64 ⟨Nat.le_of_ble_eq_true rfl, Nat.le_of_ble_eq_true rfl⟩) hP (fun H locs hP => ?_)
          refine W.widen (k := 2) (n := 61) (Nat.le_of_ble_eq_true rfl) (Nat.le_of_ble_eq_true rfl) ?_
          exact hret _ _ _ _ _ _ dX0_newRow_67 (Option.some.inj h) hP
        · have h := it_f h c_16
          refine lv_tableOut (tgt := 68) hx hb dX0_newRow_1 (by have n0 := lv_neT c_1 (a := 0) (by decide); have n1 := lv_neT c_6 (a := 1) (by decide); have n2 := lv_neT c_11 (a := 2) (by decide); have n3 := lv_neT c_16 (a := 3) (by decide); omega) (by decide) ?_
          refine r_new X hal hP 19 lk_19 tyX30 tyX30_ok (fs := [.null]) rfl q1489 q1490 q155 (Nat.le_of_ble_eq_true rfl) (Nat.le_of_ble_eq_true rfl) dX0_newRow_68 (fun σ_21 H e_22 hP => ?_)
          have h := st_k h e_22
          refine lv_dup hx hb dX0_newRow_71 rfl ?_
          refine lv_iload_n hx hb dX0_newRow_72 rfl (lv_at hl 1 rfl) ?_
          obtain ⟨σ_24, e_23, h⟩ := bo_ex h
          refine r_callvM (r_runI (rest := [.ref (szo σ)]) X hP (mt_X30_init l G hal σ_21 (szo σ) a1 e_23) (cwI 1 hts (lw_meth q1493) rfl rfl rfl (hts _ q155) (hts _ q1491) (hts _ q1492) rfl cdX30_init ⟨Nat.le_of_ble_eq_true rfl, Nat.le_of_ble_eq_true rfl⟩) rfl hl.1 rfl (Nat.le_of_ble_eq_true rfl) dX0_newRow_73 ⟨Nat.le_of_ble_eq_true rfl, Nat.le_of_ble_eq_true rfl⟩) hP (fun H locs hP => ?_)
          refine W.widen (k := 2) (n := 61) (Nat.le_of_ble_eq_true rfl) (Nat.le_of_ble_eq_true rfl) ?_
          exact hret _ _ _ _ _ _ dX0_newRow_76 (Option.some.inj h) hP
def cp_filmed_B54 (ks : Nat → ClassId) (σ : ST) (l1 : Option Nat) (l2 : Int32) (l3 : Int32) (rc54 : Int32 → Int32 → Option (Int32)) (w4 : Int32) (w5 : Int32) : Option (Int32) :=
  (if w4 = 0 then some (w4) else bo (pis σ l1 15) (fun (a_14 : Nat) => bo (r15_size ks σ a_14) (fun (r_17 : Int32) => (if r_17 ≤ w5 then some (w4) else bo (pis σ l1 15) (fun (a_19 : Nat) => bo (r15_at ks σ a_19 w5) (fun (r_22 : Int64) => ck w5 200 (bo (if (lg_cmp r_22 (((lI σ (1 + 1) 2 w5)).toInt64)) = 0 then some ((1 : Int32)) else some ((0 : Int32))) (fun (x_23 : Int32) => (rc54 x_23 (w5 + (1 : Int32)))))))))))
def cp_filmed_B8 (ks : Nat → ClassId) (l1 : Option Nat) (rc8 : Int32 → Int32 → ST → Option (Int32 × ST)) (w2 : Int32) (w3 : Int32) (σ : ST) : Option (Int32 × ST) :=
  (if (5 : Int32) < w3 then some (w2, σ) else bo (mg_go 1 σ w3 (gI σ 0 8) (-1 : Int32)) (fun (σ_5 : ST) => bo (pis σ_5 l1 15) (fun (a_6 : Nat) => bo (r15_size ks σ_5 a_6) (fun (r_9 : Int32) => bo (if (gI σ_5 (1 + 1) 17) < r_9 then some ((0 : Int32)) else some ((1 : Int32))) (fun (x_10 : Int32) => bo (wl2 (cp_filmed_B54 ks σ_5 l1 w2 w3) FU x_10 (0 : Int32)) (fun (o_28 : Int32) => bo (if o_28 = 0 then some (w2) else some ((w2 ||| ((1 : Int32) <<< (w3 &&& 31))))) (fun (y_31 : Int32) => (rc8 y_31 (w3 + (1 : Int32)) σ_5))))))))
def cp_filmed (ks : Nat → ClassId) (σ : ST) (a1 : Option Nat) : Option (Int32 × ST) :=
  bo (cp_asTheyCame σ) (fun (σ_2 : ST) => bo2 (wl3 (cp_filmed_B8 ks a1) FU (0 : Int32) (0 : Int32) σ_2) (fun (o_55 : Int32) (σ_56 : ST) => some (o_55, σ_56)))
abbrev rm_X0_filmed : Room := rmf 266 7942
set_option maxHeartbeats 4000000 in
set_option maxRecDepth 100000 in
theorem mt_X0_filmed (l : Launch) (G : GT) (σ : ST) (a1 : Option Nat) {r : Int32} {u : ST} (h : cp_filmed G.2.1 σ a1 = some (r, u)) : CI l cp_ft G yX0_filmed (ws_ yX0_filmed cX0_filmed 6 (some .int)) rm_X0_filmed 0 0 [.ref (G.2.2.1 0), va_rf a1] σ (r, u) := by
  refine m_enterI (by decide) (by cases a1 <;> rfl) (lv := [(0, .ref (G.2.2.1 0)), (1, va_rf a1)]) (by cases a1 <;> rfl) ?_
  intro p e s m args below meth c H locs ls Q X hret hP hl
  have hx := X.1.1
  have hb := X.1.2.1
  have hown := X.1.2.2.2.1
  have hts := X.1.2.2.2.2
  unfold cp_filmed at h
  refine lv_iconst (v := (0 : Int32)) hx hb dX0_filmed_0 (by decide) ?_
  refine lv_istore_n (lv' := [(2, .int (0 : Int32)), (0, .ref (G.2.2.1 0)), (1, va_rf a1)]) hx hb dX0_filmed_1 rfl hl (by decide) (by simp [rr_cat]) (fun ls hl => ?_)
  refine lv_aload_n hx hb dX0_filmed_2 rfl (lv_at hl 1 rfl) ?_
  obtain ⟨σ_2, e_1, h⟩ := bo_ex h
  refine r_callv (r_runV (rest := []) X hP 0 cp_c0 lk_0 (mt_X0_asTheyCame l G σ e_1) (cwV 0 hts (lw_V q932 q934 qs21 q110 q935) rfl rfl rfl ⟨rfl, cdX0_asTheyCame⟩ ⟨Nat.le_of_ble_eq_true rfl, Nat.le_of_ble_eq_true rfl⟩) rfl hl.1 rfl (Nat.le_of_ble_eq_true rfl) dX0_filmed_3 ⟨Nat.le_refl _, Nat.le_refl _⟩) hP (fun H locs hP => ?_)
  refine lv_iconst (v := (0 : Int32)) hx hb dX0_filmed_6 (by decide) ?_
  refine lv_istore_n (lv' := [(3, .int (0 : Int32)), (2, .int (0 : Int32)), (0, .ref (G.2.2.1 0)), (1, va_rf a1)]) hx hb dX0_filmed_7 rfl hl (by decide) rfl (fun ls hl => ?_)
  obtain ⟨o_55, σ_56, h_57, h⟩ := bo2_ex h
  have hE_58 : ∀ (H : Heap) (locs : List Loc) (ls : Array Slot), PS cp_ft G s σ_56 H locs → lv_has ls 6 [(2, .int o_55)] → W p l e rm_X0_filmed s m args below meth c H locs 0 0 Q (F0 m 119 ls []) := by
    intro H locs ls hP hl
    refine lv_iload_n hx hb dX0_filmed_119 rfl (lv_at hl 0 rfl) ?_
    exact hret _ _ _ _ _ _ dX0_filmed_120 rfl (Option.some.inj h) hP
  have hL_54 : ∀ (n : Nat) (w_59 : Int32) (w_60 : Int32) (σ_61 : ST) (H : Heap) (locs : List Loc) (ls : Array Slot), wl3 (cp_filmed_B8 G.2.1 a1) n w_59 w_60 σ_61 = some (o_55, σ_56) → PS cp_ft G s σ_61 H locs → lv_has ls 6 [(0, .ref (G.2.2.1 0)), (1, va_rf a1), (2, .int w_59), (3, .int w_60)] → W p l e rm_X0_filmed s m args below meth c H locs 0 0 Q (F0 m 8 ls []) := by
    intro n
    induction n with
    | zero => intro w_59 w_60 σ_61 H locs ls h_62; cases h_62
    | succ n ih =>
      intro w_59 w_60 σ_61 H locs ls h_62 hP hl
      have h_62 : cp_filmed_B8 G.2.1 a1 (wl3 (cp_filmed_B8 G.2.1 a1) n) w_59 w_60 σ_61 = some _ := h_62
      generalize wl3 (cp_filmed_B8 G.2.1 a1) n = rc_63 at h_62 ih
      unfold cp_filmed_B8 at h_62
      refine lv_iload_n hx hb dX0_filmed_8 rfl (lv_at hl 3 rfl) ?_
      refine lv_iconst (v := (5 : Int32)) hx hb dX0_filmed_9 (by decide) ?_
      refine lv_icmp_gt (tgt := 119) hx hb dX0_filmed_10 (by decide) (fun c_64 => ?_) (fun c_64 => ?_)
      · have h_62 := it_t h_62 c_64
        obtain ⟨rfl, rfl⟩ := so2 h_62
        exact hE_58 _ _ _ hP (lv_sub hl [2] rfl)
      · have h_62 := it_f h_62 c_64
        refine lv_aload_n hx hb dX0_filmed_13 rfl (lv_at hl 0 rfl) ?_
        refine r_geta X hP 0 cp_c0 lk_0 18 (Nat.le_of_ble_eq_true rfl) q307 cp_f18 dX0_filmed_14 ?_
        refine lv_aload_n hx hb dX0_filmed_17 rfl (lv_at hl 0 rfl) ?_
        refine r_geta X hP 0 cp_c0 lk_0 16 (Nat.le_of_ble_eq_true rfl) q305 cp_f16 dX0_filmed_18 ?_
        refine lv_iload_n hx hb dX0_filmed_21 rfl (lv_at hl 3 rfl) ?_
        refine lv_aload_n hx hb dX0_filmed_22 rfl (lv_at hl 0 rfl) ?_
        refine r_geti X hP 0 cp_c0 lk_0 8 (Nat.le_of_ble_eq_true rfl) q295 cp_f8 dX0_filmed_23 ?_
        refine lv_iconst (v := (-1 : Int32)) hx hb dX0_filmed_26 (by decide) ?_
        obtain ⟨σ_66, e_65, h_62⟩ := bo_ex h_62
        refine r_callv (r_runV (rest := []) X hP (15 + 17 * 1) (mg_c 1 (by decide)) lk_2 (mt_X2_go l G 1 (by decide) σ_61 w_60 (gI σ_61 0 8) (-1 : Int32) e_65) (cwV 4 hts (lw_V q940 q941 q942 q112 q943) rfl rfl rfl ⟨rfl, cdX2_go⟩ ⟨Nat.le_of_ble_eq_true rfl, Nat.le_of_ble_eq_true rfl⟩) rfl hl.1 rfl (Nat.le_of_ble_eq_true rfl) dX0_filmed_27 ⟨Nat.le_refl _, Nat.le_refl _⟩) hP (fun H locs hP => ?_)
        refine rr_aload_n hx hb dX0_filmed_30 rfl (lv_at hl 1 rfl) ?_
        obtain ⟨a_67, e_68, h_62⟩ := bo_ex h_62
        rw [rr_known (pis_ex e_68).1]
        obtain ⟨r_70, e_69, h_62⟩ := bo_ex h_62
        refine r_calli (r_runP (rest := []) X hP (pis_ex e_68).2 lk_15 (mt_X26_size l G σ_66 a_67 e_69) (cwV 0 hts (lw_V q1142 q1143 q1144 q151 q1145) rfl rfl rfl ⟨rfl, cdX26_size⟩ ⟨Nat.le_of_ble_eq_true rfl, Nat.le_of_ble_eq_true rfl⟩) rfl hl.1 rfl (Nat.le_of_ble_eq_true rfl) dX0_filmed_31 ⟨Nat.le_refl _, Nat.le_refl _⟩) hP (fun H locs hP => ?_)
        refine lv_aload_n hx hb dX0_filmed_34 rfl (lv_at hl 0 rfl) ?_
        refine r_geta X hP 0 cp_c0 lk_0 18 (Nat.le_of_ble_eq_true rfl) q307 cp_f18 dX0_filmed_35 ?_
        refine r_getiN X hP (15 + 17 * 1) (mg_c 1 (by decide)) lk_2 17 (Nat.le_of_ble_eq_true rfl) q225 (mg_f17 1) dX0_filmed_38 ?_
        obtain ⟨x_71, h_72, h_62⟩ := bo_ex h_62
        have hJ_73 : ∀ (H : Heap) (locs : List Loc) (ls : Array Slot), PS cp_ft G s σ_66 H locs → lv_has ls 6 [(0, .ref (G.2.2.1 0)), (1, va_rf a1), (2, .int w_59), (3, .int w_60)] → W p l e rm_X0_filmed s m args below meth c H locs 0 0 Q (F0 m 49 ls [.int x_71]) := by
          intro H locs ls hP hl
          refine lv_istore (lv' := [(4, .int x_71), (0, .ref (G.2.2.1 0)), (1, va_rf a1), (2, .int w_59), (3, .int w_60)]) hx hb dX0_filmed_49 hl (by decide) rfl (fun ls hl => ?_)
          refine lv_iconst (v := (0 : Int32)) hx hb dX0_filmed_51 (by decide) ?_
          refine lv_istore (lv' := [(5, .int (0 : Int32)), (4, .int x_71), (0, .ref (G.2.2.1 0)), (1, va_rf a1), (2, .int w_59), (3, .int w_60)]) hx hb dX0_filmed_52 hl (by decide) rfl (fun ls hl => ?_)
          obtain ⟨o_75, h_76, h_62⟩ := bo_ex h_62
          have hE_77 : ∀ (H : Heap) (locs : List Loc) (ls : Array Slot), PS cp_ft G s σ_66 H locs → lv_has ls 6 [(0, .ref (G.2.2.1 0)), (1, va_rf a1), (2, .int w_59), (3, .int w_60), (4, .int o_75)] → W p l e rm_X0_filmed s m args below meth c H locs 0 0 Q (F0 m 102 ls []) := by
            intro H locs ls hP hl
            refine lv_iload hx hb dX0_filmed_102 (lv_at hl 4 rfl) ?_
            obtain ⟨y_78, h_79, h_62⟩ := bo_ex h_62
            have hJ_80 : ∀ (H : Heap) (locs : List Loc) (ls : Array Slot), PS cp_ft G s σ_66 H locs → lv_has ls 6 [(0, .ref (G.2.2.1 0)), (1, va_rf a1), (2, .int y_78), (3, .int w_60)] → W p l e rm_X0_filmed s m args below meth c H locs 0 0 Q (F0 m 113 ls []) := by
              intro H locs ls hP hl
              refine lv_iinc (v := (w_60 + (1 : Int32))) (lv' := [(3, .int (w_60 + (1 : Int32))), (0, .ref (G.2.2.1 0)), (1, va_rf a1), (2, .int y_78)]) hx hb dX0_filmed_113 hl (k := 3) rfl rfl (by decide) rfl (fun ls hl => ?_)
              refine lv_goto (tgt := 8) hx hb dX0_filmed_116 (by decide) ?_
              exact ih _ _ _ _ _ _ h_62 hP (lv_sub hl [1, 2, 3, 0] rfl)
            refine lv_if_eq (tgt := 113) hx hb dX0_filmed_104 (by decide) (fun c_81 => ?_) (fun c_81 => ?_)
            · have h_79 := it_t h_79 c_81
              obtain rfl := Option.some.inj h_79
              exact hJ_80 _ _ _ hP (lv_sub hl [0, 1, 2, 3] rfl)
            · have h_79 := it_f h_79 c_81
              refine lv_iload_n hx hb dX0_filmed_107 rfl (lv_at hl 2 rfl) ?_
              refine lv_iconst (v := (1 : Int32)) hx hb dX0_filmed_108 (by decide) ?_
              refine lv_iload_n hx hb dX0_filmed_109 rfl (lv_at hl 3 rfl) ?_
              refine lv_ishl hx hb dX0_filmed_110 ?_
              refine lv_ior hx hb dX0_filmed_111 ?_
              refine lv_istore_n (lv' := [(2, .int (w_59 ||| ((1 : Int32) <<< (w_60 &&& 31)))), (0, .ref (G.2.2.1 0)), (1, va_rf a1), (3, .int w_60), (4, .int o_75)]) hx hb dX0_filmed_112 rfl hl (by decide) (by simp [rr_cat]) (fun ls hl => ?_)
              obtain rfl := Option.some.inj h_79
              exact hJ_80 _ _ _ hP (lv_sub hl [1, 2, 0, 3] rfl)
          have hL_74 : ∀ (n : Nat) (w_82 : Int32) (w_83 : Int32) (H : Heap) (locs : List Loc) (ls : Array Slot), wl2 (cp_filmed_B54 G.2.1 σ_66 a1 w_59 w_60) n w_82 w_83 = some o_75 → PS cp_ft G s σ_66 H locs → lv_has ls 6 [(0, .ref (G.2.2.1 0)), (1, va_rf a1), (2, .int w_59), (3, .int w_60), (4, .int w_82), (5, .int w_83)] → W p l e rm_X0_filmed s m args below meth c H locs 0 0 Q (F0 m 54 ls []) := by
            intro n
            induction n with
            | zero => intro w_82 w_83 H locs ls h_84; cases h_84
            | succ n ih =>
              intro w_82 w_83 H locs ls h_84 hP hl
              have h_84 : cp_filmed_B54 G.2.1 σ_66 a1 w_59 w_60 (wl2 (cp_filmed_B54 G.2.1 σ_66 a1 w_59 w_60) n) w_82 w_83 = some _ := h_84
              generalize wl2 (cp_filmed_B54 G.2.1 σ_66 a1 w_59 w_60) n = rc_85 at h_84 ih
              unfold cp_filmed_B54 at h_84
              refine lv_iload hx hb dX0_filmed_54 (lv_at hl 4 rfl) ?_
              refine lv_if_eq (tgt := 102) hx hb dX0_filmed_56 (by decide) (fun c_86 => ?_) (fun c_86 => ?_)
              · have h_84 := it_t h_84 c_86
                obtain rfl := Option.some.inj h_84
                exact hE_77 _ _ _ hP (lv_sub hl [0, 1, 2, 3, 4] rfl)
              · have h_84 := it_f h_84 c_86
                refine lv_iload hx hb dX0_filmed_59 (lv_at hl 5 rfl) ?_
                refine rr_aload_n hx hb dX0_filmed_61 rfl (lv_at hl 1 rfl) ?_
                obtain ⟨a_87, e_88, h_84⟩ := bo_ex h_84
                rw [rr_known (pis_ex e_88).1]
                obtain ⟨r_90, e_89, h_84⟩ := bo_ex h_84
                refine r_calli (r_runP (rest := [.int w_83]) X hP (pis_ex e_88).2 lk_15 (mt_X26_size l G σ_66 a_87 e_89) (cwV 0 hts (lw_V q1142 q1143 q1144 q151 q1145) rfl rfl rfl ⟨rfl, cdX26_size⟩ ⟨Nat.le_of_ble_eq_true rfl, Nat.le_of_ble_eq_true rfl⟩) rfl hl.1 rfl (Nat.le_of_ble_eq_true rfl) dX0_filmed_62 ⟨Nat.le_refl _, Nat.le_refl _⟩) hP (fun H locs hP => ?_)
                refine lv_icmp_ge (tgt := 102) hx hb dX0_filmed_65 (by decide) (fun c_91 => ?_) (fun c_91 => ?_)
                · have h_84 := it_t h_84 c_91
                  obtain rfl := Option.some.inj h_84
                  exact hE_77 _ _ _ hP (lv_sub hl [0, 1, 2, 3, 4] rfl)
                · have h_84 := it_f h_84 c_91
                  refine rr_aload_n hx hb dX0_filmed_68 rfl (lv_at hl 1 rfl) ?_
                  refine lv_iload hx hb dX0_filmed_69 (lv_at hl 5 rfl) ?_
                  obtain ⟨a_92, e_93, h_84⟩ := bo_ex h_84
                  rw [rr_known (pis_ex e_93).1]
                  obtain ⟨r_95, e_94, h_84⟩ := bo_ex h_84
                  refine r_calll (r_runP (rest := []) X hP (pis_ex e_93).2 lk_15 (mt_X26_at l G σ_66 a_92 w_83 e_94) (cwV 1 hts (lw_V q1150 q1151 q1152 q151 q1153) rfl rfl rfl ⟨rfl, cdX26_at⟩ ⟨Nat.le_of_ble_eq_true rfl, Nat.le_of_ble_eq_true rfl⟩) rfl hl.1 rfl (Nat.le_of_ble_eq_true rfl) dX0_filmed_71 ⟨Nat.le_refl _, Nat.le_refl _⟩) hP (fun H locs hP => ?_)
                  refine lv_aload_n hx hb dX0_filmed_74 rfl (lv_at hl 0 rfl) ?_
                  refine r_geta X hP 0 cp_c0 lk_0 18 (Nat.le_of_ble_eq_true rfl) q307 cp_f18 dX0_filmed_75 ?_
                  refine r_getaN X hP (15 + 17 * 1) (mg_c 1 (by decide)) lk_2 2 (Nat.le_of_ble_eq_true rfl) q198 (mg_f2 1) dX0_filmed_78 ?_
                  refine lv_iload hx hb dX0_filmed_81 (lv_at hl 5 rfl) ?_
                  refine r_iald X hP (16 + 17 * 1 + 2) (mg_a2 1 (by decide)) (ck_in h_84) dX0_filmed_83 ?_
                  have h_84 := ck_k h_84
                  refine lv_i2l hx hb dX0_filmed_84 rfl ?_
                  refine W.lcmp hx hb dX0_filmed_85 ?_
                  obtain ⟨x_96, h_97, h_84⟩ := bo_ex h_84
                  have hJ_98 : ∀ (H : Heap) (locs : List Loc) (ls : Array Slot), PS cp_ft G s σ_66 H locs → lv_has ls 6 [(0, .ref (G.2.2.1 0)), (1, va_rf a1), (2, .int w_59), (3, .int w_60), (5, .int w_83)] → W p l e rm_X0_filmed s m args below meth c H locs 0 0 Q (F0 m 94 ls [.int x_96]) := by
                    intro H locs ls hP hl
                    refine lv_istore (lv' := [(4, .int x_96), (0, .ref (G.2.2.1 0)), (1, va_rf a1), (2, .int w_59), (3, .int w_60), (5, .int w_83)]) hx hb dX0_filmed_94 hl (by decide) rfl (fun ls hl => ?_)
                    refine lv_iinc (v := (w_83 + (1 : Int32))) (lv' := [(5, .int (w_83 + (1 : Int32))), (4, .int x_96), (0, .ref (G.2.2.1 0)), (1, va_rf a1), (2, .int w_59), (3, .int w_60)]) hx hb dX0_filmed_96 hl (k := 5) rfl rfl (by decide) rfl (fun ls hl => ?_)
                    refine lv_goto (tgt := 54) hx hb dX0_filmed_99 (by decide) ?_
                    exact ih _ _ _ _ _ h_84 hP (lv_sub hl [2, 3, 4, 5, 1, 0] rfl)
                  refine lv_if_ne (tgt := 93) hx hb dX0_filmed_86 (by decide) (fun c_99 => ?_) (fun c_99 => ?_)
                  · have h_97 := it_f h_97 c_99
                    refine lv_iconst (v := (0 : Int32)) hx hb dX0_filmed_93 (by decide) ?_
                    obtain rfl := Option.some.inj h_97
                    exact hJ_98 _ _ _ hP (lv_sub hl [0, 1, 2, 3, 5] rfl)
                  · have h_97 := it_t h_97 c_99
                    refine lv_iconst (v := (1 : Int32)) hx hb dX0_filmed_89 (by decide) ?_
                    refine lv_goto (tgt := 94) hx hb dX0_filmed_90 (by decide) ?_
                    obtain rfl := Option.some.inj h_97
                    exact hJ_98 _ _ _ hP (lv_sub hl [0, 1, 2, 3, 5] rfl)
          exact hL_74 _ _ _ _ _ _ h_76 hP (lv_sub hl [2, 3, 4, 5, 1, 0] rfl)
        refine lv_icmp_gt (tgt := 48) hx hb dX0_filmed_41 (by decide) (fun c_100 => ?_) (fun c_100 => ?_)
        · have h_72 := it_t h_72 c_100
          refine lv_iconst (v := (0 : Int32)) hx hb dX0_filmed_48 (by decide) ?_
          obtain rfl := Option.some.inj h_72
          exact hJ_73 _ _ _ hP (lv_sub hl [0, 1, 2, 3] rfl)
        · have h_72 := it_f h_72 c_100
          refine lv_iconst (v := (1 : Int32)) hx hb dX0_filmed_44 (by decide) ?_
          refine lv_goto (tgt := 49) hx hb dX0_filmed_45 (by decide) ?_
          obtain rfl := Option.some.inj h_72
          exact hJ_73 _ _ _ hP (lv_sub hl [0, 1, 2, 3] rfl)
  exact hL_54 _ _ _ _ _ _ _ h_57 hP (lv_sub hl [2, 3, 1, 0] rfl)
