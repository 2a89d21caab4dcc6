set_option maxRecDepth 100000
def he_init (σ : ST) (t0 : Nat) : Option Unit :=
  some ()
abbrev rm_X16_init : Room := rmf 1 12
set_option maxHeartbeats 4000000 in
set_option maxRecDepth 100000 in
theorem mt_X16_init (l : Launch) (G : GT) (σ : ST) (t0 : Nat) (h : he_init σ t0 = some ()) : CV l cp_ft G yX16_init (ws_ yX16_init cX16_init 1 none) rm_X16_init 0 0 [.ref t0] σ σ := by
  refine m_enterV (by decide) rfl (lv := [(0, .ref t0)]) rfl ?_
  intro p e s m args below meth c H locs ls Q X hnm hret hP hl
  have hx := X.1.1
  have hb := X.1.2.1
  have hown := X.1.2.2.2.1
  have hts := X.1.2.2.2.2
  unfold he_init at h
  refine lv_aload_n hx hb dX16_init_0 rfl (lv_at hl 0 rfl) ?_
  refine W.objInit hx hb hown (hts _ q1179) (hts _ q163) (hts _ q164) rfl (by rw [X.1.2.2.1]; exact hl.1) rfl dX16_init_1 (Nat.le_of_ble_eq_true rfl) (Nat.le_of_ble_eq_true rfl) ?_
  refine W.eq (g2 := F0 m 4 ls []) rfl ?_
  exact hret _ _ _ _ _ dX16_init_4 rfl hP
def pl20_X17_init (x0 : Nat) (σ : ST) (t0 : Nat) (a2 : Int32) : Option ST :=
  bo (ppv σ (some t0) 20 1 (va_rf (some x0))) (fun (σ_2 : ST) => bo (he_init σ_2 t0) (fun (_ : Unit) => bo (ppv σ_2 (some t0) 20 0 (.int a2)) (fun (σ_5 : ST) => some σ_5)))
abbrev rm_X17_init__20 : Room := rmf 2 32
set_option maxHeartbeats 4000000 in
set_option maxRecDepth 100000 in
theorem mt_X17_init__20 (l : Launch) (G : GT) (σ : ST) (t0 : Nat) (a2 : Int32) {u : ST} (h : pl20_X17_init (G.2.2.1 0) σ t0 a2 = some u) : CV l cp_ft G yX17_init (ws_ yX17_init cX17_init 3 none) rm_X17_init__20 0 0 [.ref t0, .ref (G.2.2.1 0), .int a2] σ u := by
  refine m_enterV (by decide) rfl (lv := [(0, .ref t0), (1, .ref (G.2.2.1 0)), (2, .int a2)]) rfl ?_
  intro p e s m args below meth c H locs ls Q X hnm hret hP hl
  have hx := X.1.1
  have hb := X.1.2.1
  have hown := X.1.2.2.2.1
  have hts := X.1.2.2.2.2
  unfold pl20_X17_init at h
  refine lv_aload_n hx hb dX17_init_0 rfl (lv_at hl 0 rfl) ?_
  refine lv_aload_n hx hb dX17_init_1 rfl (lv_at hl 1 rfl) ?_
  obtain ⟨σ_2, e_1, h⟩ := bo_ex h
  refine r_ppvF (r := (some t0)) X hP lk_20 1 (Nat.le_of_ble_eq_true rfl) e_1 q1182 rfl hnm rfl (tyX17_ok 1 (by decide)) (rr_nar _ (some (G.2.2.1 0))) (rr_fit _ (some (G.2.2.1 0))) dX17_init_2 (fun H locs hP => ?_)
  refine lv_aload_n hx hb dX17_init_5 rfl (lv_at hl 0 rfl) ?_
  obtain ⟨_, e_3, h⟩ := bo_ex h
  refine r_callv (r_runIN (rest := []) X hP (mt_X16_init l G σ_2 t0 e_3) ⟨va_cnB 0 hts (lw_meth q1178) rfl rfl rfl (X.2.2.1 _ q1176 rfl) (hts _ q140) cdX16_init ⟨Nat.le_of_ble_eq_true rfl, Nat.le_of_ble_eq_true rfl⟩, rfl, hts _ q1177⟩ rfl hl.1 rfl (Nat.le_of_ble_eq_true rfl) dX17_init_6 ⟨Nat.le_refl _, Nat.le_refl _⟩) hP (fun H locs hP => ?_)
  refine lv_aload_n hx hb dX17_init_9 rfl (lv_at hl 0 rfl) ?_
  refine lv_iload_n hx hb dX17_init_10 rfl (lv_at hl 2 rfl) ?_
  obtain ⟨σ_5, e_4, h⟩ := bo_ex h
  refine r_ppvF (r := (some t0)) X hP lk_20 0 (Nat.le_of_ble_eq_true rfl) e_4 q1181 rfl hnm rfl (tyX17_ok 0 (by decide)) rfl rfl dX17_init_11 (fun H locs hP => ?_)
  exact hret _ _ _ _ _ dX17_init_14 (Option.some.inj h) hP
def pl20_X17_kind (σ : ST) (t0 : Nat) : Option Int32 :=
  some (0 : Int32)
abbrev rm_X17_kind__20 : Room := rmf 0 0
set_option maxHeartbeats 4000000 in
set_option maxRecDepth 100000 in
theorem mt_X17_kind__20 (l : Launch) (G : GT) (σ : ST) (t0 : Nat) {r : Int32} (h : pl20_X17_kind σ t0 = some r) : CI l cp_ft G yX17_kind (ws_ yX17_kind cX17_kind 1 (some .int)) rm_X17_kind__20 0 0 [.ref t0] σ (r, σ) := by
  refine m_enterI (by decide) rfl (lv := [(0, .ref t0)]) rfl ?_
  intro p e s m args below meth c H locs ls Q X hret hP hl
  have hx := X.1.1
  have hb := X.1.2.1
  have hown := X.1.2.2.2.1
  have hts := X.1.2.2.2.2
  unfold pl20_X17_kind at h
  refine lv_iconst (v := (0 : Int32)) hx hb dX17_kind_0 (by decide) ?_
  exact hret _ _ _ _ _ _ dX17_kind_1 rfl (congrArg (fun z9 => (z9, σ)) (Option.some.inj h)) hP
def pl20_X17_isUnder (σ : ST) (t0 : Nat) (a1 : Int32) : Option Int32 :=
  (if a1 = 0 then some (1 : Int32) else bo (pis σ (some t0) 20) (fun (_ : Nat) => bo (pl20_X17_kind σ t0) (fun (r_5 : Int32) => (if a1 = r_5 then some (1 : Int32) else some (0 : Int32)))))
abbrev rm_X17_isUnder__20 : Room := rmf 1 20
set_option maxHeartbeats 4000000 in
set_option maxRecDepth 100000 in
theorem mt_X17_isUnder__20 (l : Launch) (G : GT) (σ : ST) (t0 : Nat) (a1 : Int32) {r : Int32} (h : pl20_X17_isUnder σ t0 a1 = some r) : CI l cp_ft G yX17_isUnder (ws_ yX17_isUnder cX17_isUnder 2 (some .boolean)) rm_X17_isUnder__20 0 0 [.ref t0, .int a1] σ (r, σ) := by
  refine m_enterI (by decide) rfl (lv := [(0, .ref t0), (1, .int a1)]) rfl ?_
  intro p e s m args below meth c H locs ls Q X hret hP hl
  have hx := X.1.1
  have hb := X.1.2.1
  have hown := X.1.2.2.2.1
  have hts := X.1.2.2.2.2
  unfold pl20_X17_isUnder at h
  refine lv_iload_n hx hb dX17_isUnder_0 rfl (lv_at hl 1 rfl) ?_
  refine lv_if_eq (tgt := 12) hx hb dX17_isUnder_1 (by decide) (fun c_1 => ?_) (fun c_1 => ?_)
  · have h := it_t h c_1
    refine lv_iconst (v := (1 : Int32)) hx hb dX17_isUnder_12 (by decide) ?_
    refine lv_goto (tgt := 17) hx hb dX17_isUnder_13 (by decide) ?_
    exact hret _ _ _ _ _ _ dX17_isUnder_17 rfl (congrArg (fun z9 => (z9, σ)) (Option.some.inj h)) hP
  · have h := it_f h c_1
    refine lv_iload_n hx hb dX17_isUnder_4 rfl (lv_at hl 1 rfl) ?_
    refine lv_aload_n hx hb dX17_isUnder_5 rfl (lv_at hl 0 rfl) ?_
    obtain ⟨a_2, e_3, h⟩ := bo_ex h
    obtain ⟨r_5, e_4, h⟩ := bo_ex h
    refine r_calli (r_runUP (rest := [.int a1]) X hP (pis_self e_3) lk_20 (mt_X17_kind__20 l G σ t0 e_4) (va_cwO (owner := "SpeaksInTurn$Plain") (x := ⟨"SpeaksInTurn$Plain", "kind", "()I"⟩) 0 hts (lw_O q1601 q1604 q1602 q1603 q1602 q141 q1626) rfl rfl rfl q1626 cdX17_kind ⟨Nat.le_of_ble_eq_true rfl, Nat.le_of_ble_eq_true rfl⟩) rfl hl.1 rfl (Nat.le_of_ble_eq_true rfl) dX17_isUnder_6 ⟨Nat.le_refl _, Nat.le_refl _⟩) hP (fun H locs hP => ?_)
    refine lv_icmp_ne (tgt := 16) hx hb dX17_isUnder_9 (by decide) (fun c_6 => ?_) (fun c_6 => ?_)
    · have h := it_f h c_6
      refine lv_iconst (v := (0 : Int32)) hx hb dX17_isUnder_16 (by decide) ?_
      exact hret _ _ _ _ _ _ dX17_isUnder_17 rfl (congrArg (fun z9 => (z9, σ)) (Option.some.inj h)) hP
    · have h := it_t h c_6
      refine lv_iconst (v := (1 : Int32)) hx hb dX17_isUnder_12 (by decide) ?_
      refine lv_goto (tgt := 17) hx hb dX17_isUnder_13 (by decide) ?_
      exact hret _ _ _ _ _ _ dX17_isUnder_17 rfl (congrArg (fun z9 => (z9, σ)) (Option.some.inj h)) hP
def pl20_X17_knows (x0 : Nat) (σ : ST) (t0 : Nat) (a1 : Int32) : Option (Int32 × ST) :=
  bo (pgr σ (some t0) 20 1) (fun (v_2 : Option Nat) => ez v_2 x0 (bo (cp_ran σ (1 : Int32)) (fun (σ_5 : ST) => bo (pgi σ_5 (some t0) 20 0) (fun (v_7 : Int32) => some ((a1 + v_7), σ_5)))))
abbrev rm_X17_knows__20 : Room := rmf 1 21
set_option maxHeartbeats 4000000 in
set_option maxRecDepth 100000 in
theorem mt_X17_knows__20 (l : Launch) (G : GT) (σ : ST) (t0 : Nat) (a1 : Int32) {r : Int32} {u : ST} (h : pl20_X17_knows (G.2.2.1 0) σ t0 a1 = some (r, u)) : CI l cp_ft G yX17_knows (ws_ yX17_knows cX17_knows 2 (some .int)) rm_X17_knows__20 0 0 [.ref t0, .int a1] σ (r, u) := by
  refine m_enterI (by decide) rfl (lv := [(0, .ref t0), (1, .int a1)]) rfl ?_
  intro p e s m args below meth c H locs ls Q X hret hP hl
  have hx := X.1.1
  have hb := X.1.2.1
  have hown := X.1.2.2.2.1
  have hts := X.1.2.2.2.2
  unfold pl20_X17_knows at h
  refine lv_aload_n hx hb dX17_knows_0 rfl (lv_at hl 0 rfl) ?_
  obtain ⟨v_2, e_1, h⟩ := bo_ex h
  refine r_pgr (r := (some t0)) X hP lk_20 1 (Nat.le_of_ble_eq_true rfl) e_1 q1182 dX17_knows_1 ?_
  have hz_3 := ez_eq h
  have h := ez_k h
  rw [rr_known hz_3]
  refine lv_iconst (v := (1 : Int32)) hx hb dX17_knows_4 (by decide) ?_
  obtain ⟨σ_5, e_4, h⟩ := bo_ex h
  refine r_callv (r_runVN (rest := []) X hP 0 cp_c0 lk_0 (mt_X0_ran l G σ (1 : Int32) e_4) ⟨va_cnB 1 hts (lw_meth q1292) rfl rfl rfl (X.2.2.1 _ q1289 rfl) (hts _ q110) cdX0_ran ⟨Nat.le_of_ble_eq_true rfl, Nat.le_of_ble_eq_true rfl⟩, hts _ q1291, hts _ qs48⟩ rfl hl.1 rfl (Nat.le_of_ble_eq_true rfl) dX17_knows_5 ⟨Nat.le_refl _, Nat.le_refl _⟩) hP (fun H locs hP => ?_)
  refine lv_iload_n hx hb dX17_knows_8 rfl (lv_at hl 1 rfl) ?_
  refine lv_aload_n hx hb dX17_knows_9 rfl (lv_at hl 0 rfl) ?_
  obtain ⟨v_7, e_6, h⟩ := bo_ex h
  refine r_pgi (r := (some t0)) X hP lk_20 0 (Nat.le_of_ble_eq_true rfl) e_6 q1181 dX17_knows_10 ?_
  refine lv_iadd hx hb dX17_knows_13 ?_
  exact hret _ _ _ _ _ _ dX17_knows_14 rfl (Option.some.inj h) hP
def pl20_X17_stops (x0 : Nat) (σ : ST) (t0 : Nat) (a1 : Int32) : Option (Int32 × ST) :=
  bo (pgr σ (some t0) 20 1) (fun (v_2 : Option Nat) => ez v_2 x0 (bo (cp_ran σ (11 : Int32)) (fun (σ_5 : ST) => bo (pgi σ_5 (some t0) 20 0) (fun (v_7 : Int32) => some ((a1 ^^^ v_7), σ_5)))))
abbrev rm_X17_stops__20 : Room := rmf 1 21
set_option maxHeartbeats 4000000 in
set_option maxRecDepth 100000 in
theorem mt_X17_stops__20 (l : Launch) (G : GT) (σ : ST) (t0 : Nat) (a1 : Int32) {r : Int32} {u : ST} (h : pl20_X17_stops (G.2.2.1 0) σ t0 a1 = some (r, u)) : CI l cp_ft G yX17_stops (ws_ yX17_stops cX17_stops 2 (some .int)) rm_X17_stops__20 0 0 [.ref t0, .int a1] σ (r, u) := by
  refine m_enterI (by decide) rfl (lv := [(0, .ref t0), (1, .int a1)]) rfl ?_
  intro p e s m args below meth c H locs ls Q X hret hP hl
  have hx := X.1.1
  have hb := X.1.2.1
  have hown := X.1.2.2.2.1
  have hts := X.1.2.2.2.2
  unfold pl20_X17_stops at h
  refine lv_aload_n hx hb dX17_stops_0 rfl (lv_at hl 0 rfl) ?_
  obtain ⟨v_2, e_1, h⟩ := bo_ex h
  refine r_pgr (r := (some t0)) X hP lk_20 1 (Nat.le_of_ble_eq_true rfl) e_1 q1182 dX17_stops_1 ?_
  have hz_3 := ez_eq h
  have h := ez_k h
  rw [rr_known hz_3]
  refine lv_bipush (v := (11 : Int32)) hx hb dX17_stops_4 (by decide) ?_
  obtain ⟨σ_5, e_4, h⟩ := bo_ex h
  refine r_callv (r_runVN (rest := []) X hP 0 cp_c0 lk_0 (mt_X0_ran l G σ (11 : Int32) e_4) ⟨va_cnB 1 hts (lw_meth q1292) rfl rfl rfl (X.2.2.1 _ q1289 rfl) (hts _ q110) cdX0_ran ⟨Nat.le_of_ble_eq_true rfl, Nat.le_of_ble_eq_true rfl⟩, hts _ q1291, hts _ qs48⟩ rfl hl.1 rfl (Nat.le_of_ble_eq_true rfl) dX17_stops_6 ⟨Nat.le_refl _, Nat.le_refl _⟩) hP (fun H locs hP => ?_)
  refine lv_iload_n hx hb dX17_stops_9 rfl (lv_at hl 1 rfl) ?_
  refine lv_aload_n hx hb dX17_stops_10 rfl (lv_at hl 0 rfl) ?_
  obtain ⟨v_7, e_6, h⟩ := bo_ex h
  refine r_pgi (r := (some t0)) X hP lk_20 0 (Nat.le_of_ble_eq_true rfl) e_6 q1181 dX17_stops_11 ?_
  refine lv_ixor hx hb dX17_stops_14 ?_
  exact hret _ _ _ _ _ _ dX17_stops_15 rfl (Option.some.inj h) hP
def pl20_X17_speaks (x0 : Nat) (σ : ST) (t0 : Nat) (a1 : Int32) : Option (Int32 × ST) :=
  bo (pgr σ (some t0) 20 1) (fun (v_2 : Option Nat) => ez v_2 x0 (bo (cp_ran σ (10 : Int32)) (fun (σ_5 : ST) => bo (pis σ_5 (some t0) 20) (fun (_ : Nat) => bo2 (pl20_X17_knows x0 σ_5 t0 a1) (fun (r_9 : Int32) (σ_10 : ST) => some ((r_9 * (2 : Int32)), σ_10))))))
abbrev rm_X17_speaks__20 : Room := rmf 2 42
set_option maxHeartbeats 4000000 in
set_option maxRecDepth 100000 in
theorem mt_X17_speaks__20 (l : Launch) (G : GT) (σ : ST) (t0 : Nat) (a1 : Int32) {r : Int32} {u : ST} (h : pl20_X17_speaks (G.2.2.1 0) σ t0 a1 = some (r, u)) : CI l cp_ft G yX17_speaks (ws_ yX17_speaks cX17_speaks 2 (some .int)) rm_X17_speaks__20 0 0 [.ref t0, .int a1] σ (r, u) := by
  refine m_enterI (by decide) rfl (lv := [(0, .ref t0), (1, .int a1)]) rfl ?_
  intro p e s m args below meth c H locs ls Q X hret hP hl
  have hx := X.1.1
  have hb := X.1.2.1
  have hown := X.1.2.2.2.1
  have hts := X.1.2.2.2.2
  unfold pl20_X17_speaks at h
  refine lv_aload_n hx hb dX17_speaks_0 rfl (lv_at hl 0 rfl) ?_
  obtain ⟨v_2, e_1, h⟩ := bo_ex h
  refine r_pgr (r := (some t0)) X hP lk_20 1 (Nat.le_of_ble_eq_true rfl) e_1 q1182 dX17_speaks_1 ?_
  have hz_3 := ez_eq h
  have h := ez_k h
  rw [rr_known hz_3]
  refine lv_bipush (v := (10 : Int32)) hx hb dX17_speaks_4 (by decide) ?_
  obtain ⟨σ_5, e_4, h⟩ := bo_ex h
  refine r_callv (r_runVN (rest := []) X hP 0 cp_c0 lk_0 (mt_X0_ran l G σ (10 : Int32) e_4) ⟨va_cnB 1 hts (lw_meth q1292) rfl rfl rfl (X.2.2.1 _ q1289 rfl) (hts _ q110) cdX0_ran ⟨Nat.le_of_ble_eq_true rfl, Nat.le_of_ble_eq_true rfl⟩, hts _ q1291, hts _ qs48⟩ rfl hl.1 rfl (Nat.le_of_ble_eq_true rfl) dX17_speaks_6 ⟨Nat.le_refl _, Nat.le_refl _⟩) hP (fun H locs hP => ?_)
  refine lv_aload_n hx hb dX17_speaks_9 rfl (lv_at hl 0 rfl) ?_
  refine lv_iload_n hx hb dX17_speaks_10 rfl (lv_at hl 1 rfl) ?_
  obtain ⟨a_6, e_7, h⟩ := bo_ex h
  obtain ⟨r_9, σ_10, e_8, h⟩ := bo2_ex h
  refine r_calli (r_runUP (rest := []) X hP (pis_self e_7) lk_20 (mt_X17_knows__20 l G σ_5 t0 a1 e_8) (va_cwO (owner := "SpeaksInTurn$Plain") (x := ⟨"SpeaksInTurn$Plain", "knows", "(I)I"⟩) 1 hts (lw_O q1375 q2280 q1286 q2286 q1286 q141 q1288) rfl rfl rfl q1288 cdX17_knows ⟨Nat.le_of_ble_eq_true rfl, Nat.le_of_ble_eq_true rfl⟩) rfl hl.1 rfl (Nat.le_of_ble_eq_true rfl) dX17_speaks_11 ⟨Nat.le_refl _, Nat.le_refl _⟩) hP (fun H locs hP => ?_)
  refine lv_iconst (v := (2 : Int32)) hx hb dX17_speaks_14 (by decide) ?_
  refine lv_imul hx hb dX17_speaks_15 ?_
  exact hret _ _ _ _ _ _ dX17_speaks_16 rfl (Option.some.inj h) hP
def pl20_X17_tells (x0 : Nat) (σ : ST) (t0 : Nat) (a1 : Int32) : Option (Int32 × ST) :=
  bo (pgr σ (some t0) 20 1) (fun (v_2 : Option Nat) => ez v_2 x0 (bo (cp_ran σ (2 : Int32)) (fun (σ_5 : ST) => bo (pis σ_5 (some t0) 20) (fun (_ : Nat) => bo2 (pl20_X17_speaks x0 σ_5 t0 a1) (fun (r_9 : Int32) (σ_10 : ST) => bo (pis σ_10 (some t0) 20) (fun (_ : Nat) => bo2 (pl20_X17_stops x0 σ_10 t0 (1 : Int32)) (fun (r_14 : Int32) (σ_15 : ST) => some ((r_9 - r_14), σ_15))))))))
abbrev rm_X17_tells__20 : Room := rmf 3 63
set_option maxHeartbeats 4000000 in
set_option maxRecDepth 100000 in
theorem mt_X17_tells__20 (l : Launch) (G : GT) (σ : ST) (t0 : Nat) (a1 : Int32) {r : Int32} {u : ST} (h : pl20_X17_tells (G.2.2.1 0) σ t0 a1 = some (r, u)) : CI l cp_ft G yX17_tells (ws_ yX17_tells cX17_tells 3 (some .int)) rm_X17_tells__20 0 0 [.ref t0, .int a1] σ (r, u) := by
  refine m_enterI (by decide) rfl (lv := [(0, .ref t0), (1, .int a1)]) rfl ?_
  intro p e s m args below meth c H locs ls Q X hret hP hl
  have hx := X.1.1
  have hb := X.1.2.1
  have hown := X.1.2.2.2.1
  have hts := X.1.2.2.2.2
  unfold pl20_X17_tells at h
  refine lv_aload_n hx hb dX17_tells_0 rfl (lv_at hl 0 rfl) ?_
  obtain ⟨v_2, e_1, h⟩ := bo_ex h
  refine r_pgr (r := (some t0)) X hP lk_20 1 (Nat.le_of_ble_eq_true rfl) e_1 q1182 dX17_tells_1 ?_
  have hz_3 := ez_eq h
  have h := ez_k h
  rw [rr_known hz_3]
  refine lv_iconst (v := (2 : Int32)) hx hb dX17_tells_4 (by decide) ?_
  obtain ⟨σ_5, e_4, h⟩ := bo_ex h
  refine r_callv (r_runVN (rest := []) X hP 0 cp_c0 lk_0 (mt_X0_ran l G σ (2 : Int32) e_4) ⟨va_cnB 1 hts (lw_meth q1292) rfl rfl rfl (X.2.2.1 _ q1289 rfl) (hts _ q110) cdX0_ran ⟨Nat.le_of_ble_eq_true rfl, Nat.le_of_ble_eq_true rfl⟩, hts _ q1291, hts _ qs48⟩ rfl hl.1 rfl (Nat.le_of_ble_eq_true rfl) dX17_tells_5 ⟨Nat.le_refl _, Nat.le_refl _⟩) hP (fun H locs hP => ?_)
  refine lv_aload_n hx hb dX17_tells_8 rfl (lv_at hl 0 rfl) ?_
  refine lv_iload_n hx hb dX17_tells_9 rfl (lv_at hl 1 rfl) ?_
  obtain ⟨a_6, e_7, h⟩ := bo_ex h
  obtain ⟨r_9, σ_10, e_8, h⟩ := bo2_ex h
  refine r_calli (r_runUP (rest := []) X hP (pis_self e_7) lk_20 (mt_X17_speaks__20 l G σ_5 t0 a1 e_8) (va_cwO (owner := "SpeaksInTurn$Plain") (x := ⟨"SpeaksInTurn$Plain", "speaks", "(I)I"⟩) 1 hts (lw_O q1334 q1337 q1335 q1336 q1335 q141 q1374) rfl rfl rfl q1374 cdX17_speaks ⟨Nat.le_of_ble_eq_true rfl, Nat.le_of_ble_eq_true rfl⟩) rfl hl.1 rfl (Nat.le_of_ble_eq_true rfl) dX17_tells_10 ⟨Nat.le_refl _, Nat.le_refl _⟩) hP (fun H locs hP => ?_)
  refine lv_istore_n (lv' := [(2, .int r_9), (0, .ref t0), (1, .int a1)]) hx hb dX17_tells_13 rfl hl (by decide) rfl (fun ls hl => ?_)
  refine lv_iload_n hx hb dX17_tells_14 rfl (lv_at hl 0 rfl) ?_
  refine lv_aload_n hx hb dX17_tells_15 rfl (lv_at hl 1 rfl) ?_
  refine lv_iconst (v := (1 : Int32)) hx hb dX17_tells_16 (by decide) ?_
  obtain ⟨a_11, e_12, h⟩ := bo_ex h
  obtain ⟨r_14, σ_15, e_13, h⟩ := bo2_ex h
  refine r_calli (r_runUP (rest := [.int r_9]) X hP (pis_self e_12) lk_20 (mt_X17_stops__20 l G σ_10 t0 (1 : Int32) e_13) (va_cwO (owner := "SpeaksInTurn$Plain") (x := ⟨"SpeaksInTurn$Plain", "stops", "(I)I"⟩) 1 hts (lw_O q1376 q2282 q1367 q2294 q1367 q141 q1368) rfl rfl rfl q1368 cdX17_stops ⟨Nat.le_of_ble_eq_true rfl, Nat.le_of_ble_eq_true rfl⟩) rfl hl.1 rfl (Nat.le_of_ble_eq_true rfl) dX17_tells_17 ⟨Nat.le_refl _, Nat.le_refl _⟩) hP (fun H locs hP => ?_)
  refine lv_isub hx hb dX17_tells_20 ?_
  exact hret _ _ _ _ _ _ dX17_tells_21 rfl (Option.some.inj h) hP
def pl21_X17_init (x0 : Nat) (σ : ST) (t0 : Nat) (a2 : Int32) : Option ST :=
  bo (ppv σ (some t0) 21 1 (va_rf (some x0))) (fun (σ_2 : ST) => bo (he_init σ_2 t0) (fun (_ : Unit) => bo (ppv σ_2 (some t0) 21 0 (.int a2)) (fun (σ_5 : ST) => some σ_5)))
abbrev rm_X17_init__21 : Room := rmf 2 32
set_option maxHeartbeats 4000000 in
set_option maxRecDepth 100000 in
theorem mt_X17_init__21 (l : Launch) (G : GT) (σ : ST) (t0 : Nat) (a2 : Int32) {u : ST} (h : pl21_X17_init (G.2.2.1 0) σ t0 a2 = some u) : CV l cp_ft G yX17_init (ws_ yX17_init cX17_init 3 none) rm_X17_init__21 0 0 [.ref t0, .ref (G.2.2.1 0), .int a2] σ u := by
  refine m_enterV (by decide) rfl (lv := [(0, .ref t0), (1, .ref (G.2.2.1 0)), (2, .int a2)]) rfl ?_
  intro p e s m args below meth c H locs ls Q X hnm hret hP hl
  have hx := X.1.1
  have hb := X.1.2.1
  have hown := X.1.2.2.2.1
  have hts := X.1.2.2.2.2
  unfold pl21_X17_init at h
  refine lv_aload_n hx hb dX17_init_0 rfl (lv_at hl 0 rfl) ?_
  refine lv_aload_n hx hb dX17_init_1 rfl (lv_at hl 1 rfl) ?_
  obtain ⟨σ_2, e_1, h⟩ := bo_ex h
  refine r_ppvF (r := (some t0)) X hP lk_21 1 (Nat.le_of_ble_eq_true rfl) e_1 q1182 rfl hnm rfl (tyX18_ok 1 (by decide)) (rr_nar _ (some (G.2.2.1 0))) (rr_fit _ (some (G.2.2.1 0))) dX17_init_2 (fun H locs hP => ?_)
  refine lv_aload_n hx hb dX17_init_5 rfl (lv_at hl 0 rfl) ?_
  obtain ⟨_, e_3, h⟩ := bo_ex h
  refine r_callv (r_runIN (rest := []) X hP (mt_X16_init l G σ_2 t0 e_3) ⟨va_cnB 0 hts (lw_meth q1178) rfl rfl rfl (X.2.2.1 _ q1176 rfl) (hts _ q140) cdX16_init ⟨Nat.le_of_ble_eq_true rfl, Nat.le_of_ble_eq_true rfl⟩, rfl, hts _ q1177⟩ rfl hl.1 rfl (Nat.le_of_ble_eq_true rfl) dX17_init_6 ⟨Nat.le_refl _, Nat.le_refl _⟩) hP (fun H locs hP => ?_)
  refine lv_aload_n hx hb dX17_init_9 rfl (lv_at hl 0 rfl) ?_
  refine lv_iload_n hx hb dX17_init_10 rfl (lv_at hl 2 rfl) ?_
  obtain ⟨σ_5, e_4, h⟩ := bo_ex h
  refine r_ppvF (r := (some t0)) X hP lk_21 0 (Nat.le_of_ble_eq_true rfl) e_4 q1181 rfl hnm rfl (tyX18_ok 0 (by decide)) rfl rfl dX17_init_11 (fun H locs hP => ?_)
  exact hret _ _ _ _ _ dX17_init_14 (Option.some.inj h) hP
def pl21_X18_init (x0 : Nat) (σ : ST) (t0 : Nat) (a2 : Int32) : Option ST :=
  bo (ppv σ (some t0) 21 2 (va_rf (some x0))) (fun (σ_2 : ST) => bo (pl21_X17_init x0 σ_2 t0 a2) (fun (σ_4 : ST) => some σ_4))
abbrev rm_X18_init__21 : Room := rmf 3 54
set_option maxHeartbeats 4000000 in
set_option maxRecDepth 100000 in
theorem mt_X18_init__21 (l : Launch) (G : GT) (σ : ST) (t0 : Nat) (a2 : Int32) {u : ST} (h : pl21_X18_init (G.2.2.1 0) σ t0 a2 = some u) : CV l cp_ft G yX18_init (ws_ yX18_init cX18_init 3 none) rm_X18_init__21 0 0 [.ref t0, .ref (G.2.2.1 0), .int a2] σ u := by
  refine m_enterV (by decide) rfl (lv := [(0, .ref t0), (1, .ref (G.2.2.1 0)), (2, .int a2)]) rfl ?_
  intro p e s m args below meth c H locs ls Q X hnm hret hP hl
  have hx := X.1.1
  have hb := X.1.2.1
  have hown := X.1.2.2.2.1
  have hts := X.1.2.2.2.2
  unfold pl21_X18_init at h
  refine lv_aload_n hx hb dX18_init_0 rfl (lv_at hl 0 rfl) ?_
  refine lv_aload_n hx hb dX18_init_1 rfl (lv_at hl 1 rfl) ?_
  obtain ⟨σ_2, e_1, h⟩ := bo_ex h
  refine r_ppvF (r := (some t0)) X hP lk_21 2 (Nat.le_of_ble_eq_true rfl) e_1 q1180 rfl hnm rfl (tyX18_ok 2 (by decide)) (rr_nar _ (some (G.2.2.1 0))) (rr_fit _ (some (G.2.2.1 0))) dX18_init_2 (fun H locs hP => ?_)
  refine lv_aload_n hx hb dX18_init_5 rfl (lv_at hl 0 rfl) ?_
  refine lv_aload_n hx hb dX18_init_6 rfl (lv_at hl 1 rfl) ?_
  refine lv_iload_n hx hb dX18_init_7 rfl (lv_at hl 2 rfl) ?_
  obtain ⟨σ_4, e_3, h⟩ := bo_ex h
  refine r_callv (r_runI (rest := []) X hP (mt_X17_init__21 l G σ_2 t0 a2 e_3) (cwI 2 hts (lw_meth q1175) rfl rfl rfl (hts _ q141) (hts _ q1173) (hts _ q1174) rfl cdX17_init ⟨Nat.le_of_ble_eq_true rfl, Nat.le_of_ble_eq_true rfl⟩) rfl hl.1 rfl (Nat.le_of_ble_eq_true rfl) dX18_init_8 ⟨Nat.le_refl _, Nat.le_refl _⟩) hP (fun H locs hP => ?_)
  exact hret _ _ _ _ _ dX18_init_11 (Option.some.inj h) hP
def pl21_X18_kind (σ : ST) (t0 : Nat) : Option Int32 :=
  some (1 : Int32)
abbrev rm_X18_kind__21 : Room := rmf 0 0
set_option maxHeartbeats 4000000 in
set_option maxRecDepth 100000 in
theorem mt_X18_kind__21 (l : Launch) (G : GT) (σ : ST) (t0 : Nat) {r : Int32} (h : pl21_X18_kind σ t0 = some r) : CI l cp_ft G yX18_kind (ws_ yX18_kind cX18_kind 1 (some .int)) rm_X18_kind__21 0 0 [.ref t0] σ (r, σ) := by
  refine m_enterI (by decide) rfl (lv := [(0, .ref t0)]) rfl ?_
  intro p e s m args below meth c H locs ls Q X hret hP hl
  have hx := X.1.1
  have hb := X.1.2.1
  have hown := X.1.2.2.2.1
  have hts := X.1.2.2.2.2
  unfold pl21_X18_kind at h
  refine lv_iconst (v := (1 : Int32)) hx hb dX18_kind_0 (by decide) ?_
  exact hret _ _ _ _ _ _ dX18_kind_1 rfl (congrArg (fun z9 => (z9, σ)) (Option.some.inj h)) hP
def pl21_X17_isUnder (σ : ST) (t0 : Nat) (a1 : Int32) : Option Int32 :=
  (if a1 = 0 then some (1 : Int32) else bo (pis σ (some t0) 21) (fun (_ : Nat) => bo (pl21_X18_kind σ t0) (fun (r_5 : Int32) => (if a1 = r_5 then some (1 : Int32) else some (0 : Int32)))))
abbrev rm_X17_isUnder__21 : Room := rmf 1 20
set_option maxHeartbeats 4000000 in
set_option maxRecDepth 100000 in
theorem mt_X17_isUnder__21 (l : Launch) (G : GT) (σ : ST) (t0 : Nat) (a1 : Int32) {r : Int32} (h : pl21_X17_isUnder σ t0 a1 = some r) : CI l cp_ft G yX17_isUnder (ws_ yX17_isUnder cX17_isUnder 2 (some .boolean)) rm_X17_isUnder__21 0 0 [.ref t0, .int a1] σ (r, σ) := by
  refine m_enterI (by decide) rfl (lv := [(0, .ref t0), (1, .int a1)]) rfl ?_
  intro p e s m args below meth c H locs ls Q X hret hP hl
  have hx := X.1.1
  have hb := X.1.2.1
  have hown := X.1.2.2.2.1
  have hts := X.1.2.2.2.2
  unfold pl21_X17_isUnder at h
  refine lv_iload_n hx hb dX17_isUnder_0 rfl (lv_at hl 1 rfl) ?_
  refine lv_if_eq (tgt := 12) hx hb dX17_isUnder_1 (by decide) (fun c_1 => ?_) (fun c_1 => ?_)
  · have h := it_t h c_1
    refine lv_iconst (v := (1 : Int32)) hx hb dX17_isUnder_12 (by decide) ?_
    refine lv_goto (tgt := 17) hx hb dX17_isUnder_13 (by decide) ?_
    exact hret _ _ _ _ _ _ dX17_isUnder_17 rfl (congrArg (fun z9 => (z9, σ)) (Option.some.inj h)) hP
  · have h := it_f h c_1
    refine lv_iload_n hx hb dX17_isUnder_4 rfl (lv_at hl 1 rfl) ?_
    refine lv_aload_n hx hb dX17_isUnder_5 rfl (lv_at hl 0 rfl) ?_
    obtain ⟨a_2, e_3, h⟩ := bo_ex h
    obtain ⟨r_5, e_4, h⟩ := bo_ex h
    refine r_calli (r_runUP (rest := [.int a1]) X hP (pis_self e_3) lk_21 (mt_X18_kind__21 l G σ t0 e_4) (va_cwO (owner := "SpeaksInTurn$Plain") (x := ⟨"SpeaksInTurn$Plain", "kind", "()I"⟩) 0 hts (lw_O q1601 q1604 q1602 q1611 q1612 q142 q1613) rfl rfl rfl q1626 cdX17_kind ⟨Nat.le_of_ble_eq_true rfl, Nat.le_of_ble_eq_true rfl⟩) rfl hl.1 rfl (Nat.le_of_ble_eq_true rfl) dX17_isUnder_6 ⟨Nat.le_refl _, Nat.le_refl _⟩) hP (fun H locs hP => ?_)
    refine lv_icmp_ne (tgt := 16) hx hb dX17_isUnder_9 (by decide) (fun c_6 => ?_) (fun c_6 => ?_)
    · have h := it_f h c_6
      refine lv_iconst (v := (0 : Int32)) hx hb dX17_isUnder_16 (by decide) ?_
      exact hret _ _ _ _ _ _ dX17_isUnder_17 rfl (congrArg (fun z9 => (z9, σ)) (Option.some.inj h)) hP
    · have h := it_t h c_6
      refine lv_iconst (v := (1 : Int32)) hx hb dX17_isUnder_12 (by decide) ?_
      refine lv_goto (tgt := 17) hx hb dX17_isUnder_13 (by decide) ?_
      exact hret _ _ _ _ _ _ dX17_isUnder_17 rfl (congrArg (fun z9 => (z9, σ)) (Option.some.inj h)) hP
def pl21_X17_knows (x0 : Nat) (σ : ST) (t0 : Nat) (a1 : Int32) : Option (Int32 × ST) :=
  bo (pgr σ (some t0) 21 1) (fun (v_2 : Option Nat) => ez v_2 x0 (bo (cp_ran σ (1 : Int32)) (fun (σ_5 : ST) => bo (pgi σ_5 (some t0) 21 0) (fun (v_7 : Int32) => some ((a1 + v_7), σ_5)))))
abbrev rm_X17_knows__21 : Room := rmf 1 21
set_option maxHeartbeats 4000000 in
set_option maxRecDepth 100000 in
theorem mt_X17_knows__21 (l : Launch) (G : GT) (σ : ST) (t0 : Nat) (a1 : Int32) {r : Int32} {u : ST} (h : pl21_X17_knows (G.2.2.1 0) σ t0 a1 = some (r, u)) : CI l cp_ft G yX17_knows (ws_ yX17_knows cX17_knows 2 (some .int)) rm_X17_knows__21 0 0 [.ref t0, .int a1] σ (r, u) := by
  refine m_enterI (by decide) rfl (lv := [(0, .ref t0), (1, .int a1)]) rfl ?_
  intro p e s m args below meth c H locs ls Q X hret hP hl
  have hx := X.1.1
  have hb := X.1.2.1
  have hown := X.1.2.2.2.1
  have hts := X.1.2.2.2.2
  unfold pl21_X17_knows at h
  refine lv_aload_n hx hb dX17_knows_0 rfl (lv_at hl 0 rfl) ?_
  obtain ⟨v_2, e_1, h⟩ := bo_ex h
  refine r_pgr (r := (some t0)) X hP lk_21 1 (Nat.le_of_ble_eq_true rfl) e_1 q1182 dX17_knows_1 ?_
  have hz_3 := ez_eq h
  have h := ez_k h
  rw [rr_known hz_3]
  refine lv_iconst (v := (1 : Int32)) hx hb dX17_knows_4 (by decide) ?_
  obtain ⟨σ_5, e_4, h⟩ := bo_ex h
  refine r_callv (r_runVN (rest := []) X hP 0 cp_c0 lk_0 (mt_X0_ran l G σ (1 : Int32) e_4) ⟨va_cnB 1 hts (lw_meth q1292) rfl rfl rfl (X.2.2.1 _ q1289 rfl) (hts _ q110) cdX0_ran ⟨Nat.le_of_ble_eq_true rfl, Nat.le_of_ble_eq_true rfl⟩, hts _ q1291, hts _ qs48⟩ rfl hl.1 rfl (Nat.le_of_ble_eq_true rfl) dX17_knows_5 ⟨Nat.le_refl _, Nat.le_refl _⟩) hP (fun H locs hP => ?_)
  refine lv_iload_n hx hb dX17_knows_8 rfl (lv_at hl 1 rfl) ?_
  refine lv_aload_n hx hb dX17_knows_9 rfl (lv_at hl 0 rfl) ?_
  obtain ⟨v_7, e_6, h⟩ := bo_ex h
  refine r_pgi (r := (some t0)) X hP lk_21 0 (Nat.le_of_ble_eq_true rfl) e_6 q1181 dX17_knows_10 ?_
  refine lv_iadd hx hb dX17_knows_13 ?_
  exact hret _ _ _ _ _ _ dX17_knows_14 rfl (Option.some.inj h) hP
def pl21_X18_knows (x0 : Nat) (σ : ST) (t0 : Nat) (a1 : Int32) : Option (Int32 × ST) :=
  bo (pgr σ (some t0) 21 2) (fun (v_2 : Option Nat) => ez v_2 x0 (bo (cp_ran σ (20 : Int32)) (fun (σ_5 : ST) => bo (pis σ_5 (some t0) 21) (fun (_ : Nat) => bo2 (pl21_X17_knows x0 σ_5 t0 a1) (fun (r_9 : Int32) (σ_10 : ST) => some ((r_9 + (3 : Int32)), σ_10))))))
abbrev rm_X18_knows__21 : Room := rmf 2 42
set_option maxHeartbeats 4000000 in
set_option maxRecDepth 100000 in
theorem mt_X18_knows__21 (l : Launch) (G : GT) (σ : ST) (t0 : Nat) (a1 : Int32) {r : Int32} {u : ST} (h : pl21_X18_knows (G.2.2.1 0) σ t0 a1 = some (r, u)) : CI l cp_ft G yX18_knows (ws_ yX18_knows cX18_knows 2 (some .int)) rm_X18_knows__21 0 0 [.ref t0, .int a1] σ (r, u) := by
  refine m_enterI (by decide) rfl (lv := [(0, .ref t0), (1, .int a1)]) rfl ?_
  intro p e s m args below meth c H locs ls Q X hret hP hl
  have hx := X.1.1
  have hb := X.1.2.1
  have hown := X.1.2.2.2.1
  have hts := X.1.2.2.2.2
  unfold pl21_X18_knows at h
  refine lv_aload_n hx hb dX18_knows_0 rfl (lv_at hl 0 rfl) ?_
  obtain ⟨v_2, e_1, h⟩ := bo_ex h
  refine r_pgr (r := (some t0)) X hP lk_21 2 (Nat.le_of_ble_eq_true rfl) e_1 q1180 dX18_knows_1 ?_
  have hz_3 := ez_eq h
  have h := ez_k h
  rw [rr_known hz_3]
  refine lv_bipush (v := (20 : Int32)) hx hb dX18_knows_4 (by decide) ?_
  obtain ⟨σ_5, e_4, h⟩ := bo_ex h
  refine r_callv (r_runVN (rest := []) X hP 0 cp_c0 lk_0 (mt_X0_ran l G σ (20 : Int32) e_4) ⟨va_cnB 1 hts (lw_meth q1292) rfl rfl rfl (X.2.2.1 _ q1307 rfl) (hts _ q110) cdX0_ran ⟨Nat.le_of_ble_eq_true rfl, Nat.le_of_ble_eq_true rfl⟩, hts _ q1291, hts _ qs48⟩ rfl hl.1 rfl (Nat.le_of_ble_eq_true rfl) dX18_knows_6 ⟨Nat.le_refl _, Nat.le_refl _⟩) hP (fun H locs hP => ?_)
  refine lv_aload_n hx hb dX18_knows_9 rfl (lv_at hl 0 rfl) ?_
  refine lv_iload_n hx hb dX18_knows_10 rfl (lv_at hl 1 rfl) ?_
  obtain ⟨a_6, e_7, h⟩ := bo_ex h
  obtain ⟨r_9, σ_10, e_8, h⟩ := bo2_ex h
  refine r_calli (r_runSX (rest := []) (n := 1) (x := ⟨"SpeaksInTurn$Plain", "knows", "(I)I"⟩) X hP (pis_self e_7) lk_21 (mt_X17_knows__21 l G σ_5 t0 a1 e_8) rfl q1308 q2280 q1189 (Or.inl rfl) q1286 q141 q1288 (by decide) cdX17_knows.2.2 rfl rfl ⟨Nat.le_of_ble_eq_true rfl, Nat.le_of_ble_eq_true rfl⟩ rfl hl.1 rfl (Nat.le_of_ble_eq_true rfl) dX18_knows_11 ⟨Nat.le_refl _, Nat.le_refl _⟩) hP (fun H locs hP => ?_)
  refine lv_iconst (v := (3 : Int32)) hx hb dX18_knows_14 (by decide) ?_
  refine lv_iadd hx hb dX18_knows_15 ?_
  exact hret _ _ _ _ _ _ dX18_knows_16 rfl (Option.some.inj h) hP
def pl21_X17_stops (x0 : Nat) (σ : ST) (t0 : Nat) (a1 : Int32) : Option (Int32 × ST) :=
  bo (pgr σ (some t0) 21 1) (fun (v_2 : Option Nat) => ez v_2 x0 (bo (cp_ran σ (11 : Int32)) (fun (σ_5 : ST) => bo (pgi σ_5 (some t0) 21 0) (fun (v_7 : Int32) => some ((a1 ^^^ v_7), σ_5)))))
abbrev rm_X17_stops__21 : Room := rmf 1 21
set_option maxHeartbeats 4000000 in
set_option maxRecDepth 100000 in
theorem mt_X17_stops__21 (l : Launch) (G : GT) (σ : ST) (t0 : Nat) (a1 : Int32) {r : Int32} {u : ST} (h : pl21_X17_stops (G.2.2.1 0) σ t0 a1 = some (r, u)) : CI l cp_ft G yX17_stops (ws_ yX17_stops cX17_stops 2 (some .int)) rm_X17_stops__21 0 0 [.ref t0, .int a1] σ (r, u) := by
  refine m_enterI (by decide) rfl (lv := [(0, .ref t0), (1, .int a1)]) rfl ?_
  intro p e s m args below meth c H locs ls Q X hret hP hl
  have hx := X.1.1
  have hb := X.1.2.1
  have hown := X.1.2.2.2.1
  have hts := X.1.2.2.2.2
  unfold pl21_X17_stops at h
  refine lv_aload_n hx hb dX17_stops_0 rfl (lv_at hl 0 rfl) ?_
  obtain ⟨v_2, e_1, h⟩ := bo_ex h
  refine r_pgr (r := (some t0)) X hP lk_21 1 (Nat.le_of_ble_eq_true rfl) e_1 q1182 dX17_stops_1 ?_
  have hz_3 := ez_eq h
  have h := ez_k h
  rw [rr_known hz_3]
  refine lv_bipush (v := (11 : Int32)) hx hb dX17_stops_4 (by decide) ?_
  obtain ⟨σ_5, e_4, h⟩ := bo_ex h
  refine r_callv (r_runVN (rest := []) X hP 0 cp_c0 lk_0 (mt_X0_ran l G σ (11 : Int32) e_4) ⟨va_cnB 1 hts (lw_meth q1292) rfl rfl rfl (X.2.2.1 _ q1289 rfl) (hts _ q110) cdX0_ran ⟨Nat.le_of_ble_eq_true rfl, Nat.le_of_ble_eq_true rfl⟩, hts _ q1291, hts _ qs48⟩ rfl hl.1 rfl (Nat.le_of_ble_eq_true rfl) dX17_stops_6 ⟨Nat.le_refl _, Nat.le_refl _⟩) hP (fun H locs hP => ?_)
  refine lv_iload_n hx hb dX17_stops_9 rfl (lv_at hl 1 rfl) ?_
  refine lv_aload_n hx hb dX17_stops_10 rfl (lv_at hl 0 rfl) ?_
  obtain ⟨v_7, e_6, h⟩ := bo_ex h
  refine r_pgi (r := (some t0)) X hP lk_21 0 (Nat.le_of_ble_eq_true rfl) e_6 q1181 dX17_stops_11 ?_
  refine lv_ixor hx hb dX17_stops_14 ?_
  exact hret _ _ _ _ _ _ dX17_stops_15 rfl (Option.some.inj h) hP
def pl21_X17_speaks (x0 : Nat) (σ : ST) (t0 : Nat) (a1 : Int32) : Option (Int32 × ST) :=
  bo (pgr σ (some t0) 21 1) (fun (v_2 : Option Nat) => ez v_2 x0 (bo (cp_ran σ (10 : Int32)) (fun (σ_5 : ST) => bo (pis σ_5 (some t0) 21) (fun (_ : Nat) => bo2 (pl21_X18_knows x0 σ_5 t0 a1) (fun (r_9 : Int32) (σ_10 : ST) => some ((r_9 * (2 : Int32)), σ_10))))))
abbrev rm_X17_speaks__21 : Room := rmf 3 63
set_option maxHeartbeats 4000000 in
set_option maxRecDepth 100000 in
theorem mt_X17_speaks__21 (l : Launch) (G : GT) (σ : ST) (t0 : Nat) (a1 : Int32) {r : Int32} {u : ST} (h : pl21_X17_speaks (G.2.2.1 0) σ t0 a1 = some (r, u)) : CI l cp_ft G yX17_speaks (ws_ yX17_speaks cX17_speaks 2 (some .int)) rm_X17_speaks__21 0 0 [.ref t0, .int a1] σ (r, u) := by
  refine m_enterI (by decide) rfl (lv := [(0, .ref t0), (1, .int a1)]) rfl ?_
  intro p e s m args below meth c H locs ls Q X hret hP hl
  have hx := X.1.1
  have hb := X.1.2.1
  have hown := X.1.2.2.2.1
  have hts := X.1.2.2.2.2
  unfold pl21_X17_speaks at h
  refine lv_aload_n hx hb dX17_speaks_0 rfl (lv_at hl 0 rfl) ?_
  obtain ⟨v_2, e_1, h⟩ := bo_ex h
  refine r_pgr (r := (some t0)) X hP lk_21 1 (Nat.le_of_ble_eq_true rfl) e_1 q1182 dX17_speaks_1 ?_
  have hz_3 := ez_eq h
  have h := ez_k h
  rw [rr_known hz_3]
  refine lv_bipush (v := (10 : Int32)) hx hb dX17_speaks_4 (by decide) ?_
  obtain ⟨σ_5, e_4, h⟩ := bo_ex h
  refine r_callv (r_runVN (rest := []) X hP 0 cp_c0 lk_0 (mt_X0_ran l G σ (10 : Int32) e_4) ⟨va_cnB 1 hts (lw_meth q1292) rfl rfl rfl (X.2.2.1 _ q1289 rfl) (hts _ q110) cdX0_ran ⟨Nat.le_of_ble_eq_true rfl, Nat.le_of_ble_eq_true rfl⟩, hts _ q1291, hts _ qs48⟩ rfl hl.1 rfl (Nat.le_of_ble_eq_true rfl) dX17_speaks_6 ⟨Nat.le_refl _, Nat.le_refl _⟩) hP (fun H locs hP => ?_)
  refine lv_aload_n hx hb dX17_speaks_9 rfl (lv_at hl 0 rfl) ?_
  refine lv_iload_n hx hb dX17_speaks_10 rfl (lv_at hl 1 rfl) ?_
  obtain ⟨a_6, e_7, h⟩ := bo_ex h
  obtain ⟨r_9, σ_10, e_8, h⟩ := bo2_ex h
  refine r_calli (r_runUP (rest := []) X hP (pis_self e_7) lk_21 (mt_X18_knows__21 l G σ_5 t0 a1 e_8) (va_cwO (owner := "SpeaksInTurn$Plain") (x := ⟨"SpeaksInTurn$Plain", "knows", "(I)I"⟩) 1 hts (lw_O q1375 q2280 q1286 q2285 q1304 q142 q1306) rfl rfl rfl q1288 cdX17_knows ⟨Nat.le_of_ble_eq_true rfl, Nat.le_of_ble_eq_true rfl⟩) rfl hl.1 rfl (Nat.le_of_ble_eq_true rfl) dX17_speaks_11 ⟨Nat.le_refl _, Nat.le_refl _⟩) hP (fun H locs hP => ?_)
  refine lv_iconst (v := (2 : Int32)) hx hb dX17_speaks_14 (by decide) ?_
  refine lv_imul hx hb dX17_speaks_15 ?_
  exact hret _ _ _ _ _ _ dX17_speaks_16 rfl (Option.some.inj h) hP
def pl21_X17_tells (x0 : Nat) (σ : ST) (t0 : Nat) (a1 : Int32) : Option (Int32 × ST) :=
  bo (pgr σ (some t0) 21 1) (fun (v_2 : Option Nat) => ez v_2 x0 (bo (cp_ran σ (2 : Int32)) (fun (σ_5 : ST) => bo (pis σ_5 (some t0) 21) (fun (_ : Nat) => bo2 (pl21_X17_speaks x0 σ_5 t0 a1) (fun (r_9 : Int32) (σ_10 : ST) => bo (pis σ_10 (some t0) 21) (fun (_ : Nat) => bo2 (pl21_X17_stops x0 σ_10 t0 (1 : Int32)) (fun (r_14 : Int32) (σ_15 : ST) => some ((r_9 - r_14), σ_15))))))))
abbrev rm_X17_tells__21 : Room := rmf 4 84
set_option maxHeartbeats 4000000 in
set_option maxRecDepth 100000 in
theorem mt_X17_tells__21 (l : Launch) (G : GT) (σ : ST) (t0 : Nat) (a1 : Int32) {r : Int32} {u : ST} (h : pl21_X17_tells (G.2.2.1 0) σ t0 a1 = some (r, u)) : CI l cp_ft G yX17_tells (ws_ yX17_tells cX17_tells 3 (some .int)) rm_X17_tells__21 0 0 [.ref t0, .int a1] σ (r, u) := by
  refine m_enterI (by decide) rfl (lv := [(0, .ref t0), (1, .int a1)]) rfl ?_
  intro p e s m args below meth c H locs ls Q X hret hP hl
  have hx := X.1.1
  have hb := X.1.2.1
  have hown := X.1.2.2.2.1
  have hts := X.1.2.2.2.2
  unfold pl21_X17_tells at h
  refine lv_aload_n hx hb dX17_tells_0 rfl (lv_at hl 0 rfl) ?_
  obtain ⟨v_2, e_1, h⟩ := bo_ex h
  refine r_pgr (r := (some t0)) X hP lk_21 1 (Nat.le_of_ble_eq_true rfl) e_1 q1182 dX17_tells_1 ?_
  have hz_3 := ez_eq h
  have h := ez_k h
  rw [rr_known hz_3]
  refine lv_iconst (v := (2 : Int32)) hx hb dX17_tells_4 (by decide) ?_
  obtain ⟨σ_5, e_4, h⟩ := bo_ex h
  refine r_callv (r_runVN (rest := []) X hP 0 cp_c0 lk_0 (mt_X0_ran l G σ (2 : Int32) e_4) ⟨va_cnB 1 hts (lw_meth q1292) rfl rfl rfl (X.2.2.1 _ q1289 rfl) (hts _ q110) cdX0_ran ⟨Nat.le_of_ble_eq_true rfl, Nat.le_of_ble_eq_true rfl⟩, hts _ q1291, hts _ qs48⟩ rfl hl.1 rfl (Nat.le_of_ble_eq_true rfl) dX17_tells_5 ⟨Nat.le_refl _, Nat.le_refl _⟩) hP (fun H locs hP => ?_)
  refine lv_aload_n hx hb dX17_tells_8 rfl (lv_at hl 0 rfl) ?_
  refine lv_iload_n hx hb dX17_tells_9 rfl (lv_at hl 1 rfl) ?_
  obtain ⟨a_6, e_7, h⟩ := bo_ex h
  obtain ⟨r_9, σ_10, e_8, h⟩ := bo2_ex h
  refine r_calli (r_runUP (rest := []) X hP (pis_self e_7) lk_21 (mt_X17_speaks__21 l G σ_5 t0 a1 e_8) (va_cwO (owner := "SpeaksInTurn$Plain") (x := ⟨"SpeaksInTurn$Plain", "speaks", "(I)I"⟩) 1 hts (lw_O q1334 q1337 q1335 q1348 q1335 q141 q1374) rfl rfl rfl q1374 cdX17_speaks ⟨Nat.le_of_ble_eq_true rfl, Nat.le_of_ble_eq_true rfl⟩) rfl hl.1 rfl (Nat.le_of_ble_eq_true rfl) dX17_tells_10 ⟨Nat.le_refl _, Nat.le_refl _⟩) hP (fun H locs hP => ?_)
  refine lv_istore_n (lv' := [(2, .int r_9), (0, .ref t0), (1, .int a1)]) hx hb dX17_tells_13 rfl hl (by decide) rfl (fun ls hl => ?_)
  refine lv_iload_n hx hb dX17_tells_14 rfl (lv_at hl 0 rfl) ?_
  refine lv_aload_n hx hb dX17_tells_15 rfl (lv_at hl 1 rfl) ?_
  refine lv_iconst (v := (1 : Int32)) hx hb dX17_tells_16 (by decide) ?_
  obtain ⟨a_11, e_12, h⟩ := bo_ex h
  obtain ⟨r_14, σ_15, e_13, h⟩ := bo2_ex h
  refine r_calli (r_runUP (rest := [.int r_9]) X hP (pis_self e_12) lk_21 (mt_X17_stops__21 l G σ_10 t0 (1 : Int32) e_13) (va_cwO (owner := "SpeaksInTurn$Plain") (x := ⟨"SpeaksInTurn$Plain", "stops", "(I)I"⟩) 1 hts (lw_O q1376 q2282 q1367 q2293 q1367 q141 q1368) rfl rfl rfl q1368 cdX17_stops ⟨Nat.le_of_ble_eq_true rfl, Nat.le_of_ble_eq_true rfl⟩) rfl hl.1 rfl (Nat.le_of_ble_eq_true rfl) dX17_tells_17 ⟨Nat.le_refl _, Nat.le_refl _⟩) hP (fun H locs hP => ?_)
  refine lv_isub hx hb dX17_tells_20 ?_
  exact hret _ _ _ _ _ _ dX17_tells_21 rfl (Option.some.inj h) hP
def pl22_X17_init (x0 : Nat) (σ : ST) (t0 : Nat) (a2 : Int32) : Option ST :=
  bo (ppv σ (some t0) 22 1 (va_rf (some x0))) (fun (σ_2 : ST) => bo (he_init σ_2 t0) (fun (_ : Unit) => bo (ppv σ_2 (some t0) 22 0 (.int a2)) (fun (σ_5 : ST) => some σ_5)))
abbrev rm_X17_init__22 : Room := rmf 2 32
set_option maxHeartbeats 4000000 in
set_option maxRecDepth 100000 in
theorem mt_X17_init__22 (l : Launch) (G : GT) (σ : ST) (t0 : Nat) (a2 : Int32) {u : ST} (h : pl22_X17_init (G.2.2.1 0) σ t0 a2 = some u) : CV l cp_ft G yX17_init (ws_ yX17_init cX17_init 3 none) rm_X17_init__22 0 0 [.ref t0, .ref (G.2.2.1 0), .int a2] σ u := by
  refine m_enterV (by decide) rfl (lv := [(0, .ref t0), (1, .ref (G.2.2.1 0)), (2, .int a2)]) rfl ?_
  intro p e s m args below meth c H locs ls Q X hnm hret hP hl
  have hx := X.1.1
  have hb := X.1.2.1
  have hown := X.1.2.2.2.1
  have hts := X.1.2.2.2.2
  unfold pl22_X17_init at h
  refine lv_aload_n hx hb dX17_init_0 rfl (lv_at hl 0 rfl) ?_
  refine lv_aload_n hx hb dX17_init_1 rfl (lv_at hl 1 rfl) ?_
  obtain ⟨σ_2, e_1, h⟩ := bo_ex h
  refine r_ppvF (r := (some t0)) X hP lk_22 1 (Nat.le_of_ble_eq_true rfl) e_1 q1182 rfl hnm rfl (tyX19_ok 1 (by decide)) (rr_nar _ (some (G.2.2.1 0))) (rr_fit _ (some (G.2.2.1 0))) dX17_init_2 (fun H locs hP => ?_)
  refine lv_aload_n hx hb dX17_init_5 rfl (lv_at hl 0 rfl) ?_
  obtain ⟨_, e_3, h⟩ := bo_ex h
  refine r_callv (r_runIN (rest := []) X hP (mt_X16_init l G σ_2 t0 e_3) ⟨va_cnB 0 hts (lw_meth q1178) rfl rfl rfl (X.2.2.1 _ q1176 rfl) (hts _ q140) cdX16_init ⟨Nat.le_of_ble_eq_true rfl, Nat.le_of_ble_eq_true rfl⟩, rfl, hts _ q1177⟩ rfl hl.1 rfl (Nat.le_of_ble_eq_true rfl) dX17_init_6 ⟨Nat.le_refl _, Nat.le_refl _⟩) hP (fun H locs hP => ?_)
  refine lv_aload_n hx hb dX17_init_9 rfl (lv_at hl 0 rfl) ?_
  refine lv_iload_n hx hb dX17_init_10 rfl (lv_at hl 2 rfl) ?_
  obtain ⟨σ_5, e_4, h⟩ := bo_ex h
  refine r_ppvF (r := (some t0)) X hP lk_22 0 (Nat.le_of_ble_eq_true rfl) e_4 q1181 rfl hnm rfl (tyX19_ok 0 (by decide)) rfl rfl dX17_init_11 (fun H locs hP => ?_)
  exact hret _ _ _ _ _ dX17_init_14 (Option.some.inj h) hP
def pl22_X19_init (x0 : Nat) (σ : ST) (t0 : Nat) (a2 : Int32) : Option ST :=
  bo (ppv σ (some t0) 22 2 (va_rf (some x0))) (fun (σ_2 : ST) => bo (pl22_X17_init x0 σ_2 t0 a2) (fun (σ_4 : ST) => some σ_4))
abbrev rm_X19_init__22 : Room := rmf 3 54
set_option maxHeartbeats 4000000 in
set_option maxRecDepth 100000 in
theorem mt_X19_init__22 (l : Launch) (G : GT) (σ : ST) (t0 : Nat) (a2 : Int32) {u : ST} (h : pl22_X19_init (G.2.2.1 0) σ t0 a2 = some u) : CV l cp_ft G yX19_init (ws_ yX19_init cX19_init 3 none) rm_X19_init__22 0 0 [.ref t0, .ref (G.2.2.1 0), .int a2] σ u := by
  refine m_enterV (by decide) rfl (lv := [(0, .ref t0), (1, .ref (G.2.2.1 0)), (2, .int a2)]) rfl ?_
  intro p e s m args below meth c H locs ls Q X hnm hret hP hl
  have hx := X.1.1
  have hb := X.1.2.1
  have hown := X.1.2.2.2.1
  have hts := X.1.2.2.2.2
  unfold pl22_X19_init at h
  refine lv_aload_n hx hb dX19_init_0 rfl (lv_at hl 0 rfl) ?_
  refine lv_aload_n hx hb dX19_init_1 rfl (lv_at hl 1 rfl) ?_
  obtain ⟨σ_2, e_1, h⟩ := bo_ex h
  refine r_ppvF (r := (some t0)) X hP lk_22 2 (Nat.le_of_ble_eq_true rfl) e_1 q1196 rfl hnm rfl (tyX19_ok 2 (by decide)) (rr_nar _ (some (G.2.2.1 0))) (rr_fit _ (some (G.2.2.1 0))) dX19_init_2 (fun H locs hP => ?_)
  refine lv_aload_n hx hb dX19_init_5 rfl (lv_at hl 0 rfl) ?_
  refine lv_aload_n hx hb dX19_init_6 rfl (lv_at hl 1 rfl) ?_
  refine lv_iload_n hx hb dX19_init_7 rfl (lv_at hl 2 rfl) ?_
  obtain ⟨σ_4, e_3, h⟩ := bo_ex h
  refine r_callv (r_runI (rest := []) X hP (mt_X17_init__22 l G σ_2 t0 a2 e_3) (cwI 2 hts (lw_meth q1175) rfl rfl rfl (hts _ q141) (hts _ q1195) (hts _ q1174) rfl cdX17_init ⟨Nat.le_of_ble_eq_true rfl, Nat.le_of_ble_eq_true rfl⟩) rfl hl.1 rfl (Nat.le_of_ble_eq_true rfl) dX19_init_8 ⟨Nat.le_refl _, Nat.le_refl _⟩) hP (fun H locs hP => ?_)
  exact hret _ _ _ _ _ dX19_init_11 (Option.some.inj h) hP
def pl22_X19_kind (σ : ST) (t0 : Nat) : Option Int32 :=
  some (2 : Int32)
abbrev rm_X19_kind__22 : Room := rmf 0 0
set_option maxHeartbeats 4000000 in
set_option maxRecDepth 100000 in
theorem mt_X19_kind__22 (l : Launch) (G : GT) (σ : ST) (t0 : Nat) {r : Int32} (h : pl22_X19_kind σ t0 = some r) : CI l cp_ft G yX19_kind (ws_ yX19_kind cX19_kind 1 (some .int)) rm_X19_kind__22 0 0 [.ref t0] σ (r, σ) := by
  refine m_enterI (by decide) rfl (lv := [(0, .ref t0)]) rfl ?_
  intro p e s m args below meth c H locs ls Q X hret hP hl
  have hx := X.1.1
  have hb := X.1.2.1
  have hown := X.1.2.2.2.1
  have hts := X.1.2.2.2.2
  unfold pl22_X19_kind at h
  refine lv_iconst (v := (2 : Int32)) hx hb dX19_kind_0 (by decide) ?_
  exact hret _ _ _ _ _ _ dX19_kind_1 rfl (congrArg (fun z9 => (z9, σ)) (Option.some.inj h)) hP
def pl22_X17_isUnder (σ : ST) (t0 : Nat) (a1 : Int32) : Option Int32 :=
  (if a1 = 0 then some (1 : Int32) else bo (pis σ (some t0) 22) (fun (_ : Nat) => bo (pl22_X19_kind σ t0) (fun (r_5 : Int32) => (if a1 = r_5 then some (1 : Int32) else some (0 : Int32)))))
abbrev rm_X17_isUnder__22 : Room := rmf 1 20
set_option maxHeartbeats 4000000 in
set_option maxRecDepth 100000 in
theorem mt_X17_isUnder__22 (l : Launch) (G : GT) (σ : ST) (t0 : Nat) (a1 : Int32) {r : Int32} (h : pl22_X17_isUnder σ t0 a1 = some r) : CI l cp_ft G yX17_isUnder (ws_ yX17_isUnder cX17_isUnder 2 (some .boolean)) rm_X17_isUnder__22 0 0 [.ref t0, .int a1] σ (r, σ) := by
  refine m_enterI (by decide) rfl (lv := [(0, .ref t0), (1, .int a1)]) rfl ?_
  intro p e s m args below meth c H locs ls Q X hret hP hl
  have hx := X.1.1
  have hb := X.1.2.1
  have hown := X.1.2.2.2.1
  have hts := X.1.2.2.2.2
  unfold pl22_X17_isUnder at h
  refine lv_iload_n hx hb dX17_isUnder_0 rfl (lv_at hl 1 rfl) ?_
  refine lv_if_eq (tgt := 12) hx hb dX17_isUnder_1 (by decide) (fun c_1 => ?_) (fun c_1 => ?_)
  · have h := it_t h c_1
    refine lv_iconst (v := (1 : Int32)) hx hb dX17_isUnder_12 (by decide) ?_
    refine lv_goto (tgt := 17) hx hb dX17_isUnder_13 (by decide) ?_
    exact hret _ _ _ _ _ _ dX17_isUnder_17 rfl (congrArg (fun z9 => (z9, σ)) (Option.some.inj h)) hP
  · have h := it_f h c_1
    refine lv_iload_n hx hb dX17_isUnder_4 rfl (lv_at hl 1 rfl) ?_
    refine lv_aload_n hx hb dX17_isUnder_5 rfl (lv_at hl 0 rfl) ?_
    obtain ⟨a_2, e_3, h⟩ := bo_ex h
    obtain ⟨r_5, e_4, h⟩ := bo_ex h
    refine r_calli (r_runUP (rest := [.int a1]) X hP (pis_self e_3) lk_22 (mt_X19_kind__22 l G σ t0 e_4) (va_cwO (owner := "SpeaksInTurn$Plain") (x := ⟨"SpeaksInTurn$Plain", "kind", "()I"⟩) 0 hts (lw_O q1601 q1604 q1602 q1614 q1615 q143 q1616) rfl rfl rfl q1626 cdX17_kind ⟨Nat.le_of_ble_eq_true rfl, Nat.le_of_ble_eq_true rfl⟩) rfl hl.1 rfl (Nat.le_of_ble_eq_true rfl) dX17_isUnder_6 ⟨Nat.le_refl _, Nat.le_refl _⟩) hP (fun H locs hP => ?_)
    refine lv_icmp_ne (tgt := 16) hx hb dX17_isUnder_9 (by decide) (fun c_6 => ?_) (fun c_6 => ?_)
    · have h := it_f h c_6
      refine lv_iconst (v := (0 : Int32)) hx hb dX17_isUnder_16 (by decide) ?_
      exact hret _ _ _ _ _ _ dX17_isUnder_17 rfl (congrArg (fun z9 => (z9, σ)) (Option.some.inj h)) hP
    · have h := it_t h c_6
      refine lv_iconst (v := (1 : Int32)) hx hb dX17_isUnder_12 (by decide) ?_
      refine lv_goto (tgt := 17) hx hb dX17_isUnder_13 (by decide) ?_
      exact hret _ _ _ _ _ _ dX17_isUnder_17 rfl (congrArg (fun z9 => (z9, σ)) (Option.some.inj h)) hP
def pl22_X19_isUnder (σ : ST) (t0 : Nat) (a1 : Int32) : Option Int32 :=
  (if a1 = (2 : Int32) then some (1 : Int32) else bo (pis σ (some t0) 22) (fun (_ : Nat) => bo (pl22_X17_isUnder σ t0 a1) (fun (r_5 : Int32) => (if r_5 = 0 then some (0 : Int32) else some (1 : Int32)))))
abbrev rm_X19_isUnder__22 : Room := rmf 2 41
set_option maxHeartbeats 4000000 in
set_option maxRecDepth 100000 in
theorem mt_X19_isUnder__22 (l : Launch) (G : GT) (σ : ST) (t0 : Nat) (a1 : Int32) {r : Int32} (h : pl22_X19_isUnder σ t0 a1 = some r) : CI l cp_ft G yX19_isUnder (ws_ yX19_isUnder cX19_isUnder 2 (some .boolean)) rm_X19_isUnder__22 0 0 [.ref t0, .int a1] σ (r, σ) := by
  refine m_enterI (by decide) rfl (lv := [(0, .ref t0), (1, .int a1)]) rfl ?_
  intro p e s m args below meth c H locs ls Q X hret hP hl
  have hx := X.1.1
  have hb := X.1.2.1
  have hown := X.1.2.2.2.1
  have hts := X.1.2.2.2.2
  unfold pl22_X19_isUnder at h
  refine lv_iload_n hx hb dX19_isUnder_0 rfl (lv_at hl 1 rfl) ?_
  refine lv_iconst (v := (2 : Int32)) hx hb dX19_isUnder_1 (by decide) ?_
  refine lv_icmp_eq (tgt := 13) hx hb dX19_isUnder_2 (by decide) (fun c_1 => ?_) (fun c_1 => ?_)
  · have h := it_t h c_1
    refine lv_iconst (v := (1 : Int32)) hx hb dX19_isUnder_13 (by decide) ?_
    refine lv_goto (tgt := 18) hx hb dX19_isUnder_14 (by decide) ?_
    exact hret _ _ _ _ _ _ dX19_isUnder_18 rfl (congrArg (fun z9 => (z9, σ)) (Option.some.inj h)) hP
  · have h := it_f h c_1
    refine lv_aload_n hx hb dX19_isUnder_5 rfl (lv_at hl 0 rfl) ?_
    refine lv_iload_n hx hb dX19_isUnder_6 rfl (lv_at hl 1 rfl) ?_
    obtain ⟨a_2, e_3, h⟩ := bo_ex h
    obtain ⟨r_5, e_4, h⟩ := bo_ex h
    refine r_calli (r_runSX (rest := []) (n := 1) (x := ⟨"SpeaksInTurn$Plain", "isUnder", "(I)Z"⟩) X hP (pis_self e_3) lk_22 (mt_X17_isUnder__22 l G σ t0 a1 e_4) rfl q1590 q1583 q1201 (Or.inl rfl) q1581 q141 q1600 (by decide) cdX17_isUnder.2.2 rfl rfl ⟨Nat.le_of_ble_eq_true rfl, Nat.le_of_ble_eq_true rfl⟩ rfl hl.1 rfl (Nat.le_of_ble_eq_true rfl) dX19_isUnder_7 ⟨Nat.le_refl _, Nat.le_refl _⟩) hP (fun H locs hP => ?_)
    refine lv_if_eq (tgt := 17) hx hb dX19_isUnder_10 (by decide) (fun c_6 => ?_) (fun c_6 => ?_)
    · have h := it_t h c_6
      refine lv_iconst (v := (0 : Int32)) hx hb dX19_isUnder_17 (by decide) ?_
      exact hret _ _ _ _ _ _ dX19_isUnder_18 rfl (congrArg (fun z9 => (z9, σ)) (Option.some.inj h)) hP
    · have h := it_f h c_6
      refine lv_iconst (v := (1 : Int32)) hx hb dX19_isUnder_13 (by decide) ?_
      refine lv_goto (tgt := 18) hx hb dX19_isUnder_14 (by decide) ?_
      exact hret _ _ _ _ _ _ dX19_isUnder_18 rfl (congrArg (fun z9 => (z9, σ)) (Option.some.inj h)) hP
def pl22_X17_knows (x0 : Nat) (σ : ST) (t0 : Nat) (a1 : Int32) : Option (Int32 × ST) :=
  bo (pgr σ (some t0) 22 1) (fun (v_2 : Option Nat) => ez v_2 x0 (bo (cp_ran σ (1 : Int32)) (fun (σ_5 : ST) => bo (pgi σ_5 (some t0) 22 0) (fun (v_7 : Int32) => some ((a1 + v_7), σ_5)))))
abbrev rm_X17_knows__22 : Room := rmf 1 21
set_option maxHeartbeats 4000000 in
set_option maxRecDepth 100000 in
theorem mt_X17_knows__22 (l : Launch) (G : GT) (σ : ST) (t0 : Nat) (a1 : Int32) {r : Int32} {u : ST} (h : pl22_X17_knows (G.2.2.1 0) σ t0 a1 = some (r, u)) : CI l cp_ft G yX17_knows (ws_ yX17_knows cX17_knows 2 (some .int)) rm_X17_knows__22 0 0 [.ref t0, .int a1] σ (r, u) := by
  refine m_enterI (by decide) rfl (lv := [(0, .ref t0), (1, .int a1)]) rfl ?_
  intro p e s m args below meth c H locs ls Q X hret hP hl
  have hx := X.1.1
  have hb := X.1.2.1
  have hown := X.1.2.2.2.1
  have hts := X.1.2.2.2.2
  unfold pl22_X17_knows at h
  refine lv_aload_n hx hb dX17_knows_0 rfl (lv_at hl 0 rfl) ?_
  obtain ⟨v_2, e_1, h⟩ := bo_ex h
  refine r_pgr (r := (some t0)) X hP lk_22 1 (Nat.le_of_ble_eq_true rfl) e_1 q1182 dX17_knows_1 ?_
  have hz_3 := ez_eq h
  have h := ez_k h
  rw [rr_known hz_3]
  refine lv_iconst (v := (1 : Int32)) hx hb dX17_knows_4 (by decide) ?_
  obtain ⟨σ_5, e_4, h⟩ := bo_ex h
  refine r_callv (r_runVN (rest := []) X hP 0 cp_c0 lk_0 (mt_X0_ran l G σ (1 : Int32) e_4) ⟨va_cnB 1 hts (lw_meth q1292) rfl rfl rfl (X.2.2.1 _ q1289 rfl) (hts _ q110) cdX0_ran ⟨Nat.le_of_ble_eq_true rfl, Nat.le_of_ble_eq_true rfl⟩, hts _ q1291, hts _ qs48⟩ rfl hl.1 rfl (Nat.le_of_ble_eq_true rfl) dX17_knows_5 ⟨Nat.le_refl _, Nat.le_refl _⟩) hP (fun H locs hP => ?_)
  refine lv_iload_n hx hb dX17_knows_8 rfl (lv_at hl 1 rfl) ?_
  refine lv_aload_n hx hb dX17_knows_9 rfl (lv_at hl 0 rfl) ?_
  obtain ⟨v_7, e_6, h⟩ := bo_ex h
  refine r_pgi (r := (some t0)) X hP lk_22 0 (Nat.le_of_ble_eq_true rfl) e_6 q1181 dX17_knows_10 ?_
  refine lv_iadd hx hb dX17_knows_13 ?_
  exact hret _ _ _ _ _ _ dX17_knows_14 rfl (Option.some.inj h) hP
def pl22_X17_stops (x0 : Nat) (σ : ST) (t0 : Nat) (a1 : Int32) : Option (Int32 × ST) :=
  bo (pgr σ (some t0) 22 1) (fun (v_2 : Option Nat) => ez v_2 x0 (bo (cp_ran σ (11 : Int32)) (fun (σ_5 : ST) => bo (pgi σ_5 (some t0) 22 0) (fun (v_7 : Int32) => some ((a1 ^^^ v_7), σ_5)))))
abbrev rm_X17_stops__22 : Room := rmf 1 21
set_option maxHeartbeats 4000000 in
set_option maxRecDepth 100000 in
theorem mt_X17_stops__22 (l : Launch) (G : GT) (σ : ST) (t0 : Nat) (a1 : Int32) {r : Int32} {u : ST} (h : pl22_X17_stops (G.2.2.1 0) σ t0 a1 = some (r, u)) : CI l cp_ft G yX17_stops (ws_ yX17_stops cX17_stops 2 (some .int)) rm_X17_stops__22 0 0 [.ref t0, .int a1] σ (r, u) := by
  refine m_enterI (by decide) rfl (lv := [(0, .ref t0), (1, .int a1)]) rfl ?_
  intro p e s m args below meth c H locs ls Q X hret hP hl
  have hx := X.1.1
  have hb := X.1.2.1
  have hown := X.1.2.2.2.1
  have hts := X.1.2.2.2.2
  unfold pl22_X17_stops at h
  refine lv_aload_n hx hb dX17_stops_0 rfl (lv_at hl 0 rfl) ?_
  obtain ⟨v_2, e_1, h⟩ := bo_ex h
  refine r_pgr (r := (some t0)) X hP lk_22 1 (Nat.le_of_ble_eq_true rfl) e_1 q1182 dX17_stops_1 ?_
  have hz_3 := ez_eq h
  have h := ez_k h
  rw [rr_known hz_3]
  refine lv_bipush (v := (11 : Int32)) hx hb dX17_stops_4 (by decide) ?_
  obtain ⟨σ_5, e_4, h⟩ := bo_ex h
  refine r_callv (r_runVN (rest := []) X hP 0 cp_c0 lk_0 (mt_X0_ran l G σ (11 : Int32) e_4) ⟨va_cnB 1 hts (lw_meth q1292) rfl rfl rfl (X.2.2.1 _ q1289 rfl) (hts _ q110) cdX0_ran ⟨Nat.le_of_ble_eq_true rfl, Nat.le_of_ble_eq_true rfl⟩, hts _ q1291, hts _ qs48⟩ rfl hl.1 rfl (Nat.le_of_ble_eq_true rfl) dX17_stops_6 ⟨Nat.le_refl _, Nat.le_refl _⟩) hP (fun H locs hP => ?_)
  refine lv_iload_n hx hb dX17_stops_9 rfl (lv_at hl 1 rfl) ?_
  refine lv_aload_n hx hb dX17_stops_10 rfl (lv_at hl 0 rfl) ?_
  obtain ⟨v_7, e_6, h⟩ := bo_ex h
  refine r_pgi (r := (some t0)) X hP lk_22 0 (Nat.le_of_ble_eq_true rfl) e_6 q1181 dX17_stops_11 ?_
  refine lv_ixor hx hb dX17_stops_14 ?_
  exact hret _ _ _ _ _ _ dX17_stops_15 rfl (Option.some.inj h) hP
def pl22_X17_speaks (x0 : Nat) (σ : ST) (t0 : Nat) (a1 : Int32) : Option (Int32 × ST) :=
  bo (pgr σ (some t0) 22 1) (fun (v_2 : Option Nat) => ez v_2 x0 (bo (cp_ran σ (10 : Int32)) (fun (σ_5 : ST) => bo (pis σ_5 (some t0) 22) (fun (_ : Nat) => bo2 (pl22_X17_knows x0 σ_5 t0 a1) (fun (r_9 : Int32) (σ_10 : ST) => some ((r_9 * (2 : Int32)), σ_10))))))
abbrev rm_X17_speaks__22 : Room := rmf 2 42
set_option maxHeartbeats 4000000 in
set_option maxRecDepth 100000 in
theorem mt_X17_speaks__22 (l : Launch) (G : GT) (σ : ST) (t0 : Nat) (a1 : Int32) {r : Int32} {u : ST} (h : pl22_X17_speaks (G.2.2.1 0) σ t0 a1 = some (r, u)) : CI l cp_ft G yX17_speaks (ws_ yX17_speaks cX17_speaks 2 (some .int)) rm_X17_speaks__22 0 0 [.ref t0, .int a1] σ (r, u) := by
  refine m_enterI (by decide) rfl (lv := [(0, .ref t0), (1, .int a1)]) rfl ?_
  intro p e s m args below meth c H locs ls Q X hret hP hl
  have hx := X.1.1
  have hb := X.1.2.1
  have hown := X.1.2.2.2.1
  have hts := X.1.2.2.2.2
  unfold pl22_X17_speaks at h
  refine lv_aload_n hx hb dX17_speaks_0 rfl (lv_at hl 0 rfl) ?_
  obtain ⟨v_2, e_1, h⟩ := bo_ex h
  refine r_pgr (r := (some t0)) X hP lk_22 1 (Nat.le_of_ble_eq_true rfl) e_1 q1182 dX17_speaks_1 ?_
  have hz_3 := ez_eq h
  have h := ez_k h
  rw [rr_known hz_3]
  refine lv_bipush (v := (10 : Int32)) hx hb dX17_speaks_4 (by decide) ?_
  obtain ⟨σ_5, e_4, h⟩ := bo_ex h
  refine r_callv (r_runVN (rest := []) X hP 0 cp_c0 lk_0 (mt_X0_ran l G σ (10 : Int32) e_4) ⟨va_cnB 1 hts (lw_meth q1292) rfl rfl rfl (X.2.2.1 _ q1289 rfl) (hts _ q110) cdX0_ran ⟨Nat.le_of_ble_eq_true rfl, Nat.le_of_ble_eq_true rfl⟩, hts _ q1291, hts _ qs48⟩ rfl hl.1 rfl (Nat.le_of_ble_eq_true rfl) dX17_speaks_6 ⟨Nat.le_refl _, Nat.le_refl _⟩) hP (fun H locs hP => ?_)
  refine lv_aload_n hx hb dX17_speaks_9 rfl (lv_at hl 0 rfl) ?_
  refine lv_iload_n hx hb dX17_speaks_10 rfl (lv_at hl 1 rfl) ?_
  obtain ⟨a_6, e_7, h⟩ := bo_ex h
  obtain ⟨r_9, σ_10, e_8, h⟩ := bo2_ex h
  refine r_calli (r_runUP (rest := []) X hP (pis_self e_7) lk_22 (mt_X17_knows__22 l G σ_5 t0 a1 e_8) (va_cwO (owner := "SpeaksInTurn$Plain") (x := ⟨"SpeaksInTurn$Plain", "knows", "(I)I"⟩) 1 hts (lw_O q1375 q2280 q1286 q2287 q1286 q141 q1288) rfl rfl rfl q1288 cdX17_knows ⟨Nat.le_of_ble_eq_true rfl, Nat.le_of_ble_eq_true rfl⟩) rfl hl.1 rfl (Nat.le_of_ble_eq_true rfl) dX17_speaks_11 ⟨Nat.le_refl _, Nat.le_refl _⟩) hP (fun H locs hP => ?_)
  refine lv_iconst (v := (2 : Int32)) hx hb dX17_speaks_14 (by decide) ?_
  refine lv_imul hx hb dX17_speaks_15 ?_
  exact hret _ _ _ _ _ _ dX17_speaks_16 rfl (Option.some.inj h) hP
def pl22_X19_speaks (x0 : Nat) (σ : ST) (t0 : Nat) (a1 : Int32) : Option (Int32 × ST) :=
  bo (pgr σ (some t0) 22 2) (fun (v_2 : Option Nat) => ez v_2 x0 (bo (cp_ran σ (30 : Int32)) (fun (σ_5 : ST) => bo (pis σ_5 (some t0) 22) (fun (_ : Nat) => bo2 (pl22_X17_speaks x0 σ_5 t0 a1) (fun (r_9 : Int32) (σ_10 : ST) => some ((-r_9), σ_10))))))
abbrev rm_X19_speaks__22 : Room := rmf 3 63
set_option maxHeartbeats 4000000 in
set_option maxRecDepth 100000 in
theorem mt_X19_speaks__22 (l : Launch) (G : GT) (σ : ST) (t0 : Nat) (a1 : Int32) {r : Int32} {u : ST} (h : pl22_X19_speaks (G.2.2.1 0) σ t0 a1 = some (r, u)) : CI l cp_ft G yX19_speaks (ws_ yX19_speaks cX19_speaks 2 (some .int)) rm_X19_speaks__22 0 0 [.ref t0, .int a1] σ (r, u) := by
  refine m_enterI (by decide) rfl (lv := [(0, .ref t0), (1, .int a1)]) rfl ?_
  intro p e s m args below meth c H locs ls Q X hret hP hl
  have hx := X.1.1
  have hb := X.1.2.1
  have hown := X.1.2.2.2.1
  have hts := X.1.2.2.2.2
  unfold pl22_X19_speaks at h
  refine lv_aload_n hx hb dX19_speaks_0 rfl (lv_at hl 0 rfl) ?_
  obtain ⟨v_2, e_1, h⟩ := bo_ex h
  refine r_pgr (r := (some t0)) X hP lk_22 2 (Nat.le_of_ble_eq_true rfl) e_1 q1196 dX19_speaks_1 ?_
  have hz_3 := ez_eq h
  have h := ez_k h
  rw [rr_known hz_3]
  refine lv_bipush (v := (30 : Int32)) hx hb dX19_speaks_4 (by decide) ?_
  obtain ⟨σ_5, e_4, h⟩ := bo_ex h
  refine r_callv (r_runVN (rest := []) X hP 0 cp_c0 lk_0 (mt_X0_ran l G σ (30 : Int32) e_4) ⟨va_cnB 1 hts (lw_meth q1292) rfl rfl rfl (X.2.2.1 _ q1345 rfl) (hts _ q110) cdX0_ran ⟨Nat.le_of_ble_eq_true rfl, Nat.le_of_ble_eq_true rfl⟩, hts _ q1291, hts _ qs48⟩ rfl hl.1 rfl (Nat.le_of_ble_eq_true rfl) dX19_speaks_6 ⟨Nat.le_refl _, Nat.le_refl _⟩) hP (fun H locs hP => ?_)
  refine lv_aload_n hx hb dX19_speaks_9 rfl (lv_at hl 0 rfl) ?_
  refine lv_iload_n hx hb dX19_speaks_10 rfl (lv_at hl 1 rfl) ?_
  obtain ⟨a_6, e_7, h⟩ := bo_ex h
  obtain ⟨r_9, σ_10, e_8, h⟩ := bo2_ex h
  refine r_calli (r_runSX (rest := []) (n := 1) (x := ⟨"SpeaksInTurn$Plain", "speaks", "(I)I"⟩) X hP (pis_self e_7) lk_22 (mt_X17_speaks__22 l G σ_5 t0 a1 e_8) rfl q1346 q1337 q1201 (Or.inl rfl) q1335 q141 q1374 (by decide) cdX17_speaks.2.2 rfl rfl ⟨Nat.le_of_ble_eq_true rfl, Nat.le_of_ble_eq_true rfl⟩ rfl hl.1 rfl (Nat.le_of_ble_eq_true rfl) dX19_speaks_11 ⟨Nat.le_refl _, Nat.le_refl _⟩) hP (fun H locs hP => ?_)
  refine lv_ineg hx hb dX19_speaks_14 ?_
  exact hret _ _ _ _ _ _ dX19_speaks_15 rfl (Option.some.inj h) hP
def pl22_X17_tells (x0 : Nat) (σ : ST) (t0 : Nat) (a1 : Int32) : Option (Int32 × ST) :=
  bo (pgr σ (some t0) 22 1) (fun (v_2 : Option Nat) => ez v_2 x0 (bo (cp_ran σ (2 : Int32)) (fun (σ_5 : ST) => bo (pis σ_5 (some t0) 22) (fun (_ : Nat) => bo2 (pl22_X19_speaks x0 σ_5 t0 a1) (fun (r_9 : Int32) (σ_10 : ST) => bo (pis σ_10 (some t0) 22) (fun (_ : Nat) => bo2 (pl22_X17_stops x0 σ_10 t0 (1 : Int32)) (fun (r_14 : Int32) (σ_15 : ST) => some ((r_9 - r_14), σ_15))))))))
abbrev rm_X17_tells__22 : Room := rmf 4 84
set_option maxHeartbeats 4000000 in
set_option maxRecDepth 100000 in
theorem mt_X17_tells__22 (l : Launch) (G : GT) (σ : ST) (t0 : Nat) (a1 : Int32) {r : Int32} {u : ST} (h : pl22_X17_tells (G.2.2.1 0) σ t0 a1 = some (r, u)) : CI l cp_ft G yX17_tells (ws_ yX17_tells cX17_tells 3 (some .int)) rm_X17_tells__22 0 0 [.ref t0, .int a1] σ (r, u) := by
  refine m_enterI (by decide) rfl (lv := [(0, .ref t0), (1, .int a1)]) rfl ?_
  intro p e s m args below meth c H locs ls Q X hret hP hl
  have hx := X.1.1
  have hb := X.1.2.1
  have hown := X.1.2.2.2.1
  have hts := X.1.2.2.2.2
  unfold pl22_X17_tells at h
  refine lv_aload_n hx hb dX17_tells_0 rfl (lv_at hl 0 rfl) ?_
  obtain ⟨v_2, e_1, h⟩ := bo_ex h
  refine r_pgr (r := (some t0)) X hP lk_22 1 (Nat.le_of_ble_eq_true rfl) e_1 q1182 dX17_tells_1 ?_
  have hz_3 := ez_eq h
  have h := ez_k h
  rw [rr_known hz_3]
  refine lv_iconst (v := (2 : Int32)) hx hb dX17_tells_4 (by decide) ?_
  obtain ⟨σ_5, e_4, h⟩ := bo_ex h
  refine r_callv (r_runVN (rest := []) X hP 0 cp_c0 lk_0 (mt_X0_ran l G σ (2 : Int32) e_4) ⟨va_cnB 1 hts (lw_meth q1292) rfl rfl rfl (X.2.2.1 _ q1289 rfl) (hts _ q110) cdX0_ran ⟨Nat.le_of_ble_eq_true rfl, Nat.le_of_ble_eq_true rfl⟩, hts _ q1291, hts _ qs48⟩ rfl hl.1 rfl (Nat.le_of_ble_eq_true rfl) dX17_tells_5 ⟨Nat.le_refl _, Nat.le_refl _⟩) hP (fun H locs hP => ?_)
  refine lv_aload_n hx hb dX17_tells_8 rfl (lv_at hl 0 rfl) ?_
  refine lv_iload_n hx hb dX17_tells_9 rfl (lv_at hl 1 rfl) ?_
  obtain ⟨a_6, e_7, h⟩ := bo_ex h
  obtain ⟨r_9, σ_10, e_8, h⟩ := bo2_ex h
  refine r_calli (r_runUP (rest := []) X hP (pis_self e_7) lk_22 (mt_X19_speaks__22 l G σ_5 t0 a1 e_8) (va_cwO (owner := "SpeaksInTurn$Plain") (x := ⟨"SpeaksInTurn$Plain", "speaks", "(I)I"⟩) 1 hts (lw_O q1334 q1337 q1335 q1349 q1343 q143 q1344) rfl rfl rfl q1374 cdX17_speaks ⟨Nat.le_of_ble_eq_true rfl, Nat.le_of_ble_eq_true rfl⟩) rfl hl.1 rfl (Nat.le_of_ble_eq_true rfl) dX17_tells_10 ⟨Nat.le_refl _, Nat.le_refl _⟩) hP (fun H locs hP => ?_)
  refine lv_istore_n (lv' := [(2, .int r_9), (0, .ref t0), (1, .int a1)]) hx hb dX17_tells_13 rfl hl (by decide) rfl (fun ls hl => ?_)
  refine lv_iload_n hx hb dX17_tells_14 rfl (lv_at hl 0 rfl) ?_
  refine lv_aload_n hx hb dX17_tells_15 rfl (lv_at hl 1 rfl) ?_
  refine lv_iconst (v := (1 : Int32)) hx hb dX17_tells_16 (by decide) ?_
  obtain ⟨a_11, e_12, h⟩ := bo_ex h
  obtain ⟨r_14, σ_15, e_13, h⟩ := bo2_ex h
  refine r_calli (r_runUP (rest := [.int r_9]) X hP (pis_self e_12) lk_22 (mt_X17_stops__22 l G σ_10 t0 (1 : Int32) e_13) (va_cwO (owner := "SpeaksInTurn$Plain") (x := ⟨"SpeaksInTurn$Plain", "stops", "(I)I"⟩) 1 hts (lw_O q1376 q2282 q1367 q2295 q1367 q141 q1368) rfl rfl rfl q1368 cdX17_stops ⟨Nat.le_of_ble_eq_true rfl, Nat.le_of_ble_eq_true rfl⟩) rfl hl.1 rfl (Nat.le_of_ble_eq_true rfl) dX17_tells_17 ⟨Nat.le_refl _, Nat.le_refl _⟩) hP (fun H locs hP => ?_)
  refine lv_isub hx hb dX17_tells_20 ?_
  exact hret _ _ _ _ _ _ dX17_tells_21 rfl (Option.some.inj h) hP
def pl23_X17_init (x0 : Nat) (σ : ST) (t0 : Nat) (a2 : Int32) : Option ST :=
  bo (ppv σ (some t0) 23 1 (va_rf (some x0))) (fun (σ_2 : ST) => bo (he_init σ_2 t0) (fun (_ : Unit) => bo (ppv σ_2 (some t0) 23 0 (.int a2)) (fun (σ_5 : ST) => some σ_5)))
abbrev rm_X17_init__23 : Room := rmf 2 32
set_option maxHeartbeats 4000000 in
set_option maxRecDepth 100000 in
theorem mt_X17_init__23 (l : Launch) (G : GT) (σ : ST) (t0 : Nat) (a2 : Int32) {u : ST} (h : pl23_X17_init (G.2.2.1 0) σ t0 a2 = some u) : CV l cp_ft G yX17_init (ws_ yX17_init cX17_init 3 none) rm_X17_init__23 0 0 [.ref t0, .ref (G.2.2.1 0), .int a2] σ u := by
  refine m_enterV (by decide) rfl (lv := [(0, .ref t0), (1, .ref (G.2.2.1 0)), (2, .int a2)]) rfl ?_
  intro p e s m args below meth c H locs ls Q X hnm hret hP hl
  have hx := X.1.1
  have hb := X.1.2.1
  have hown := X.1.2.2.2.1
  have hts := X.1.2.2.2.2
  unfold pl23_X17_init at h
  refine lv_aload_n hx hb dX17_init_0 rfl (lv_at hl 0 rfl) ?_
  refine lv_aload_n hx hb dX17_init_1 rfl (lv_at hl 1 rfl) ?_
  obtain ⟨σ_2, e_1, h⟩ := bo_ex h
  refine r_ppvF (r := (some t0)) X hP lk_23 1 (Nat.le_of_ble_eq_true rfl) e_1 q1182 rfl hnm rfl (tyX20_ok 1 (by decide)) (rr_nar _ (some (G.2.2.1 0))) (rr_fit _ (some (G.2.2.1 0))) dX17_init_2 (fun H locs hP => ?_)
  refine lv_aload_n hx hb dX17_init_5 rfl (lv_at hl 0 rfl) ?_
  obtain ⟨_, e_3, h⟩ := bo_ex h
  refine r_callv (r_runIN (rest := []) X hP (mt_X16_init l G σ_2 t0 e_3) ⟨va_cnB 0 hts (lw_meth q1178) rfl rfl rfl (X.2.2.1 _ q1176 rfl) (hts _ q140) cdX16_init ⟨Nat.le_of_ble_eq_true rfl, Nat.le_of_ble_eq_true rfl⟩, rfl, hts _ q1177⟩ rfl hl.1 rfl (Nat.le_of_ble_eq_true rfl) dX17_init_6 ⟨Nat.le_refl _, Nat.le_refl _⟩) hP (fun H locs hP => ?_)
  refine lv_aload_n hx hb dX17_init_9 rfl (lv_at hl 0 rfl) ?_
  refine lv_iload_n hx hb dX17_init_10 rfl (lv_at hl 2 rfl) ?_
  obtain ⟨σ_5, e_4, h⟩ := bo_ex h
  refine r_ppvF (r := (some t0)) X hP lk_23 0 (Nat.le_of_ble_eq_true rfl) e_4 q1181 rfl hnm rfl (tyX20_ok 0 (by decide)) rfl rfl dX17_init_11 (fun H locs hP => ?_)
  exact hret _ _ _ _ _ dX17_init_14 (Option.some.inj h) hP
def pl23_X19_init (x0 : Nat) (σ : ST) (t0 : Nat) (a2 : Int32) : Option ST :=
  bo (ppv σ (some t0) 23 2 (va_rf (some x0))) (fun (σ_2 : ST) => bo (pl23_X17_init x0 σ_2 t0 a2) (fun (σ_4 : ST) => some σ_4))
abbrev rm_X19_init__23 : Room := rmf 3 54
set_option maxHeartbeats 4000000 in
set_option maxRecDepth 100000 in
theorem mt_X19_init__23 (l : Launch) (G : GT) (σ : ST) (t0 : Nat) (a2 : Int32) {u : ST} (h : pl23_X19_init (G.2.2.1 0) σ t0 a2 = some u) : CV l cp_ft G yX19_init (ws_ yX19_init cX19_init 3 none) rm_X19_init__23 0 0 [.ref t0, .ref (G.2.2.1 0), .int a2] σ u := by
  refine m_enterV (by decide) rfl (lv := [(0, .ref t0), (1, .ref (G.2.2.1 0)), (2, .int a2)]) rfl ?_
  intro p e s m args below meth c H locs ls Q X hnm hret hP hl
  have hx := X.1.1
  have hb := X.1.2.1
  have hown := X.1.2.2.2.1
  have hts := X.1.2.2.2.2
  unfold pl23_X19_init at h
  refine lv_aload_n hx hb dX19_init_0 rfl (lv_at hl 0 rfl) ?_
  refine lv_aload_n hx hb dX19_init_1 rfl (lv_at hl 1 rfl) ?_
  obtain ⟨σ_2, e_1, h⟩ := bo_ex h
  refine r_ppvF (r := (some t0)) X hP lk_23 2 (Nat.le_of_ble_eq_true rfl) e_1 q1196 rfl hnm rfl (tyX20_ok 2 (by decide)) (rr_nar _ (some (G.2.2.1 0))) (rr_fit _ (some (G.2.2.1 0))) dX19_init_2 (fun H locs hP => ?_)
  refine lv_aload_n hx hb dX19_init_5 rfl (lv_at hl 0 rfl) ?_
  refine lv_aload_n hx hb dX19_init_6 rfl (lv_at hl 1 rfl) ?_
  refine lv_iload_n hx hb dX19_init_7 rfl (lv_at hl 2 rfl) ?_
  obtain ⟨σ_4, e_3, h⟩ := bo_ex h
  refine r_callv (r_runI (rest := []) X hP (mt_X17_init__23 l G σ_2 t0 a2 e_3) (cwI 2 hts (lw_meth q1175) rfl rfl rfl (hts _ q141) (hts _ q1195) (hts _ q1174) rfl cdX17_init ⟨Nat.le_of_ble_eq_true rfl, Nat.le_of_ble_eq_true rfl⟩) rfl hl.1 rfl (Nat.le_of_ble_eq_true rfl) dX19_init_8 ⟨Nat.le_refl _, Nat.le_refl _⟩) hP (fun H locs hP => ?_)
  exact hret _ _ _ _ _ dX19_init_11 (Option.some.inj h) hP
def pl23_X20_init (x0 : Nat) (σ : ST) (t0 : Nat) (a2 : Int32) : Option ST :=
  bo (ppv σ (some t0) 23 3 (va_rf (some x0))) (fun (σ_2 : ST) => bo (pl23_X19_init x0 σ_2 t0 a2) (fun (σ_4 : ST) => some σ_4))
abbrev rm_X20_init__23 : Room := rmf 4 76
set_option maxHeartbeats 4000000 in
set_option maxRecDepth 100000 in
theorem mt_X20_init__23 (l : Launch) (G : GT) (σ : ST) (t0 : Nat) (a2 : Int32) {u : ST} (h : pl23_X20_init (G.2.2.1 0) σ t0 a2 = some u) : CV l cp_ft G yX20_init (ws_ yX20_init cX20_init 3 none) rm_X20_init__23 0 0 [.ref t0, .ref (G.2.2.1 0), .int a2] σ u := by
  refine m_enterV (by decide) rfl (lv := [(0, .ref t0), (1, .ref (G.2.2.1 0)), (2, .int a2)]) rfl ?_
  intro p e s m args below meth c H locs ls Q X hnm hret hP hl
  have hx := X.1.1
  have hb := X.1.2.1
  have hown := X.1.2.2.2.1
  have hts := X.1.2.2.2.2
  unfold pl23_X20_init at h
  refine lv_aload_n hx hb dX20_init_0 rfl (lv_at hl 0 rfl) ?_
  refine lv_aload_n hx hb dX20_init_1 rfl (lv_at hl 1 rfl) ?_
  obtain ⟨σ_2, e_1, h⟩ := bo_ex h
  refine r_ppvF (r := (some t0)) X hP lk_23 3 (Nat.le_of_ble_eq_true rfl) e_1 q1208 rfl hnm rfl (tyX20_ok 3 (by decide)) (rr_nar _ (some (G.2.2.1 0))) (rr_fit _ (some (G.2.2.1 0))) dX20_init_2 (fun H locs hP => ?_)
  refine lv_aload_n hx hb dX20_init_5 rfl (lv_at hl 0 rfl) ?_
  refine lv_aload_n hx hb dX20_init_6 rfl (lv_at hl 1 rfl) ?_
  refine lv_iload_n hx hb dX20_init_7 rfl (lv_at hl 2 rfl) ?_
  obtain ⟨σ_4, e_3, h⟩ := bo_ex h
  refine r_callv (r_runI (rest := []) X hP (mt_X19_init__23 l G σ_2 t0 a2 e_3) (cwI 2 hts (lw_meth q1194) rfl rfl rfl (hts _ q143) (hts _ q1207) (hts _ q1193) rfl cdX19_init ⟨Nat.le_of_ble_eq_true rfl, Nat.le_of_ble_eq_true rfl⟩) rfl hl.1 rfl (Nat.le_of_ble_eq_true rfl) dX20_init_8 ⟨Nat.le_refl _, Nat.le_refl _⟩) hP (fun H locs hP => ?_)
  exact hret _ _ _ _ _ dX20_init_11 (Option.some.inj h) hP
def pl23_X20_kind (σ : ST) (t0 : Nat) : Option Int32 :=
  some (3 : Int32)
abbrev rm_X20_kind__23 : Room := rmf 0 0
set_option maxHeartbeats 4000000 in
set_option maxRecDepth 100000 in
theorem mt_X20_kind__23 (l : Launch) (G : GT) (σ : ST) (t0 : Nat) {r : Int32} (h : pl23_X20_kind σ t0 = some r) : CI l cp_ft G yX20_kind (ws_ yX20_kind cX20_kind 1 (some .int)) rm_X20_kind__23 0 0 [.ref t0] σ (r, σ) := by
  refine m_enterI (by decide) rfl (lv := [(0, .ref t0)]) rfl ?_
  intro p e s m args below meth c H locs ls Q X hret hP hl
  have hx := X.1.1
  have hb := X.1.2.1
  have hown := X.1.2.2.2.1
  have hts := X.1.2.2.2.2
  unfold pl23_X20_kind at h
  refine lv_iconst (v := (3 : Int32)) hx hb dX20_kind_0 (by decide) ?_
  exact hret _ _ _ _ _ _ dX20_kind_1 rfl (congrArg (fun z9 => (z9, σ)) (Option.some.inj h)) hP
def pl23_X17_isUnder (σ : ST) (t0 : Nat) (a1 : Int32) : Option Int32 :=
  (if a1 = 0 then some (1 : Int32) else bo (pis σ (some t0) 23) (fun (_ : Nat) => bo (pl23_X20_kind σ t0) (fun (r_5 : Int32) => (if a1 = r_5 then some (1 : Int32) else some (0 : Int32)))))
abbrev rm_X17_isUnder__23 : Room := rmf 1 20
set_option maxHeartbeats 4000000 in
set_option maxRecDepth 100000 in
theorem mt_X17_isUnder__23 (l : Launch) (G : GT) (σ : ST) (t0 : Nat) (a1 : Int32) {r : Int32} (h : pl23_X17_isUnder σ t0 a1 = some r) : CI l cp_ft G yX17_isUnder (ws_ yX17_isUnder cX17_isUnder 2 (some .boolean)) rm_X17_isUnder__23 0 0 [.ref t0, .int a1] σ (r, σ) := by
  refine m_enterI (by decide) rfl (lv := [(0, .ref t0), (1, .int a1)]) rfl ?_
  intro p e s m args below meth c H locs ls Q X hret hP hl
  have hx := X.1.1
  have hb := X.1.2.1
  have hown := X.1.2.2.2.1
  have hts := X.1.2.2.2.2
  unfold pl23_X17_isUnder at h
  refine lv_iload_n hx hb dX17_isUnder_0 rfl (lv_at hl 1 rfl) ?_
  refine lv_if_eq (tgt := 12) hx hb dX17_isUnder_1 (by decide) (fun c_1 => ?_) (fun c_1 => ?_)
  · have h := it_t h c_1
    refine lv_iconst (v := (1 : Int32)) hx hb dX17_isUnder_12 (by decide) ?_
    refine lv_goto (tgt := 17) hx hb dX17_isUnder_13 (by decide) ?_
    exact hret _ _ _ _ _ _ dX17_isUnder_17 rfl (congrArg (fun z9 => (z9, σ)) (Option.some.inj h)) hP
  · have h := it_f h c_1
    refine lv_iload_n hx hb dX17_isUnder_4 rfl (lv_at hl 1 rfl) ?_
    refine lv_aload_n hx hb dX17_isUnder_5 rfl (lv_at hl 0 rfl) ?_
    obtain ⟨a_2, e_3, h⟩ := bo_ex h
    obtain ⟨r_5, e_4, h⟩ := bo_ex h
    refine r_calli (r_runUP (rest := [.int a1]) X hP (pis_self e_3) lk_23 (mt_X20_kind__23 l G σ t0 e_4) (va_cwO (owner := "SpeaksInTurn$Plain") (x := ⟨"SpeaksInTurn$Plain", "kind", "()I"⟩) 0 hts (lw_O q1601 q1604 q1602 q1605 q1606 q144 q1607) rfl rfl rfl q1626 cdX17_kind ⟨Nat.le_of_ble_eq_true rfl, Nat.le_of_ble_eq_true rfl⟩) rfl hl.1 rfl (Nat.le_of_ble_eq_true rfl) dX17_isUnder_6 ⟨Nat.le_refl _, Nat.le_refl _⟩) hP (fun H locs hP => ?_)
    refine lv_icmp_ne (tgt := 16) hx hb dX17_isUnder_9 (by decide) (fun c_6 => ?_) (fun c_6 => ?_)
    · have h := it_f h c_6
      refine lv_iconst (v := (0 : Int32)) hx hb dX17_isUnder_16 (by decide) ?_
      exact hret _ _ _ _ _ _ dX17_isUnder_17 rfl (congrArg (fun z9 => (z9, σ)) (Option.some.inj h)) hP
    · have h := it_t h c_6
      refine lv_iconst (v := (1 : Int32)) hx hb dX17_isUnder_12 (by decide) ?_
      refine lv_goto (tgt := 17) hx hb dX17_isUnder_13 (by decide) ?_
      exact hret _ _ _ _ _ _ dX17_isUnder_17 rfl (congrArg (fun z9 => (z9, σ)) (Option.some.inj h)) hP
def pl23_X19_isUnder (σ : ST) (t0 : Nat) (a1 : Int32) : Option Int32 :=
  (if a1 = (2 : Int32) then some (1 : Int32) else bo (pis σ (some t0) 23) (fun (_ : Nat) => bo (pl23_X17_isUnder σ t0 a1) (fun (r_5 : Int32) => (if r_5 = 0 then some (0 : Int32) else some (1 : Int32)))))
abbrev rm_X19_isUnder__23 : Room := rmf 2 41
set_option maxHeartbeats 4000000 in
set_option maxRecDepth 100000 in
theorem mt_X19_isUnder__23 (l : Launch) (G : GT) (σ : ST) (t0 : Nat) (a1 : Int32) {r : Int32} (h : pl23_X19_isUnder σ t0 a1 = some r) : CI l cp_ft G yX19_isUnder (ws_ yX19_isUnder cX19_isUnder 2 (some .boolean)) rm_X19_isUnder__23 0 0 [.ref t0, .int a1] σ (r, σ) := by
  refine m_enterI (by decide) rfl (lv := [(0, .ref t0), (1, .int a1)]) rfl ?_
  intro p e s m args below meth c H locs ls Q X hret hP hl
  have hx := X.1.1
  have hb := X.1.2.1
  have hown := X.1.2.2.2.1
  have hts := X.1.2.2.2.2
  unfold pl23_X19_isUnder at h
  refine lv_iload_n hx hb dX19_isUnder_0 rfl (lv_at hl 1 rfl) ?_
  refine lv_iconst (v := (2 : Int32)) hx hb dX19_isUnder_1 (by decide) ?_
  refine lv_icmp_eq (tgt := 13) hx hb dX19_isUnder_2 (by decide) (fun c_1 => ?_) (fun c_1 => ?_)
  · have h := it_t h c_1
    refine lv_iconst (v := (1 : Int32)) hx hb dX19_isUnder_13 (by decide) ?_
    refine lv_goto (tgt := 18) hx hb dX19_isUnder_14 (by decide) ?_
    exact hret _ _ _ _ _ _ dX19_isUnder_18 rfl (congrArg (fun z9 => (z9, σ)) (Option.some.inj h)) hP
  · have h := it_f h c_1
    refine lv_aload_n hx hb dX19_isUnder_5 rfl (lv_at hl 0 rfl) ?_
    refine lv_iload_n hx hb dX19_isUnder_6 rfl (lv_at hl 1 rfl) ?_
    obtain ⟨a_2, e_3, h⟩ := bo_ex h
    obtain ⟨r_5, e_4, h⟩ := bo_ex h
    refine r_calli (r_runSX (rest := []) (n := 1) (x := ⟨"SpeaksInTurn$Plain", "isUnder", "(I)Z"⟩) X hP (pis_self e_3) lk_23 (mt_X17_isUnder__23 l G σ t0 a1 e_4) rfl q1590 q1583 q1201 (Or.inl rfl) q1581 q141 q1600 (by decide) cdX17_isUnder.2.2 rfl rfl ⟨Nat.le_of_ble_eq_true rfl, Nat.le_of_ble_eq_true rfl⟩ rfl hl.1 rfl (Nat.le_of_ble_eq_true rfl) dX19_isUnder_7 ⟨Nat.le_refl _, Nat.le_refl _⟩) hP (fun H locs hP => ?_)
    refine lv_if_eq (tgt := 17) hx hb dX19_isUnder_10 (by decide) (fun c_6 => ?_) (fun c_6 => ?_)
    · have h := it_t h c_6
      refine lv_iconst (v := (0 : Int32)) hx hb dX19_isUnder_17 (by decide) ?_
      exact hret _ _ _ _ _ _ dX19_isUnder_18 rfl (congrArg (fun z9 => (z9, σ)) (Option.some.inj h)) hP
    · have h := it_f h c_6
      refine lv_iconst (v := (1 : Int32)) hx hb dX19_isUnder_13 (by decide) ?_
      refine lv_goto (tgt := 18) hx hb dX19_isUnder_14 (by decide) ?_
      exact hret _ _ _ _ _ _ dX19_isUnder_18 rfl (congrArg (fun z9 => (z9, σ)) (Option.some.inj h)) hP
def pl23_X20_isUnder (σ : ST) (t0 : Nat) (a1 : Int32) : Option Int32 :=
  (if a1 = (3 : Int32) then some (1 : Int32) else bo (pis σ (some t0) 23) (fun (_ : Nat) => bo (pl23_X19_isUnder σ t0 a1) (fun (r_5 : Int32) => (if r_5 = 0 then some (0 : Int32) else some (1 : Int32)))))
abbrev rm_X20_isUnder__23 : Room := rmf 3 62
set_option maxHeartbeats 4000000 in
set_option maxRecDepth 100000 in
theorem mt_X20_isUnder__23 (l : Launch) (G : GT) (σ : ST) (t0 : Nat) (a1 : Int32) {r : Int32} (h : pl23_X20_isUnder σ t0 a1 = some r) : CI l cp_ft G yX20_isUnder (ws_ yX20_isUnder cX20_isUnder 2 (some .boolean)) rm_X20_isUnder__23 0 0 [.ref t0, .int a1] σ (r, σ) := by
  refine m_enterI (by decide) rfl (lv := [(0, .ref t0), (1, .int a1)]) rfl ?_
  intro p e s m args below meth c H locs ls Q X hret hP hl
  have hx := X.1.1
  have hb := X.1.2.1
  have hown := X.1.2.2.2.1
  have hts := X.1.2.2.2.2
  unfold pl23_X20_isUnder at h
  refine lv_iload_n hx hb dX20_isUnder_0 rfl (lv_at hl 1 rfl) ?_
  refine lv_iconst (v := (3 : Int32)) hx hb dX20_isUnder_1 (by decide) ?_
  refine lv_icmp_eq (tgt := 13) hx hb dX20_isUnder_2 (by decide) (fun c_1 => ?_) (fun c_1 => ?_)
  · have h := it_t h c_1
    refine lv_iconst (v := (1 : Int32)) hx hb dX20_isUnder_13 (by decide) ?_
    refine lv_goto (tgt := 18) hx hb dX20_isUnder_14 (by decide) ?_
    exact hret _ _ _ _ _ _ dX20_isUnder_18 rfl (congrArg (fun z9 => (z9, σ)) (Option.some.inj h)) hP
  · have h := it_f h c_1
    refine lv_aload_n hx hb dX20_isUnder_5 rfl (lv_at hl 0 rfl) ?_
    refine lv_iload_n hx hb dX20_isUnder_6 rfl (lv_at hl 1 rfl) ?_
    obtain ⟨a_2, e_3, h⟩ := bo_ex h
    obtain ⟨r_5, e_4, h⟩ := bo_ex h
    refine r_calli (r_runSX (rest := []) (n := 1) (x := ⟨"SpeaksInTurn$Shared", "isUnder", "(I)Z"⟩) X hP (pis_self e_3) lk_23 (mt_X19_isUnder__23 l G σ t0 a1 e_4) rfl q1587 q2299 q1214 (Or.inl rfl) q1588 q143 q1589 (by decide) cdX19_isUnder.2.2 rfl rfl ⟨Nat.le_of_ble_eq_true rfl, Nat.le_of_ble_eq_true rfl⟩ rfl hl.1 rfl (Nat.le_of_ble_eq_true rfl) dX20_isUnder_7 ⟨Nat.le_refl _, Nat.le_refl _⟩) hP (fun H locs hP => ?_)
    refine lv_if_eq (tgt := 17) hx hb dX20_isUnder_10 (by decide) (fun c_6 => ?_) (fun c_6 => ?_)
    · have h := it_t h c_6
      refine lv_iconst (v := (0 : Int32)) hx hb dX20_isUnder_17 (by decide) ?_
      exact hret _ _ _ _ _ _ dX20_isUnder_18 rfl (congrArg (fun z9 => (z9, σ)) (Option.some.inj h)) hP
    · have h := it_f h c_6
      refine lv_iconst (v := (1 : Int32)) hx hb dX20_isUnder_13 (by decide) ?_
      refine lv_goto (tgt := 18) hx hb dX20_isUnder_14 (by decide) ?_
      exact hret _ _ _ _ _ _ dX20_isUnder_18 rfl (congrArg (fun z9 => (z9, σ)) (Option.some.inj h)) hP
def pl23_X17_knows (x0 : Nat) (σ : ST) (t0 : Nat) (a1 : Int32) : Option (Int32 × ST) :=
  bo (pgr σ (some t0) 23 1) (fun (v_2 : Option Nat) => ez v_2 x0 (bo (cp_ran σ (1 : Int32)) (fun (σ_5 : ST) => bo (pgi σ_5 (some t0) 23 0) (fun (v_7 : Int32) => some ((a1 + v_7), σ_5)))))
abbrev rm_X17_knows__23 : Room := rmf 1 21
set_option maxHeartbeats 4000000 in
set_option maxRecDepth 100000 in
theorem mt_X17_knows__23 (l : Launch) (G : GT) (σ : ST) (t0 : Nat) (a1 : Int32) {r : Int32} {u : ST} (h : pl23_X17_knows (G.2.2.1 0) σ t0 a1 = some (r, u)) : CI l cp_ft G yX17_knows (ws_ yX17_knows cX17_knows 2 (some .int)) rm_X17_knows__23 0 0 [.ref t0, .int a1] σ (r, u) := by
  refine m_enterI (by decide) rfl (lv := [(0, .ref t0), (1, .int a1)]) rfl ?_
  intro p e s m args below meth c H locs ls Q X hret hP hl
  have hx := X.1.1
  have hb := X.1.2.1
  have hown := X.1.2.2.2.1
  have hts := X.1.2.2.2.2
  unfold pl23_X17_knows at h
  refine lv_aload_n hx hb dX17_knows_0 rfl (lv_at hl 0 rfl) ?_
  obtain ⟨v_2, e_1, h⟩ := bo_ex h
  refine r_pgr (r := (some t0)) X hP lk_23 1 (Nat.le_of_ble_eq_true rfl) e_1 q1182 dX17_knows_1 ?_
  have hz_3 := ez_eq h
  have h := ez_k h
  rw [rr_known hz_3]
  refine lv_iconst (v := (1 : Int32)) hx hb dX17_knows_4 (by decide) ?_
  obtain ⟨σ_5, e_4, h⟩ := bo_ex h
  refine r_callv (r_runVN (rest := []) X hP 0 cp_c0 lk_0 (mt_X0_ran l G σ (1 : Int32) e_4) ⟨va_cnB 1 hts (lw_meth q1292) rfl rfl rfl (X.2.2.1 _ q1289 rfl) (hts _ q110) cdX0_ran ⟨Nat.le_of_ble_eq_true rfl, Nat.le_of_ble_eq_true rfl⟩, hts _ q1291, hts _ qs48⟩ rfl hl.1 rfl (Nat.le_of_ble_eq_true rfl) dX17_knows_5 ⟨Nat.le_refl _, Nat.le_refl _⟩) hP (fun H locs hP => ?_)
  refine lv_iload_n hx hb dX17_knows_8 rfl (lv_at hl 1 rfl) ?_
  refine lv_aload_n hx hb dX17_knows_9 rfl (lv_at hl 0 rfl) ?_
  obtain ⟨v_7, e_6, h⟩ := bo_ex h
  refine r_pgi (r := (some t0)) X hP lk_23 0 (Nat.le_of_ble_eq_true rfl) e_6 q1181 dX17_knows_10 ?_
  refine lv_iadd hx hb dX17_knows_13 ?_
  exact hret _ _ _ _ _ _ dX17_knows_14 rfl (Option.some.inj h) hP
def pl23_X17_stops (x0 : Nat) (σ : ST) (t0 : Nat) (a1 : Int32) : Option (Int32 × ST) :=
  bo (pgr σ (some t0) 23 1) (fun (v_2 : Option Nat) => ez v_2 x0 (bo (cp_ran σ (11 : Int32)) (fun (σ_5 : ST) => bo (pgi σ_5 (some t0) 23 0) (fun (v_7 : Int32) => some ((a1 ^^^ v_7), σ_5)))))
abbrev rm_X17_stops__23 : Room := rmf 1 21
set_option maxHeartbeats 4000000 in
set_option maxRecDepth 100000 in
theorem mt_X17_stops__23 (l : Launch) (G : GT) (σ : ST) (t0 : Nat) (a1 : Int32) {r : Int32} {u : ST} (h : pl23_X17_stops (G.2.2.1 0) σ t0 a1 = some (r, u)) : CI l cp_ft G yX17_stops (ws_ yX17_stops cX17_stops 2 (some .int)) rm_X17_stops__23 0 0 [.ref t0, .int a1] σ (r, u) := by
  refine m_enterI (by decide) rfl (lv := [(0, .ref t0), (1, .int a1)]) rfl ?_
  intro p e s m args below meth c H locs ls Q X hret hP hl
  have hx := X.1.1
  have hb := X.1.2.1
  have hown := X.1.2.2.2.1
  have hts := X.1.2.2.2.2
  unfold pl23_X17_stops at h
  refine lv_aload_n hx hb dX17_stops_0 rfl (lv_at hl 0 rfl) ?_
  obtain ⟨v_2, e_1, h⟩ := bo_ex h
  refine r_pgr (r := (some t0)) X hP lk_23 1 (Nat.le_of_ble_eq_true rfl) e_1 q1182 dX17_stops_1 ?_
  have hz_3 := ez_eq h
  have h := ez_k h
  rw [rr_known hz_3]
  refine lv_bipush (v := (11 : Int32)) hx hb dX17_stops_4 (by decide) ?_
  obtain ⟨σ_5, e_4, h⟩ := bo_ex h
  refine r_callv (r_runVN (rest := []) X hP 0 cp_c0 lk_0 (mt_X0_ran l G σ (11 : Int32) e_4) ⟨va_cnB 1 hts (lw_meth q1292) rfl rfl rfl (X.2.2.1 _ q1289 rfl) (hts _ q110) cdX0_ran ⟨Nat.le_of_ble_eq_true rfl, Nat.le_of_ble_eq_true rfl⟩, hts _ q1291, hts _ qs48⟩ rfl hl.1 rfl (Nat.le_of_ble_eq_true rfl) dX17_stops_6 ⟨Nat.le_refl _, Nat.le_refl _⟩) hP (fun H locs hP => ?_)
  refine lv_iload_n hx hb dX17_stops_9 rfl (lv_at hl 1 rfl) ?_
  refine lv_aload_n hx hb dX17_stops_10 rfl (lv_at hl 0 rfl) ?_
  obtain ⟨v_7, e_6, h⟩ := bo_ex h
  refine r_pgi (r := (some t0)) X hP lk_23 0 (Nat.le_of_ble_eq_true rfl) e_6 q1181 dX17_stops_11 ?_
  refine lv_ixor hx hb dX17_stops_14 ?_
  exact hret _ _ _ _ _ _ dX17_stops_15 rfl (Option.some.inj h) hP
def pl23_X20_stops (x0 : Nat) (σ : ST) (t0 : Nat) (a1 : Int32) : Option (Int32 × ST) :=
  bo (pgr σ (some t0) 23 3) (fun (v_2 : Option Nat) => ez v_2 x0 (bo (cp_ran σ (40 : Int32)) (fun (σ_5 : ST) => bo (pis σ_5 (some t0) 23) (fun (_ : Nat) => bo2 (pl23_X17_stops x0 σ_5 t0 a1) (fun (r_9 : Int32) (σ_10 : ST) => some ((r_9 * (3 : Int32)), σ_10))))))
abbrev rm_X20_stops__23 : Room := rmf 2 42
set_option maxHeartbeats 4000000 in
set_option maxRecDepth 100000 in
theorem mt_X20_stops__23 (l : Launch) (G : GT) (σ : ST) (t0 : Nat) (a1 : Int32) {r : Int32} {u : ST} (h : pl23_X20_stops (G.2.2.1 0) σ t0 a1 = some (r, u)) : CI l cp_ft G yX20_stops (ws_ yX20_stops cX20_stops 2 (some .int)) rm_X20_stops__23 0 0 [.ref t0, .int a1] σ (r, u) := by
  refine m_enterI (by decide) rfl (lv := [(0, .ref t0), (1, .int a1)]) rfl ?_
  intro p e s m args below meth c H locs ls Q X hret hP hl
  have hx := X.1.1
  have hb := X.1.2.1
  have hown := X.1.2.2.2.1
  have hts := X.1.2.2.2.2
  unfold pl23_X20_stops at h
  refine lv_aload_n hx hb dX20_stops_0 rfl (lv_at hl 0 rfl) ?_
  obtain ⟨v_2, e_1, h⟩ := bo_ex h
  refine r_pgr (r := (some t0)) X hP lk_23 3 (Nat.le_of_ble_eq_true rfl) e_1 q1208 dX20_stops_1 ?_
  have hz_3 := ez_eq h
  have h := ez_k h
  rw [rr_known hz_3]
  refine lv_bipush (v := (40 : Int32)) hx hb dX20_stops_4 (by decide) ?_
  obtain ⟨σ_5, e_4, h⟩ := bo_ex h
  refine r_callv (r_runVN (rest := []) X hP 0 cp_c0 lk_0 (mt_X0_ran l G σ (40 : Int32) e_4) ⟨va_cnB 1 hts (lw_meth q1292) rfl rfl rfl (X.2.2.1 _ q1341 rfl) (hts _ q110) cdX0_ran ⟨Nat.le_of_ble_eq_true rfl, Nat.le_of_ble_eq_true rfl⟩, hts _ q1291, hts _ qs48⟩ rfl hl.1 rfl (Nat.le_of_ble_eq_true rfl) dX20_stops_6 ⟨Nat.le_refl _, Nat.le_refl _⟩) hP (fun H locs hP => ?_)
  refine lv_aload_n hx hb dX20_stops_9 rfl (lv_at hl 0 rfl) ?_
  refine lv_iload_n hx hb dX20_stops_10 rfl (lv_at hl 1 rfl) ?_
  obtain ⟨a_6, e_7, h⟩ := bo_ex h
  obtain ⟨r_9, σ_10, e_8, h⟩ := bo2_ex h
  refine r_calli (r_runSX (rest := []) (n := 1) (x := ⟨"SpeaksInTurn$Shared", "stops", "(I)I"⟩) X hP (pis_self e_7) lk_23 (mt_X17_stops__23 l G σ_5 t0 a1 e_8) rfl q1379 q1380 q1214 (Or.inr (Or.inl q1201)) q1367 q141 q1368 (by decide) cdX17_stops.2.2 rfl rfl ⟨Nat.le_of_ble_eq_true rfl, Nat.le_of_ble_eq_true rfl⟩ rfl hl.1 rfl (Nat.le_of_ble_eq_true rfl) dX20_stops_11 ⟨Nat.le_refl _, Nat.le_refl _⟩) hP (fun H locs hP => ?_)
  refine lv_iconst (v := (3 : Int32)) hx hb dX20_stops_14 (by decide) ?_
  refine lv_imul hx hb dX20_stops_15 ?_
  exact hret _ _ _ _ _ _ dX20_stops_16 rfl (Option.some.inj h) hP
def pl23_X17_speaks (x0 : Nat) (σ : ST) (t0 : Nat) (a1 : Int32) : Option (Int32 × ST) :=
  bo (pgr σ (some t0) 23 1) (fun (v_2 : Option Nat) => ez v_2 x0 (bo (cp_ran σ (10 : Int32)) (fun (σ_5 : ST) => bo (pis σ_5 (some t0) 23) (fun (_ : Nat) => bo2 (pl23_X17_knows x0 σ_5 t0 a1) (fun (r_9 : Int32) (σ_10 : ST) => some ((r_9 * (2 : Int32)), σ_10))))))
abbrev rm_X17_speaks__23 : Room := rmf 2 42
set_option maxHeartbeats 4000000 in
set_option maxRecDepth 100000 in
theorem mt_X17_speaks__23 (l : Launch) (G : GT) (σ : ST) (t0 : Nat) (a1 : Int32) {r : Int32} {u : ST} (h : pl23_X17_speaks (G.2.2.1 0) σ t0 a1 = some (r, u)) : CI l cp_ft G yX17_speaks (ws_ yX17_speaks cX17_speaks 2 (some .int)) rm_X17_speaks__23 0 0 [.ref t0, .int a1] σ (r, u) := by
  refine m_enterI (by decide) rfl (lv := [(0, .ref t0), (1, .int a1)]) rfl ?_
  intro p e s m args below meth c H locs ls Q X hret hP hl
  have hx := X.1.1
  have hb := X.1.2.1
  have hown := X.1.2.2.2.1
  have hts := X.1.2.2.2.2
  unfold pl23_X17_speaks at h
  refine lv_aload_n hx hb dX17_speaks_0 rfl (lv_at hl 0 rfl) ?_
  obtain ⟨v_2, e_1, h⟩ := bo_ex h
  refine r_pgr (r := (some t0)) X hP lk_23 1 (Nat.le_of_ble_eq_true rfl) e_1 q1182 dX17_speaks_1 ?_
  have hz_3 := ez_eq h
  have h := ez_k h
  rw [rr_known hz_3]
  refine lv_bipush (v := (10 : Int32)) hx hb dX17_speaks_4 (by decide) ?_
  obtain ⟨σ_5, e_4, h⟩ := bo_ex h
  refine r_callv (r_runVN (rest := []) X hP 0 cp_c0 lk_0 (mt_X0_ran l G σ (10 : Int32) e_4) ⟨va_cnB 1 hts (lw_meth q1292) rfl rfl rfl (X.2.2.1 _ q1289 rfl) (hts _ q110) cdX0_ran ⟨Nat.le_of_ble_eq_true rfl, Nat.le_of_ble_eq_true rfl⟩, hts _ q1291, hts _ qs48⟩ rfl hl.1 rfl (Nat.le_of_ble_eq_true rfl) dX17_speaks_6 ⟨Nat.le_refl _, Nat.le_refl _⟩) hP (fun H locs hP => ?_)
  refine lv_aload_n hx hb dX17_speaks_9 rfl (lv_at hl 0 rfl) ?_
  refine lv_iload_n hx hb dX17_speaks_10 rfl (lv_at hl 1 rfl) ?_
  obtain ⟨a_6, e_7, h⟩ := bo_ex h
  obtain ⟨r_9, σ_10, e_8, h⟩ := bo2_ex h
  refine r_calli (r_runUP (rest := []) X hP (pis_self e_7) lk_23 (mt_X17_knows__23 l G σ_5 t0 a1 e_8) (va_cwO (owner := "SpeaksInTurn$Plain") (x := ⟨"SpeaksInTurn$Plain", "knows", "(I)I"⟩) 1 hts (lw_O q1375 q2280 q1286 q2283 q1286 q141 q1288) rfl rfl rfl q1288 cdX17_knows ⟨Nat.le_of_ble_eq_true rfl, Nat.le_of_ble_eq_true rfl⟩) rfl hl.1 rfl (Nat.le_of_ble_eq_true rfl) dX17_speaks_11 ⟨Nat.le_refl _, Nat.le_refl _⟩) hP (fun H locs hP => ?_)
  refine lv_iconst (v := (2 : Int32)) hx hb dX17_speaks_14 (by decide) ?_
  refine lv_imul hx hb dX17_speaks_15 ?_
  exact hret _ _ _ _ _ _ dX17_speaks_16 rfl (Option.some.inj h) hP
def pl23_X19_speaks (x0 : Nat) (σ : ST) (t0 : Nat) (a1 : Int32) : Option (Int32 × ST) :=
  bo (pgr σ (some t0) 23 2) (fun (v_2 : Option Nat) => ez v_2 x0 (bo (cp_ran σ (30 : Int32)) (fun (σ_5 : ST) => bo (pis σ_5 (some t0) 23) (fun (_ : Nat) => bo2 (pl23_X17_speaks x0 σ_5 t0 a1) (fun (r_9 : Int32) (σ_10 : ST) => some ((-r_9), σ_10))))))
abbrev rm_X19_speaks__23 : Room := rmf 3 63
set_option maxHeartbeats 4000000 in
set_option maxRecDepth 100000 in
theorem mt_X19_speaks__23 (l : Launch) (G : GT) (σ : ST) (t0 : Nat) (a1 : Int32) {r : Int32} {u : ST} (h : pl23_X19_speaks (G.2.2.1 0) σ t0 a1 = some (r, u)) : CI l cp_ft G yX19_speaks (ws_ yX19_speaks cX19_speaks 2 (some .int)) rm_X19_speaks__23 0 0 [.ref t0, .int a1] σ (r, u) := by
  refine m_enterI (by decide) rfl (lv := [(0, .ref t0), (1, .int a1)]) rfl ?_
  intro p e s m args below meth c H locs ls Q X hret hP hl
  have hx := X.1.1
  have hb := X.1.2.1
  have hown := X.1.2.2.2.1
  have hts := X.1.2.2.2.2
  unfold pl23_X19_speaks at h
  refine lv_aload_n hx hb dX19_speaks_0 rfl (lv_at hl 0 rfl) ?_
  obtain ⟨v_2, e_1, h⟩ := bo_ex h
  refine r_pgr (r := (some t0)) X hP lk_23 2 (Nat.le_of_ble_eq_true rfl) e_1 q1196 dX19_speaks_1 ?_
  have hz_3 := ez_eq h
  have h := ez_k h
  rw [rr_known hz_3]
  refine lv_bipush (v := (30 : Int32)) hx hb dX19_speaks_4 (by decide) ?_
  obtain ⟨σ_5, e_4, h⟩ := bo_ex h
  refine r_callv (r_runVN (rest := []) X hP 0 cp_c0 lk_0 (mt_X0_ran l G σ (30 : Int32) e_4) ⟨va_cnB 1 hts (lw_meth q1292) rfl rfl rfl (X.2.2.1 _ q1345 rfl) (hts _ q110) cdX0_ran ⟨Nat.le_of_ble_eq_true rfl, Nat.le_of_ble_eq_true rfl⟩, hts _ q1291, hts _ qs48⟩ rfl hl.1 rfl (Nat.le_of_ble_eq_true rfl) dX19_speaks_6 ⟨Nat.le_refl _, Nat.le_refl _⟩) hP (fun H locs hP => ?_)
  refine lv_aload_n hx hb dX19_speaks_9 rfl (lv_at hl 0 rfl) ?_
  refine lv_iload_n hx hb dX19_speaks_10 rfl (lv_at hl 1 rfl) ?_
  obtain ⟨a_6, e_7, h⟩ := bo_ex h
  obtain ⟨r_9, σ_10, e_8, h⟩ := bo2_ex h
  refine r_calli (r_runSX (rest := []) (n := 1) (x := ⟨"SpeaksInTurn$Plain", "speaks", "(I)I"⟩) X hP (pis_self e_7) lk_23 (mt_X17_speaks__23 l G σ_5 t0 a1 e_8) rfl q1346 q1337 q1201 (Or.inl rfl) q1335 q141 q1374 (by decide) cdX17_speaks.2.2 rfl rfl ⟨Nat.le_of_ble_eq_true rfl, Nat.le_of_ble_eq_true rfl⟩ rfl hl.1 rfl (Nat.le_of_ble_eq_true rfl) dX19_speaks_11 ⟨Nat.le_refl _, Nat.le_refl _⟩) hP (fun H locs hP => ?_)
  refine lv_ineg hx hb dX19_speaks_14 ?_
  exact hret _ _ _ _ _ _ dX19_speaks_15 rfl (Option.some.inj h) hP
def pl23_X20_speaks (x0 : Nat) (σ : ST) (t0 : Nat) (a1 : Int32) : Option (Int32 × ST) :=
  bo (pgr σ (some t0) 23 3) (fun (v_2 : Option Nat) => ez v_2 x0 (bo (cp_ran σ (41 : Int32)) (fun (σ_5 : ST) => bo (pis σ_5 (some t0) 23) (fun (_ : Nat) => bo2 (pl23_X19_speaks x0 σ_5 t0 (a1 + (1 : Int32))) (fun (r_9 : Int32) (σ_10 : ST) => some (r_9, σ_10))))))
abbrev rm_X20_speaks__23 : Room := rmf 4 84
set_option maxHeartbeats 4000000 in
set_option maxRecDepth 100000 in
theorem mt_X20_speaks__23 (l : Launch) (G : GT) (σ : ST) (t0 : Nat) (a1 : Int32) {r : Int32} {u : ST} (h : pl23_X20_speaks (G.2.2.1 0) σ t0 a1 = some (r, u)) : CI l cp_ft G yX20_speaks (ws_ yX20_speaks cX20_speaks 2 (some .int)) rm_X20_speaks__23 0 0 [.ref t0, .int a1] σ (r, u) := by
  refine m_enterI (by decide) rfl (lv := [(0, .ref t0), (1, .int a1)]) rfl ?_
  intro p e s m args below meth c H locs ls Q X hret hP hl
  have hx := X.1.1
  have hb := X.1.2.1
  have hown := X.1.2.2.2.1
  have hts := X.1.2.2.2.2
  unfold pl23_X20_speaks at h
  refine lv_aload_n hx hb dX20_speaks_0 rfl (lv_at hl 0 rfl) ?_
  obtain ⟨v_2, e_1, h⟩ := bo_ex h
  refine r_pgr (r := (some t0)) X hP lk_23 3 (Nat.le_of_ble_eq_true rfl) e_1 q1208 dX20_speaks_1 ?_
  have hz_3 := ez_eq h
  have h := ez_k h
  rw [rr_known hz_3]
  refine lv_bipush (v := (41 : Int32)) hx hb dX20_speaks_4 (by decide) ?_
  obtain ⟨σ_5, e_4, h⟩ := bo_ex h
  refine r_callv (r_runVN (rest := []) X hP 0 cp_c0 lk_0 (mt_X0_ran l G σ (41 : Int32) e_4) ⟨va_cnB 1 hts (lw_meth q1292) rfl rfl rfl (X.2.2.1 _ q1341 rfl) (hts _ q110) cdX0_ran ⟨Nat.le_of_ble_eq_true rfl, Nat.le_of_ble_eq_true rfl⟩, hts _ q1291, hts _ qs48⟩ rfl hl.1 rfl (Nat.le_of_ble_eq_true rfl) dX20_speaks_6 ⟨Nat.le_refl _, Nat.le_refl _⟩) hP (fun H locs hP => ?_)
  refine lv_aload_n hx hb dX20_speaks_9 rfl (lv_at hl 0 rfl) ?_
  refine lv_iload_n hx hb dX20_speaks_10 rfl (lv_at hl 1 rfl) ?_
  refine lv_iconst (v := (1 : Int32)) hx hb dX20_speaks_11 (by decide) ?_
  refine lv_iadd hx hb dX20_speaks_12 ?_
  obtain ⟨a_6, e_7, h⟩ := bo_ex h
  obtain ⟨r_9, σ_10, e_8, h⟩ := bo2_ex h
  refine r_calli (r_runSX (rest := []) (n := 1) (x := ⟨"SpeaksInTurn$Shared", "speaks", "(I)I"⟩) X hP (pis_self e_7) lk_23 (mt_X19_speaks__23 l G σ_5 t0 (a1 + (1 : Int32)) e_8) rfl q1342 q2281 q1214 (Or.inl rfl) q1343 q143 q1344 (by decide) cdX19_speaks.2.2 rfl rfl ⟨Nat.le_of_ble_eq_true rfl, Nat.le_of_ble_eq_true rfl⟩ rfl hl.1 rfl (Nat.le_of_ble_eq_true rfl) dX20_speaks_13 ⟨Nat.le_refl _, Nat.le_refl _⟩) hP (fun H locs hP => ?_)
  exact hret _ _ _ _ _ _ dX20_speaks_16 rfl (Option.some.inj h) hP
def pl23_X17_tells (x0 : Nat) (σ : ST) (t0 : Nat) (a1 : Int32) : Option (Int32 × ST) :=
  bo (pgr σ (some t0) 23 1) (fun (v_2 : Option Nat) => ez v_2 x0 (bo (cp_ran σ (2 : Int32)) (fun (σ_5 : ST) => bo (pis σ_5 (some t0) 23) (fun (_ : Nat) => bo2 (pl23_X20_speaks x0 σ_5 t0 a1) (fun (r_9 : Int32) (σ_10 : ST) => bo (pis σ_10 (some t0) 23) (fun (_ : Nat) => bo2 (pl23_X20_stops x0 σ_10 t0 (1 : Int32)) (fun (r_14 : Int32) (σ_15 : ST) => some ((r_9 - r_14), σ_15))))))))
abbrev rm_X17_tells__23 : Room := rmf 5 105
set_option maxHeartbeats 4000000 in
set_option maxRecDepth 100000 in
theorem mt_X17_tells__23 (l : Launch) (G : GT) (σ : ST) (t0 : Nat) (a1 : Int32) {r : Int32} {u : ST} (h : pl23_X17_tells (G.2.2.1 0) σ t0 a1 = some (r, u)) : CI l cp_ft G yX17_tells (ws_ yX17_tells cX17_tells 3 (some .int)) rm_X17_tells__23 0 0 [.ref t0, .int a1] σ (r, u) := by
  refine m_enterI (by decide) rfl (lv := [(0, .ref t0), (1, .int a1)]) rfl ?_
  intro p e s m args below meth c H locs ls Q X hret hP hl
  have hx := X.1.1
  have hb := X.1.2.1
  have hown := X.1.2.2.2.1
  have hts := X.1.2.2.2.2
  unfold pl23_X17_tells at h
  refine lv_aload_n hx hb dX17_tells_0 rfl (lv_at hl 0 rfl) ?_
  obtain ⟨v_2, e_1, h⟩ := bo_ex h
  refine r_pgr (r := (some t0)) X hP lk_23 1 (Nat.le_of_ble_eq_true rfl) e_1 q1182 dX17_tells_1 ?_
  have hz_3 := ez_eq h
  have h := ez_k h
  rw [rr_known hz_3]
  refine lv_iconst (v := (2 : Int32)) hx hb dX17_tells_4 (by decide) ?_
  obtain ⟨σ_5, e_4, h⟩ := bo_ex h
  refine r_callv (r_runVN (rest := []) X hP 0 cp_c0 lk_0 (mt_X0_ran l G σ (2 : Int32) e_4) ⟨va_cnB 1 hts (lw_meth q1292) rfl rfl rfl (X.2.2.1 _ q1289 rfl) (hts _ q110) cdX0_ran ⟨Nat.le_of_ble_eq_true rfl, Nat.le_of_ble_eq_true rfl⟩, hts _ q1291, hts _ qs48⟩ rfl hl.1 rfl (Nat.le_of_ble_eq_true rfl) dX17_tells_5 ⟨Nat.le_refl _, Nat.le_refl _⟩) hP (fun H locs hP => ?_)
  refine lv_aload_n hx hb dX17_tells_8 rfl (lv_at hl 0 rfl) ?_
  refine lv_iload_n hx hb dX17_tells_9 rfl (lv_at hl 1 rfl) ?_
  obtain ⟨a_6, e_7, h⟩ := bo_ex h
  obtain ⟨r_9, σ_10, e_8, h⟩ := bo2_ex h
  refine r_calli (r_runUP (rest := []) X hP (pis_self e_7) lk_23 (mt_X20_speaks__23 l G σ_5 t0 a1 e_8) (va_cwO (owner := "SpeaksInTurn$Plain") (x := ⟨"SpeaksInTurn$Plain", "speaks", "(I)I"⟩) 1 hts (lw_O q1334 q1337 q1335 q1338 q1339 q144 q1340) rfl rfl rfl q1374 cdX17_speaks ⟨Nat.le_of_ble_eq_true rfl, Nat.le_of_ble_eq_true rfl⟩) rfl hl.1 rfl (Nat.le_of_ble_eq_true rfl) dX17_tells_10 ⟨Nat.le_refl _, Nat.le_refl _⟩) hP (fun H locs hP => ?_)
  refine lv_istore_n (lv' := [(2, .int r_9), (0, .ref t0), (1, .int a1)]) hx hb dX17_tells_13 rfl hl (by decide) rfl (fun ls hl => ?_)
  refine lv_iload_n hx hb dX17_tells_14 rfl (lv_at hl 0 rfl) ?_
  refine lv_aload_n hx hb dX17_tells_15 rfl (lv_at hl 1 rfl) ?_
  refine lv_iconst (v := (1 : Int32)) hx hb dX17_tells_16 (by decide) ?_
  obtain ⟨a_11, e_12, h⟩ := bo_ex h
  obtain ⟨r_14, σ_15, e_13, h⟩ := bo2_ex h
  refine r_calli (r_runUP (rest := [.int r_9]) X hP (pis_self e_12) lk_23 (mt_X20_stops__23 l G σ_10 t0 (1 : Int32) e_13) (va_cwO (owner := "SpeaksInTurn$Plain") (x := ⟨"SpeaksInTurn$Plain", "stops", "(I)I"⟩) 1 hts (lw_O q1376 q2282 q1367 q2291 q1377 q144 q1378) rfl rfl rfl q1368 cdX17_stops ⟨Nat.le_of_ble_eq_true rfl, Nat.le_of_ble_eq_true rfl⟩) rfl hl.1 rfl (Nat.le_of_ble_eq_true rfl) dX17_tells_17 ⟨Nat.le_refl _, Nat.le_refl _⟩) hP (fun H locs hP => ?_)
  refine lv_isub hx hb dX17_tells_20 ?_
  exact hret _ _ _ _ _ _ dX17_tells_21 rfl (Option.some.inj h) hP
def pl24_X17_init (x0 : Nat) (σ : ST) (t0 : Nat) (a2 : Int32) : Option ST :=
  bo (ppv σ (some t0) 24 1 (va_rf (some x0))) (fun (σ_2 : ST) => bo (he_init σ_2 t0) (fun (_ : Unit) => bo (ppv σ_2 (some t0) 24 0 (.int a2)) (fun (σ_5 : ST) => some σ_5)))
abbrev rm_X17_init__24 : Room := rmf 2 32
set_option maxHeartbeats 4000000 in
set_option maxRecDepth 100000 in
theorem mt_X17_init__24 (l : Launch) (G : GT) (σ : ST) (t0 : Nat) (a2 : Int32) {u : ST} (h : pl24_X17_init (G.2.2.1 0) σ t0 a2 = some u) : CV l cp_ft G yX17_init (ws_ yX17_init cX17_init 3 none) rm_X17_init__24 0 0 [.ref t0, .ref (G.2.2.1 0), .int a2] σ u := by
  refine m_enterV (by decide) rfl (lv := [(0, .ref t0), (1, .ref (G.2.2.1 0)), (2, .int a2)]) rfl ?_
  intro p e s m args below meth c H locs ls Q X hnm hret hP hl
  have hx := X.1.1
  have hb := X.1.2.1
  have hown := X.1.2.2.2.1
  have hts := X.1.2.2.2.2
  unfold pl24_X17_init at h
  refine lv_aload_n hx hb dX17_init_0 rfl (lv_at hl 0 rfl) ?_
  refine lv_aload_n hx hb dX17_init_1 rfl (lv_at hl 1 rfl) ?_
  obtain ⟨σ_2, e_1, h⟩ := bo_ex h
  refine r_ppvF (r := (some t0)) X hP lk_24 1 (Nat.le_of_ble_eq_true rfl) e_1 q1182 rfl hnm rfl (tyX21_ok 1 (by decide)) (rr_nar _ (some (G.2.2.1 0))) (rr_fit _ (some (G.2.2.1 0))) dX17_init_2 (fun H locs hP => ?_)
  refine lv_aload_n hx hb dX17_init_5 rfl (lv_at hl 0 rfl) ?_
  obtain ⟨_, e_3, h⟩ := bo_ex h
  refine r_callv (r_runIN (rest := []) X hP (mt_X16_init l G σ_2 t0 e_3) ⟨va_cnB 0 hts (lw_meth q1178) rfl rfl rfl (X.2.2.1 _ q1176 rfl) (hts _ q140) cdX16_init ⟨Nat.le_of_ble_eq_true rfl, Nat.le_of_ble_eq_true rfl⟩, rfl, hts _ q1177⟩ rfl hl.1 rfl (Nat.le_of_ble_eq_true rfl) dX17_init_6 ⟨Nat.le_refl _, Nat.le_refl _⟩) hP (fun H locs hP => ?_)
  refine lv_aload_n hx hb dX17_init_9 rfl (lv_at hl 0 rfl) ?_
  refine lv_iload_n hx hb dX17_init_10 rfl (lv_at hl 2 rfl) ?_
  obtain ⟨σ_5, e_4, h⟩ := bo_ex h
  refine r_ppvF (r := (some t0)) X hP lk_24 0 (Nat.le_of_ble_eq_true rfl) e_4 q1181 rfl hnm rfl (tyX21_ok 0 (by decide)) rfl rfl dX17_init_11 (fun H locs hP => ?_)
  exact hret _ _ _ _ _ dX17_init_14 (Option.some.inj h) hP
def pl24_X21_init (x0 : Nat) (σ : ST) (t0 : Nat) (a2 : Int32) : Option ST :=
  bo (ppv σ (some t0) 24 2 (va_rf (some x0))) (fun (σ_2 : ST) => bo (pl24_X17_init x0 σ_2 t0 a2) (fun (σ_4 : ST) => some σ_4))
abbrev rm_X21_init__24 : Room := rmf 3 54
set_option maxHeartbeats 4000000 in
set_option maxRecDepth 100000 in
theorem mt_X21_init__24 (l : Launch) (G : GT) (σ : ST) (t0 : Nat) (a2 : Int32) {u : ST} (h : pl24_X21_init (G.2.2.1 0) σ t0 a2 = some u) : CV l cp_ft G yX21_init (ws_ yX21_init cX21_init 3 none) rm_X21_init__24 0 0 [.ref t0, .ref (G.2.2.1 0), .int a2] σ u := by
  refine m_enterV (by decide) rfl (lv := [(0, .ref t0), (1, .ref (G.2.2.1 0)), (2, .int a2)]) rfl ?_
  intro p e s m args below meth c H locs ls Q X hnm hret hP hl
  have hx := X.1.1
  have hb := X.1.2.1
  have hown := X.1.2.2.2.1
  have hts := X.1.2.2.2.2
  unfold pl24_X21_init at h
  refine lv_aload_n hx hb dX21_init_0 rfl (lv_at hl 0 rfl) ?_
  refine lv_aload_n hx hb dX21_init_1 rfl (lv_at hl 1 rfl) ?_
  obtain ⟨σ_2, e_1, h⟩ := bo_ex h
  refine r_ppvF (r := (some t0)) X hP lk_24 2 (Nat.le_of_ble_eq_true rfl) e_1 q1221 rfl hnm rfl (tyX21_ok 2 (by decide)) (rr_nar _ (some (G.2.2.1 0))) (rr_fit _ (some (G.2.2.1 0))) dX21_init_2 (fun H locs hP => ?_)
  refine lv_aload_n hx hb dX21_init_5 rfl (lv_at hl 0 rfl) ?_
  refine lv_aload_n hx hb dX21_init_6 rfl (lv_at hl 1 rfl) ?_
  refine lv_iload_n hx hb dX21_init_7 rfl (lv_at hl 2 rfl) ?_
  obtain ⟨σ_4, e_3, h⟩ := bo_ex h
  refine r_callv (r_runI (rest := []) X hP (mt_X17_init__24 l G σ_2 t0 a2 e_3) (cwI 2 hts (lw_meth q1175) rfl rfl rfl (hts _ q141) (hts _ q1220) (hts _ q1174) rfl cdX17_init ⟨Nat.le_of_ble_eq_true rfl, Nat.le_of_ble_eq_true rfl⟩) rfl hl.1 rfl (Nat.le_of_ble_eq_true rfl) dX21_init_8 ⟨Nat.le_refl _, Nat.le_refl _⟩) hP (fun H locs hP => ?_)
  exact hret _ _ _ _ _ dX21_init_11 (Option.some.inj h) hP
def pl24_X21_kind (σ : ST) (t0 : Nat) : Option Int32 :=
  some (4 : Int32)
abbrev rm_X21_kind__24 : Room := rmf 0 0
set_option maxHeartbeats 4000000 in
set_option maxRecDepth 100000 in
theorem mt_X21_kind__24 (l : Launch) (G : GT) (σ : ST) (t0 : Nat) {r : Int32} (h : pl24_X21_kind σ t0 = some r) : CI l cp_ft G yX21_kind (ws_ yX21_kind cX21_kind 1 (some .int)) rm_X21_kind__24 0 0 [.ref t0] σ (r, σ) := by
  refine m_enterI (by decide) rfl (lv := [(0, .ref t0)]) rfl ?_
  intro p e s m args below meth c H locs ls Q X hret hP hl
  have hx := X.1.1
  have hb := X.1.2.1
  have hown := X.1.2.2.2.1
  have hts := X.1.2.2.2.2
  unfold pl24_X21_kind at h
  refine lv_iconst (v := (4 : Int32)) hx hb dX21_kind_0 (by decide) ?_
  exact hret _ _ _ _ _ _ dX21_kind_1 rfl (congrArg (fun z9 => (z9, σ)) (Option.some.inj h)) hP
def pl24_X17_isUnder (σ : ST) (t0 : Nat) (a1 : Int32) : Option Int32 :=
  (if a1 = 0 then some (1 : Int32) else bo (pis σ (some t0) 24) (fun (_ : Nat) => bo (pl24_X21_kind σ t0) (fun (r_5 : Int32) => (if a1 = r_5 then some (1 : Int32) else some (0 : Int32)))))
abbrev rm_X17_isUnder__24 : Room := rmf 1 20
set_option maxHeartbeats 4000000 in
set_option maxRecDepth 100000 in
theorem mt_X17_isUnder__24 (l : Launch) (G : GT) (σ : ST) (t0 : Nat) (a1 : Int32) {r : Int32} (h : pl24_X17_isUnder σ t0 a1 = some r) : CI l cp_ft G yX17_isUnder (ws_ yX17_isUnder cX17_isUnder 2 (some .boolean)) rm_X17_isUnder__24 0 0 [.ref t0, .int a1] σ (r, σ) := by
  refine m_enterI (by decide) rfl (lv := [(0, .ref t0), (1, .int a1)]) rfl ?_
  intro p e s m args below meth c H locs ls Q X hret hP hl
  have hx := X.1.1
  have hb := X.1.2.1
  have hown := X.1.2.2.2.1
  have hts := X.1.2.2.2.2
  unfold pl24_X17_isUnder at h
  refine lv_iload_n hx hb dX17_isUnder_0 rfl (lv_at hl 1 rfl) ?_
  refine lv_if_eq (tgt := 12) hx hb dX17_isUnder_1 (by decide) (fun c_1 => ?_) (fun c_1 => ?_)
  · have h := it_t h c_1
    refine lv_iconst (v := (1 : Int32)) hx hb dX17_isUnder_12 (by decide) ?_
    refine lv_goto (tgt := 17) hx hb dX17_isUnder_13 (by decide) ?_
    exact hret _ _ _ _ _ _ dX17_isUnder_17 rfl (congrArg (fun z9 => (z9, σ)) (Option.some.inj h)) hP
  · have h := it_f h c_1
    refine lv_iload_n hx hb dX17_isUnder_4 rfl (lv_at hl 1 rfl) ?_
    refine lv_aload_n hx hb dX17_isUnder_5 rfl (lv_at hl 0 rfl) ?_
    obtain ⟨a_2, e_3, h⟩ := bo_ex h
    obtain ⟨r_5, e_4, h⟩ := bo_ex h
    refine r_calli (r_runUP (rest := [.int a1]) X hP (pis_self e_3) lk_24 (mt_X21_kind__24 l G σ t0 e_4) (va_cwO (owner := "SpeaksInTurn$Plain") (x := ⟨"SpeaksInTurn$Plain", "kind", "()I"⟩) 0 hts (lw_O q1601 q1604 q1602 q1617 q1618 q145 q1619) rfl rfl rfl q1626 cdX17_kind ⟨Nat.le_of_ble_eq_true rfl, Nat.le_of_ble_eq_true rfl⟩) rfl hl.1 rfl (Nat.le_of_ble_eq_true rfl) dX17_isUnder_6 ⟨Nat.le_refl _, Nat.le_refl _⟩) hP (fun H locs hP => ?_)
    refine lv_icmp_ne (tgt := 16) hx hb dX17_isUnder_9 (by decide) (fun c_6 => ?_) (fun c_6 => ?_)
    · have h := it_f h c_6
      refine lv_iconst (v := (0 : Int32)) hx hb dX17_isUnder_16 (by decide) ?_
      exact hret _ _ _ _ _ _ dX17_isUnder_17 rfl (congrArg (fun z9 => (z9, σ)) (Option.some.inj h)) hP
    · have h := it_t h c_6
      refine lv_iconst (v := (1 : Int32)) hx hb dX17_isUnder_12 (by decide) ?_
      refine lv_goto (tgt := 17) hx hb dX17_isUnder_13 (by decide) ?_
      exact hret _ _ _ _ _ _ dX17_isUnder_17 rfl (congrArg (fun z9 => (z9, σ)) (Option.some.inj h)) hP
def pl24_X21_isUnder (σ : ST) (t0 : Nat) (a1 : Int32) : Option Int32 :=
  (if a1 = (4 : Int32) then some (1 : Int32) else bo (pis σ (some t0) 24) (fun (_ : Nat) => bo (pl24_X17_isUnder σ t0 a1) (fun (r_5 : Int32) => (if r_5 = 0 then some (0 : Int32) else some (1 : Int32)))))
abbrev rm_X21_isUnder__24 : Room := rmf 2 41
set_option maxHeartbeats 4000000 in
set_option maxRecDepth 100000 in
theorem mt_X21_isUnder__24 (l : Launch) (G : GT) (σ : ST) (t0 : Nat) (a1 : Int32) {r : Int32} (h : pl24_X21_isUnder σ t0 a1 = some r) : CI l cp_ft G yX21_isUnder (ws_ yX21_isUnder cX21_isUnder 2 (some .boolean)) rm_X21_isUnder__24 0 0 [.ref t0, .int a1] σ (r, σ) := by
  refine m_enterI (by decide) rfl (lv := [(0, .ref t0), (1, .int a1)]) rfl ?_
  intro p e s m args below meth c H locs ls Q X hret hP hl
  have hx := X.1.1
  have hb := X.1.2.1
  have hown := X.1.2.2.2.1
  have hts := X.1.2.2.2.2
  unfold pl24_X21_isUnder at h
  refine lv_iload_n hx hb dX21_isUnder_0 rfl (lv_at hl 1 rfl) ?_
  refine lv_iconst (v := (4 : Int32)) hx hb dX21_isUnder_1 (by decide) ?_
  refine lv_icmp_eq (tgt := 13) hx hb dX21_isUnder_2 (by decide) (fun c_1 => ?_) (fun c_1 => ?_)
  · have h := it_t h c_1
    refine lv_iconst (v := (1 : Int32)) hx hb dX21_isUnder_13 (by decide) ?_
    refine lv_goto (tgt := 18) hx hb dX21_isUnder_14 (by decide) ?_
    exact hret _ _ _ _ _ _ dX21_isUnder_18 rfl (congrArg (fun z9 => (z9, σ)) (Option.some.inj h)) hP
  · have h := it_f h c_1
    refine lv_aload_n hx hb dX21_isUnder_5 rfl (lv_at hl 0 rfl) ?_
    refine lv_iload_n hx hb dX21_isUnder_6 rfl (lv_at hl 1 rfl) ?_
    obtain ⟨a_2, e_3, h⟩ := bo_ex h
    obtain ⟨r_5, e_4, h⟩ := bo_ex h
    refine r_calli (r_runSX (rest := []) (n := 1) (x := ⟨"SpeaksInTurn$Plain", "isUnder", "(I)Z"⟩) X hP (pis_self e_3) lk_24 (mt_X17_isUnder__24 l G σ t0 a1 e_4) rfl q1597 q1583 q1226 (Or.inl rfl) q1581 q141 q1600 (by decide) cdX17_isUnder.2.2 rfl rfl ⟨Nat.le_of_ble_eq_true rfl, Nat.le_of_ble_eq_true rfl⟩ rfl hl.1 rfl (Nat.le_of_ble_eq_true rfl) dX21_isUnder_7 ⟨Nat.le_refl _, Nat.le_refl _⟩) hP (fun H locs hP => ?_)
    refine lv_if_eq (tgt := 17) hx hb dX21_isUnder_10 (by decide) (fun c_6 => ?_) (fun c_6 => ?_)
    · have h := it_t h c_6
      refine lv_iconst (v := (0 : Int32)) hx hb dX21_isUnder_17 (by decide) ?_
      exact hret _ _ _ _ _ _ dX21_isUnder_18 rfl (congrArg (fun z9 => (z9, σ)) (Option.some.inj h)) hP
    · have h := it_f h c_6
      refine lv_iconst (v := (1 : Int32)) hx hb dX21_isUnder_13 (by decide) ?_
      refine lv_goto (tgt := 18) hx hb dX21_isUnder_14 (by decide) ?_
      exact hret _ _ _ _ _ _ dX21_isUnder_18 rfl (congrArg (fun z9 => (z9, σ)) (Option.some.inj h)) hP
def pl24_X17_knows (x0 : Nat) (σ : ST) (t0 : Nat) (a1 : Int32) : Option (Int32 × ST) :=
  bo (pgr σ (some t0) 24 1) (fun (v_2 : Option Nat) => ez v_2 x0 (bo (cp_ran σ (1 : Int32)) (fun (σ_5 : ST) => bo (pgi σ_5 (some t0) 24 0) (fun (v_7 : Int32) => some ((a1 + v_7), σ_5)))))
abbrev rm_X17_knows__24 : Room := rmf 1 21
set_option maxHeartbeats 4000000 in
set_option maxRecDepth 100000 in
theorem mt_X17_knows__24 (l : Launch) (G : GT) (σ : ST) (t0 : Nat) (a1 : Int32) {r : Int32} {u : ST} (h : pl24_X17_knows (G.2.2.1 0) σ t0 a1 = some (r, u)) : CI l cp_ft G yX17_knows (ws_ yX17_knows cX17_knows 2 (some .int)) rm_X17_knows__24 0 0 [.ref t0, .int a1] σ (r, u) := by
  refine m_enterI (by decide) rfl (lv := [(0, .ref t0), (1, .int a1)]) rfl ?_
  intro p e s m args below meth c H locs ls Q X hret hP hl
  have hx := X.1.1
  have hb := X.1.2.1
  have hown := X.1.2.2.2.1
  have hts := X.1.2.2.2.2
  unfold pl24_X17_knows at h
  refine lv_aload_n hx hb dX17_knows_0 rfl (lv_at hl 0 rfl) ?_
  obtain ⟨v_2, e_1, h⟩ := bo_ex h
  refine r_pgr (r := (some t0)) X hP lk_24 1 (Nat.le_of_ble_eq_true rfl) e_1 q1182 dX17_knows_1 ?_
  have hz_3 := ez_eq h
  have h := ez_k h
  rw [rr_known hz_3]
  refine lv_iconst (v := (1 : Int32)) hx hb dX17_knows_4 (by decide) ?_
  obtain ⟨σ_5, e_4, h⟩ := bo_ex h
  refine r_callv (r_runVN (rest := []) X hP 0 cp_c0 lk_0 (mt_X0_ran l G σ (1 : Int32) e_4) ⟨va_cnB 1 hts (lw_meth q1292) rfl rfl rfl (X.2.2.1 _ q1289 rfl) (hts _ q110) cdX0_ran ⟨Nat.le_of_ble_eq_true rfl, Nat.le_of_ble_eq_true rfl⟩, hts _ q1291, hts _ qs48⟩ rfl hl.1 rfl (Nat.le_of_ble_eq_true rfl) dX17_knows_5 ⟨Nat.le_refl _, Nat.le_refl _⟩) hP (fun H locs hP => ?_)
  refine lv_iload_n hx hb dX17_knows_8 rfl (lv_at hl 1 rfl) ?_
  refine lv_aload_n hx hb dX17_knows_9 rfl (lv_at hl 0 rfl) ?_
  obtain ⟨v_7, e_6, h⟩ := bo_ex h
  refine r_pgi (r := (some t0)) X hP lk_24 0 (Nat.le_of_ble_eq_true rfl) e_6 q1181 dX17_knows_10 ?_
  refine lv_iadd hx hb dX17_knows_13 ?_
  exact hret _ _ _ _ _ _ dX17_knows_14 rfl (Option.some.inj h) hP
def pl24_X17_stops (x0 : Nat) (σ : ST) (t0 : Nat) (a1 : Int32) : Option (Int32 × ST) :=
  bo (pgr σ (some t0) 24 1) (fun (v_2 : Option Nat) => ez v_2 x0 (bo (cp_ran σ (11 : Int32)) (fun (σ_5 : ST) => bo (pgi σ_5 (some t0) 24 0) (fun (v_7 : Int32) => some ((a1 ^^^ v_7), σ_5)))))
abbrev rm_X17_stops__24 : Room := rmf 1 21
set_option maxHeartbeats 4000000 in
set_option maxRecDepth 100000 in
theorem mt_X17_stops__24 (l : Launch) (G : GT) (σ : ST) (t0 : Nat) (a1 : Int32) {r : Int32} {u : ST} (h : pl24_X17_stops (G.2.2.1 0) σ t0 a1 = some (r, u)) : CI l cp_ft G yX17_stops (ws_ yX17_stops cX17_stops 2 (some .int)) rm_X17_stops__24 0 0 [.ref t0, .int a1] σ (r, u) := by
  refine m_enterI (by decide) rfl (lv := [(0, .ref t0), (1, .int a1)]) rfl ?_
  intro p e s m args below meth c H locs ls Q X hret hP hl
  have hx := X.1.1
  have hb := X.1.2.1
  have hown := X.1.2.2.2.1
  have hts := X.1.2.2.2.2
  unfold pl24_X17_stops at h
  refine lv_aload_n hx hb dX17_stops_0 rfl (lv_at hl 0 rfl) ?_
  obtain ⟨v_2, e_1, h⟩ := bo_ex h
  refine r_pgr (r := (some t0)) X hP lk_24 1 (Nat.le_of_ble_eq_true rfl) e_1 q1182 dX17_stops_1 ?_
  have hz_3 := ez_eq h
  have h := ez_k h
  rw [rr_known hz_3]
  refine lv_bipush (v := (11 : Int32)) hx hb dX17_stops_4 (by decide) ?_
  obtain ⟨σ_5, e_4, h⟩ := bo_ex h
  refine r_callv (r_runVN (rest := []) X hP 0 cp_c0 lk_0 (mt_X0_ran l G σ (11 : Int32) e_4) ⟨va_cnB 1 hts (lw_meth q1292) rfl rfl rfl (X.2.2.1 _ q1289 rfl) (hts _ q110) cdX0_ran ⟨Nat.le_of_ble_eq_true rfl, Nat.le_of_ble_eq_true rfl⟩, hts _ q1291, hts _ qs48⟩ rfl hl.1 rfl (Nat.le_of_ble_eq_true rfl) dX17_stops_6 ⟨Nat.le_refl _, Nat.le_refl _⟩) hP (fun H locs hP => ?_)
  refine lv_iload_n hx hb dX17_stops_9 rfl (lv_at hl 1 rfl) ?_
  refine lv_aload_n hx hb dX17_stops_10 rfl (lv_at hl 0 rfl) ?_
  obtain ⟨v_7, e_6, h⟩ := bo_ex h
  refine r_pgi (r := (some t0)) X hP lk_24 0 (Nat.le_of_ble_eq_true rfl) e_6 q1181 dX17_stops_11 ?_
  refine lv_ixor hx hb dX17_stops_14 ?_
  exact hret _ _ _ _ _ _ dX17_stops_15 rfl (Option.some.inj h) hP
def pl24_X21_stops (x0 : Nat) (σ : ST) (t0 : Nat) (a1 : Int32) : Option (Int32 × ST) :=
  bo (pgr σ (some t0) 24 2) (fun (v_2 : Option Nat) => ez v_2 x0 (bo (cp_ran σ (50 : Int32)) (fun (σ_5 : ST) => bo (pis σ_5 (some t0) 24) (fun (_ : Nat) => bo2 (pl24_X17_stops x0 σ_5 t0 a1) (fun (r_9 : Int32) (σ_10 : ST) => bo (pis σ_10 (some t0) 24) (fun (_ : Nat) => bo2 (pl24_X17_knows x0 σ_10 t0 (2 : Int32)) (fun (r_14 : Int32) (σ_15 : ST) => some ((r_9 - r_14), σ_15))))))))
abbrev rm_X21_stops__24 : Room := rmf 2 42
set_option maxHeartbeats 4000000 in
set_option maxRecDepth 100000 in
theorem mt_X21_stops__24 (l : Launch) (G : GT) (σ : ST) (t0 : Nat) (a1 : Int32) {r : Int32} {u : ST} (h : pl24_X21_stops (G.2.2.1 0) σ t0 a1 = some (r, u)) : CI l cp_ft G yX21_stops (ws_ yX21_stops cX21_stops 3 (some .int)) rm_X21_stops__24 0 0 [.ref t0, .int a1] σ (r, u) := by
  refine m_enterI (by decide) rfl (lv := [(0, .ref t0), (1, .int a1)]) rfl ?_
  intro p e s m args below meth c H locs ls Q X hret hP hl
  have hx := X.1.1
  have hb := X.1.2.1
  have hown := X.1.2.2.2.1
  have hts := X.1.2.2.2.2
  unfold pl24_X21_stops at h
  refine lv_aload_n hx hb dX21_stops_0 rfl (lv_at hl 0 rfl) ?_
  obtain ⟨v_2, e_1, h⟩ := bo_ex h
  refine r_pgr (r := (some t0)) X hP lk_24 2 (Nat.le_of_ble_eq_true rfl) e_1 q1221 dX21_stops_1 ?_
  have hz_3 := ez_eq h
  have h := ez_k h
  rw [rr_known hz_3]
  refine lv_bipush (v := (50 : Int32)) hx hb dX21_stops_4 (by decide) ?_
  obtain ⟨σ_5, e_4, h⟩ := bo_ex h
  refine r_callv (r_runVN (rest := []) X hP 0 cp_c0 lk_0 (mt_X0_ran l G σ (50 : Int32) e_4) ⟨va_cnB 1 hts (lw_meth q1292) rfl rfl rfl (X.2.2.1 _ q1365 rfl) (hts _ q110) cdX0_ran ⟨Nat.le_of_ble_eq_true rfl, Nat.le_of_ble_eq_true rfl⟩, hts _ q1291, hts _ qs48⟩ rfl hl.1 rfl (Nat.le_of_ble_eq_true rfl) dX21_stops_6 ⟨Nat.le_refl _, Nat.le_refl _⟩) hP (fun H locs hP => ?_)
  refine lv_aload_n hx hb dX21_stops_9 rfl (lv_at hl 0 rfl) ?_
  refine lv_iload_n hx hb dX21_stops_10 rfl (lv_at hl 1 rfl) ?_
  obtain ⟨a_6, e_7, h⟩ := bo_ex h
  obtain ⟨r_9, σ_10, e_8, h⟩ := bo2_ex h
  refine r_calli (r_runSX (rest := []) (n := 1) (x := ⟨"SpeaksInTurn$Plain", "stops", "(I)I"⟩) X hP (pis_self e_7) lk_24 (mt_X17_stops__24 l G σ_5 t0 a1 e_8) rfl q1366 q2282 q1226 (Or.inl rfl) q1367 q141 q1368 (by decide) cdX17_stops.2.2 rfl rfl ⟨Nat.le_of_ble_eq_true rfl, Nat.le_of_ble_eq_true rfl⟩ rfl hl.1 rfl (Nat.le_of_ble_eq_true rfl) dX21_stops_11 ⟨Nat.le_refl _, Nat.le_refl _⟩) hP (fun H locs hP => ?_)
  refine lv_istore_n (lv' := [(2, .int r_9), (0, .ref t0), (1, .int a1)]) hx hb dX21_stops_14 rfl hl (by decide) rfl (fun ls hl => ?_)
  refine lv_iload_n hx hb dX21_stops_15 rfl (lv_at hl 0 rfl) ?_
  refine lv_aload_n hx hb dX21_stops_16 rfl (lv_at hl 1 rfl) ?_
  refine lv_iconst (v := (2 : Int32)) hx hb dX21_stops_17 (by decide) ?_
  obtain ⟨a_11, e_12, h⟩ := bo_ex h
  obtain ⟨r_14, σ_15, e_13, h⟩ := bo2_ex h
  refine r_calli (r_runUP (rest := [.int r_9]) X hP (pis_self e_12) lk_24 (mt_X17_knows__24 l G σ_10 t0 (2 : Int32) e_13) (va_cwO (owner := "SpeaksInTurn$Plain") (x := ⟨"SpeaksInTurn$Stopped", "knows", "(I)I"⟩) 1 hts (lw_O q1369 q1370 q1286 q1372 q1286 q141 q1288) rfl rfl rfl q1288 cdX17_knows ⟨Nat.le_of_ble_eq_true rfl, Nat.le_of_ble_eq_true rfl⟩) rfl hl.1 rfl (Nat.le_of_ble_eq_true rfl) dX21_stops_18 ⟨Nat.le_refl _, Nat.le_refl _⟩) hP (fun H locs hP => ?_)
  refine lv_isub hx hb dX21_stops_21 ?_
  exact hret _ _ _ _ _ _ dX21_stops_22 rfl (Option.some.inj h) hP
def pl24_X17_speaks (x0 : Nat) (σ : ST) (t0 : Nat) (a1 : Int32) : Option (Int32 × ST) :=
  bo (pgr σ (some t0) 24 1) (fun (v_2 : Option Nat) => ez v_2 x0 (bo (cp_ran σ (10 : Int32)) (fun (σ_5 : ST) => bo (pis σ_5 (some t0) 24) (fun (_ : Nat) => bo2 (pl24_X17_knows x0 σ_5 t0 a1) (fun (r_9 : Int32) (σ_10 : ST) => some ((r_9 * (2 : Int32)), σ_10))))))
abbrev rm_X17_speaks__24 : Room := rmf 2 42
set_option maxHeartbeats 4000000 in
set_option maxRecDepth 100000 in
theorem mt_X17_speaks__24 (l : Launch) (G : GT) (σ : ST) (t0 : Nat) (a1 : Int32) {r : Int32} {u : ST} (h : pl24_X17_speaks (G.2.2.1 0) σ t0 a1 = some (r, u)) : CI l cp_ft G yX17_speaks (ws_ yX17_speaks cX17_speaks 2 (some .int)) rm_X17_speaks__24 0 0 [.ref t0, .int a1] σ (r, u) := by
  refine m_enterI (by decide) rfl (lv := [(0, .ref t0), (1, .int a1)]) rfl ?_
  intro p e s m args below meth c H locs ls Q X hret hP hl
  have hx := X.1.1
  have hb := X.1.2.1
  have hown := X.1.2.2.2.1
  have hts := X.1.2.2.2.2
  unfold pl24_X17_speaks at h
  refine lv_aload_n hx hb dX17_speaks_0 rfl (lv_at hl 0 rfl) ?_
  obtain ⟨v_2, e_1, h⟩ := bo_ex h
  refine r_pgr (r := (some t0)) X hP lk_24 1 (Nat.le_of_ble_eq_true rfl) e_1 q1182 dX17_speaks_1 ?_
  have hz_3 := ez_eq h
  have h := ez_k h
  rw [rr_known hz_3]
  refine lv_bipush (v := (10 : Int32)) hx hb dX17_speaks_4 (by decide) ?_
  obtain ⟨σ_5, e_4, h⟩ := bo_ex h
  refine r_callv (r_runVN (rest := []) X hP 0 cp_c0 lk_0 (mt_X0_ran l G σ (10 : Int32) e_4) ⟨va_cnB 1 hts (lw_meth q1292) rfl rfl rfl (X.2.2.1 _ q1289 rfl) (hts _ q110) cdX0_ran ⟨Nat.le_of_ble_eq_true rfl, Nat.le_of_ble_eq_true rfl⟩, hts _ q1291, hts _ qs48⟩ rfl hl.1 rfl (Nat.le_of_ble_eq_true rfl) dX17_speaks_6 ⟨Nat.le_refl _, Nat.le_refl _⟩) hP (fun H locs hP => ?_)
  refine lv_aload_n hx hb dX17_speaks_9 rfl (lv_at hl 0 rfl) ?_
  refine lv_iload_n hx hb dX17_speaks_10 rfl (lv_at hl 1 rfl) ?_
  obtain ⟨a_6, e_7, h⟩ := bo_ex h
  obtain ⟨r_9, σ_10, e_8, h⟩ := bo2_ex h
  refine r_calli (r_runUP (rest := []) X hP (pis_self e_7) lk_24 (mt_X17_knows__24 l G σ_5 t0 a1 e_8) (va_cwO (owner := "SpeaksInTurn$Plain") (x := ⟨"SpeaksInTurn$Plain", "knows", "(I)I"⟩) 1 hts (lw_O q1375 q2280 q1286 q2288 q1286 q141 q1288) rfl rfl rfl q1288 cdX17_knows ⟨Nat.le_of_ble_eq_true rfl, Nat.le_of_ble_eq_true rfl⟩) rfl hl.1 rfl (Nat.le_of_ble_eq_true rfl) dX17_speaks_11 ⟨Nat.le_refl _, Nat.le_refl _⟩) hP (fun H locs hP => ?_)
  refine lv_iconst (v := (2 : Int32)) hx hb dX17_speaks_14 (by decide) ?_
  refine lv_imul hx hb dX17_speaks_15 ?_
  exact hret _ _ _ _ _ _ dX17_speaks_16 rfl (Option.some.inj h) hP
def pl24_X17_tells (x0 : Nat) (σ : ST) (t0 : Nat) (a1 : Int32) : Option (Int32 × ST) :=
  bo (pgr σ (some t0) 24 1) (fun (v_2 : Option Nat) => ez v_2 x0 (bo (cp_ran σ (2 : Int32)) (fun (σ_5 : ST) => bo (pis σ_5 (some t0) 24) (fun (_ : Nat) => bo2 (pl24_X17_speaks x0 σ_5 t0 a1) (fun (r_9 : Int32) (σ_10 : ST) => bo (pis σ_10 (some t0) 24) (fun (_ : Nat) => bo2 (pl24_X21_stops x0 σ_10 t0 (1 : Int32)) (fun (r_14 : Int32) (σ_15 : ST) => some ((r_9 - r_14), σ_15))))))))
abbrev rm_X17_tells__24 : Room := rmf 3 64
set_option maxHeartbeats 4000000 in
set_option maxRecDepth 100000 in
theorem mt_X17_tells__24 (l : Launch) (G : GT) (σ : ST) (t0 : Nat) (a1 : Int32) {r : Int32} {u : ST} (h : pl24_X17_tells (G.2.2.1 0) σ t0 a1 = some (r, u)) : CI l cp_ft G yX17_tells (ws_ yX17_tells cX17_tells 3 (some .int)) rm_X17_tells__24 0 0 [.ref t0, .int a1] σ (r, u) := by
  refine m_enterI (by decide) rfl (lv := [(0, .ref t0), (1, .int a1)]) rfl ?_
  intro p e s m args below meth c H locs ls Q X hret hP hl
  have hx := X.1.1
  have hb := X.1.2.1
  have hown := X.1.2.2.2.1
  have hts := X.1.2.2.2.2
  unfold pl24_X17_tells at h
  refine lv_aload_n hx hb dX17_tells_0 rfl (lv_at hl 0 rfl) ?_
  obtain ⟨v_2, e_1, h⟩ := bo_ex h
  refine r_pgr (r := (some t0)) X hP lk_24 1 (Nat.le_of_ble_eq_true rfl) e_1 q1182 dX17_tells_1 ?_
  have hz_3 := ez_eq h
  have h := ez_k h
  rw [rr_known hz_3]
  refine lv_iconst (v := (2 : Int32)) hx hb dX17_tells_4 (by decide) ?_
  obtain ⟨σ_5, e_4, h⟩ := bo_ex h
  refine r_callv (r_runVN (rest := []) X hP 0 cp_c0 lk_0 (mt_X0_ran l G σ (2 : Int32) e_4) ⟨va_cnB 1 hts (lw_meth q1292) rfl rfl rfl (X.2.2.1 _ q1289 rfl) (hts _ q110) cdX0_ran ⟨Nat.le_of_ble_eq_true rfl, Nat.le_of_ble_eq_true rfl⟩, hts _ q1291, hts _ qs48⟩ rfl hl.1 rfl (Nat.le_of_ble_eq_true rfl) dX17_tells_5 ⟨Nat.le_refl _, Nat.le_refl _⟩) hP (fun H locs hP => ?_)
  refine lv_aload_n hx hb dX17_tells_8 rfl (lv_at hl 0 rfl) ?_
  refine lv_iload_n hx hb dX17_tells_9 rfl (lv_at hl 1 rfl) ?_
  obtain ⟨a_6, e_7, h⟩ := bo_ex h
  obtain ⟨r_9, σ_10, e_8, h⟩ := bo2_ex h
  refine r_calli (r_runUP (rest := []) X hP (pis_self e_7) lk_24 (mt_X17_speaks__24 l G σ_5 t0 a1 e_8) (va_cwO (owner := "SpeaksInTurn$Plain") (x := ⟨"SpeaksInTurn$Plain", "speaks", "(I)I"⟩) 1 hts (lw_O q1334 q1337 q1335 q1350 q1335 q141 q1374) rfl rfl rfl q1374 cdX17_speaks ⟨Nat.le_of_ble_eq_true rfl, Nat.le_of_ble_eq_true rfl⟩) rfl hl.1 rfl (Nat.le_of_ble_eq_true rfl) dX17_tells_10 ⟨Nat.le_refl _, Nat.le_refl _⟩) hP (fun H locs hP => ?_)
  refine lv_istore_n (lv' := [(2, .int r_9), (0, .ref t0), (1, .int a1)]) hx hb dX17_tells_13 rfl hl (by decide) rfl (fun ls hl => ?_)
  refine lv_iload_n hx hb dX17_tells_14 rfl (lv_at hl 0 rfl) ?_
  refine lv_aload_n hx hb dX17_tells_15 rfl (lv_at hl 1 rfl) ?_
  refine lv_iconst (v := (1 : Int32)) hx hb dX17_tells_16 (by decide) ?_
  obtain ⟨a_11, e_12, h⟩ := bo_ex h
  obtain ⟨r_14, σ_15, e_13, h⟩ := bo2_ex h
  refine r_calli (r_runUP (rest := [.int r_9]) X hP (pis_self e_12) lk_24 (mt_X21_stops__24 l G σ_10 t0 (1 : Int32) e_13) (va_cwO (owner := "SpeaksInTurn$Plain") (x := ⟨"SpeaksInTurn$Plain", "stops", "(I)I"⟩) 1 hts (lw_O q1376 q2282 q1367 q2296 q1363 q145 q1364) rfl rfl rfl q1368 cdX17_stops ⟨Nat.le_of_ble_eq_true rfl, Nat.le_of_ble_eq_true rfl⟩) rfl hl.1 rfl (Nat.le_of_ble_eq_true rfl) dX17_tells_17 ⟨Nat.le_refl _, Nat.le_refl _⟩) hP (fun H locs hP => ?_)
  refine lv_isub hx hb dX17_tells_20 ?_
  exact hret _ _ _ _ _ _ dX17_tells_21 rfl (Option.some.inj h) hP
def pl25_X17_init (x0 : Nat) (σ : ST) (t0 : Nat) (a2 : Int32) : Option ST :=
  bo (ppv σ (some t0) 25 1 (va_rf (some x0))) (fun (σ_2 : ST) => bo (he_init σ_2 t0) (fun (_ : Unit) => bo (ppv σ_2 (some t0) 25 0 (.int a2)) (fun (σ_5 : ST) => some σ_5)))
abbrev rm_X17_init__25 : Room := rmf 2 32
set_option maxHeartbeats 4000000 in
set_option maxRecDepth 100000 in
theorem mt_X17_init__25 (l : Launch) (G : GT) (σ : ST) (t0 : Nat) (a2 : Int32) {u : ST} (h : pl25_X17_init (G.2.2.1 0) σ t0 a2 = some u) : CV l cp_ft G yX17_init (ws_ yX17_init cX17_init 3 none) rm_X17_init__25 0 0 [.ref t0, .ref (G.2.2.1 0), .int a2] σ u := by
  refine m_enterV (by decide) rfl (lv := [(0, .ref t0), (1, .ref (G.2.2.1 0)), (2, .int a2)]) rfl ?_
  intro p e s m args below meth c H locs ls Q X hnm hret hP hl
  have hx := X.1.1
  have hb := X.1.2.1
  have hown := X.1.2.2.2.1
  have hts := X.1.2.2.2.2
  unfold pl25_X17_init at h
  refine lv_aload_n hx hb dX17_init_0 rfl (lv_at hl 0 rfl) ?_
  refine lv_aload_n hx hb dX17_init_1 rfl (lv_at hl 1 rfl) ?_
  obtain ⟨σ_2, e_1, h⟩ := bo_ex h
  refine r_ppvF (r := (some t0)) X hP lk_25 1 (Nat.le_of_ble_eq_true rfl) e_1 q1182 rfl hnm rfl (tyX22_ok 1 (by decide)) (rr_nar _ (some (G.2.2.1 0))) (rr_fit _ (some (G.2.2.1 0))) dX17_init_2 (fun H locs hP => ?_)
  refine lv_aload_n hx hb dX17_init_5 rfl (lv_at hl 0 rfl) ?_
  obtain ⟨_, e_3, h⟩ := bo_ex h
  refine r_callv (r_runIN (rest := []) X hP (mt_X16_init l G σ_2 t0 e_3) ⟨va_cnB 0 hts (lw_meth q1178) rfl rfl rfl (X.2.2.1 _ q1176 rfl) (hts _ q140) cdX16_init ⟨Nat.le_of_ble_eq_true rfl, Nat.le_of_ble_eq_true rfl⟩, rfl, hts _ q1177⟩ rfl hl.1 rfl (Nat.le_of_ble_eq_true rfl) dX17_init_6 ⟨Nat.le_refl _, Nat.le_refl _⟩) hP (fun H locs hP => ?_)
  refine lv_aload_n hx hb dX17_init_9 rfl (lv_at hl 0 rfl) ?_
  refine lv_iload_n hx hb dX17_init_10 rfl (lv_at hl 2 rfl) ?_
  obtain ⟨σ_5, e_4, h⟩ := bo_ex h
  refine r_ppvF (r := (some t0)) X hP lk_25 0 (Nat.le_of_ble_eq_true rfl) e_4 q1181 rfl hnm rfl (tyX22_ok 0 (by decide)) rfl rfl dX17_init_11 (fun H locs hP => ?_)
  exact hret _ _ _ _ _ dX17_init_14 (Option.some.inj h) hP
def pl25_X19_init (x0 : Nat) (σ : ST) (t0 : Nat) (a2 : Int32) : Option ST :=
  bo (ppv σ (some t0) 25 2 (va_rf (some x0))) (fun (σ_2 : ST) => bo (pl25_X17_init x0 σ_2 t0 a2) (fun (σ_4 : ST) => some σ_4))
abbrev rm_X19_init__25 : Room := rmf 3 54
set_option maxHeartbeats 4000000 in
set_option maxRecDepth 100000 in
theorem mt_X19_init__25 (l : Launch) (G : GT) (σ : ST) (t0 : Nat) (a2 : Int32) {u : ST} (h : pl25_X19_init (G.2.2.1 0) σ t0 a2 = some u) : CV l cp_ft G yX19_init (ws_ yX19_init cX19_init 3 none) rm_X19_init__25 0 0 [.ref t0, .ref (G.2.2.1 0), .int a2] σ u := by
  refine m_enterV (by decide) rfl (lv := [(0, .ref t0), (1, .ref (G.2.2.1 0)), (2, .int a2)]) rfl ?_
  intro p e s m args below meth c H locs ls Q X hnm hret hP hl
  have hx := X.1.1
  have hb := X.1.2.1
  have hown := X.1.2.2.2.1
  have hts := X.1.2.2.2.2
  unfold pl25_X19_init at h
  refine lv_aload_n hx hb dX19_init_0 rfl (lv_at hl 0 rfl) ?_
  refine lv_aload_n hx hb dX19_init_1 rfl (lv_at hl 1 rfl) ?_
  obtain ⟨σ_2, e_1, h⟩ := bo_ex h
  refine r_ppvF (r := (some t0)) X hP lk_25 2 (Nat.le_of_ble_eq_true rfl) e_1 q1196 rfl hnm rfl (tyX22_ok 2 (by decide)) (rr_nar _ (some (G.2.2.1 0))) (rr_fit _ (some (G.2.2.1 0))) dX19_init_2 (fun H locs hP => ?_)
  refine lv_aload_n hx hb dX19_init_5 rfl (lv_at hl 0 rfl) ?_
  refine lv_aload_n hx hb dX19_init_6 rfl (lv_at hl 1 rfl) ?_
  refine lv_iload_n hx hb dX19_init_7 rfl (lv_at hl 2 rfl) ?_
  obtain ⟨σ_4, e_3, h⟩ := bo_ex h
  refine r_callv (r_runI (rest := []) X hP (mt_X17_init__25 l G σ_2 t0 a2 e_3) (cwI 2 hts (lw_meth q1175) rfl rfl rfl (hts _ q141) (hts _ q1195) (hts _ q1174) rfl cdX17_init ⟨Nat.le_of_ble_eq_true rfl, Nat.le_of_ble_eq_true rfl⟩) rfl hl.1 rfl (Nat.le_of_ble_eq_true rfl) dX19_init_8 ⟨Nat.le_refl _, Nat.le_refl _⟩) hP (fun H locs hP => ?_)
  exact hret _ _ _ _ _ dX19_init_11 (Option.some.inj h) hP
def pl25_X20_init (x0 : Nat) (σ : ST) (t0 : Nat) (a2 : Int32) : Option ST :=
  bo (ppv σ (some t0) 25 3 (va_rf (some x0))) (fun (σ_2 : ST) => bo (pl25_X19_init x0 σ_2 t0 a2) (fun (σ_4 : ST) => some σ_4))
abbrev rm_X20_init__25 : Room := rmf 4 76
set_option maxHeartbeats 4000000 in
set_option maxRecDepth 100000 in
theorem mt_X20_init__25 (l : Launch) (G : GT) (σ : ST) (t0 : Nat) (a2 : Int32) {u : ST} (h : pl25_X20_init (G.2.2.1 0) σ t0 a2 = some u) : CV l cp_ft G yX20_init (ws_ yX20_init cX20_init 3 none) rm_X20_init__25 0 0 [.ref t0, .ref (G.2.2.1 0), .int a2] σ u := by
  refine m_enterV (by decide) rfl (lv := [(0, .ref t0), (1, .ref (G.2.2.1 0)), (2, .int a2)]) rfl ?_
  intro p e s m args below meth c H locs ls Q X hnm hret hP hl
  have hx := X.1.1
  have hb := X.1.2.1
  have hown := X.1.2.2.2.1
  have hts := X.1.2.2.2.2
  unfold pl25_X20_init at h
  refine lv_aload_n hx hb dX20_init_0 rfl (lv_at hl 0 rfl) ?_
  refine lv_aload_n hx hb dX20_init_1 rfl (lv_at hl 1 rfl) ?_
  obtain ⟨σ_2, e_1, h⟩ := bo_ex h
  refine r_ppvF (r := (some t0)) X hP lk_25 3 (Nat.le_of_ble_eq_true rfl) e_1 q1208 rfl hnm rfl (tyX22_ok 3 (by decide)) (rr_nar _ (some (G.2.2.1 0))) (rr_fit _ (some (G.2.2.1 0))) dX20_init_2 (fun H locs hP => ?_)
  refine lv_aload_n hx hb dX20_init_5 rfl (lv_at hl 0 rfl) ?_
  refine lv_aload_n hx hb dX20_init_6 rfl (lv_at hl 1 rfl) ?_
  refine lv_iload_n hx hb dX20_init_7 rfl (lv_at hl 2 rfl) ?_
  obtain ⟨σ_4, e_3, h⟩ := bo_ex h
  refine r_callv (r_runI (rest := []) X hP (mt_X19_init__25 l G σ_2 t0 a2 e_3) (cwI 2 hts (lw_meth q1194) rfl rfl rfl (hts _ q143) (hts _ q1207) (hts _ q1193) rfl cdX19_init ⟨Nat.le_of_ble_eq_true rfl, Nat.le_of_ble_eq_true rfl⟩) rfl hl.1 rfl (Nat.le_of_ble_eq_true rfl) dX20_init_8 ⟨Nat.le_refl _, Nat.le_refl _⟩) hP (fun H locs hP => ?_)
  exact hret _ _ _ _ _ dX20_init_11 (Option.some.inj h) hP
def pl25_X22_init (x0 : Nat) (σ : ST) (t0 : Nat) (a2 : Int32) : Option ST :=
  bo (ppv σ (some t0) 25 4 (va_rf (some x0))) (fun (σ_2 : ST) => bo (pl25_X20_init x0 σ_2 t0 a2) (fun (σ_4 : ST) => some σ_4))
abbrev rm_X22_init__25 : Room := rmf 5 98
set_option maxHeartbeats 4000000 in
set_option maxRecDepth 100000 in
theorem mt_X22_init__25 (l : Launch) (G : GT) (σ : ST) (t0 : Nat) (a2 : Int32) {u : ST} (h : pl25_X22_init (G.2.2.1 0) σ t0 a2 = some u) : CV l cp_ft G yX22_init (ws_ yX22_init cX22_init 3 none) rm_X22_init__25 0 0 [.ref t0, .ref (G.2.2.1 0), .int a2] σ u := by
  refine m_enterV (by decide) rfl (lv := [(0, .ref t0), (1, .ref (G.2.2.1 0)), (2, .int a2)]) rfl ?_
  intro p e s m args below meth c H locs ls Q X hnm hret hP hl
  have hx := X.1.1
  have hb := X.1.2.1
  have hown := X.1.2.2.2.1
  have hts := X.1.2.2.2.2
  unfold pl25_X22_init at h
  refine lv_aload_n hx hb dX22_init_0 rfl (lv_at hl 0 rfl) ?_
  refine lv_aload_n hx hb dX22_init_1 rfl (lv_at hl 1 rfl) ?_
  obtain ⟨σ_2, e_1, h⟩ := bo_ex h
  refine r_ppvF (r := (some t0)) X hP lk_25 4 (Nat.le_of_ble_eq_true rfl) e_1 q1233 rfl hnm rfl (tyX22_ok 4 (by decide)) (rr_nar _ (some (G.2.2.1 0))) (rr_fit _ (some (G.2.2.1 0))) dX22_init_2 (fun H locs hP => ?_)
  refine lv_aload_n hx hb dX22_init_5 rfl (lv_at hl 0 rfl) ?_
  refine lv_aload_n hx hb dX22_init_6 rfl (lv_at hl 1 rfl) ?_
  refine lv_iload_n hx hb dX22_init_7 rfl (lv_at hl 2 rfl) ?_
  obtain ⟨σ_4, e_3, h⟩ := bo_ex h
  refine r_callv (r_runI (rest := []) X hP (mt_X20_init__25 l G σ_2 t0 a2 e_3) (cwI 2 hts (lw_meth q1206) rfl rfl rfl (hts _ q144) (hts _ q1232) (hts _ q1205) rfl cdX20_init ⟨Nat.le_of_ble_eq_true rfl, Nat.le_of_ble_eq_true rfl⟩) rfl hl.1 rfl (Nat.le_of_ble_eq_true rfl) dX22_init_8 ⟨Nat.le_refl _, Nat.le_refl _⟩) hP (fun H locs hP => ?_)
  exact hret _ _ _ _ _ dX22_init_11 (Option.some.inj h) hP
def pl25_X22_kind (σ : ST) (t0 : Nat) : Option Int32 :=
  some (5 : Int32)
abbrev rm_X22_kind__25 : Room := rmf 0 0
set_option maxHeartbeats 4000000 in
set_option maxRecDepth 100000 in
theorem mt_X22_kind__25 (l : Launch) (G : GT) (σ : ST) (t0 : Nat) {r : Int32} (h : pl25_X22_kind σ t0 = some r) : CI l cp_ft G yX22_kind (ws_ yX22_kind cX22_kind 1 (some .int)) rm_X22_kind__25 0 0 [.ref t0] σ (r, σ) := by
  refine m_enterI (by decide) rfl (lv := [(0, .ref t0)]) rfl ?_
  intro p e s m args below meth c H locs ls Q X hret hP hl
  have hx := X.1.1
  have hb := X.1.2.1
  have hown := X.1.2.2.2.1
  have hts := X.1.2.2.2.2
  unfold pl25_X22_kind at h
  refine lv_iconst (v := (5 : Int32)) hx hb dX22_kind_0 (by decide) ?_
  exact hret _ _ _ _ _ _ dX22_kind_1 rfl (congrArg (fun z9 => (z9, σ)) (Option.some.inj h)) hP
def pl25_X17_isUnder (σ : ST) (t0 : Nat) (a1 : Int32) : Option Int32 :=
  (if a1 = 0 then some (1 : Int32) else bo (pis σ (some t0) 25) (fun (_ : Nat) => bo (pl25_X22_kind σ t0) (fun (r_5 : Int32) => (if a1 = r_5 then some (1 : Int32) else some (0 : Int32)))))
abbrev rm_X17_isUnder__25 : Room := rmf 1 20
set_option maxHeartbeats 4000000 in
set_option maxRecDepth 100000 in
theorem mt_X17_isUnder__25 (l : Launch) (G : GT) (σ : ST) (t0 : Nat) (a1 : Int32) {r : Int32} (h : pl25_X17_isUnder σ t0 a1 = some r) : CI l cp_ft G yX17_isUnder (ws_ yX17_isUnder cX17_isUnder 2 (some .boolean)) rm_X17_isUnder__25 0 0 [.ref t0, .int a1] σ (r, σ) := by
  refine m_enterI (by decide) rfl (lv := [(0, .ref t0), (1, .int a1)]) rfl ?_
  intro p e s m args below meth c H locs ls Q X hret hP hl
  have hx := X.1.1
  have hb := X.1.2.1
  have hown := X.1.2.2.2.1
  have hts := X.1.2.2.2.2
  unfold pl25_X17_isUnder at h
  refine lv_iload_n hx hb dX17_isUnder_0 rfl (lv_at hl 1 rfl) ?_
  refine lv_if_eq (tgt := 12) hx hb dX17_isUnder_1 (by decide) (fun c_1 => ?_) (fun c_1 => ?_)
  · have h := it_t h c_1
    refine lv_iconst (v := (1 : Int32)) hx hb dX17_isUnder_12 (by decide) ?_
    refine lv_goto (tgt := 17) hx hb dX17_isUnder_13 (by decide) ?_
    exact hret _ _ _ _ _ _ dX17_isUnder_17 rfl (congrArg (fun z9 => (z9, σ)) (Option.some.inj h)) hP
  · have h := it_f h c_1
    refine lv_iload_n hx hb dX17_isUnder_4 rfl (lv_at hl 1 rfl) ?_
    refine lv_aload_n hx hb dX17_isUnder_5 rfl (lv_at hl 0 rfl) ?_
    obtain ⟨a_2, e_3, h⟩ := bo_ex h
    obtain ⟨r_5, e_4, h⟩ := bo_ex h
    refine r_calli (r_runUP (rest := [.int a1]) X hP (pis_self e_3) lk_25 (mt_X22_kind__25 l G σ t0 e_4) (va_cwO (owner := "SpeaksInTurn$Plain") (x := ⟨"SpeaksInTurn$Plain", "kind", "()I"⟩) 0 hts (lw_O q1601 q1604 q1602 q1620 q1621 q146 q1622) rfl rfl rfl q1626 cdX17_kind ⟨Nat.le_of_ble_eq_true rfl, Nat.le_of_ble_eq_true rfl⟩) rfl hl.1 rfl (Nat.le_of_ble_eq_true rfl) dX17_isUnder_6 ⟨Nat.le_refl _, Nat.le_refl _⟩) hP (fun H locs hP => ?_)
    refine lv_icmp_ne (tgt := 16) hx hb dX17_isUnder_9 (by decide) (fun c_6 => ?_) (fun c_6 => ?_)
    · have h := it_f h c_6
      refine lv_iconst (v := (0 : Int32)) hx hb dX17_isUnder_16 (by decide) ?_
      exact hret _ _ _ _ _ _ dX17_isUnder_17 rfl (congrArg (fun z9 => (z9, σ)) (Option.some.inj h)) hP
    · have h := it_t h c_6
      refine lv_iconst (v := (1 : Int32)) hx hb dX17_isUnder_12 (by decide) ?_
      refine lv_goto (tgt := 17) hx hb dX17_isUnder_13 (by decide) ?_
      exact hret _ _ _ _ _ _ dX17_isUnder_17 rfl (congrArg (fun z9 => (z9, σ)) (Option.some.inj h)) hP
def pl25_X19_isUnder (σ : ST) (t0 : Nat) (a1 : Int32) : Option Int32 :=
  (if a1 = (2 : Int32) then some (1 : Int32) else bo (pis σ (some t0) 25) (fun (_ : Nat) => bo (pl25_X17_isUnder σ t0 a1) (fun (r_5 : Int32) => (if r_5 = 0 then some (0 : Int32) else some (1 : Int32)))))
abbrev rm_X19_isUnder__25 : Room := rmf 2 41
set_option maxHeartbeats 4000000 in
set_option maxRecDepth 100000 in
theorem mt_X19_isUnder__25 (l : Launch) (G : GT) (σ : ST) (t0 : Nat) (a1 : Int32) {r : Int32} (h : pl25_X19_isUnder σ t0 a1 = some r) : CI l cp_ft G yX19_isUnder (ws_ yX19_isUnder cX19_isUnder 2 (some .boolean)) rm_X19_isUnder__25 0 0 [.ref t0, .int a1] σ (r, σ) := by
  refine m_enterI (by decide) rfl (lv := [(0, .ref t0), (1, .int a1)]) rfl ?_
  intro p e s m args below meth c H locs ls Q X hret hP hl
  have hx := X.1.1
  have hb := X.1.2.1
  have hown := X.1.2.2.2.1
  have hts := X.1.2.2.2.2
  unfold pl25_X19_isUnder at h
  refine lv_iload_n hx hb dX19_isUnder_0 rfl (lv_at hl 1 rfl) ?_
  refine lv_iconst (v := (2 : Int32)) hx hb dX19_isUnder_1 (by decide) ?_
  refine lv_icmp_eq (tgt := 13) hx hb dX19_isUnder_2 (by decide) (fun c_1 => ?_) (fun c_1 => ?_)
  · have h := it_t h c_1
    refine lv_iconst (v := (1 : Int32)) hx hb dX19_isUnder_13 (by decide) ?_
    refine lv_goto (tgt := 18) hx hb dX19_isUnder_14 (by decide) ?_
    exact hret _ _ _ _ _ _ dX19_isUnder_18 rfl (congrArg (fun z9 => (z9, σ)) (Option.some.inj h)) hP
  · have h := it_f h c_1
    refine lv_aload_n hx hb dX19_isUnder_5 rfl (lv_at hl 0 rfl) ?_
    refine lv_iload_n hx hb dX19_isUnder_6 rfl (lv_at hl 1 rfl) ?_
    obtain ⟨a_2, e_3, h⟩ := bo_ex h
    obtain ⟨r_5, e_4, h⟩ := bo_ex h
    refine r_calli (r_runSX (rest := []) (n := 1) (x := ⟨"SpeaksInTurn$Plain", "isUnder", "(I)Z"⟩) X hP (pis_self e_3) lk_25 (mt_X17_isUnder__25 l G σ t0 a1 e_4) rfl q1590 q1583 q1201 (Or.inl rfl) q1581 q141 q1600 (by decide) cdX17_isUnder.2.2 rfl rfl ⟨Nat.le_of_ble_eq_true rfl, Nat.le_of_ble_eq_true rfl⟩ rfl hl.1 rfl (Nat.le_of_ble_eq_true rfl) dX19_isUnder_7 ⟨Nat.le_refl _, Nat.le_refl _⟩) hP (fun H locs hP => ?_)
    refine lv_if_eq (tgt := 17) hx hb dX19_isUnder_10 (by decide) (fun c_6 => ?_) (fun c_6 => ?_)
    · have h := it_t h c_6
      refine lv_iconst (v := (0 : Int32)) hx hb dX19_isUnder_17 (by decide) ?_
      exact hret _ _ _ _ _ _ dX19_isUnder_18 rfl (congrArg (fun z9 => (z9, σ)) (Option.some.inj h)) hP
    · have h := it_f h c_6
      refine lv_iconst (v := (1 : Int32)) hx hb dX19_isUnder_13 (by decide) ?_
      refine lv_goto (tgt := 18) hx hb dX19_isUnder_14 (by decide) ?_
      exact hret _ _ _ _ _ _ dX19_isUnder_18 rfl (congrArg (fun z9 => (z9, σ)) (Option.some.inj h)) hP
def pl25_X20_isUnder (σ : ST) (t0 : Nat) (a1 : Int32) : Option Int32 :=
  (if a1 = (3 : Int32) then some (1 : Int32) else bo (pis σ (some t0) 25) (fun (_ : Nat) => bo (pl25_X19_isUnder σ t0 a1) (fun (r_5 : Int32) => (if r_5 = 0 then some (0 : Int32) else some (1 : Int32)))))
abbrev rm_X20_isUnder__25 : Room := rmf 3 62
set_option maxHeartbeats 4000000 in
set_option maxRecDepth 100000 in
theorem mt_X20_isUnder__25 (l : Launch) (G : GT) (σ : ST) (t0 : Nat) (a1 : Int32) {r : Int32} (h : pl25_X20_isUnder σ t0 a1 = some r) : CI l cp_ft G yX20_isUnder (ws_ yX20_isUnder cX20_isUnder 2 (some .boolean)) rm_X20_isUnder__25 0 0 [.ref t0, .int a1] σ (r, σ) := by
  refine m_enterI (by decide) rfl (lv := [(0, .ref t0), (1, .int a1)]) rfl ?_
  intro p e s m args below meth c H locs ls Q X hret hP hl
  have hx := X.1.1
  have hb := X.1.2.1
  have hown := X.1.2.2.2.1
  have hts := X.1.2.2.2.2
  unfold pl25_X20_isUnder at h
  refine lv_iload_n hx hb dX20_isUnder_0 rfl (lv_at hl 1 rfl) ?_
  refine lv_iconst (v := (3 : Int32)) hx hb dX20_isUnder_1 (by decide) ?_
  refine lv_icmp_eq (tgt := 13) hx hb dX20_isUnder_2 (by decide) (fun c_1 => ?_) (fun c_1 => ?_)
  · have h := it_t h c_1
    refine lv_iconst (v := (1 : Int32)) hx hb dX20_isUnder_13 (by decide) ?_
    refine lv_goto (tgt := 18) hx hb dX20_isUnder_14 (by decide) ?_
    exact hret _ _ _ _ _ _ dX20_isUnder_18 rfl (congrArg (fun z9 => (z9, σ)) (Option.some.inj h)) hP
  · have h := it_f h c_1
    refine lv_aload_n hx hb dX20_isUnder_5 rfl (lv_at hl 0 rfl) ?_
    refine lv_iload_n hx hb dX20_isUnder_6 rfl (lv_at hl 1 rfl) ?_
    obtain ⟨a_2, e_3, h⟩ := bo_ex h
    obtain ⟨r_5, e_4, h⟩ := bo_ex h
    refine r_calli (r_runSX (rest := []) (n := 1) (x := ⟨"SpeaksInTurn$Shared", "isUnder", "(I)Z"⟩) X hP (pis_self e_3) lk_25 (mt_X19_isUnder__25 l G σ t0 a1 e_4) rfl q1587 q2299 q1214 (Or.inl rfl) q1588 q143 q1589 (by decide) cdX19_isUnder.2.2 rfl rfl ⟨Nat.le_of_ble_eq_true rfl, Nat.le_of_ble_eq_true rfl⟩ rfl hl.1 rfl (Nat.le_of_ble_eq_true rfl) dX20_isUnder_7 ⟨Nat.le_refl _, Nat.le_refl _⟩) hP (fun H locs hP => ?_)
    refine lv_if_eq (tgt := 17) hx hb dX20_isUnder_10 (by decide) (fun c_6 => ?_) (fun c_6 => ?_)
    · have h := it_t h c_6
      refine lv_iconst (v := (0 : Int32)) hx hb dX20_isUnder_17 (by decide) ?_
      exact hret _ _ _ _ _ _ dX20_isUnder_18 rfl (congrArg (fun z9 => (z9, σ)) (Option.some.inj h)) hP
    · have h := it_f h c_6
      refine lv_iconst (v := (1 : Int32)) hx hb dX20_isUnder_13 (by decide) ?_
      refine lv_goto (tgt := 18) hx hb dX20_isUnder_14 (by decide) ?_
      exact hret _ _ _ _ _ _ dX20_isUnder_18 rfl (congrArg (fun z9 => (z9, σ)) (Option.some.inj h)) hP
def pl25_X17_knows (x0 : Nat) (σ : ST) (t0 : Nat) (a1 : Int32) : Option (Int32 × ST) :=
  bo (pgr σ (some t0) 25 1) (fun (v_2 : Option Nat) => ez v_2 x0 (bo (cp_ran σ (1 : Int32)) (fun (σ_5 : ST) => bo (pgi σ_5 (some t0) 25 0) (fun (v_7 : Int32) => some ((a1 + v_7), σ_5)))))
abbrev rm_X17_knows__25 : Room := rmf 1 21
set_option maxHeartbeats 4000000 in
set_option maxRecDepth 100000 in
theorem mt_X17_knows__25 (l : Launch) (G : GT) (σ : ST) (t0 : Nat) (a1 : Int32) {r : Int32} {u : ST} (h : pl25_X17_knows (G.2.2.1 0) σ t0 a1 = some (r, u)) : CI l cp_ft G yX17_knows (ws_ yX17_knows cX17_knows 2 (some .int)) rm_X17_knows__25 0 0 [.ref t0, .int a1] σ (r, u) := by
  refine m_enterI (by decide) rfl (lv := [(0, .ref t0), (1, .int a1)]) rfl ?_
  intro p e s m args below meth c H locs ls Q X hret hP hl
  have hx := X.1.1
  have hb := X.1.2.1
  have hown := X.1.2.2.2.1
  have hts := X.1.2.2.2.2
  unfold pl25_X17_knows at h
  refine lv_aload_n hx hb dX17_knows_0 rfl (lv_at hl 0 rfl) ?_
  obtain ⟨v_2, e_1, h⟩ := bo_ex h
  refine r_pgr (r := (some t0)) X hP lk_25 1 (Nat.le_of_ble_eq_true rfl) e_1 q1182 dX17_knows_1 ?_
  have hz_3 := ez_eq h
  have h := ez_k h
  rw [rr_known hz_3]
  refine lv_iconst (v := (1 : Int32)) hx hb dX17_knows_4 (by decide) ?_
  obtain ⟨σ_5, e_4, h⟩ := bo_ex h
  refine r_callv (r_runVN (rest := []) X hP 0 cp_c0 lk_0 (mt_X0_ran l G σ (1 : Int32) e_4) ⟨va_cnB 1 hts (lw_meth q1292) rfl rfl rfl (X.2.2.1 _ q1289 rfl) (hts _ q110) cdX0_ran ⟨Nat.le_of_ble_eq_true rfl, Nat.le_of_ble_eq_true rfl⟩, hts _ q1291, hts _ qs48⟩ rfl hl.1 rfl (Nat.le_of_ble_eq_true rfl) dX17_knows_5 ⟨Nat.le_refl _, Nat.le_refl _⟩) hP (fun H locs hP => ?_)
  refine lv_iload_n hx hb dX17_knows_8 rfl (lv_at hl 1 rfl) ?_
  refine lv_aload_n hx hb dX17_knows_9 rfl (lv_at hl 0 rfl) ?_
  obtain ⟨v_7, e_6, h⟩ := bo_ex h
  refine r_pgi (r := (some t0)) X hP lk_25 0 (Nat.le_of_ble_eq_true rfl) e_6 q1181 dX17_knows_10 ?_
  refine lv_iadd hx hb dX17_knows_13 ?_
  exact hret _ _ _ _ _ _ dX17_knows_14 rfl (Option.some.inj h) hP
def pl25_X17_stops (x0 : Nat) (σ : ST) (t0 : Nat) (a1 : Int32) : Option (Int32 × ST) :=
  bo (pgr σ (some t0) 25 1) (fun (v_2 : Option Nat) => ez v_2 x0 (bo (cp_ran σ (11 : Int32)) (fun (σ_5 : ST) => bo (pgi σ_5 (some t0) 25 0) (fun (v_7 : Int32) => some ((a1 ^^^ v_7), σ_5)))))
abbrev rm_X17_stops__25 : Room := rmf 1 21
set_option maxHeartbeats 4000000 in
set_option maxRecDepth 100000 in
theorem mt_X17_stops__25 (l : Launch) (G : GT) (σ : ST) (t0 : Nat) (a1 : Int32) {r : Int32} {u : ST} (h : pl25_X17_stops (G.2.2.1 0) σ t0 a1 = some (r, u)) : CI l cp_ft G yX17_stops (ws_ yX17_stops cX17_stops 2 (some .int)) rm_X17_stops__25 0 0 [.ref t0, .int a1] σ (r, u) := by
  refine m_enterI (by decide) rfl (lv := [(0, .ref t0), (1, .int a1)]) rfl ?_
  intro p e s m args below meth c H locs ls Q X hret hP hl
  have hx := X.1.1
  have hb := X.1.2.1
  have hown := X.1.2.2.2.1
  have hts := X.1.2.2.2.2
  unfold pl25_X17_stops at h
  refine lv_aload_n hx hb dX17_stops_0 rfl (lv_at hl 0 rfl) ?_
  obtain ⟨v_2, e_1, h⟩ := bo_ex h
  refine r_pgr (r := (some t0)) X hP lk_25 1 (Nat.le_of_ble_eq_true rfl) e_1 q1182 dX17_stops_1 ?_
  have hz_3 := ez_eq h
  have h := ez_k h
  rw [rr_known hz_3]
  refine lv_bipush (v := (11 : Int32)) hx hb dX17_stops_4 (by decide) ?_
  obtain ⟨σ_5, e_4, h⟩ := bo_ex h
  refine r_callv (r_runVN (rest := []) X hP 0 cp_c0 lk_0 (mt_X0_ran l G σ (11 : Int32) e_4) ⟨va_cnB 1 hts (lw_meth q1292) rfl rfl rfl (X.2.2.1 _ q1289 rfl) (hts _ q110) cdX0_ran ⟨Nat.le_of_ble_eq_true rfl, Nat.le_of_ble_eq_true rfl⟩, hts _ q1291, hts _ qs48⟩ rfl hl.1 rfl (Nat.le_of_ble_eq_true rfl) dX17_stops_6 ⟨Nat.le_refl _, Nat.le_refl _⟩) hP (fun H locs hP => ?_)
  refine lv_iload_n hx hb dX17_stops_9 rfl (lv_at hl 1 rfl) ?_
  refine lv_aload_n hx hb dX17_stops_10 rfl (lv_at hl 0 rfl) ?_
  obtain ⟨v_7, e_6, h⟩ := bo_ex h
  refine r_pgi (r := (some t0)) X hP lk_25 0 (Nat.le_of_ble_eq_true rfl) e_6 q1181 dX17_stops_11 ?_
  refine lv_ixor hx hb dX17_stops_14 ?_
  exact hret _ _ _ _ _ _ dX17_stops_15 rfl (Option.some.inj h) hP
def pl25_X20_stops (x0 : Nat) (σ : ST) (t0 : Nat) (a1 : Int32) : Option (Int32 × ST) :=
  bo (pgr σ (some t0) 25 3) (fun (v_2 : Option Nat) => ez v_2 x0 (bo (cp_ran σ (40 : Int32)) (fun (σ_5 : ST) => bo (pis σ_5 (some t0) 25) (fun (_ : Nat) => bo2 (pl25_X17_stops x0 σ_5 t0 a1) (fun (r_9 : Int32) (σ_10 : ST) => some ((r_9 * (3 : Int32)), σ_10))))))
abbrev rm_X20_stops__25 : Room := rmf 2 42
set_option maxHeartbeats 4000000 in
set_option maxRecDepth 100000 in
theorem mt_X20_stops__25 (l : Launch) (G : GT) (σ : ST) (t0 : Nat) (a1 : Int32) {r : Int32} {u : ST} (h : pl25_X20_stops (G.2.2.1 0) σ t0 a1 = some (r, u)) : CI l cp_ft G yX20_stops (ws_ yX20_stops cX20_stops 2 (some .int)) rm_X20_stops__25 0 0 [.ref t0, .int a1] σ (r, u) := by
  refine m_enterI (by decide) rfl (lv := [(0, .ref t0), (1, .int a1)]) rfl ?_
  intro p e s m args below meth c H locs ls Q X hret hP hl
  have hx := X.1.1
  have hb := X.1.2.1
  have hown := X.1.2.2.2.1
  have hts := X.1.2.2.2.2
  unfold pl25_X20_stops at h
  refine lv_aload_n hx hb dX20_stops_0 rfl (lv_at hl 0 rfl) ?_
  obtain ⟨v_2, e_1, h⟩ := bo_ex h
  refine r_pgr (r := (some t0)) X hP lk_25 3 (Nat.le_of_ble_eq_true rfl) e_1 q1208 dX20_stops_1 ?_
  have hz_3 := ez_eq h
  have h := ez_k h
  rw [rr_known hz_3]
  refine lv_bipush (v := (40 : Int32)) hx hb dX20_stops_4 (by decide) ?_
  obtain ⟨σ_5, e_4, h⟩ := bo_ex h
  refine r_callv (r_runVN (rest := []) X hP 0 cp_c0 lk_0 (mt_X0_ran l G σ (40 : Int32) e_4) ⟨va_cnB 1 hts (lw_meth q1292) rfl rfl rfl (X.2.2.1 _ q1341 rfl) (hts _ q110) cdX0_ran ⟨Nat.le_of_ble_eq_true rfl, Nat.le_of_ble_eq_true rfl⟩, hts _ q1291, hts _ qs48⟩ rfl hl.1 rfl (Nat.le_of_ble_eq_true rfl) dX20_stops_6 ⟨Nat.le_refl _, Nat.le_refl _⟩) hP (fun H locs hP => ?_)
  refine lv_aload_n hx hb dX20_stops_9 rfl (lv_at hl 0 rfl) ?_
  refine lv_iload_n hx hb dX20_stops_10 rfl (lv_at hl 1 rfl) ?_
  obtain ⟨a_6, e_7, h⟩ := bo_ex h
  obtain ⟨r_9, σ_10, e_8, h⟩ := bo2_ex h
  refine r_calli (r_runSX (rest := []) (n := 1) (x := ⟨"SpeaksInTurn$Shared", "stops", "(I)I"⟩) X hP (pis_self e_7) lk_25 (mt_X17_stops__25 l G σ_5 t0 a1 e_8) rfl q1379 q1380 q1214 (Or.inr (Or.inl q1201)) q1367 q141 q1368 (by decide) cdX17_stops.2.2 rfl rfl ⟨Nat.le_of_ble_eq_true rfl, Nat.le_of_ble_eq_true rfl⟩ rfl hl.1 rfl (Nat.le_of_ble_eq_true rfl) dX20_stops_11 ⟨Nat.le_refl _, Nat.le_refl _⟩) hP (fun H locs hP => ?_)
  refine lv_iconst (v := (3 : Int32)) hx hb dX20_stops_14 (by decide) ?_
  refine lv_imul hx hb dX20_stops_15 ?_
  exact hret _ _ _ _ _ _ dX20_stops_16 rfl (Option.some.inj h) hP
def pl25_X17_speaks (x0 : Nat) (σ : ST) (t0 : Nat) (a1 : Int32) : Option (Int32 × ST) :=
  bo (pgr σ (some t0) 25 1) (fun (v_2 : Option Nat) => ez v_2 x0 (bo (cp_ran σ (10 : Int32)) (fun (σ_5 : ST) => bo (pis σ_5 (some t0) 25) (fun (_ : Nat) => bo2 (pl25_X17_knows x0 σ_5 t0 a1) (fun (r_9 : Int32) (σ_10 : ST) => some ((r_9 * (2 : Int32)), σ_10))))))
abbrev rm_X17_speaks__25 : Room := rmf 2 42
set_option maxHeartbeats 4000000 in
set_option maxRecDepth 100000 in
theorem mt_X17_speaks__25 (l : Launch) (G : GT) (σ : ST) (t0 : Nat) (a1 : Int32) {r : Int32} {u : ST} (h : pl25_X17_speaks (G.2.2.1 0) σ t0 a1 = some (r, u)) : CI l cp_ft G yX17_speaks (ws_ yX17_speaks cX17_speaks 2 (some .int)) rm_X17_speaks__25 0 0 [.ref t0, .int a1] σ (r, u) := by
  refine m_enterI (by decide) rfl (lv := [(0, .ref t0), (1, .int a1)]) rfl ?_
  intro p e s m args below meth c H locs ls Q X hret hP hl
  have hx := X.1.1
  have hb := X.1.2.1
  have hown := X.1.2.2.2.1
  have hts := X.1.2.2.2.2
  unfold pl25_X17_speaks at h
  refine lv_aload_n hx hb dX17_speaks_0 rfl (lv_at hl 0 rfl) ?_
  obtain ⟨v_2, e_1, h⟩ := bo_ex h
  refine r_pgr (r := (some t0)) X hP lk_25 1 (Nat.le_of_ble_eq_true rfl) e_1 q1182 dX17_speaks_1 ?_
  have hz_3 := ez_eq h
  have h := ez_k h
  rw [rr_known hz_3]
  refine lv_bipush (v := (10 : Int32)) hx hb dX17_speaks_4 (by decide) ?_
  obtain ⟨σ_5, e_4, h⟩ := bo_ex h
  refine r_callv (r_runVN (rest := []) X hP 0 cp_c0 lk_0 (mt_X0_ran l G σ (10 : Int32) e_4) ⟨va_cnB 1 hts (lw_meth q1292) rfl rfl rfl (X.2.2.1 _ q1289 rfl) (hts _ q110) cdX0_ran ⟨Nat.le_of_ble_eq_true rfl, Nat.le_of_ble_eq_true rfl⟩, hts _ q1291, hts _ qs48⟩ rfl hl.1 rfl (Nat.le_of_ble_eq_true rfl) dX17_speaks_6 ⟨Nat.le_refl _, Nat.le_refl _⟩) hP (fun H locs hP => ?_)
  refine lv_aload_n hx hb dX17_speaks_9 rfl (lv_at hl 0 rfl) ?_
  refine lv_iload_n hx hb dX17_speaks_10 rfl (lv_at hl 1 rfl) ?_
  obtain ⟨a_6, e_7, h⟩ := bo_ex h
  obtain ⟨r_9, σ_10, e_8, h⟩ := bo2_ex h
  refine r_calli (r_runUP (rest := []) X hP (pis_self e_7) lk_25 (mt_X17_knows__25 l G σ_5 t0 a1 e_8) (va_cwO (owner := "SpeaksInTurn$Plain") (x := ⟨"SpeaksInTurn$Plain", "knows", "(I)I"⟩) 1 hts (lw_O q1375 q2280 q1286 q2289 q1286 q141 q1288) rfl rfl rfl q1288 cdX17_knows ⟨Nat.le_of_ble_eq_true rfl, Nat.le_of_ble_eq_true rfl⟩) rfl hl.1 rfl (Nat.le_of_ble_eq_true rfl) dX17_speaks_11 ⟨Nat.le_refl _, Nat.le_refl _⟩) hP (fun H locs hP => ?_)
  refine lv_iconst (v := (2 : Int32)) hx hb dX17_speaks_14 (by decide) ?_
  refine lv_imul hx hb dX17_speaks_15 ?_
  exact hret _ _ _ _ _ _ dX17_speaks_16 rfl (Option.some.inj h) hP
def pl25_X19_speaks (x0 : Nat) (σ : ST) (t0 : Nat) (a1 : Int32) : Option (Int32 × ST) :=
  bo (pgr σ (some t0) 25 2) (fun (v_2 : Option Nat) => ez v_2 x0 (bo (cp_ran σ (30 : Int32)) (fun (σ_5 : ST) => bo (pis σ_5 (some t0) 25) (fun (_ : Nat) => bo2 (pl25_X17_speaks x0 σ_5 t0 a1) (fun (r_9 : Int32) (σ_10 : ST) => some ((-r_9), σ_10))))))
abbrev rm_X19_speaks__25 : Room := rmf 3 63
set_option maxHeartbeats 4000000 in
set_option maxRecDepth 100000 in
theorem mt_X19_speaks__25 (l : Launch) (G : GT) (σ : ST) (t0 : Nat) (a1 : Int32) {r : Int32} {u : ST} (h : pl25_X19_speaks (G.2.2.1 0) σ t0 a1 = some (r, u)) : CI l cp_ft G yX19_speaks (ws_ yX19_speaks cX19_speaks 2 (some .int)) rm_X19_speaks__25 0 0 [.ref t0, .int a1] σ (r, u) := by
  refine m_enterI (by decide) rfl (lv := [(0, .ref t0), (1, .int a1)]) rfl ?_
  intro p e s m args below meth c H locs ls Q X hret hP hl
  have hx := X.1.1
  have hb := X.1.2.1
  have hown := X.1.2.2.2.1
  have hts := X.1.2.2.2.2
  unfold pl25_X19_speaks at h
  refine lv_aload_n hx hb dX19_speaks_0 rfl (lv_at hl 0 rfl) ?_
  obtain ⟨v_2, e_1, h⟩ := bo_ex h
  refine r_pgr (r := (some t0)) X hP lk_25 2 (Nat.le_of_ble_eq_true rfl) e_1 q1196 dX19_speaks_1 ?_
  have hz_3 := ez_eq h
  have h := ez_k h
  rw [rr_known hz_3]
  refine lv_bipush (v := (30 : Int32)) hx hb dX19_speaks_4 (by decide) ?_
  obtain ⟨σ_5, e_4, h⟩ := bo_ex h
  refine r_callv (r_runVN (rest := []) X hP 0 cp_c0 lk_0 (mt_X0_ran l G σ (30 : Int32) e_4) ⟨va_cnB 1 hts (lw_meth q1292) rfl rfl rfl (X.2.2.1 _ q1345 rfl) (hts _ q110) cdX0_ran ⟨Nat.le_of_ble_eq_true rfl, Nat.le_of_ble_eq_true rfl⟩, hts _ q1291, hts _ qs48⟩ rfl hl.1 rfl (Nat.le_of_ble_eq_true rfl) dX19_speaks_6 ⟨Nat.le_refl _, Nat.le_refl _⟩) hP (fun H locs hP => ?_)
  refine lv_aload_n hx hb dX19_speaks_9 rfl (lv_at hl 0 rfl) ?_
  refine lv_iload_n hx hb dX19_speaks_10 rfl (lv_at hl 1 rfl) ?_
  obtain ⟨a_6, e_7, h⟩ := bo_ex h
  obtain ⟨r_9, σ_10, e_8, h⟩ := bo2_ex h
  refine r_calli (r_runSX (rest := []) (n := 1) (x := ⟨"SpeaksInTurn$Plain", "speaks", "(I)I"⟩) X hP (pis_self e_7) lk_25 (mt_X17_speaks__25 l G σ_5 t0 a1 e_8) rfl q1346 q1337 q1201 (Or.inl rfl) q1335 q141 q1374 (by decide) cdX17_speaks.2.2 rfl rfl ⟨Nat.le_of_ble_eq_true rfl, Nat.le_of_ble_eq_true rfl⟩ rfl hl.1 rfl (Nat.le_of_ble_eq_true rfl) dX19_speaks_11 ⟨Nat.le_refl _, Nat.le_refl _⟩) hP (fun H locs hP => ?_)
  refine lv_ineg hx hb dX19_speaks_14 ?_
  exact hret _ _ _ _ _ _ dX19_speaks_15 rfl (Option.some.inj h) hP
def pl25_X20_speaks (x0 : Nat) (σ : ST) (t0 : Nat) (a1 : Int32) : Option (Int32 × ST) :=
  bo (pgr σ (some t0) 25 3) (fun (v_2 : Option Nat) => ez v_2 x0 (bo (cp_ran σ (41 : Int32)) (fun (σ_5 : ST) => bo (pis σ_5 (some t0) 25) (fun (_ : Nat) => bo2 (pl25_X19_speaks x0 σ_5 t0 (a1 + (1 : Int32))) (fun (r_9 : Int32) (σ_10 : ST) => some (r_9, σ_10))))))
abbrev rm_X20_speaks__25 : Room := rmf 4 84
set_option maxHeartbeats 4000000 in
set_option maxRecDepth 100000 in
theorem mt_X20_speaks__25 (l : Launch) (G : GT) (σ : ST) (t0 : Nat) (a1 : Int32) {r : Int32} {u : ST} (h : pl25_X20_speaks (G.2.2.1 0) σ t0 a1 = some (r, u)) : CI l cp_ft G yX20_speaks (ws_ yX20_speaks cX20_speaks 2 (some .int)) rm_X20_speaks__25 0 0 [.ref t0, .int a1] σ (r, u) := by
  refine m_enterI (by decide) rfl (lv := [(0, .ref t0), (1, .int a1)]) rfl ?_
  intro p e s m args below meth c H locs ls Q X hret hP hl
  have hx := X.1.1
  have hb := X.1.2.1
  have hown := X.1.2.2.2.1
  have hts := X.1.2.2.2.2
  unfold pl25_X20_speaks at h
  refine lv_aload_n hx hb dX20_speaks_0 rfl (lv_at hl 0 rfl) ?_
  obtain ⟨v_2, e_1, h⟩ := bo_ex h
  refine r_pgr (r := (some t0)) X hP lk_25 3 (Nat.le_of_ble_eq_true rfl) e_1 q1208 dX20_speaks_1 ?_
  have hz_3 := ez_eq h
  have h := ez_k h
  rw [rr_known hz_3]
  refine lv_bipush (v := (41 : Int32)) hx hb dX20_speaks_4 (by decide) ?_
  obtain ⟨σ_5, e_4, h⟩ := bo_ex h
  refine r_callv (r_runVN (rest := []) X hP 0 cp_c0 lk_0 (mt_X0_ran l G σ (41 : Int32) e_4) ⟨va_cnB 1 hts (lw_meth q1292) rfl rfl rfl (X.2.2.1 _ q1341 rfl) (hts _ q110) cdX0_ran ⟨Nat.le_of_ble_eq_true rfl, Nat.le_of_ble_eq_true rfl⟩, hts _ q1291, hts _ qs48⟩ rfl hl.1 rfl (Nat.le_of_ble_eq_true rfl) dX20_speaks_6 ⟨Nat.le_refl _, Nat.le_refl _⟩) hP (fun H locs hP => ?_)
  refine lv_aload_n hx hb dX20_speaks_9 rfl (lv_at hl 0 rfl) ?_
  refine lv_iload_n hx hb dX20_speaks_10 rfl (lv_at hl 1 rfl) ?_
  refine lv_iconst (v := (1 : Int32)) hx hb dX20_speaks_11 (by decide) ?_
  refine lv_iadd hx hb dX20_speaks_12 ?_
  obtain ⟨a_6, e_7, h⟩ := bo_ex h
  obtain ⟨r_9, σ_10, e_8, h⟩ := bo2_ex h
  refine r_calli (r_runSX (rest := []) (n := 1) (x := ⟨"SpeaksInTurn$Shared", "speaks", "(I)I"⟩) X hP (pis_self e_7) lk_25 (mt_X19_speaks__25 l G σ_5 t0 (a1 + (1 : Int32)) e_8) rfl q1342 q2281 q1214 (Or.inl rfl) q1343 q143 q1344 (by decide) cdX19_speaks.2.2 rfl rfl ⟨Nat.le_of_ble_eq_true rfl, Nat.le_of_ble_eq_true rfl⟩ rfl hl.1 rfl (Nat.le_of_ble_eq_true rfl) dX20_speaks_13 ⟨Nat.le_refl _, Nat.le_refl _⟩) hP (fun H locs hP => ?_)
  exact hret _ _ _ _ _ _ dX20_speaks_16 rfl (Option.some.inj h) hP
def pl25_X17_tells (x0 : Nat) (σ : ST) (t0 : Nat) (a1 : Int32) : Option (Int32 × ST) :=
  bo (pgr σ (some t0) 25 1) (fun (v_2 : Option Nat) => ez v_2 x0 (bo (cp_ran σ (2 : Int32)) (fun (σ_5 : ST) => bo (pis σ_5 (some t0) 25) (fun (_ : Nat) => bo2 (pl25_X20_speaks x0 σ_5 t0 a1) (fun (r_9 : Int32) (σ_10 : ST) => bo (pis σ_10 (some t0) 25) (fun (_ : Nat) => bo2 (pl25_X20_stops x0 σ_10 t0 (1 : Int32)) (fun (r_14 : Int32) (σ_15 : ST) => some ((r_9 - r_14), σ_15))))))))
abbrev rm_X17_tells__25 : Room := rmf 5 105
set_option maxHeartbeats 4000000 in
set_option maxRecDepth 100000 in
theorem mt_X17_tells__25 (l : Launch) (G : GT) (σ : ST) (t0 : Nat) (a1 : Int32) {r : Int32} {u : ST} (h : pl25_X17_tells (G.2.2.1 0) σ t0 a1 = some (r, u)) : CI l cp_ft G yX17_tells (ws_ yX17_tells cX17_tells 3 (some .int)) rm_X17_tells__25 0 0 [.ref t0, .int a1] σ (r, u) := by
  refine m_enterI (by decide) rfl (lv := [(0, .ref t0), (1, .int a1)]) rfl ?_
  intro p e s m args below meth c H locs ls Q X hret hP hl
  have hx := X.1.1
  have hb := X.1.2.1
  have hown := X.1.2.2.2.1
  have hts := X.1.2.2.2.2
  unfold pl25_X17_tells at h
  refine lv_aload_n hx hb dX17_tells_0 rfl (lv_at hl 0 rfl) ?_
  obtain ⟨v_2, e_1, h⟩ := bo_ex h
  refine r_pgr (r := (some t0)) X hP lk_25 1 (Nat.le_of_ble_eq_true rfl) e_1 q1182 dX17_tells_1 ?_
  have hz_3 := ez_eq h
  have h := ez_k h
  rw [rr_known hz_3]
  refine lv_iconst (v := (2 : Int32)) hx hb dX17_tells_4 (by decide) ?_
  obtain ⟨σ_5, e_4, h⟩ := bo_ex h
  refine r_callv (r_runVN (rest := []) X hP 0 cp_c0 lk_0 (mt_X0_ran l G σ (2 : Int32) e_4) ⟨va_cnB 1 hts (lw_meth q1292) rfl rfl rfl (X.2.2.1 _ q1289 rfl) (hts _ q110) cdX0_ran ⟨Nat.le_of_ble_eq_true rfl, Nat.le_of_ble_eq_true rfl⟩, hts _ q1291, hts _ qs48⟩ rfl hl.1 rfl (Nat.le_of_ble_eq_true rfl) dX17_tells_5 ⟨Nat.le_refl _, Nat.le_refl _⟩) hP (fun H locs hP => ?_)
  refine lv_aload_n hx hb dX17_tells_8 rfl (lv_at hl 0 rfl) ?_
  refine lv_iload_n hx hb dX17_tells_9 rfl (lv_at hl 1 rfl) ?_
  obtain ⟨a_6, e_7, h⟩ := bo_ex h
  obtain ⟨r_9, σ_10, e_8, h⟩ := bo2_ex h
  refine r_calli (r_runUP (rest := []) X hP (pis_self e_7) lk_25 (mt_X20_speaks__25 l G σ_5 t0 a1 e_8) (va_cwO (owner := "SpeaksInTurn$Plain") (x := ⟨"SpeaksInTurn$Plain", "speaks", "(I)I"⟩) 1 hts (lw_O q1334 q1337 q1335 q1351 q1339 q144 q1340) rfl rfl rfl q1374 cdX17_speaks ⟨Nat.le_of_ble_eq_true rfl, Nat.le_of_ble_eq_true rfl⟩) rfl hl.1 rfl (Nat.le_of_ble_eq_true rfl) dX17_tells_10 ⟨Nat.le_refl _, Nat.le_refl _⟩) hP (fun H locs hP => ?_)
  refine lv_istore_n (lv' := [(2, .int r_9), (0, .ref t0), (1, .int a1)]) hx hb dX17_tells_13 rfl hl (by decide) rfl (fun ls hl => ?_)
  refine lv_iload_n hx hb dX17_tells_14 rfl (lv_at hl 0 rfl) ?_
  refine lv_aload_n hx hb dX17_tells_15 rfl (lv_at hl 1 rfl) ?_
  refine lv_iconst (v := (1 : Int32)) hx hb dX17_tells_16 (by decide) ?_
  obtain ⟨a_11, e_12, h⟩ := bo_ex h
  obtain ⟨r_14, σ_15, e_13, h⟩ := bo2_ex h
  refine r_calli (r_runUP (rest := [.int r_9]) X hP (pis_self e_12) lk_25 (mt_X20_stops__25 l G σ_10 t0 (1 : Int32) e_13) (va_cwO (owner := "SpeaksInTurn$Plain") (x := ⟨"SpeaksInTurn$Plain", "stops", "(I)I"⟩) 1 hts (lw_O q1376 q2282 q1367 q2297 q1377 q144 q1378) rfl rfl rfl q1368 cdX17_stops ⟨Nat.le_of_ble_eq_true rfl, Nat.le_of_ble_eq_true rfl⟩) rfl hl.1 rfl (Nat.le_of_ble_eq_true rfl) dX17_tells_17 ⟨Nat.le_refl _, Nat.le_refl _⟩) hP (fun H locs hP => ?_)
  refine lv_isub hx hb dX17_tells_20 ?_
  exact hret _ _ _ _ _ _ dX17_tells_21 rfl (Option.some.inj h) hP
def pl25_X22_tells (x0 : Nat) (σ : ST) (t0 : Nat) (a1 : Int32) : Option (Int32 × ST) :=
  bo (pgr σ (some t0) 25 4) (fun (v_2 : Option Nat) => ez v_2 x0 (bo (cp_ran σ (60 : Int32)) (fun (σ_5 : ST) => bo (pis σ_5 (some t0) 25) (fun (_ : Nat) => bo2 (pl25_X17_tells x0 σ_5 t0 a1) (fun (r_9 : Int32) (σ_10 : ST) => some ((r_9 ^^^ (5 : Int32)), σ_10))))))
abbrev rm_X22_tells__25 : Room := rmf 6 127
set_option maxHeartbeats 4000000 in
set_option maxRecDepth 100000 in
theorem mt_X22_tells__25 (l : Launch) (G : GT) (σ : ST) (t0 : Nat) (a1 : Int32) {r : Int32} {u : ST} (h : pl25_X22_tells (G.2.2.1 0) σ t0 a1 = some (r, u)) : CI l cp_ft G yX22_tells (ws_ yX22_tells cX22_tells 2 (some .int)) rm_X22_tells__25 0 0 [.ref t0, .int a1] σ (r, u) := by
  refine m_enterI (by decide) rfl (lv := [(0, .ref t0), (1, .int a1)]) rfl ?_
  intro p e s m args below meth c H locs ls Q X hret hP hl
  have hx := X.1.1
  have hb := X.1.2.1
  have hown := X.1.2.2.2.1
  have hts := X.1.2.2.2.2
  unfold pl25_X22_tells at h
  refine lv_aload_n hx hb dX22_tells_0 rfl (lv_at hl 0 rfl) ?_
  obtain ⟨v_2, e_1, h⟩ := bo_ex h
  refine r_pgr (r := (some t0)) X hP lk_25 4 (Nat.le_of_ble_eq_true rfl) e_1 q1233 dX22_tells_1 ?_
  have hz_3 := ez_eq h
  have h := ez_k h
  rw [rr_known hz_3]
  refine lv_bipush (v := (60 : Int32)) hx hb dX22_tells_4 (by decide) ?_
  obtain ⟨σ_5, e_4, h⟩ := bo_ex h
  refine r_callv (r_runVN (rest := []) X hP 0 cp_c0 lk_0 (mt_X0_ran l G σ (60 : Int32) e_4) ⟨va_cnB 1 hts (lw_meth q1292) rfl rfl rfl (X.2.2.1 _ q1403 rfl) (hts _ q110) cdX0_ran ⟨Nat.le_of_ble_eq_true rfl, Nat.le_of_ble_eq_true rfl⟩, hts _ q1291, hts _ qs48⟩ rfl hl.1 rfl (Nat.le_of_ble_eq_true rfl) dX22_tells_6 ⟨Nat.le_refl _, Nat.le_refl _⟩) hP (fun H locs hP => ?_)
  refine lv_aload_n hx hb dX22_tells_9 rfl (lv_at hl 0 rfl) ?_
  refine lv_iload_n hx hb dX22_tells_10 rfl (lv_at hl 1 rfl) ?_
  obtain ⟨a_6, e_7, h⟩ := bo_ex h
  obtain ⟨r_9, σ_10, e_8, h⟩ := bo2_ex h
  refine r_calli (r_runSX (rest := []) (n := 1) (x := ⟨"SpeaksInTurn$Again", "tells", "(I)I"⟩) X hP (pis_self e_7) lk_25 (mt_X17_tells__25 l G σ_5 t0 a1 e_8) rfl q1404 q1405 q1240 (Or.inr (Or.inr ⟨_, q1214, q1201⟩)) q1331 q141 q1333 (by decide) cdX17_tells.2.2 rfl rfl ⟨Nat.le_of_ble_eq_true rfl, Nat.le_of_ble_eq_true rfl⟩ rfl hl.1 rfl (Nat.le_of_ble_eq_true rfl) dX22_tells_11 ⟨Nat.le_refl _, Nat.le_refl _⟩) hP (fun H locs hP => ?_)
  refine lv_iconst (v := (5 : Int32)) hx hb dX22_tells_14 (by decide) ?_
  refine lv_ixor hx hb dX22_tells_15 ?_
  exact hret _ _ _ _ _ _ dX22_tells_16 rfl (Option.some.inj h) hP
def pl26_X17_init (x0 : Nat) (σ : ST) (t0 : Nat) (a2 : Int32) : Option ST :=
  bo (ppv σ (some t0) 26 1 (va_rf (some x0))) (fun (σ_2 : ST) => bo (he_init σ_2 t0) (fun (_ : Unit) => bo (ppv σ_2 (some t0) 26 0 (.int a2)) (fun (σ_5 : ST) => some σ_5)))
abbrev rm_X17_init__26 : Room := rmf 2 32
set_option maxHeartbeats 4000000 in
set_option maxRecDepth 100000 in
theorem mt_X17_init__26 (l : Launch) (G : GT) (σ : ST) (t0 : Nat) (a2 : Int32) {u : ST} (h : pl26_X17_init (G.2.2.1 0) σ t0 a2 = some u) : CV l cp_ft G yX17_init (ws_ yX17_init cX17_init 3 none) rm_X17_init__26 0 0 [.ref t0, .ref (G.2.2.1 0), .int a2] σ u := by
  refine m_enterV (by decide) rfl (lv := [(0, .ref t0), (1, .ref (G.2.2.1 0)), (2, .int a2)]) rfl ?_
  intro p e s m args below meth c H locs ls Q X hnm hret hP hl
  have hx := X.1.1
  have hb := X.1.2.1
  have hown := X.1.2.2.2.1
  have hts := X.1.2.2.2.2
  unfold pl26_X17_init at h
  refine lv_aload_n hx hb dX17_init_0 rfl (lv_at hl 0 rfl) ?_
  refine lv_aload_n hx hb dX17_init_1 rfl (lv_at hl 1 rfl) ?_
  obtain ⟨σ_2, e_1, h⟩ := bo_ex h
  refine r_ppvF (r := (some t0)) X hP lk_26 1 (Nat.le_of_ble_eq_true rfl) e_1 q1182 rfl hnm rfl (tyX23_ok 1 (by decide)) (rr_nar _ (some (G.2.2.1 0))) (rr_fit _ (some (G.2.2.1 0))) dX17_init_2 (fun H locs hP => ?_)
  refine lv_aload_n hx hb dX17_init_5 rfl (lv_at hl 0 rfl) ?_
  obtain ⟨_, e_3, h⟩ := bo_ex h
  refine r_callv (r_runIN (rest := []) X hP (mt_X16_init l G σ_2 t0 e_3) ⟨va_cnB 0 hts (lw_meth q1178) rfl rfl rfl (X.2.2.1 _ q1176 rfl) (hts _ q140) cdX16_init ⟨Nat.le_of_ble_eq_true rfl, Nat.le_of_ble_eq_true rfl⟩, rfl, hts _ q1177⟩ rfl hl.1 rfl (Nat.le_of_ble_eq_true rfl) dX17_init_6 ⟨Nat.le_refl _, Nat.le_refl _⟩) hP (fun H locs hP => ?_)
  refine lv_aload_n hx hb dX17_init_9 rfl (lv_at hl 0 rfl) ?_
  refine lv_iload_n hx hb dX17_init_10 rfl (lv_at hl 2 rfl) ?_
  obtain ⟨σ_5, e_4, h⟩ := bo_ex h
  refine r_ppvF (r := (some t0)) X hP lk_26 0 (Nat.le_of_ble_eq_true rfl) e_4 q1181 rfl hnm rfl (tyX23_ok 0 (by decide)) rfl rfl dX17_init_11 (fun H locs hP => ?_)
  exact hret _ _ _ _ _ dX17_init_14 (Option.some.inj h) hP
def pl26_X23_init (x0 : Nat) (σ : ST) (t0 : Nat) (a2 : Int32) : Option ST :=
  bo (ppv σ (some t0) 26 2 (va_rf (some x0))) (fun (σ_2 : ST) => bo (pl26_X17_init x0 σ_2 t0 a2) (fun (σ_4 : ST) => some σ_4))
abbrev rm_X23_init__26 : Room := rmf 3 54
set_option maxHeartbeats 4000000 in
set_option maxRecDepth 100000 in
theorem mt_X23_init__26 (l : Launch) (G : GT) (σ : ST) (t0 : Nat) (a2 : Int32) {u : ST} (h : pl26_X23_init (G.2.2.1 0) σ t0 a2 = some u) : CV l cp_ft G yX23_init (ws_ yX23_init cX23_init 3 none) rm_X23_init__26 0 0 [.ref t0, .ref (G.2.2.1 0), .int a2] σ u := by
  refine m_enterV (by decide) rfl (lv := [(0, .ref t0), (1, .ref (G.2.2.1 0)), (2, .int a2)]) rfl ?_
  intro p e s m args below meth c H locs ls Q X hnm hret hP hl
  have hx := X.1.1
  have hb := X.1.2.1
  have hown := X.1.2.2.2.1
  have hts := X.1.2.2.2.2
  unfold pl26_X23_init at h
  refine lv_aload_n hx hb dX23_init_0 rfl (lv_at hl 0 rfl) ?_
  refine lv_aload_n hx hb dX23_init_1 rfl (lv_at hl 1 rfl) ?_
  obtain ⟨σ_2, e_1, h⟩ := bo_ex h
  refine r_ppvF (r := (some t0)) X hP lk_26 2 (Nat.le_of_ble_eq_true rfl) e_1 q1247 rfl hnm rfl (tyX23_ok 2 (by decide)) (rr_nar _ (some (G.2.2.1 0))) (rr_fit _ (some (G.2.2.1 0))) dX23_init_2 (fun H locs hP => ?_)
  refine lv_aload_n hx hb dX23_init_5 rfl (lv_at hl 0 rfl) ?_
  refine lv_aload_n hx hb dX23_init_6 rfl (lv_at hl 1 rfl) ?_
  refine lv_iload_n hx hb dX23_init_7 rfl (lv_at hl 2 rfl) ?_
  obtain ⟨σ_4, e_3, h⟩ := bo_ex h
  refine r_callv (r_runI (rest := []) X hP (mt_X17_init__26 l G σ_2 t0 a2 e_3) (cwI 2 hts (lw_meth q1175) rfl rfl rfl (hts _ q141) (hts _ q1246) (hts _ q1174) rfl cdX17_init ⟨Nat.le_of_ble_eq_true rfl, Nat.le_of_ble_eq_true rfl⟩) rfl hl.1 rfl (Nat.le_of_ble_eq_true rfl) dX23_init_8 ⟨Nat.le_refl _, Nat.le_refl _⟩) hP (fun H locs hP => ?_)
  exact hret _ _ _ _ _ dX23_init_11 (Option.some.inj h) hP
def pl26_X23_kind (σ : ST) (t0 : Nat) : Option Int32 :=
  some (6 : Int32)
abbrev rm_X23_kind__26 : Room := rmf 0 0
set_option maxHeartbeats 4000000 in
set_option maxRecDepth 100000 in
theorem mt_X23_kind__26 (l : Launch) (G : GT) (σ : ST) (t0 : Nat) {r : Int32} (h : pl26_X23_kind σ t0 = some r) : CI l cp_ft G yX23_kind (ws_ yX23_kind cX23_kind 1 (some .int)) rm_X23_kind__26 0 0 [.ref t0] σ (r, σ) := by
  refine m_enterI (by decide) rfl (lv := [(0, .ref t0)]) rfl ?_
  intro p e s m args below meth c H locs ls Q X hret hP hl
  have hx := X.1.1
  have hb := X.1.2.1
  have hown := X.1.2.2.2.1
  have hts := X.1.2.2.2.2
  unfold pl26_X23_kind at h
  refine lv_bipush (v := (6 : Int32)) hx hb dX23_kind_0 (by decide) ?_
  exact hret _ _ _ _ _ _ dX23_kind_2 rfl (congrArg (fun z9 => (z9, σ)) (Option.some.inj h)) hP
def pl26_X17_isUnder (σ : ST) (t0 : Nat) (a1 : Int32) : Option Int32 :=
  (if a1 = 0 then some (1 : Int32) else bo (pis σ (some t0) 26) (fun (_ : Nat) => bo (pl26_X23_kind σ t0) (fun (r_5 : Int32) => (if a1 = r_5 then some (1 : Int32) else some (0 : Int32)))))
abbrev rm_X17_isUnder__26 : Room := rmf 1 20
set_option maxHeartbeats 4000000 in
set_option maxRecDepth 100000 in
theorem mt_X17_isUnder__26 (l : Launch) (G : GT) (σ : ST) (t0 : Nat) (a1 : Int32) {r : Int32} (h : pl26_X17_isUnder σ t0 a1 = some r) : CI l cp_ft G yX17_isUnder (ws_ yX17_isUnder cX17_isUnder 2 (some .boolean)) rm_X17_isUnder__26 0 0 [.ref t0, .int a1] σ (r, σ) := by
  refine m_enterI (by decide) rfl (lv := [(0, .ref t0), (1, .int a1)]) rfl ?_
  intro p e s m args below meth c H locs ls Q X hret hP hl
  have hx := X.1.1
  have hb := X.1.2.1
  have hown := X.1.2.2.2.1
  have hts := X.1.2.2.2.2
  unfold pl26_X17_isUnder at h
  refine lv_iload_n hx hb dX17_isUnder_0 rfl (lv_at hl 1 rfl) ?_
  refine lv_if_eq (tgt := 12) hx hb dX17_isUnder_1 (by decide) (fun c_1 => ?_) (fun c_1 => ?_)
  · have h := it_t h c_1
    refine lv_iconst (v := (1 : Int32)) hx hb dX17_isUnder_12 (by decide) ?_
    refine lv_goto (tgt := 17) hx hb dX17_isUnder_13 (by decide) ?_
    exact hret _ _ _ _ _ _ dX17_isUnder_17 rfl (congrArg (fun z9 => (z9, σ)) (Option.some.inj h)) hP
  · have h := it_f h c_1
    refine lv_iload_n hx hb dX17_isUnder_4 rfl (lv_at hl 1 rfl) ?_
    refine lv_aload_n hx hb dX17_isUnder_5 rfl (lv_at hl 0 rfl) ?_
    obtain ⟨a_2, e_3, h⟩ := bo_ex h
    obtain ⟨r_5, e_4, h⟩ := bo_ex h
    refine r_calli (r_runUP (rest := [.int a1]) X hP (pis_self e_3) lk_26 (mt_X23_kind__26 l G σ t0 e_4) (va_cwO (owner := "SpeaksInTurn$Plain") (x := ⟨"SpeaksInTurn$Plain", "kind", "()I"⟩) 0 hts (lw_O q1601 q1604 q1602 q1608 q1609 q147 q1610) rfl rfl rfl q1626 cdX17_kind ⟨Nat.le_of_ble_eq_true rfl, Nat.le_of_ble_eq_true rfl⟩) rfl hl.1 rfl (Nat.le_of_ble_eq_true rfl) dX17_isUnder_6 ⟨Nat.le_refl _, Nat.le_refl _⟩) hP (fun H locs hP => ?_)
    refine lv_icmp_ne (tgt := 16) hx hb dX17_isUnder_9 (by decide) (fun c_6 => ?_) (fun c_6 => ?_)
    · have h := it_f h c_6
      refine lv_iconst (v := (0 : Int32)) hx hb dX17_isUnder_16 (by decide) ?_
      exact hret _ _ _ _ _ _ dX17_isUnder_17 rfl (congrArg (fun z9 => (z9, σ)) (Option.some.inj h)) hP
    · have h := it_t h c_6
      refine lv_iconst (v := (1 : Int32)) hx hb dX17_isUnder_12 (by decide) ?_
      refine lv_goto (tgt := 17) hx hb dX17_isUnder_13 (by decide) ?_
      exact hret _ _ _ _ _ _ dX17_isUnder_17 rfl (congrArg (fun z9 => (z9, σ)) (Option.some.inj h)) hP
def pl26_X17_knows (x0 : Nat) (σ : ST) (t0 : Nat) (a1 : Int32) : Option (Int32 × ST) :=
  bo (pgr σ (some t0) 26 1) (fun (v_2 : Option Nat) => ez v_2 x0 (bo (cp_ran σ (1 : Int32)) (fun (σ_5 : ST) => bo (pgi σ_5 (some t0) 26 0) (fun (v_7 : Int32) => some ((a1 + v_7), σ_5)))))
abbrev rm_X17_knows__26 : Room := rmf 1 21
set_option maxHeartbeats 4000000 in
set_option maxRecDepth 100000 in
theorem mt_X17_knows__26 (l : Launch) (G : GT) (σ : ST) (t0 : Nat) (a1 : Int32) {r : Int32} {u : ST} (h : pl26_X17_knows (G.2.2.1 0) σ t0 a1 = some (r, u)) : CI l cp_ft G yX17_knows (ws_ yX17_knows cX17_knows 2 (some .int)) rm_X17_knows__26 0 0 [.ref t0, .int a1] σ (r, u) := by
  refine m_enterI (by decide) rfl (lv := [(0, .ref t0), (1, .int a1)]) rfl ?_
  intro p e s m args below meth c H locs ls Q X hret hP hl
  have hx := X.1.1
  have hb := X.1.2.1
  have hown := X.1.2.2.2.1
  have hts := X.1.2.2.2.2
  unfold pl26_X17_knows at h
  refine lv_aload_n hx hb dX17_knows_0 rfl (lv_at hl 0 rfl) ?_
  obtain ⟨v_2, e_1, h⟩ := bo_ex h
  refine r_pgr (r := (some t0)) X hP lk_26 1 (Nat.le_of_ble_eq_true rfl) e_1 q1182 dX17_knows_1 ?_
  have hz_3 := ez_eq h
  have h := ez_k h
  rw [rr_known hz_3]
  refine lv_iconst (v := (1 : Int32)) hx hb dX17_knows_4 (by decide) ?_
  obtain ⟨σ_5, e_4, h⟩ := bo_ex h
  refine r_callv (r_runVN (rest := []) X hP 0 cp_c0 lk_0 (mt_X0_ran l G σ (1 : Int32) e_4) ⟨va_cnB 1 hts (lw_meth q1292) rfl rfl rfl (X.2.2.1 _ q1289 rfl) (hts _ q110) cdX0_ran ⟨Nat.le_of_ble_eq_true rfl, Nat.le_of_ble_eq_true rfl⟩, hts _ q1291, hts _ qs48⟩ rfl hl.1 rfl (Nat.le_of_ble_eq_true rfl) dX17_knows_5 ⟨Nat.le_refl _, Nat.le_refl _⟩) hP (fun H locs hP => ?_)
  refine lv_iload_n hx hb dX17_knows_8 rfl (lv_at hl 1 rfl) ?_
  refine lv_aload_n hx hb dX17_knows_9 rfl (lv_at hl 0 rfl) ?_
  obtain ⟨v_7, e_6, h⟩ := bo_ex h
  refine r_pgi (r := (some t0)) X hP lk_26 0 (Nat.le_of_ble_eq_true rfl) e_6 q1181 dX17_knows_10 ?_
  refine lv_iadd hx hb dX17_knows_13 ?_
  exact hret _ _ _ _ _ _ dX17_knows_14 rfl (Option.some.inj h) hP
def pl26_X23_knows (x0 : Nat) (σ : ST) (t0 : Nat) (a1 : Int32) : Option (Int32 × ST) :=
  bo (pgr σ (some t0) 26 2) (fun (v_2 : Option Nat) => ez v_2 x0 (bo (cp_ran σ (70 : Int32)) (fun (σ_5 : ST) => bo (pis σ_5 (some t0) 26) (fun (_ : Nat) => bo2 (pl26_X17_knows x0 σ_5 t0 a1) (fun (r_9 : Int32) (σ_10 : ST) => some ((r_9 * (2 : Int32)), σ_10))))))
abbrev rm_X23_knows__26 : Room := rmf 2 42
set_option maxHeartbeats 4000000 in
set_option maxRecDepth 100000 in
theorem mt_X23_knows__26 (l : Launch) (G : GT) (σ : ST) (t0 : Nat) (a1 : Int32) {r : Int32} {u : ST} (h : pl26_X23_knows (G.2.2.1 0) σ t0 a1 = some (r, u)) : CI l cp_ft G yX23_knows (ws_ yX23_knows cX23_knows 2 (some .int)) rm_X23_knows__26 0 0 [.ref t0, .int a1] σ (r, u) := by
  refine m_enterI (by decide) rfl (lv := [(0, .ref t0), (1, .int a1)]) rfl ?_
  intro p e s m args below meth c H locs ls Q X hret hP hl
  have hx := X.1.1
  have hb := X.1.2.1
  have hown := X.1.2.2.2.1
  have hts := X.1.2.2.2.2
  unfold pl26_X23_knows at h
  refine lv_aload_n hx hb dX23_knows_0 rfl (lv_at hl 0 rfl) ?_
  obtain ⟨v_2, e_1, h⟩ := bo_ex h
  refine r_pgr (r := (some t0)) X hP lk_26 2 (Nat.le_of_ble_eq_true rfl) e_1 q1247 dX23_knows_1 ?_
  have hz_3 := ez_eq h
  have h := ez_k h
  rw [rr_known hz_3]
  refine lv_bipush (v := (70 : Int32)) hx hb dX23_knows_4 (by decide) ?_
  obtain ⟨σ_5, e_4, h⟩ := bo_ex h
  refine r_callv (r_runVN (rest := []) X hP 0 cp_c0 lk_0 (mt_X0_ran l G σ (70 : Int32) e_4) ⟨va_cnB 1 hts (lw_meth q1292) rfl rfl rfl (X.2.2.1 _ q1299 rfl) (hts _ q110) cdX0_ran ⟨Nat.le_of_ble_eq_true rfl, Nat.le_of_ble_eq_true rfl⟩, hts _ q1291, hts _ qs48⟩ rfl hl.1 rfl (Nat.le_of_ble_eq_true rfl) dX23_knows_6 ⟨Nat.le_refl _, Nat.le_refl _⟩) hP (fun H locs hP => ?_)
  refine lv_aload_n hx hb dX23_knows_9 rfl (lv_at hl 0 rfl) ?_
  refine lv_iload_n hx hb dX23_knows_10 rfl (lv_at hl 1 rfl) ?_
  obtain ⟨a_6, e_7, h⟩ := bo_ex h
  obtain ⟨r_9, σ_10, e_8, h⟩ := bo2_ex h
  refine r_calli (r_runSX (rest := []) (n := 1) (x := ⟨"SpeaksInTurn$Plain", "knows", "(I)I"⟩) X hP (pis_self e_7) lk_26 (mt_X17_knows__26 l G σ_5 t0 a1 e_8) rfl q1300 q2280 q1252 (Or.inl rfl) q1286 q141 q1288 (by decide) cdX17_knows.2.2 rfl rfl ⟨Nat.le_of_ble_eq_true rfl, Nat.le_of_ble_eq_true rfl⟩ rfl hl.1 rfl (Nat.le_of_ble_eq_true rfl) dX23_knows_11 ⟨Nat.le_refl _, Nat.le_refl _⟩) hP (fun H locs hP => ?_)
  refine lv_iconst (v := (2 : Int32)) hx hb dX23_knows_14 (by decide) ?_
  refine lv_imul hx hb dX23_knows_15 ?_
  exact hret _ _ _ _ _ _ dX23_knows_16 rfl (Option.some.inj h) hP
def pl26_X17_stops (x0 : Nat) (σ : ST) (t0 : Nat) (a1 : Int32) : Option (Int32 × ST) :=
  bo (pgr σ (some t0) 26 1) (fun (v_2 : Option Nat) => ez v_2 x0 (bo (cp_ran σ (11 : Int32)) (fun (σ_5 : ST) => bo (pgi σ_5 (some t0) 26 0) (fun (v_7 : Int32) => some ((a1 ^^^ v_7), σ_5)))))
abbrev rm_X17_stops__26 : Room := rmf 1 21
set_option maxHeartbeats 4000000 in
set_option maxRecDepth 100000 in
theorem mt_X17_stops__26 (l : Launch) (G : GT) (σ : ST) (t0 : Nat) (a1 : Int32) {r : Int32} {u : ST} (h : pl26_X17_stops (G.2.2.1 0) σ t0 a1 = some (r, u)) : CI l cp_ft G yX17_stops (ws_ yX17_stops cX17_stops 2 (some .int)) rm_X17_stops__26 0 0 [.ref t0, .int a1] σ (r, u) := by
  refine m_enterI (by decide) rfl (lv := [(0, .ref t0), (1, .int a1)]) rfl ?_
  intro p e s m args below meth c H locs ls Q X hret hP hl
  have hx := X.1.1
  have hb := X.1.2.1
  have hown := X.1.2.2.2.1
  have hts := X.1.2.2.2.2
  unfold pl26_X17_stops at h
  refine lv_aload_n hx hb dX17_stops_0 rfl (lv_at hl 0 rfl) ?_
  obtain ⟨v_2, e_1, h⟩ := bo_ex h
  refine r_pgr (r := (some t0)) X hP lk_26 1 (Nat.le_of_ble_eq_true rfl) e_1 q1182 dX17_stops_1 ?_
  have hz_3 := ez_eq h
  have h := ez_k h
  rw [rr_known hz_3]
  refine lv_bipush (v := (11 : Int32)) hx hb dX17_stops_4 (by decide) ?_
  obtain ⟨σ_5, e_4, h⟩ := bo_ex h
  refine r_callv (r_runVN (rest := []) X hP 0 cp_c0 lk_0 (mt_X0_ran l G σ (11 : Int32) e_4) ⟨va_cnB 1 hts (lw_meth q1292) rfl rfl rfl (X.2.2.1 _ q1289 rfl) (hts _ q110) cdX0_ran ⟨Nat.le_of_ble_eq_true rfl, Nat.le_of_ble_eq_true rfl⟩, hts _ q1291, hts _ qs48⟩ rfl hl.1 rfl (Nat.le_of_ble_eq_true rfl) dX17_stops_6 ⟨Nat.le_refl _, Nat.le_refl _⟩) hP (fun H locs hP => ?_)
  refine lv_iload_n hx hb dX17_stops_9 rfl (lv_at hl 1 rfl) ?_
  refine lv_aload_n hx hb dX17_stops_10 rfl (lv_at hl 0 rfl) ?_
  obtain ⟨v_7, e_6, h⟩ := bo_ex h
  refine r_pgi (r := (some t0)) X hP lk_26 0 (Nat.le_of_ble_eq_true rfl) e_6 q1181 dX17_stops_11 ?_
  refine lv_ixor hx hb dX17_stops_14 ?_
  exact hret _ _ _ _ _ _ dX17_stops_15 rfl (Option.some.inj h) hP
def pl26_X17_speaks (x0 : Nat) (σ : ST) (t0 : Nat) (a1 : Int32) : Option (Int32 × ST) :=
  bo (pgr σ (some t0) 26 1) (fun (v_2 : Option Nat) => ez v_2 x0 (bo (cp_ran σ (10 : Int32)) (fun (σ_5 : ST) => bo (pis σ_5 (some t0) 26) (fun (_ : Nat) => bo2 (pl26_X23_knows x0 σ_5 t0 a1) (fun (r_9 : Int32) (σ_10 : ST) => some ((r_9 * (2 : Int32)), σ_10))))))
abbrev rm_X17_speaks__26 : Room := rmf 3 63
set_option maxHeartbeats 4000000 in
set_option maxRecDepth 100000 in
theorem mt_X17_speaks__26 (l : Launch) (G : GT) (σ : ST) (t0 : Nat) (a1 : Int32) {r : Int32} {u : ST} (h : pl26_X17_speaks (G.2.2.1 0) σ t0 a1 = some (r, u)) : CI l cp_ft G yX17_speaks (ws_ yX17_speaks cX17_speaks 2 (some .int)) rm_X17_speaks__26 0 0 [.ref t0, .int a1] σ (r, u) := by
  refine m_enterI (by decide) rfl (lv := [(0, .ref t0), (1, .int a1)]) rfl ?_
  intro p e s m args below meth c H locs ls Q X hret hP hl
  have hx := X.1.1
  have hb := X.1.2.1
  have hown := X.1.2.2.2.1
  have hts := X.1.2.2.2.2
  unfold pl26_X17_speaks at h
  refine lv_aload_n hx hb dX17_speaks_0 rfl (lv_at hl 0 rfl) ?_
  obtain ⟨v_2, e_1, h⟩ := bo_ex h
  refine r_pgr (r := (some t0)) X hP lk_26 1 (Nat.le_of_ble_eq_true rfl) e_1 q1182 dX17_speaks_1 ?_
  have hz_3 := ez_eq h
  have h := ez_k h
  rw [rr_known hz_3]
  refine lv_bipush (v := (10 : Int32)) hx hb dX17_speaks_4 (by decide) ?_
  obtain ⟨σ_5, e_4, h⟩ := bo_ex h
  refine r_callv (r_runVN (rest := []) X hP 0 cp_c0 lk_0 (mt_X0_ran l G σ (10 : Int32) e_4) ⟨va_cnB 1 hts (lw_meth q1292) rfl rfl rfl (X.2.2.1 _ q1289 rfl) (hts _ q110) cdX0_ran ⟨Nat.le_of_ble_eq_true rfl, Nat.le_of_ble_eq_true rfl⟩, hts _ q1291, hts _ qs48⟩ rfl hl.1 rfl (Nat.le_of_ble_eq_true rfl) dX17_speaks_6 ⟨Nat.le_refl _, Nat.le_refl _⟩) hP (fun H locs hP => ?_)
  refine lv_aload_n hx hb dX17_speaks_9 rfl (lv_at hl 0 rfl) ?_
  refine lv_iload_n hx hb dX17_speaks_10 rfl (lv_at hl 1 rfl) ?_
  obtain ⟨a_6, e_7, h⟩ := bo_ex h
  obtain ⟨r_9, σ_10, e_8, h⟩ := bo2_ex h
  refine r_calli (r_runUP (rest := []) X hP (pis_self e_7) lk_26 (mt_X23_knows__26 l G σ_5 t0 a1 e_8) (va_cwO (owner := "SpeaksInTurn$Plain") (x := ⟨"SpeaksInTurn$Plain", "knows", "(I)I"⟩) 1 hts (lw_O q1375 q2280 q1286 q2284 q1296 q147 q1298) rfl rfl rfl q1288 cdX17_knows ⟨Nat.le_of_ble_eq_true rfl, Nat.le_of_ble_eq_true rfl⟩) rfl hl.1 rfl (Nat.le_of_ble_eq_true rfl) dX17_speaks_11 ⟨Nat.le_refl _, Nat.le_refl _⟩) hP (fun H locs hP => ?_)
  refine lv_iconst (v := (2 : Int32)) hx hb dX17_speaks_14 (by decide) ?_
  refine lv_imul hx hb dX17_speaks_15 ?_
  exact hret _ _ _ _ _ _ dX17_speaks_16 rfl (Option.some.inj h) hP
def pl26_X17_tells (x0 : Nat) (σ : ST) (t0 : Nat) (a1 : Int32) : Option (Int32 × ST) :=
  bo (pgr σ (some t0) 26 1) (fun (v_2 : Option Nat) => ez v_2 x0 (bo (cp_ran σ (2 : Int32)) (fun (σ_5 : ST) => bo (pis σ_5 (some t0) 26) (fun (_ : Nat) => bo2 (pl26_X17_speaks x0 σ_5 t0 a1) (fun (r_9 : Int32) (σ_10 : ST) => bo (pis σ_10 (some t0) 26) (fun (_ : Nat) => bo2 (pl26_X17_stops x0 σ_10 t0 (1 : Int32)) (fun (r_14 : Int32) (σ_15 : ST) => some ((r_9 - r_14), σ_15))))))))
abbrev rm_X17_tells__26 : Room := rmf 4 84
set_option maxHeartbeats 4000000 in
set_option maxRecDepth 100000 in
theorem mt_X17_tells__26 (l : Launch) (G : GT) (σ : ST) (t0 : Nat) (a1 : Int32) {r : Int32} {u : ST} (h : pl26_X17_tells (G.2.2.1 0) σ t0 a1 = some (r, u)) : CI l cp_ft G yX17_tells (ws_ yX17_tells cX17_tells 3 (some .int)) rm_X17_tells__26 0 0 [.ref t0, .int a1] σ (r, u) := by
  refine m_enterI (by decide) rfl (lv := [(0, .ref t0), (1, .int a1)]) rfl ?_
  intro p e s m args below meth c H locs ls Q X hret hP hl
  have hx := X.1.1
  have hb := X.1.2.1
  have hown := X.1.2.2.2.1
  have hts := X.1.2.2.2.2
  unfold pl26_X17_tells at h
  refine lv_aload_n hx hb dX17_tells_0 rfl (lv_at hl 0 rfl) ?_
  obtain ⟨v_2, e_1, h⟩ := bo_ex h
  refine r_pgr (r := (some t0)) X hP lk_26 1 (Nat.le_of_ble_eq_true rfl) e_1 q1182 dX17_tells_1 ?_
  have hz_3 := ez_eq h
  have h := ez_k h
  rw [rr_known hz_3]
  refine lv_iconst (v := (2 : Int32)) hx hb dX17_tells_4 (by decide) ?_
  obtain ⟨σ_5, e_4, h⟩ := bo_ex h
  refine r_callv (r_runVN (rest := []) X hP 0 cp_c0 lk_0 (mt_X0_ran l G σ (2 : Int32) e_4) ⟨va_cnB 1 hts (lw_meth q1292) rfl rfl rfl (X.2.2.1 _ q1289 rfl) (hts _ q110) cdX0_ran ⟨Nat.le_of_ble_eq_true rfl, Nat.le_of_ble_eq_true rfl⟩, hts _ q1291, hts _ qs48⟩ rfl hl.1 rfl (Nat.le_of_ble_eq_true rfl) dX17_tells_5 ⟨Nat.le_refl _, Nat.le_refl _⟩) hP (fun H locs hP => ?_)
  refine lv_aload_n hx hb dX17_tells_8 rfl (lv_at hl 0 rfl) ?_
  refine lv_iload_n hx hb dX17_tells_9 rfl (lv_at hl 1 rfl) ?_
  obtain ⟨a_6, e_7, h⟩ := bo_ex h
  obtain ⟨r_9, σ_10, e_8, h⟩ := bo2_ex h
  refine r_calli (r_runUP (rest := []) X hP (pis_self e_7) lk_26 (mt_X17_speaks__26 l G σ_5 t0 a1 e_8) (va_cwO (owner := "SpeaksInTurn$Plain") (x := ⟨"SpeaksInTurn$Plain", "speaks", "(I)I"⟩) 1 hts (lw_O q1334 q1337 q1335 q1347 q1335 q141 q1374) rfl rfl rfl q1374 cdX17_speaks ⟨Nat.le_of_ble_eq_true rfl, Nat.le_of_ble_eq_true rfl⟩) rfl hl.1 rfl (Nat.le_of_ble_eq_true rfl) dX17_tells_10 ⟨Nat.le_refl _, Nat.le_refl _⟩) hP (fun H locs hP => ?_)
  refine lv_istore_n (lv' := [(2, .int r_9), (0, .ref t0), (1, .int a1)]) hx hb dX17_tells_13 rfl hl (by decide) rfl (fun ls hl => ?_)
  refine lv_iload_n hx hb dX17_tells_14 rfl (lv_at hl 0 rfl) ?_
  refine lv_aload_n hx hb dX17_tells_15 rfl (lv_at hl 1 rfl) ?_
  refine lv_iconst (v := (1 : Int32)) hx hb dX17_tells_16 (by decide) ?_
  obtain ⟨a_11, e_12, h⟩ := bo_ex h
  obtain ⟨r_14, σ_15, e_13, h⟩ := bo2_ex h
  refine r_calli (r_runUP (rest := [.int r_9]) X hP (pis_self e_12) lk_26 (mt_X17_stops__26 l G σ_10 t0 (1 : Int32) e_13) (va_cwO (owner := "SpeaksInTurn$Plain") (x := ⟨"SpeaksInTurn$Plain", "stops", "(I)I"⟩) 1 hts (lw_O q1376 q2282 q1367 q2292 q1367 q141 q1368) rfl rfl rfl q1368 cdX17_stops ⟨Nat.le_of_ble_eq_true rfl, Nat.le_of_ble_eq_true rfl⟩) rfl hl.1 rfl (Nat.le_of_ble_eq_true rfl) dX17_tells_17 ⟨Nat.le_refl _, Nat.le_refl _⟩) hP (fun H locs hP => ?_)
  refine lv_isub hx hb dX17_tells_20 ?_
  exact hret _ _ _ _ _ _ dX17_tells_21 rfl (Option.some.inj h) hP
def pl27_X17_init (x0 : Nat) (σ : ST) (t0 : Nat) (a2 : Int32) : Option ST :=
  bo (ppv σ (some t0) 27 1 (va_rf (some x0))) (fun (σ_2 : ST) => bo (he_init σ_2 t0) (fun (_ : Unit) => bo (ppv σ_2 (some t0) 27 0 (.int a2)) (fun (σ_5 : ST) => some σ_5)))
abbrev rm_X17_init__27 : Room := rmf 2 32
set_option maxHeartbeats 4000000 in
set_option maxRecDepth 100000 in
theorem mt_X17_init__27 (l : Launch) (G : GT) (σ : ST) (t0 : Nat) (a2 : Int32) {u : ST} (h : pl27_X17_init (G.2.2.1 0) σ t0 a2 = some u) : CV l cp_ft G yX17_init (ws_ yX17_init cX17_init 3 none) rm_X17_init__27 0 0 [.ref t0, .ref (G.2.2.1 0), .int a2] σ u := by
  refine m_enterV (by decide) rfl (lv := [(0, .ref t0), (1, .ref (G.2.2.1 0)), (2, .int a2)]) rfl ?_
  intro p e s m args below meth c H locs ls Q X hnm hret hP hl
  have hx := X.1.1
  have hb := X.1.2.1
  have hown := X.1.2.2.2.1
  have hts := X.1.2.2.2.2
  unfold pl27_X17_init at h
  refine lv_aload_n hx hb dX17_init_0 rfl (lv_at hl 0 rfl) ?_
  refine lv_aload_n hx hb dX17_init_1 rfl (lv_at hl 1 rfl) ?_
  obtain ⟨σ_2, e_1, h⟩ := bo_ex h
  refine r_ppvF (r := (some t0)) X hP lk_27 1 (Nat.le_of_ble_eq_true rfl) e_1 q1182 rfl hnm rfl (tyX24_ok 1 (by decide)) (rr_nar _ (some (G.2.2.1 0))) (rr_fit _ (some (G.2.2.1 0))) dX17_init_2 (fun H locs hP => ?_)
  refine lv_aload_n hx hb dX17_init_5 rfl (lv_at hl 0 rfl) ?_
  obtain ⟨_, e_3, h⟩ := bo_ex h
  refine r_callv (r_runIN (rest := []) X hP (mt_X16_init l G σ_2 t0 e_3) ⟨va_cnB 0 hts (lw_meth q1178) rfl rfl rfl (X.2.2.1 _ q1176 rfl) (hts _ q140) cdX16_init ⟨Nat.le_of_ble_eq_true rfl, Nat.le_of_ble_eq_true rfl⟩, rfl, hts _ q1177⟩ rfl hl.1 rfl (Nat.le_of_ble_eq_true rfl) dX17_init_6 ⟨Nat.le_refl _, Nat.le_refl _⟩) hP (fun H locs hP => ?_)
  refine lv_aload_n hx hb dX17_init_9 rfl (lv_at hl 0 rfl) ?_
  refine lv_iload_n hx hb dX17_init_10 rfl (lv_at hl 2 rfl) ?_
  obtain ⟨σ_5, e_4, h⟩ := bo_ex h
  refine r_ppvF (r := (some t0)) X hP lk_27 0 (Nat.le_of_ble_eq_true rfl) e_4 q1181 rfl hnm rfl (tyX24_ok 0 (by decide)) rfl rfl dX17_init_11 (fun H locs hP => ?_)
  exact hret _ _ _ _ _ dX17_init_14 (Option.some.inj h) hP
def pl27_X21_init (x0 : Nat) (σ : ST) (t0 : Nat) (a2 : Int32) : Option ST :=
  bo (ppv σ (some t0) 27 2 (va_rf (some x0))) (fun (σ_2 : ST) => bo (pl27_X17_init x0 σ_2 t0 a2) (fun (σ_4 : ST) => some σ_4))
abbrev rm_X21_init__27 : Room := rmf 3 54
set_option maxHeartbeats 4000000 in
set_option maxRecDepth 100000 in
theorem mt_X21_init__27 (l : Launch) (G : GT) (σ : ST) (t0 : Nat) (a2 : Int32) {u : ST} (h : pl27_X21_init (G.2.2.1 0) σ t0 a2 = some u) : CV l cp_ft G yX21_init (ws_ yX21_init cX21_init 3 none) rm_X21_init__27 0 0 [.ref t0, .ref (G.2.2.1 0), .int a2] σ u := by
  refine m_enterV (by decide) rfl (lv := [(0, .ref t0), (1, .ref (G.2.2.1 0)), (2, .int a2)]) rfl ?_
  intro p e s m args below meth c H locs ls Q X hnm hret hP hl
  have hx := X.1.1
  have hb := X.1.2.1
  have hown := X.1.2.2.2.1
  have hts := X.1.2.2.2.2
  unfold pl27_X21_init at h
  refine lv_aload_n hx hb dX21_init_0 rfl (lv_at hl 0 rfl) ?_
  refine lv_aload_n hx hb dX21_init_1 rfl (lv_at hl 1 rfl) ?_
  obtain ⟨σ_2, e_1, h⟩ := bo_ex h
  refine r_ppvF (r := (some t0)) X hP lk_27 2 (Nat.le_of_ble_eq_true rfl) e_1 q1221 rfl hnm rfl (tyX24_ok 2 (by decide)) (rr_nar _ (some (G.2.2.1 0))) (rr_fit _ (some (G.2.2.1 0))) dX21_init_2 (fun H locs hP => ?_)
  refine lv_aload_n hx hb dX21_init_5 rfl (lv_at hl 0 rfl) ?_
  refine lv_aload_n hx hb dX21_init_6 rfl (lv_at hl 1 rfl) ?_
  refine lv_iload_n hx hb dX21_init_7 rfl (lv_at hl 2 rfl) ?_
  obtain ⟨σ_4, e_3, h⟩ := bo_ex h
  refine r_callv (r_runI (rest := []) X hP (mt_X17_init__27 l G σ_2 t0 a2 e_3) (cwI 2 hts (lw_meth q1175) rfl rfl rfl (hts _ q141) (hts _ q1220) (hts _ q1174) rfl cdX17_init ⟨Nat.le_of_ble_eq_true rfl, Nat.le_of_ble_eq_true rfl⟩) rfl hl.1 rfl (Nat.le_of_ble_eq_true rfl) dX21_init_8 ⟨Nat.le_refl _, Nat.le_refl _⟩) hP (fun H locs hP => ?_)
  exact hret _ _ _ _ _ dX21_init_11 (Option.some.inj h) hP
def pl27_X24_init (x0 : Nat) (σ : ST) (t0 : Nat) (a2 : Int32) : Option ST :=
  bo (ppv σ (some t0) 27 3 (va_rf (some x0))) (fun (σ_2 : ST) => bo (pl27_X21_init x0 σ_2 t0 a2) (fun (σ_4 : ST) => some σ_4))
abbrev rm_X24_init__27 : Room := rmf 4 76
set_option maxHeartbeats 4000000 in
set_option maxRecDepth 100000 in
theorem mt_X24_init__27 (l : Launch) (G : GT) (σ : ST) (t0 : Nat) (a2 : Int32) {u : ST} (h : pl27_X24_init (G.2.2.1 0) σ t0 a2 = some u) : CV l cp_ft G yX24_init (ws_ yX24_init cX24_init 3 none) rm_X24_init__27 0 0 [.ref t0, .ref (G.2.2.1 0), .int a2] σ u := by
  refine m_enterV (by decide) rfl (lv := [(0, .ref t0), (1, .ref (G.2.2.1 0)), (2, .int a2)]) rfl ?_
  intro p e s m args below meth c H locs ls Q X hnm hret hP hl
  have hx := X.1.1
  have hb := X.1.2.1
  have hown := X.1.2.2.2.1
  have hts := X.1.2.2.2.2
  unfold pl27_X24_init at h
  refine lv_aload_n hx hb dX24_init_0 rfl (lv_at hl 0 rfl) ?_
  refine lv_aload_n hx hb dX24_init_1 rfl (lv_at hl 1 rfl) ?_
  obtain ⟨σ_2, e_1, h⟩ := bo_ex h
  refine r_ppvF (r := (some t0)) X hP lk_27 3 (Nat.le_of_ble_eq_true rfl) e_1 q1259 rfl hnm rfl (tyX24_ok 3 (by decide)) (rr_nar _ (some (G.2.2.1 0))) (rr_fit _ (some (G.2.2.1 0))) dX24_init_2 (fun H locs hP => ?_)
  refine lv_aload_n hx hb dX24_init_5 rfl (lv_at hl 0 rfl) ?_
  refine lv_aload_n hx hb dX24_init_6 rfl (lv_at hl 1 rfl) ?_
  refine lv_iload_n hx hb dX24_init_7 rfl (lv_at hl 2 rfl) ?_
  obtain ⟨σ_4, e_3, h⟩ := bo_ex h
  refine r_callv (r_runI (rest := []) X hP (mt_X21_init__27 l G σ_2 t0 a2 e_3) (cwI 2 hts (lw_meth q1219) rfl rfl rfl (hts _ q145) (hts _ q1258) (hts _ q1218) rfl cdX21_init ⟨Nat.le_of_ble_eq_true rfl, Nat.le_of_ble_eq_true rfl⟩) rfl hl.1 rfl (Nat.le_of_ble_eq_true rfl) dX24_init_8 ⟨Nat.le_refl _, Nat.le_refl _⟩) hP (fun H locs hP => ?_)
  exact hret _ _ _ _ _ dX24_init_11 (Option.some.inj h) hP
def pl27_X24_kind (σ : ST) (t0 : Nat) : Option Int32 :=
  some (7 : Int32)
abbrev rm_X24_kind__27 : Room := rmf 0 0
set_option maxHeartbeats 4000000 in
set_option maxRecDepth 100000 in
theorem mt_X24_kind__27 (l : Launch) (G : GT) (σ : ST) (t0 : Nat) {r : Int32} (h : pl27_X24_kind σ t0 = some r) : CI l cp_ft G yX24_kind (ws_ yX24_kind cX24_kind 1 (some .int)) rm_X24_kind__27 0 0 [.ref t0] σ (r, σ) := by
  refine m_enterI (by decide) rfl (lv := [(0, .ref t0)]) rfl ?_
  intro p e s m args below meth c H locs ls Q X hret hP hl
  have hx := X.1.1
  have hb := X.1.2.1
  have hown := X.1.2.2.2.1
  have hts := X.1.2.2.2.2
  unfold pl27_X24_kind at h
  refine lv_bipush (v := (7 : Int32)) hx hb dX24_kind_0 (by decide) ?_
  exact hret _ _ _ _ _ _ dX24_kind_2 rfl (congrArg (fun z9 => (z9, σ)) (Option.some.inj h)) hP
def pl27_X17_isUnder (σ : ST) (t0 : Nat) (a1 : Int32) : Option Int32 :=
  (if a1 = 0 then some (1 : Int32) else bo (pis σ (some t0) 27) (fun (_ : Nat) => bo (pl27_X24_kind σ t0) (fun (r_5 : Int32) => (if a1 = r_5 then some (1 : Int32) else some (0 : Int32)))))
abbrev rm_X17_isUnder__27 : Room := rmf 1 20
set_option maxHeartbeats 4000000 in
set_option maxRecDepth 100000 in
theorem mt_X17_isUnder__27 (l : Launch) (G : GT) (σ : ST) (t0 : Nat) (a1 : Int32) {r : Int32} (h : pl27_X17_isUnder σ t0 a1 = some r) : CI l cp_ft G yX17_isUnder (ws_ yX17_isUnder cX17_isUnder 2 (some .boolean)) rm_X17_isUnder__27 0 0 [.ref t0, .int a1] σ (r, σ) := by
  refine m_enterI (by decide) rfl (lv := [(0, .ref t0), (1, .int a1)]) rfl ?_
  intro p e s m args below meth c H locs ls Q X hret hP hl
  have hx := X.1.1
  have hb := X.1.2.1
  have hown := X.1.2.2.2.1
  have hts := X.1.2.2.2.2
  unfold pl27_X17_isUnder at h
  refine lv_iload_n hx hb dX17_isUnder_0 rfl (lv_at hl 1 rfl) ?_
  refine lv_if_eq (tgt := 12) hx hb dX17_isUnder_1 (by decide) (fun c_1 => ?_) (fun c_1 => ?_)
  · have h := it_t h c_1
    refine lv_iconst (v := (1 : Int32)) hx hb dX17_isUnder_12 (by decide) ?_
    refine lv_goto (tgt := 17) hx hb dX17_isUnder_13 (by decide) ?_
    exact hret _ _ _ _ _ _ dX17_isUnder_17 rfl (congrArg (fun z9 => (z9, σ)) (Option.some.inj h)) hP
  · have h := it_f h c_1
    refine lv_iload_n hx hb dX17_isUnder_4 rfl (lv_at hl 1 rfl) ?_
    refine lv_aload_n hx hb dX17_isUnder_5 rfl (lv_at hl 0 rfl) ?_
    obtain ⟨a_2, e_3, h⟩ := bo_ex h
    obtain ⟨r_5, e_4, h⟩ := bo_ex h
    refine r_calli (r_runUP (rest := [.int a1]) X hP (pis_self e_3) lk_27 (mt_X24_kind__27 l G σ t0 e_4) (va_cwO (owner := "SpeaksInTurn$Plain") (x := ⟨"SpeaksInTurn$Plain", "kind", "()I"⟩) 0 hts (lw_O q1601 q1604 q1602 q1623 q1624 q148 q1625) rfl rfl rfl q1626 cdX17_kind ⟨Nat.le_of_ble_eq_true rfl, Nat.le_of_ble_eq_true rfl⟩) rfl hl.1 rfl (Nat.le_of_ble_eq_true rfl) dX17_isUnder_6 ⟨Nat.le_refl _, Nat.le_refl _⟩) hP (fun H locs hP => ?_)
    refine lv_icmp_ne (tgt := 16) hx hb dX17_isUnder_9 (by decide) (fun c_6 => ?_) (fun c_6 => ?_)
    · have h := it_f h c_6
      refine lv_iconst (v := (0 : Int32)) hx hb dX17_isUnder_16 (by decide) ?_
      exact hret _ _ _ _ _ _ dX17_isUnder_17 rfl (congrArg (fun z9 => (z9, σ)) (Option.some.inj h)) hP
    · have h := it_t h c_6
      refine lv_iconst (v := (1 : Int32)) hx hb dX17_isUnder_12 (by decide) ?_
      refine lv_goto (tgt := 17) hx hb dX17_isUnder_13 (by decide) ?_
      exact hret _ _ _ _ _ _ dX17_isUnder_17 rfl (congrArg (fun z9 => (z9, σ)) (Option.some.inj h)) hP
def pl27_X21_isUnder (σ : ST) (t0 : Nat) (a1 : Int32) : Option Int32 :=
  (if a1 = (4 : Int32) then some (1 : Int32) else bo (pis σ (some t0) 27) (fun (_ : Nat) => bo (pl27_X17_isUnder σ t0 a1) (fun (r_5 : Int32) => (if r_5 = 0 then some (0 : Int32) else some (1 : Int32)))))
abbrev rm_X21_isUnder__27 : Room := rmf 2 41
set_option maxHeartbeats 4000000 in
set_option maxRecDepth 100000 in
theorem mt_X21_isUnder__27 (l : Launch) (G : GT) (σ : ST) (t0 : Nat) (a1 : Int32) {r : Int32} (h : pl27_X21_isUnder σ t0 a1 = some r) : CI l cp_ft G yX21_isUnder (ws_ yX21_isUnder cX21_isUnder 2 (some .boolean)) rm_X21_isUnder__27 0 0 [.ref t0, .int a1] σ (r, σ) := by
  refine m_enterI (by decide) rfl (lv := [(0, .ref t0), (1, .int a1)]) rfl ?_
  intro p e s m args below meth c H locs ls Q X hret hP hl
  have hx := X.1.1
  have hb := X.1.2.1
  have hown := X.1.2.2.2.1
  have hts := X.1.2.2.2.2
  unfold pl27_X21_isUnder at h
  refine lv_iload_n hx hb dX21_isUnder_0 rfl (lv_at hl 1 rfl) ?_
  refine lv_iconst (v := (4 : Int32)) hx hb dX21_isUnder_1 (by decide) ?_
  refine lv_icmp_eq (tgt := 13) hx hb dX21_isUnder_2 (by decide) (fun c_1 => ?_) (fun c_1 => ?_)
  · have h := it_t h c_1
    refine lv_iconst (v := (1 : Int32)) hx hb dX21_isUnder_13 (by decide) ?_
    refine lv_goto (tgt := 18) hx hb dX21_isUnder_14 (by decide) ?_
    exact hret _ _ _ _ _ _ dX21_isUnder_18 rfl (congrArg (fun z9 => (z9, σ)) (Option.some.inj h)) hP
  · have h := it_f h c_1
    refine lv_aload_n hx hb dX21_isUnder_5 rfl (lv_at hl 0 rfl) ?_
    refine lv_iload_n hx hb dX21_isUnder_6 rfl (lv_at hl 1 rfl) ?_
    obtain ⟨a_2, e_3, h⟩ := bo_ex h
    obtain ⟨r_5, e_4, h⟩ := bo_ex h
    refine r_calli (r_runSX (rest := []) (n := 1) (x := ⟨"SpeaksInTurn$Plain", "isUnder", "(I)Z"⟩) X hP (pis_self e_3) lk_27 (mt_X17_isUnder__27 l G σ t0 a1 e_4) rfl q1597 q1583 q1226 (Or.inl rfl) q1581 q141 q1600 (by decide) cdX17_isUnder.2.2 rfl rfl ⟨Nat.le_of_ble_eq_true rfl, Nat.le_of_ble_eq_true rfl⟩ rfl hl.1 rfl (Nat.le_of_ble_eq_true rfl) dX21_isUnder_7 ⟨Nat.le_refl _, Nat.le_refl _⟩) hP (fun H locs hP => ?_)
    refine lv_if_eq (tgt := 17) hx hb dX21_isUnder_10 (by decide) (fun c_6 => ?_) (fun c_6 => ?_)
    · have h := it_t h c_6
      refine lv_iconst (v := (0 : Int32)) hx hb dX21_isUnder_17 (by decide) ?_
      exact hret _ _ _ _ _ _ dX21_isUnder_18 rfl (congrArg (fun z9 => (z9, σ)) (Option.some.inj h)) hP
    · have h := it_f h c_6
      refine lv_iconst (v := (1 : Int32)) hx hb dX21_isUnder_13 (by decide) ?_
      refine lv_goto (tgt := 18) hx hb dX21_isUnder_14 (by decide) ?_
      exact hret _ _ _ _ _ _ dX21_isUnder_18 rfl (congrArg (fun z9 => (z9, σ)) (Option.some.inj h)) hP
def pl27_X17_knows (x0 : Nat) (σ : ST) (t0 : Nat) (a1 : Int32) : Option (Int32 × ST) :=
  bo (pgr σ (some t0) 27 1) (fun (v_2 : Option Nat) => ez v_2 x0 (bo (cp_ran σ (1 : Int32)) (fun (σ_5 : ST) => bo (pgi σ_5 (some t0) 27 0) (fun (v_7 : Int32) => some ((a1 + v_7), σ_5)))))
abbrev rm_X17_knows__27 : Room := rmf 1 21
set_option maxHeartbeats 4000000 in
set_option maxRecDepth 100000 in
theorem mt_X17_knows__27 (l : Launch) (G : GT) (σ : ST) (t0 : Nat) (a1 : Int32) {r : Int32} {u : ST} (h : pl27_X17_knows (G.2.2.1 0) σ t0 a1 = some (r, u)) : CI l cp_ft G yX17_knows (ws_ yX17_knows cX17_knows 2 (some .int)) rm_X17_knows__27 0 0 [.ref t0, .int a1] σ (r, u) := by
  refine m_enterI (by decide) rfl (lv := [(0, .ref t0), (1, .int a1)]) rfl ?_
  intro p e s m args below meth c H locs ls Q X hret hP hl
  have hx := X.1.1
  have hb := X.1.2.1
  have hown := X.1.2.2.2.1
  have hts := X.1.2.2.2.2
  unfold pl27_X17_knows at h
  refine lv_aload_n hx hb dX17_knows_0 rfl (lv_at hl 0 rfl) ?_
  obtain ⟨v_2, e_1, h⟩ := bo_ex h
  refine r_pgr (r := (some t0)) X hP lk_27 1 (Nat.le_of_ble_eq_true rfl) e_1 q1182 dX17_knows_1 ?_
  have hz_3 := ez_eq h
  have h := ez_k h
  rw [rr_known hz_3]
  refine lv_iconst (v := (1 : Int32)) hx hb dX17_knows_4 (by decide) ?_
  obtain ⟨σ_5, e_4, h⟩ := bo_ex h
  refine r_callv (r_runVN (rest := []) X hP 0 cp_c0 lk_0 (mt_X0_ran l G σ (1 : Int32) e_4) ⟨va_cnB 1 hts (lw_meth q1292) rfl rfl rfl (X.2.2.1 _ q1289 rfl) (hts _ q110) cdX0_ran ⟨Nat.le_of_ble_eq_true rfl, Nat.le_of_ble_eq_true rfl⟩, hts _ q1291, hts _ qs48⟩ rfl hl.1 rfl (Nat.le_of_ble_eq_true rfl) dX17_knows_5 ⟨Nat.le_refl _, Nat.le_refl _⟩) hP (fun H locs hP => ?_)
  refine lv_iload_n hx hb dX17_knows_8 rfl (lv_at hl 1 rfl) ?_
  refine lv_aload_n hx hb dX17_knows_9 rfl (lv_at hl 0 rfl) ?_
  obtain ⟨v_7, e_6, h⟩ := bo_ex h
  refine r_pgi (r := (some t0)) X hP lk_27 0 (Nat.le_of_ble_eq_true rfl) e_6 q1181 dX17_knows_10 ?_
  refine lv_iadd hx hb dX17_knows_13 ?_
  exact hret _ _ _ _ _ _ dX17_knows_14 rfl (Option.some.inj h) hP
def pl27_X17_stops (x0 : Nat) (σ : ST) (t0 : Nat) (a1 : Int32) : Option (Int32 × ST) :=
  bo (pgr σ (some t0) 27 1) (fun (v_2 : Option Nat) => ez v_2 x0 (bo (cp_ran σ (11 : Int32)) (fun (σ_5 : ST) => bo (pgi σ_5 (some t0) 27 0) (fun (v_7 : Int32) => some ((a1 ^^^ v_7), σ_5)))))
abbrev rm_X17_stops__27 : Room := rmf 1 21
set_option maxHeartbeats 4000000 in
set_option maxRecDepth 100000 in
theorem mt_X17_stops__27 (l : Launch) (G : GT) (σ : ST) (t0 : Nat) (a1 : Int32) {r : Int32} {u : ST} (h : pl27_X17_stops (G.2.2.1 0) σ t0 a1 = some (r, u)) : CI l cp_ft G yX17_stops (ws_ yX17_stops cX17_stops 2 (some .int)) rm_X17_stops__27 0 0 [.ref t0, .int a1] σ (r, u) := by
  refine m_enterI (by decide) rfl (lv := [(0, .ref t0), (1, .int a1)]) rfl ?_
  intro p e s m args below meth c H locs ls Q X hret hP hl
  have hx := X.1.1
  have hb := X.1.2.1
  have hown := X.1.2.2.2.1
  have hts := X.1.2.2.2.2
  unfold pl27_X17_stops at h
  refine lv_aload_n hx hb dX17_stops_0 rfl (lv_at hl 0 rfl) ?_
  obtain ⟨v_2, e_1, h⟩ := bo_ex h
  refine r_pgr (r := (some t0)) X hP lk_27 1 (Nat.le_of_ble_eq_true rfl) e_1 q1182 dX17_stops_1 ?_
  have hz_3 := ez_eq h
  have h := ez_k h
  rw [rr_known hz_3]
  refine lv_bipush (v := (11 : Int32)) hx hb dX17_stops_4 (by decide) ?_
  obtain ⟨σ_5, e_4, h⟩ := bo_ex h
  refine r_callv (r_runVN (rest := []) X hP 0 cp_c0 lk_0 (mt_X0_ran l G σ (11 : Int32) e_4) ⟨va_cnB 1 hts (lw_meth q1292) rfl rfl rfl (X.2.2.1 _ q1289 rfl) (hts _ q110) cdX0_ran ⟨Nat.le_of_ble_eq_true rfl, Nat.le_of_ble_eq_true rfl⟩, hts _ q1291, hts _ qs48⟩ rfl hl.1 rfl (Nat.le_of_ble_eq_true rfl) dX17_stops_6 ⟨Nat.le_refl _, Nat.le_refl _⟩) hP (fun H locs hP => ?_)
  refine lv_iload_n hx hb dX17_stops_9 rfl (lv_at hl 1 rfl) ?_
  refine lv_aload_n hx hb dX17_stops_10 rfl (lv_at hl 0 rfl) ?_
  obtain ⟨v_7, e_6, h⟩ := bo_ex h
  refine r_pgi (r := (some t0)) X hP lk_27 0 (Nat.le_of_ble_eq_true rfl) e_6 q1181 dX17_stops_11 ?_
  refine lv_ixor hx hb dX17_stops_14 ?_
  exact hret _ _ _ _ _ _ dX17_stops_15 rfl (Option.some.inj h) hP
def pl27_X21_stops (x0 : Nat) (σ : ST) (t0 : Nat) (a1 : Int32) : Option (Int32 × ST) :=
  bo (pgr σ (some t0) 27 2) (fun (v_2 : Option Nat) => ez v_2 x0 (bo (cp_ran σ (50 : Int32)) (fun (σ_5 : ST) => bo (pis σ_5 (some t0) 27) (fun (_ : Nat) => bo2 (pl27_X17_stops x0 σ_5 t0 a1) (fun (r_9 : Int32) (σ_10 : ST) => bo (pis σ_10 (some t0) 27) (fun (_ : Nat) => bo2 (pl27_X17_knows x0 σ_10 t0 (2 : Int32)) (fun (r_14 : Int32) (σ_15 : ST) => some ((r_9 - r_14), σ_15))))))))
abbrev rm_X21_stops__27 : Room := rmf 2 42
set_option maxHeartbeats 4000000 in
set_option maxRecDepth 100000 in
theorem mt_X21_stops__27 (l : Launch) (G : GT) (σ : ST) (t0 : Nat) (a1 : Int32) {r : Int32} {u : ST} (h : pl27_X21_stops (G.2.2.1 0) σ t0 a1 = some (r, u)) : CI l cp_ft G yX21_stops (ws_ yX21_stops cX21_stops 3 (some .int)) rm_X21_stops__27 0 0 [.ref t0, .int a1] σ (r, u) := by
  refine m_enterI (by decide) rfl (lv := [(0, .ref t0), (1, .int a1)]) rfl ?_
  intro p e s m args below meth c H locs ls Q X hret hP hl
  have hx := X.1.1
  have hb := X.1.2.1
  have hown := X.1.2.2.2.1
  have hts := X.1.2.2.2.2
  unfold pl27_X21_stops at h
  refine lv_aload_n hx hb dX21_stops_0 rfl (lv_at hl 0 rfl) ?_
  obtain ⟨v_2, e_1, h⟩ := bo_ex h
  refine r_pgr (r := (some t0)) X hP lk_27 2 (Nat.le_of_ble_eq_true rfl) e_1 q1221 dX21_stops_1 ?_
  have hz_3 := ez_eq h
  have h := ez_k h
  rw [rr_known hz_3]
  refine lv_bipush (v := (50 : Int32)) hx hb dX21_stops_4 (by decide) ?_
  obtain ⟨σ_5, e_4, h⟩ := bo_ex h
  refine r_callv (r_runVN (rest := []) X hP 0 cp_c0 lk_0 (mt_X0_ran l G σ (50 : Int32) e_4) ⟨va_cnB 1 hts (lw_meth q1292) rfl rfl rfl (X.2.2.1 _ q1365 rfl) (hts _ q110) cdX0_ran ⟨Nat.le_of_ble_eq_true rfl, Nat.le_of_ble_eq_true rfl⟩, hts _ q1291, hts _ qs48⟩ rfl hl.1 rfl (Nat.le_of_ble_eq_true rfl) dX21_stops_6 ⟨Nat.le_refl _, Nat.le_refl _⟩) hP (fun H locs hP => ?_)
  refine lv_aload_n hx hb dX21_stops_9 rfl (lv_at hl 0 rfl) ?_
  refine lv_iload_n hx hb dX21_stops_10 rfl (lv_at hl 1 rfl) ?_
  obtain ⟨a_6, e_7, h⟩ := bo_ex h
  obtain ⟨r_9, σ_10, e_8, h⟩ := bo2_ex h
  refine r_calli (r_runSX (rest := []) (n := 1) (x := ⟨"SpeaksInTurn$Plain", "stops", "(I)I"⟩) X hP (pis_self e_7) lk_27 (mt_X17_stops__27 l G σ_5 t0 a1 e_8) rfl q1366 q2282 q1226 (Or.inl rfl) q1367 q141 q1368 (by decide) cdX17_stops.2.2 rfl rfl ⟨Nat.le_of_ble_eq_true rfl, Nat.le_of_ble_eq_true rfl⟩ rfl hl.1 rfl (Nat.le_of_ble_eq_true rfl) dX21_stops_11 ⟨Nat.le_refl _, Nat.le_refl _⟩) hP (fun H locs hP => ?_)
  refine lv_istore_n (lv' := [(2, .int r_9), (0, .ref t0), (1, .int a1)]) hx hb dX21_stops_14 rfl hl (by decide) rfl (fun ls hl => ?_)
  refine lv_iload_n hx hb dX21_stops_15 rfl (lv_at hl 0 rfl) ?_
  refine lv_aload_n hx hb dX21_stops_16 rfl (lv_at hl 1 rfl) ?_
  refine lv_iconst (v := (2 : Int32)) hx hb dX21_stops_17 (by decide) ?_
  obtain ⟨a_11, e_12, h⟩ := bo_ex h
  obtain ⟨r_14, σ_15, e_13, h⟩ := bo2_ex h
  refine r_calli (r_runUP (rest := [.int r_9]) X hP (pis_self e_12) lk_27 (mt_X17_knows__27 l G σ_10 t0 (2 : Int32) e_13) (va_cwO (owner := "SpeaksInTurn$Plain") (x := ⟨"SpeaksInTurn$Stopped", "knows", "(I)I"⟩) 1 hts (lw_O q1369 q1370 q1286 q1373 q1286 q141 q1288) rfl rfl rfl q1288 cdX17_knows ⟨Nat.le_of_ble_eq_true rfl, Nat.le_of_ble_eq_true rfl⟩) rfl hl.1 rfl (Nat.le_of_ble_eq_true rfl) dX21_stops_18 ⟨Nat.le_refl _, Nat.le_refl _⟩) hP (fun H locs hP => ?_)
  refine lv_isub hx hb dX21_stops_21 ?_
  exact hret _ _ _ _ _ _ dX21_stops_22 rfl (Option.some.inj h) hP
def pl27_X17_speaks (x0 : Nat) (σ : ST) (t0 : Nat) (a1 : Int32) : Option (Int32 × ST) :=
  bo (pgr σ (some t0) 27 1) (fun (v_2 : Option Nat) => ez v_2 x0 (bo (cp_ran σ (10 : Int32)) (fun (σ_5 : ST) => bo (pis σ_5 (some t0) 27) (fun (_ : Nat) => bo2 (pl27_X17_knows x0 σ_5 t0 a1) (fun (r_9 : Int32) (σ_10 : ST) => some ((r_9 * (2 : Int32)), σ_10))))))
abbrev rm_X17_speaks__27 : Room := rmf 2 42
set_option maxHeartbeats 4000000 in
set_option maxRecDepth 100000 in
theorem mt_X17_speaks__27 (l : Launch) (G : GT) (σ : ST) (t0 : Nat) (a1 : Int32) {r : Int32} {u : ST} (h : pl27_X17_speaks (G.2.2.1 0) σ t0 a1 = some (r, u)) : CI l cp_ft G yX17_speaks (ws_ yX17_speaks cX17_speaks 2 (some .int)) rm_X17_speaks__27 0 0 [.ref t0, .int a1] σ (r, u) := by
  refine m_enterI (by decide) rfl (lv := [(0, .ref t0), (1, .int a1)]) rfl ?_
  intro p e s m args below meth c H locs ls Q X hret hP hl
  have hx := X.1.1
  have hb := X.1.2.1
  have hown := X.1.2.2.2.1
  have hts := X.1.2.2.2.2
  unfold pl27_X17_speaks at h
  refine lv_aload_n hx hb dX17_speaks_0 rfl (lv_at hl 0 rfl) ?_
  obtain ⟨v_2, e_1, h⟩ := bo_ex h
  refine r_pgr (r := (some t0)) X hP lk_27 1 (Nat.le_of_ble_eq_true rfl) e_1 q1182 dX17_speaks_1 ?_
  have hz_3 := ez_eq h
  have h := ez_k h
  rw [rr_known hz_3]
  refine lv_bipush (v := (10 : Int32)) hx hb dX17_speaks_4 (by decide) ?_
  obtain ⟨σ_5, e_4, h⟩ := bo_ex h
  refine r_callv (r_runVN (rest := []) X hP 0 cp_c0 lk_0 (mt_X0_ran l G σ (10 : Int32) e_4) ⟨va_cnB 1 hts (lw_meth q1292) rfl rfl rfl (X.2.2.1 _ q1289 rfl) (hts _ q110) cdX0_ran ⟨Nat.le_of_ble_eq_true rfl, Nat.le_of_ble_eq_true rfl⟩, hts _ q1291, hts _ qs48⟩ rfl hl.1 rfl (Nat.le_of_ble_eq_true rfl) dX17_speaks_6 ⟨Nat.le_refl _, Nat.le_refl _⟩) hP (fun H locs hP => ?_)
  refine lv_aload_n hx hb dX17_speaks_9 rfl (lv_at hl 0 rfl) ?_
  refine lv_iload_n hx hb dX17_speaks_10 rfl (lv_at hl 1 rfl) ?_
  obtain ⟨a_6, e_7, h⟩ := bo_ex h
  obtain ⟨r_9, σ_10, e_8, h⟩ := bo2_ex h
  refine r_calli (r_runUP (rest := []) X hP (pis_self e_7) lk_27 (mt_X17_knows__27 l G σ_5 t0 a1 e_8) (va_cwO (owner := "SpeaksInTurn$Plain") (x := ⟨"SpeaksInTurn$Plain", "knows", "(I)I"⟩) 1 hts (lw_O q1375 q2280 q1286 q2290 q1286 q141 q1288) rfl rfl rfl q1288 cdX17_knows ⟨Nat.le_of_ble_eq_true rfl, Nat.le_of_ble_eq_true rfl⟩) rfl hl.1 rfl (Nat.le_of_ble_eq_true rfl) dX17_speaks_11 ⟨Nat.le_refl _, Nat.le_refl _⟩) hP (fun H locs hP => ?_)
  refine lv_iconst (v := (2 : Int32)) hx hb dX17_speaks_14 (by decide) ?_
  refine lv_imul hx hb dX17_speaks_15 ?_
  exact hret _ _ _ _ _ _ dX17_speaks_16 rfl (Option.some.inj h) hP
def pl27_X24_speaks (x0 : Nat) (σ : ST) (t0 : Nat) (a1 : Int32) : Option (Int32 × ST) :=
  bo (pgr σ (some t0) 27 3) (fun (v_2 : Option Nat) => ez v_2 x0 (bo (cp_ran σ (80 : Int32)) (fun (σ_5 : ST) => bo (pis σ_5 (some t0) 27) (fun (_ : Nat) => bo2 (pl27_X17_speaks x0 σ_5 t0 a1) (fun (r_9 : Int32) (σ_10 : ST) => bo (pis σ_10 (some t0) 27) (fun (_ : Nat) => bo2 (pl27_X21_stops x0 σ_10 t0 (2 : Int32)) (fun (r_14 : Int32) (σ_15 : ST) => some ((r_9 + r_14), σ_15))))))))
abbrev rm_X24_speaks__27 : Room := rmf 3 64
set_option maxHeartbeats 4000000 in
set_option maxRecDepth 100000 in
theorem mt_X24_speaks__27 (l : Launch) (G : GT) (σ : ST) (t0 : Nat) (a1 : Int32) {r : Int32} {u : ST} (h : pl27_X24_speaks (G.2.2.1 0) σ t0 a1 = some (r, u)) : CI l cp_ft G yX24_speaks (ws_ yX24_speaks cX24_speaks 3 (some .int)) rm_X24_speaks__27 0 0 [.ref t0, .int a1] σ (r, u) := by
  refine m_enterI (by decide) rfl (lv := [(0, .ref t0), (1, .int a1)]) rfl ?_
  intro p e s m args below meth c H locs ls Q X hret hP hl
  have hx := X.1.1
  have hb := X.1.2.1
  have hown := X.1.2.2.2.1
  have hts := X.1.2.2.2.2
  unfold pl27_X24_speaks at h
  refine lv_aload_n hx hb dX24_speaks_0 rfl (lv_at hl 0 rfl) ?_
  obtain ⟨v_2, e_1, h⟩ := bo_ex h
  refine r_pgr (r := (some t0)) X hP lk_27 3 (Nat.le_of_ble_eq_true rfl) e_1 q1259 dX24_speaks_1 ?_
  have hz_3 := ez_eq h
  have h := ez_k h
  rw [rr_known hz_3]
  refine lv_bipush (v := (80 : Int32)) hx hb dX24_speaks_4 (by decide) ?_
  obtain ⟨σ_5, e_4, h⟩ := bo_ex h
  refine r_callv (r_runVN (rest := []) X hP 0 cp_c0 lk_0 (mt_X0_ran l G σ (80 : Int32) e_4) ⟨va_cnB 1 hts (lw_meth q1292) rfl rfl rfl (X.2.2.1 _ q1355 rfl) (hts _ q110) cdX0_ran ⟨Nat.le_of_ble_eq_true rfl, Nat.le_of_ble_eq_true rfl⟩, hts _ q1291, hts _ qs48⟩ rfl hl.1 rfl (Nat.le_of_ble_eq_true rfl) dX24_speaks_6 ⟨Nat.le_refl _, Nat.le_refl _⟩) hP (fun H locs hP => ?_)
  refine lv_aload_n hx hb dX24_speaks_9 rfl (lv_at hl 0 rfl) ?_
  refine lv_iload_n hx hb dX24_speaks_10 rfl (lv_at hl 1 rfl) ?_
  obtain ⟨a_6, e_7, h⟩ := bo_ex h
  obtain ⟨r_9, σ_10, e_8, h⟩ := bo2_ex h
  refine r_calli (r_runSX (rest := []) (n := 1) (x := ⟨"SpeaksInTurn$Stopped", "speaks", "(I)I"⟩) X hP (pis_self e_7) lk_27 (mt_X17_speaks__27 l G σ_5 t0 a1 e_8) rfl q1356 q1357 q1265 (Or.inr (Or.inl q1226)) q1335 q141 q1374 (by decide) cdX17_speaks.2.2 rfl rfl ⟨Nat.le_of_ble_eq_true rfl, Nat.le_of_ble_eq_true rfl⟩ rfl hl.1 rfl (Nat.le_of_ble_eq_true rfl) dX24_speaks_11 ⟨Nat.le_refl _, Nat.le_refl _⟩) hP (fun H locs hP => ?_)
  refine lv_istore_n (lv' := [(2, .int r_9), (0, .ref t0), (1, .int a1)]) hx hb dX24_speaks_14 rfl hl (by decide) rfl (fun ls hl => ?_)
  refine lv_iload_n hx hb dX24_speaks_15 rfl (lv_at hl 0 rfl) ?_
  refine lv_aload_n hx hb dX24_speaks_16 rfl (lv_at hl 1 rfl) ?_
  refine lv_iconst (v := (2 : Int32)) hx hb dX24_speaks_17 (by decide) ?_
  obtain ⟨a_11, e_12, h⟩ := bo_ex h
  obtain ⟨r_14, σ_15, e_13, h⟩ := bo2_ex h
  refine r_calli (r_runUP (rest := [.int r_9]) X hP (pis_self e_12) lk_27 (mt_X21_stops__27 l G σ_10 t0 (2 : Int32) e_13) (va_cwO (owner := "SpeaksInTurn$Stopped") (x := ⟨"SpeaksInTurn$Unheard", "stops", "(I)I"⟩) 1 hts (lw_O q1359 q1360 q1363 q1362 q1363 q145 q1364) rfl rfl rfl q1364 cdX21_stops ⟨Nat.le_of_ble_eq_true rfl, Nat.le_of_ble_eq_true rfl⟩) rfl hl.1 rfl (Nat.le_of_ble_eq_true rfl) dX24_speaks_18 ⟨Nat.le_refl _, Nat.le_refl _⟩) hP (fun H locs hP => ?_)
  refine lv_iadd hx hb dX24_speaks_21 ?_
  exact hret _ _ _ _ _ _ dX24_speaks_22 rfl (Option.some.inj h) hP
def pl27_X17_tells (x0 : Nat) (σ : ST) (t0 : Nat) (a1 : Int32) : Option (Int32 × ST) :=
  bo (pgr σ (some t0) 27 1) (fun (v_2 : Option Nat) => ez v_2 x0 (bo (cp_ran σ (2 : Int32)) (fun (σ_5 : ST) => bo (pis σ_5 (some t0) 27) (fun (_ : Nat) => bo2 (pl27_X24_speaks x0 σ_5 t0 a1) (fun (r_9 : Int32) (σ_10 : ST) => bo (pis σ_10 (some t0) 27) (fun (_ : Nat) => bo2 (pl27_X21_stops x0 σ_10 t0 (1 : Int32)) (fun (r_14 : Int32) (σ_15 : ST) => some ((r_9 - r_14), σ_15))))))))
abbrev rm_X17_tells__27 : Room := rmf 4 86
set_option maxHeartbeats 4000000 in
set_option maxRecDepth 100000 in
theorem mt_X17_tells__27 (l : Launch) (G : GT) (σ : ST) (t0 : Nat) (a1 : Int32) {r : Int32} {u : ST} (h : pl27_X17_tells (G.2.2.1 0) σ t0 a1 = some (r, u)) : CI l cp_ft G yX17_tells (ws_ yX17_tells cX17_tells 3 (some .int)) rm_X17_tells__27 0 0 [.ref t0, .int a1] σ (r, u) := by
  refine m_enterI (by decide) rfl (lv := [(0, .ref t0), (1, .int a1)]) rfl ?_
  intro p e s m args below meth c H locs ls Q X hret hP hl
  have hx := X.1.1
  have hb := X.1.2.1
  have hown := X.1.2.2.2.1
  have hts := X.1.2.2.2.2
  unfold pl27_X17_tells at h
  refine lv_aload_n hx hb dX17_tells_0 rfl (lv_at hl 0 rfl) ?_
  obtain ⟨v_2, e_1, h⟩ := bo_ex h
  refine r_pgr (r := (some t0)) X hP lk_27 1 (Nat.le_of_ble_eq_true rfl) e_1 q1182 dX17_tells_1 ?_
  have hz_3 := ez_eq h
  have h := ez_k h
  rw [rr_known hz_3]
  refine lv_iconst (v := (2 : Int32)) hx hb dX17_tells_4 (by decide) ?_
  obtain ⟨σ_5, e_4, h⟩ := bo_ex h
  refine r_callv (r_runVN (rest := []) X hP 0 cp_c0 lk_0 (mt_X0_ran l G σ (2 : Int32) e_4) ⟨va_cnB 1 hts (lw_meth q1292) rfl rfl rfl (X.2.2.1 _ q1289 rfl) (hts _ q110) cdX0_ran ⟨Nat.le_of_ble_eq_true rfl, Nat.le_of_ble_eq_true rfl⟩, hts _ q1291, hts _ qs48⟩ rfl hl.1 rfl (Nat.le_of_ble_eq_true rfl) dX17_tells_5 ⟨Nat.le_refl _, Nat.le_refl _⟩) hP (fun H locs hP => ?_)
  refine lv_aload_n hx hb dX17_tells_8 rfl (lv_at hl 0 rfl) ?_
  refine lv_iload_n hx hb dX17_tells_9 rfl (lv_at hl 1 rfl) ?_
  obtain ⟨a_6, e_7, h⟩ := bo_ex h
  obtain ⟨r_9, σ_10, e_8, h⟩ := bo2_ex h
  refine r_calli (r_runUP (rest := []) X hP (pis_self e_7) lk_27 (mt_X24_speaks__27 l G σ_5 t0 a1 e_8) (va_cwO (owner := "SpeaksInTurn$Plain") (x := ⟨"SpeaksInTurn$Plain", "speaks", "(I)I"⟩) 1 hts (lw_O q1334 q1337 q1335 q1352 q1353 q148 q1354) rfl rfl rfl q1374 cdX17_speaks ⟨Nat.le_of_ble_eq_true rfl, Nat.le_of_ble_eq_true rfl⟩) rfl hl.1 rfl (Nat.le_of_ble_eq_true rfl) dX17_tells_10 ⟨Nat.le_refl _, Nat.le_refl _⟩) hP (fun H locs hP => ?_)
  refine lv_istore_n (lv' := [(2, .int r_9), (0, .ref t0), (1, .int a1)]) hx hb dX17_tells_13 rfl hl (by decide) rfl (fun ls hl => ?_)
  refine lv_iload_n hx hb dX17_tells_14 rfl (lv_at hl 0 rfl) ?_
  refine lv_aload_n hx hb dX17_tells_15 rfl (lv_at hl 1 rfl) ?_
  refine lv_iconst (v := (1 : Int32)) hx hb dX17_tells_16 (by decide) ?_
  obtain ⟨a_11, e_12, h⟩ := bo_ex h
  obtain ⟨r_14, σ_15, e_13, h⟩ := bo2_ex h
  refine r_calli (r_runUP (rest := [.int r_9]) X hP (pis_self e_12) lk_27 (mt_X21_stops__27 l G σ_10 t0 (1 : Int32) e_13) (va_cwO (owner := "SpeaksInTurn$Plain") (x := ⟨"SpeaksInTurn$Plain", "stops", "(I)I"⟩) 1 hts (lw_O q1376 q2282 q1367 q2298 q1363 q145 q1364) rfl rfl rfl q1368 cdX17_stops ⟨Nat.le_of_ble_eq_true rfl, Nat.le_of_ble_eq_true rfl⟩) rfl hl.1 rfl (Nat.le_of_ble_eq_true rfl) dX17_tells_17 ⟨Nat.le_refl _, Nat.le_refl _⟩) hP (fun H locs hP => ?_)
  refine lv_isub hx hb dX17_tells_20 ?_
  exact hret _ _ _ _ _ _ dX17_tells_21 rfl (Option.some.inj h) hP
def pl27_X24_tells (x0 : Nat) (σ : ST) (t0 : Nat) (a1 : Int32) : Option (Int32 × ST) :=
  bo (pgr σ (some t0) 27 3) (fun (v_2 : Option Nat) => ez v_2 x0 (bo (cp_ran σ (81 : Int32)) (fun (σ_5 : ST) => bo (pis σ_5 (some t0) 27) (fun (_ : Nat) => bo2 (pl27_X17_tells x0 σ_5 t0 a1) (fun (r_9 : Int32) (σ_10 : ST) => some ((r_9 - (1 : Int32)), σ_10))))))
abbrev rm_X24_tells__27 : Room := rmf 5 108
set_option maxHeartbeats 4000000 in
set_option maxRecDepth 100000 in
theorem mt_X24_tells__27 (l : Launch) (G : GT) (σ : ST) (t0 : Nat) (a1 : Int32) {r : Int32} {u : ST} (h : pl27_X24_tells (G.2.2.1 0) σ t0 a1 = some (r, u)) : CI l cp_ft G yX24_tells (ws_ yX24_tells cX24_tells 2 (some .int)) rm_X24_tells__27 0 0 [.ref t0, .int a1] σ (r, u) := by
  refine m_enterI (by decide) rfl (lv := [(0, .ref t0), (1, .int a1)]) rfl ?_
  intro p e s m args below meth c H locs ls Q X hret hP hl
  have hx := X.1.1
  have hb := X.1.2.1
  have hown := X.1.2.2.2.1
  have hts := X.1.2.2.2.2
  unfold pl27_X24_tells at h
  refine lv_aload_n hx hb dX24_tells_0 rfl (lv_at hl 0 rfl) ?_
  obtain ⟨v_2, e_1, h⟩ := bo_ex h
  refine r_pgr (r := (some t0)) X hP lk_27 3 (Nat.le_of_ble_eq_true rfl) e_1 q1259 dX24_tells_1 ?_
  have hz_3 := ez_eq h
  have h := ez_k h
  rw [rr_known hz_3]
  refine lv_bipush (v := (81 : Int32)) hx hb dX24_tells_4 (by decide) ?_
  obtain ⟨σ_5, e_4, h⟩ := bo_ex h
  refine r_callv (r_runVN (rest := []) X hP 0 cp_c0 lk_0 (mt_X0_ran l G σ (81 : Int32) e_4) ⟨va_cnB 1 hts (lw_meth q1292) rfl rfl rfl (X.2.2.1 _ q1355 rfl) (hts _ q110) cdX0_ran ⟨Nat.le_of_ble_eq_true rfl, Nat.le_of_ble_eq_true rfl⟩, hts _ q1291, hts _ qs48⟩ rfl hl.1 rfl (Nat.le_of_ble_eq_true rfl) dX24_tells_6 ⟨Nat.le_refl _, Nat.le_refl _⟩) hP (fun H locs hP => ?_)
  refine lv_aload_n hx hb dX24_tells_9 rfl (lv_at hl 0 rfl) ?_
  refine lv_iload_n hx hb dX24_tells_10 rfl (lv_at hl 1 rfl) ?_
  obtain ⟨a_6, e_7, h⟩ := bo_ex h
  obtain ⟨r_9, σ_10, e_8, h⟩ := bo2_ex h
  refine r_calli (r_runSX (rest := []) (n := 1) (x := ⟨"SpeaksInTurn$Stopped", "tells", "(I)I"⟩) X hP (pis_self e_7) lk_27 (mt_X17_tells__27 l G σ_5 t0 a1 e_8) rfl q1413 q1414 q1265 (Or.inr (Or.inl q1226)) q1331 q141 q1333 (by decide) cdX17_tells.2.2 rfl rfl ⟨Nat.le_of_ble_eq_true rfl, Nat.le_of_ble_eq_true rfl⟩ rfl hl.1 rfl (Nat.le_of_ble_eq_true rfl) dX24_tells_11 ⟨Nat.le_refl _, Nat.le_refl _⟩) hP (fun H locs hP => ?_)
  refine lv_iconst (v := (1 : Int32)) hx hb dX24_tells_14 (by decide) ?_
  refine lv_isub hx hb dX24_tells_15 ?_
  exact hret _ _ _ _ _ _ dX24_tells_16 rfl (Option.some.inj h) hP
def pv_knows (x0 : Nat) (σ : ST) (r : Option Nat) (x : Int32) : Option (Int32 × ST) := bo2 (pcl σ r) fun (a c : Nat) => if c = 20 then pl20_X17_knows x0 σ a x else if c = 21 then pl21_X18_knows x0 σ a x else if c = 22 then pl22_X17_knows x0 σ a x else if c = 23 then pl23_X17_knows x0 σ a x else if c = 24 then pl24_X17_knows x0 σ a x else if c = 25 then pl25_X17_knows x0 σ a x else if c = 26 then pl26_X23_knows x0 σ a x else if c = 27 then pl27_X17_knows x0 σ a x else none
section PV
variable {p : Program} {l : Launch} {e : Env} {R : Room} {s : State} {m : MethodId} {args : Array Value} {below : List Frame} {meth : Method} {c : Code} {H : Heap} {locs : List Loc} {cells slots : Nat} {Q : State → Prop}
variable {cc : ByteArray} {pc nL : Nat} {ls : Array Slot} {rest : List Value} {own : String} {G : GT} {σ : ST}
theorem r_pv_knows (X : CX G p m c cc nL s args own) (hal : G.2.2.2.2 = true) (hP : PS cp_ft G s σ H locs) {r : Option Nat} {x v : Int32} {u : ST} {index count : Nat} (h : pv_knows (G.2.2.1 0) σ r x = some (v, u)) (hlk : Cond.methodLink own index yKN ∈ lw_all) (hf : 2 + 1 ≤ R.frames) (hlo : 63 ≤ R.locals) (hsize : ls.size = nL) (hW : (rest.map fun v => v.category).sum ≤ 8) (hdg : decode cc pc = .ok (.invokeinterface index count, 5)) (hroom : cells + 0 ≤ R.cells ∧ slots + 0 ≤ R.slots)
    (kk : ∀ (H : Heap) (locs : List Loc), PS cp_ft G s u H locs → W p l e R s m args below meth c H locs cells slots Q (F0 m (pc + 5) ls (.int v :: rest))) : W p l e R s m args below meth c H locs cells slots Q (F0 m pc ls (.int x :: va_rf r :: rest)) := by
  unfold pv_knows at h
  obtain ⟨a, c0, e0, h9⟩ := bo2_ex h
  obtain ⟨rfl, hb⟩ := pcl_ex e0
  have hts := X.1.2.2.2.2
  by_cases c20 : c0 = 20
  · subst c20
    have h9 := it_t h9 rfl
    exact r_calliF (r_runFP (As := [.int x]) (rest := rest) X hP hb lk_20 (mt_X17_knows__20 l G σ a x h9) (va_cwF (x := yKN) 1 hts (lw_F hlk q1310 q1286 q141 q1288) rfl rfl rfl ⟨(X.2.2.2 hal).2.2.2.1.1.1, (X.2.2.2 hal).2.2.2.1.1.2, X.2.2.1 _ q1287 rfl, X.2.2.1 _ q1311 rfl, X.2.2.1 _ q1309 rfl⟩ (by decide +kernel) ⟨Nat.le_trans (Nat.le_of_ble_eq_true rfl) hf, Nat.le_trans (Nat.le_of_ble_eq_true rfl) hlo⟩) rfl hsize rfl hW hdg hroom) hP kk
  have h9 := it_f h9 c20
  by_cases c21 : c0 = 21
  · subst c21
    have h9 := it_t h9 rfl
    exact r_calliF (r_runFP (As := [.int x]) (rest := rest) X hP hb lk_21 (mt_X18_knows__21 l G σ a x h9) (va_cwF (x := yKN) 1 hts (lw_F hlk q1302 q1304 q142 q1306) rfl rfl rfl ⟨(X.2.2.2 hal).2.2.2.1.1.1, (X.2.2.2 hal).2.2.2.1.1.2, X.2.2.1 _ q1305 rfl, X.2.2.1 _ q1303 rfl, X.2.2.1 _ q1301 rfl⟩ (by decide +kernel) ⟨Nat.le_trans (Nat.le_of_ble_eq_true rfl) hf, Nat.le_trans (Nat.le_of_ble_eq_true rfl) hlo⟩) rfl hsize rfl hW hdg hroom) hP kk
  have h9 := it_f h9 c21
  by_cases c22 : c0 = 22
  · subst c22
    have h9 := it_t h9 rfl
    exact r_calliF (r_runFP (As := [.int x]) (rest := rest) X hP hb lk_22 (mt_X17_knows__22 l G σ a x h9) (va_cwF (x := yKN) 1 hts (lw_F hlk q1313 q1286 q141 q1288) rfl rfl rfl ⟨(X.2.2.2 hal).2.2.2.1.1.1, (X.2.2.2 hal).2.2.2.1.1.2, X.2.2.1 _ q1287 rfl, X.2.2.1 _ q1314 rfl, X.2.2.1 _ q1312 rfl⟩ (by decide +kernel) ⟨Nat.le_trans (Nat.le_of_ble_eq_true rfl) hf, Nat.le_trans (Nat.le_of_ble_eq_true rfl) hlo⟩) rfl hsize rfl hW hdg hroom) hP kk
  have h9 := it_f h9 c22
  by_cases c23 : c0 = 23
  · subst c23
    have h9 := it_t h9 rfl
    exact r_calliF (r_runFP (As := [.int x]) (rest := rest) X hP hb lk_23 (mt_X17_knows__23 l G σ a x h9) (va_cwF (x := yKN) 1 hts (lw_F hlk q1284 q1286 q141 q1288) rfl rfl rfl ⟨(X.2.2.2 hal).2.2.2.1.1.1, (X.2.2.2 hal).2.2.2.1.1.2, X.2.2.1 _ q1287 rfl, X.2.2.1 _ q1285 rfl, X.2.2.1 _ q1283 rfl⟩ (by decide +kernel) ⟨Nat.le_trans (Nat.le_of_ble_eq_true rfl) hf, Nat.le_trans (Nat.le_of_ble_eq_true rfl) hlo⟩) rfl hsize rfl hW hdg hroom) hP kk
  have h9 := it_f h9 c23
  by_cases c24 : c0 = 24
  · subst c24
    have h9 := it_t h9 rfl
    exact r_calliF (r_runFP (As := [.int x]) (rest := rest) X hP hb lk_24 (mt_X17_knows__24 l G σ a x h9) (va_cwF (x := yKN) 1 hts (lw_F hlk q1316 q1286 q141 q1288) rfl rfl rfl ⟨(X.2.2.2 hal).2.2.2.1.1.1, (X.2.2.2 hal).2.2.2.1.1.2, X.2.2.1 _ q1287 rfl, X.2.2.1 _ q1317 rfl, X.2.2.1 _ q1315 rfl⟩ (by decide +kernel) ⟨Nat.le_trans (Nat.le_of_ble_eq_true rfl) hf, Nat.le_trans (Nat.le_of_ble_eq_true rfl) hlo⟩) rfl hsize rfl hW hdg hroom) hP kk
  have h9 := it_f h9 c24
  by_cases c25 : c0 = 25
  · subst c25
    have h9 := it_t h9 rfl
    exact r_calliF (r_runFP (As := [.int x]) (rest := rest) X hP hb lk_25 (mt_X17_knows__25 l G σ a x h9) (va_cwF (x := yKN) 1 hts (lw_F hlk q1319 q1286 q141 q1288) rfl rfl rfl ⟨(X.2.2.2 hal).2.2.2.1.1.1, (X.2.2.2 hal).2.2.2.1.1.2, X.2.2.1 _ q1287 rfl, X.2.2.1 _ q1320 rfl, X.2.2.1 _ q1318 rfl⟩ (by decide +kernel) ⟨Nat.le_trans (Nat.le_of_ble_eq_true rfl) hf, Nat.le_trans (Nat.le_of_ble_eq_true rfl) hlo⟩) rfl hsize rfl hW hdg hroom) hP kk
  have h9 := it_f h9 c25
  by_cases c26 : c0 = 26
  · subst c26
    have h9 := it_t h9 rfl
    exact r_calliF (r_runFP (As := [.int x]) (rest := rest) X hP hb lk_26 (mt_X23_knows__26 l G σ a x h9) (va_cwF (x := yKN) 1 hts (lw_F hlk q1294 q1296 q147 q1298) rfl rfl rfl ⟨(X.2.2.2 hal).2.2.2.1.1.1, (X.2.2.2 hal).2.2.2.1.1.2, X.2.2.1 _ q1297 rfl, X.2.2.1 _ q1295 rfl, X.2.2.1 _ q1293 rfl⟩ (by decide +kernel) ⟨Nat.le_trans (Nat.le_of_ble_eq_true rfl) hf, Nat.le_trans (Nat.le_of_ble_eq_true rfl) hlo⟩) rfl hsize rfl hW hdg hroom) hP kk
  have h9 := it_f h9 c26
  by_cases c27 : c0 = 27
  · subst c27
    have h9 := it_t h9 rfl
    exact r_calliF (r_runFP (As := [.int x]) (rest := rest) X hP hb lk_27 (mt_X17_knows__27 l G σ a x h9) (va_cwF (x := yKN) 1 hts (lw_F hlk q1322 q1286 q141 q1288) rfl rfl rfl ⟨(X.2.2.2 hal).2.2.2.1.1.1, (X.2.2.2 hal).2.2.2.1.1.2, X.2.2.1 _ q1287 rfl, X.2.2.1 _ q1323 rfl, X.2.2.1 _ q1321 rfl⟩ (by decide +kernel) ⟨Nat.le_trans (Nat.le_of_ble_eq_true rfl) hf, Nat.le_trans (Nat.le_of_ble_eq_true rfl) hlo⟩) rfl hsize rfl hW hdg hroom) hP kk
  have h9 := it_f h9 c27
  cases h9
end PV
def pv_tells (x0 : Nat) (σ : ST) (r : Option Nat) (x : Int32) : Option (Int32 × ST) := bo2 (pcl σ r) fun (a c : Nat) => if c = 20 then pl20_X17_tells x0 σ a x else if c = 21 then pl21_X17_tells x0 σ a x else if c = 22 then pl22_X17_tells x0 σ a x else if c = 23 then pl23_X17_tells x0 σ a x else if c = 24 then pl24_X17_tells x0 σ a x else if c = 25 then pl25_X22_tells x0 σ a x else if c = 26 then pl26_X17_tells x0 σ a x else if c = 27 then pl27_X24_tells x0 σ a x else none
section PV
variable {p : Program} {l : Launch} {e : Env} {R : Room} {s : State} {m : MethodId} {args : Array Value} {below : List Frame} {meth : Method} {c : Code} {H : Heap} {locs : List Loc} {cells slots : Nat} {Q : State → Prop}
variable {cc : ByteArray} {pc nL : Nat} {ls : Array Slot} {rest : List Value} {own : String} {G : GT} {σ : ST}
theorem r_pv_tells (X : CX G p m c cc nL s args own) (hal : G.2.2.2.2 = true) (hP : PS cp_ft G s σ H locs) {r : Option Nat} {x v : Int32} {u : ST} {index count : Nat} (h : pv_tells (G.2.2.1 0) σ r x = some (v, u)) (hlk : Cond.methodLink own index yTL ∈ lw_all) (hf : 6 + 1 ≤ R.frames) (hlo : 148 ≤ R.locals) (hsize : ls.size = nL) (hW : (rest.map fun v => v.category).sum ≤ 8) (hdg : decode cc pc = .ok (.invokeinterface index count, 5)) (hroom : cells + 0 ≤ R.cells ∧ slots + 0 ≤ R.slots)
    (kk : ∀ (H : Heap) (locs : List Loc), PS cp_ft G s u H locs → W p l e R s m args below meth c H locs cells slots Q (F0 m (pc + 5) ls (.int v :: rest))) : W p l e R s m args below meth c H locs cells slots Q (F0 m pc ls (.int x :: va_rf r :: rest)) := by
  unfold pv_tells at h
  obtain ⟨a, c0, e0, h9⟩ := bo2_ex h
  obtain ⟨rfl, hb⟩ := pcl_ex e0
  have hts := X.1.2.2.2.2
  by_cases c20 : c0 = 20
  · subst c20
    have h9 := it_t h9 rfl
    exact r_calliF (r_runFP (As := [.int x]) (rest := rest) X hP hb lk_20 (mt_X17_tells__20 l G σ a x h9) (va_cwF (x := yTL) 1 hts (lw_F hlk q1389 q1331 q141 q1333) rfl rfl rfl ⟨(X.2.2.2 hal).2.2.2.1.2.1, (X.2.2.2 hal).2.2.2.1.2.2, X.2.2.1 _ q1332 rfl, X.2.2.1 _ q1390 rfl, X.2.2.1 _ q1388 rfl⟩ (by decide +kernel) ⟨Nat.le_trans (Nat.le_of_ble_eq_true rfl) hf, Nat.le_trans (Nat.le_of_ble_eq_true rfl) hlo⟩) rfl hsize rfl hW hdg hroom) hP kk
  have h9 := it_f h9 c20
  by_cases c21 : c0 = 21
  · subst c21
    have h9 := it_t h9 rfl
    exact r_calliF (r_runFP (As := [.int x]) (rest := rest) X hP hb lk_21 (mt_X17_tells__21 l G σ a x h9) (va_cwF (x := yTL) 1 hts (lw_F hlk q1386 q1331 q141 q1333) rfl rfl rfl ⟨(X.2.2.2 hal).2.2.2.1.2.1, (X.2.2.2 hal).2.2.2.1.2.2, X.2.2.1 _ q1332 rfl, X.2.2.1 _ q1387 rfl, X.2.2.1 _ q1385 rfl⟩ (by decide +kernel) ⟨Nat.le_trans (Nat.le_of_ble_eq_true rfl) hf, Nat.le_trans (Nat.le_of_ble_eq_true rfl) hlo⟩) rfl hsize rfl hW hdg hroom) hP kk
  have h9 := it_f h9 c21
  by_cases c22 : c0 = 22
  · subst c22
    have h9 := it_t h9 rfl
    exact r_calliF (r_runFP (As := [.int x]) (rest := rest) X hP hb lk_22 (mt_X17_tells__22 l G σ a x h9) (va_cwF (x := yTL) 1 hts (lw_F hlk q1392 q1331 q141 q1333) rfl rfl rfl ⟨(X.2.2.2 hal).2.2.2.1.2.1, (X.2.2.2 hal).2.2.2.1.2.2, X.2.2.1 _ q1332 rfl, X.2.2.1 _ q1393 rfl, X.2.2.1 _ q1391 rfl⟩ (by decide +kernel) ⟨Nat.le_trans (Nat.le_of_ble_eq_true rfl) hf, Nat.le_trans (Nat.le_of_ble_eq_true rfl) hlo⟩) rfl hsize rfl hW hdg hroom) hP kk
  have h9 := it_f h9 c22
  by_cases c23 : c0 = 23
  · subst c23
    have h9 := it_t h9 rfl
    exact r_calliF (r_runFP (As := [.int x]) (rest := rest) X hP hb lk_23 (mt_X17_tells__23 l G σ a x h9) (va_cwF (x := yTL) 1 hts (lw_F hlk q1329 q1331 q141 q1333) rfl rfl rfl ⟨(X.2.2.2 hal).2.2.2.1.2.1, (X.2.2.2 hal).2.2.2.1.2.2, X.2.2.1 _ q1332 rfl, X.2.2.1 _ q1330 rfl, X.2.2.1 _ q1328 rfl⟩ (by decide +kernel) ⟨Nat.le_trans (Nat.le_of_ble_eq_true rfl) hf, Nat.le_trans (Nat.le_of_ble_eq_true rfl) hlo⟩) rfl hsize rfl hW hdg hroom) hP kk
  have h9 := it_f h9 c23
  by_cases c24 : c0 = 24
  · subst c24
    have h9 := it_t h9 rfl
    exact r_calliF (r_runFP (As := [.int x]) (rest := rest) X hP hb lk_24 (mt_X17_tells__24 l G σ a x h9) (va_cwF (x := yTL) 1 hts (lw_F hlk q1395 q1331 q141 q1333) rfl rfl rfl ⟨(X.2.2.2 hal).2.2.2.1.2.1, (X.2.2.2 hal).2.2.2.1.2.2, X.2.2.1 _ q1332 rfl, X.2.2.1 _ q1396 rfl, X.2.2.1 _ q1394 rfl⟩ (by decide +kernel) ⟨Nat.le_trans (Nat.le_of_ble_eq_true rfl) hf, Nat.le_trans (Nat.le_of_ble_eq_true rfl) hlo⟩) rfl hsize rfl hW hdg hroom) hP kk
  have h9 := it_f h9 c24
  by_cases c25 : c0 = 25
  · subst c25
    have h9 := it_t h9 rfl
    exact r_calliF (r_runFP (As := [.int x]) (rest := rest) X hP hb lk_25 (mt_X22_tells__25 l G σ a x h9) (va_cwF (x := yTL) 1 hts (lw_F hlk q1398 q1400 q146 q1402) rfl rfl rfl ⟨(X.2.2.2 hal).2.2.2.1.2.1, (X.2.2.2 hal).2.2.2.1.2.2, X.2.2.1 _ q1401 rfl, X.2.2.1 _ q1399 rfl, X.2.2.1 _ q1397 rfl⟩ (by decide +kernel) ⟨Nat.le_trans (Nat.le_of_ble_eq_true rfl) hf, Nat.le_trans (Nat.le_of_ble_eq_true rfl) hlo⟩) rfl hsize rfl hW hdg hroom) hP kk
  have h9 := it_f h9 c25
  by_cases c26 : c0 = 26
  · subst c26
    have h9 := it_t h9 rfl
    exact r_calliF (r_runFP (As := [.int x]) (rest := rest) X hP hb lk_26 (mt_X17_tells__26 l G σ a x h9) (va_cwF (x := yTL) 1 hts (lw_F hlk q1383 q1331 q141 q1333) rfl rfl rfl ⟨(X.2.2.2 hal).2.2.2.1.2.1, (X.2.2.2 hal).2.2.2.1.2.2, X.2.2.1 _ q1332 rfl, X.2.2.1 _ q1384 rfl, X.2.2.1 _ q1382 rfl⟩ (by decide +kernel) ⟨Nat.le_trans (Nat.le_of_ble_eq_true rfl) hf, Nat.le_trans (Nat.le_of_ble_eq_true rfl) hlo⟩) rfl hsize rfl hW hdg hroom) hP kk
  have h9 := it_f h9 c26
  by_cases c27 : c0 = 27
  · subst c27
    have h9 := it_t h9 rfl
    exact r_calliF (r_runFP (As := [.int x]) (rest := rest) X hP hb lk_27 (mt_X24_tells__27 l G σ a x h9) (va_cwF (x := yTL) 1 hts (lw_F hlk q1408 q1410 q148 q1412) rfl rfl rfl ⟨(X.2.2.2 hal).2.2.2.1.2.1, (X.2.2.2 hal).2.2.2.1.2.2, X.2.2.1 _ q1411 rfl, X.2.2.1 _ q1409 rfl, X.2.2.1 _ q1407 rfl⟩ (by decide +kernel) ⟨Nat.le_trans (Nat.le_of_ble_eq_true rfl) hf, Nat.le_trans (Nat.le_of_ble_eq_true rfl) hlo⟩) rfl hsize rfl hW hdg hroom) hP kk
  have h9 := it_f h9 c27
  cases h9
end PV
def pv_speaks (x0 : Nat) (σ : ST) (r : Option Nat) (x : Int32) : Option (Int32 × ST) := bo2 (pcl σ r) fun (a c : Nat) => if c = 20 then pl20_X17_speaks x0 σ a x else if c = 21 then pl21_X17_speaks x0 σ a x else if c = 22 then pl22_X19_speaks x0 σ a x else if c = 23 then pl23_X20_speaks x0 σ a x else if c = 24 then pl24_X17_speaks x0 σ a x else if c = 25 then pl25_X20_speaks x0 σ a x else if c = 26 then pl26_X17_speaks x0 σ a x else if c = 27 then pl27_X24_speaks x0 σ a x else none
section PV
variable {p : Program} {l : Launch} {e : Env} {R : Room} {s : State} {m : MethodId} {args : Array Value} {below : List Frame} {meth : Method} {c : Code} {H : Heap} {locs : List Loc} {cells slots : Nat} {Q : State → Prop}
variable {cc : ByteArray} {pc nL : Nat} {ls : Array Slot} {rest : List Value} {own : String} {G : GT} {σ : ST}
theorem r_pv_speaks (X : CX G p m c cc nL s args own) (hP : PS cp_ft G s σ H locs) {r : Option Nat} {x v : Int32} {u : ST} {index : Nat} (h : pv_speaks (G.2.2.1 0) σ r x = some (v, u)) (hlk : Cond.methodLink own index yX17_speaks ∈ lw_all) (hf : 4 + 1 ≤ R.frames) (hlo : 105 ≤ R.locals) (hsize : ls.size = nL) (hW : (rest.map fun v => v.category).sum ≤ 8) (hdg : decode cc pc = .ok (.invokevirtual index, 3)) (hroom : cells + 0 ≤ R.cells ∧ slots + 0 ≤ R.slots)
    (kk : ∀ (H : Heap) (locs : List Loc), PS cp_ft G s u H locs → W p l e R s m args below meth c H locs cells slots Q (F0 m (pc + 3) ls (.int v :: rest))) : W p l e R s m args below meth c H locs cells slots Q (F0 m pc ls (.int x :: va_rf r :: rest)) := by
  unfold pv_speaks at h
  obtain ⟨a, c0, e0, h9⟩ := bo2_ex h
  obtain ⟨rfl, hb⟩ := pcl_ex e0
  have hts := X.1.2.2.2.2
  by_cases c20 : c0 = 20
  · subst c20
    have h9 := it_t h9 rfl
    exact r_calli (r_runUP (As := [.int x]) (rest := rest) X hP hb lk_20 (mt_X17_speaks__20 l G σ a x h9) (va_cwO (owner := "SpeaksInTurn$Plain") (x := yX17_speaks) 1 hts (lw_O hlk q1337 q1335 q1336 q1335 q141 q1374) rfl rfl rfl q1374 cdX17_speaks ⟨Nat.le_trans (Nat.le_of_ble_eq_true rfl) hf, Nat.le_trans (Nat.le_of_ble_eq_true rfl) hlo⟩) rfl hsize rfl hW hdg hroom) hP kk
  have h9 := it_f h9 c20
  by_cases c21 : c0 = 21
  · subst c21
    have h9 := it_t h9 rfl
    exact r_calli (r_runUP (As := [.int x]) (rest := rest) X hP hb lk_21 (mt_X17_speaks__21 l G σ a x h9) (va_cwO (owner := "SpeaksInTurn$Plain") (x := yX17_speaks) 1 hts (lw_O hlk q1337 q1335 q1348 q1335 q141 q1374) rfl rfl rfl q1374 cdX17_speaks ⟨Nat.le_trans (Nat.le_of_ble_eq_true rfl) hf, Nat.le_trans (Nat.le_of_ble_eq_true rfl) hlo⟩) rfl hsize rfl hW hdg hroom) hP kk
  have h9 := it_f h9 c21
  by_cases c22 : c0 = 22
  · subst c22
    have h9 := it_t h9 rfl
    exact r_calli (r_runUP (As := [.int x]) (rest := rest) X hP hb lk_22 (mt_X19_speaks__22 l G σ a x h9) (va_cwO (owner := "SpeaksInTurn$Plain") (x := yX17_speaks) 1 hts (lw_O hlk q1337 q1335 q1349 q1343 q143 q1344) rfl rfl rfl q1374 cdX17_speaks ⟨Nat.le_trans (Nat.le_of_ble_eq_true rfl) hf, Nat.le_trans (Nat.le_of_ble_eq_true rfl) hlo⟩) rfl hsize rfl hW hdg hroom) hP kk
  have h9 := it_f h9 c22
  by_cases c23 : c0 = 23
  · subst c23
    have h9 := it_t h9 rfl
    exact r_calli (r_runUP (As := [.int x]) (rest := rest) X hP hb lk_23 (mt_X20_speaks__23 l G σ a x h9) (va_cwO (owner := "SpeaksInTurn$Plain") (x := yX17_speaks) 1 hts (lw_O hlk q1337 q1335 q1338 q1339 q144 q1340) rfl rfl rfl q1374 cdX17_speaks ⟨Nat.le_trans (Nat.le_of_ble_eq_true rfl) hf, Nat.le_trans (Nat.le_of_ble_eq_true rfl) hlo⟩) rfl hsize rfl hW hdg hroom) hP kk
  have h9 := it_f h9 c23
  by_cases c24 : c0 = 24
  · subst c24
    have h9 := it_t h9 rfl
    exact r_calli (r_runUP (As := [.int x]) (rest := rest) X hP hb lk_24 (mt_X17_speaks__24 l G σ a x h9) (va_cwO (owner := "SpeaksInTurn$Plain") (x := yX17_speaks) 1 hts (lw_O hlk q1337 q1335 q1350 q1335 q141 q1374) rfl rfl rfl q1374 cdX17_speaks ⟨Nat.le_trans (Nat.le_of_ble_eq_true rfl) hf, Nat.le_trans (Nat.le_of_ble_eq_true rfl) hlo⟩) rfl hsize rfl hW hdg hroom) hP kk
  have h9 := it_f h9 c24
  by_cases c25 : c0 = 25
  · subst c25
    have h9 := it_t h9 rfl
    exact r_calli (r_runUP (As := [.int x]) (rest := rest) X hP hb lk_25 (mt_X20_speaks__25 l G σ a x h9) (va_cwO (owner := "SpeaksInTurn$Plain") (x := yX17_speaks) 1 hts (lw_O hlk q1337 q1335 q1351 q1339 q144 q1340) rfl rfl rfl q1374 cdX17_speaks ⟨Nat.le_trans (Nat.le_of_ble_eq_true rfl) hf, Nat.le_trans (Nat.le_of_ble_eq_true rfl) hlo⟩) rfl hsize rfl hW hdg hroom) hP kk
  have h9 := it_f h9 c25
  by_cases c26 : c0 = 26
  · subst c26
    have h9 := it_t h9 rfl
    exact r_calli (r_runUP (As := [.int x]) (rest := rest) X hP hb lk_26 (mt_X17_speaks__26 l G σ a x h9) (va_cwO (owner := "SpeaksInTurn$Plain") (x := yX17_speaks) 1 hts (lw_O hlk q1337 q1335 q1347 q1335 q141 q1374) rfl rfl rfl q1374 cdX17_speaks ⟨Nat.le_trans (Nat.le_of_ble_eq_true rfl) hf, Nat.le_trans (Nat.le_of_ble_eq_true rfl) hlo⟩) rfl hsize rfl hW hdg hroom) hP kk
  have h9 := it_f h9 c26
  by_cases c27 : c0 = 27
  · subst c27
    have h9 := it_t h9 rfl
    exact r_calli (r_runUP (As := [.int x]) (rest := rest) X hP hb lk_27 (mt_X24_speaks__27 l G σ a x h9) (va_cwO (owner := "SpeaksInTurn$Plain") (x := yX17_speaks) 1 hts (lw_O hlk q1337 q1335 q1352 q1353 q148 q1354) rfl rfl rfl q1374 cdX17_speaks ⟨Nat.le_trans (Nat.le_of_ble_eq_true rfl) hf, Nat.le_trans (Nat.le_of_ble_eq_true rfl) hlo⟩) rfl hsize rfl hW hdg hroom) hP kk
  have h9 := it_f h9 c27
  cases h9
end PV
def pv_stops (x0 : Nat) (σ : ST) (r : Option Nat) (x : Int32) : Option (Int32 × ST) := bo2 (pcl σ r) fun (a c : Nat) => if c = 20 then pl20_X17_stops x0 σ a x else if c = 21 then pl21_X17_stops x0 σ a x else if c = 22 then pl22_X17_stops x0 σ a x else if c = 23 then pl23_X20_stops x0 σ a x else if c = 24 then pl24_X21_stops x0 σ a x else if c = 25 then pl25_X20_stops x0 σ a x else if c = 26 then pl26_X17_stops x0 σ a x else if c = 27 then pl27_X21_stops x0 σ a x else none
section PV
variable {p : Program} {l : Launch} {e : Env} {R : Room} {s : State} {m : MethodId} {args : Array Value} {below : List Frame} {meth : Method} {c : Code} {H : Heap} {locs : List Loc} {cells slots : Nat} {Q : State → Prop}
variable {cc : ByteArray} {pc nL : Nat} {ls : Array Slot} {rest : List Value} {own : String} {G : GT} {σ : ST}
theorem r_pv_stops (X : CX G p m c cc nL s args own) (hP : PS cp_ft G s σ H locs) {r : Option Nat} {x v : Int32} {u : ST} {index : Nat} (h : pv_stops (G.2.2.1 0) σ r x = some (v, u)) (hlk : Cond.methodLink own index yX17_stops ∈ lw_all) (hf : 2 + 1 ≤ R.frames) (hlo : 64 ≤ R.locals) (hsize : ls.size = nL) (hW : (rest.map fun v => v.category).sum ≤ 8) (hdg : decode cc pc = .ok (.invokevirtual index, 3)) (hroom : cells + 0 ≤ R.cells ∧ slots + 0 ≤ R.slots)
    (kk : ∀ (H : Heap) (locs : List Loc), PS cp_ft G s u H locs → W p l e R s m args below meth c H locs cells slots Q (F0 m (pc + 3) ls (.int v :: rest))) : W p l e R s m args below meth c H locs cells slots Q (F0 m pc ls (.int x :: va_rf r :: rest)) := by
  unfold pv_stops at h
  obtain ⟨a, c0, e0, h9⟩ := bo2_ex h
  obtain ⟨rfl, hb⟩ := pcl_ex e0
  have hts := X.1.2.2.2.2
  by_cases c20 : c0 = 20
  · subst c20
    have h9 := it_t h9 rfl
    exact r_calli (r_runUP (As := [.int x]) (rest := rest) X hP hb lk_20 (mt_X17_stops__20 l G σ a x h9) (va_cwO (owner := "SpeaksInTurn$Plain") (x := yX17_stops) 1 hts (lw_O hlk q2282 q1367 q2294 q1367 q141 q1368) rfl rfl rfl q1368 cdX17_stops ⟨Nat.le_trans (Nat.le_of_ble_eq_true rfl) hf, Nat.le_trans (Nat.le_of_ble_eq_true rfl) hlo⟩) rfl hsize rfl hW hdg hroom) hP kk
  have h9 := it_f h9 c20
  by_cases c21 : c0 = 21
  · subst c21
    have h9 := it_t h9 rfl
    exact r_calli (r_runUP (As := [.int x]) (rest := rest) X hP hb lk_21 (mt_X17_stops__21 l G σ a x h9) (va_cwO (owner := "SpeaksInTurn$Plain") (x := yX17_stops) 1 hts (lw_O hlk q2282 q1367 q2293 q1367 q141 q1368) rfl rfl rfl q1368 cdX17_stops ⟨Nat.le_trans (Nat.le_of_ble_eq_true rfl) hf, Nat.le_trans (Nat.le_of_ble_eq_true rfl) hlo⟩) rfl hsize rfl hW hdg hroom) hP kk
  have h9 := it_f h9 c21
  by_cases c22 : c0 = 22
  · subst c22
    have h9 := it_t h9 rfl
    exact r_calli (r_runUP (As := [.int x]) (rest := rest) X hP hb lk_22 (mt_X17_stops__22 l G σ a x h9) (va_cwO (owner := "SpeaksInTurn$Plain") (x := yX17_stops) 1 hts (lw_O hlk q2282 q1367 q2295 q1367 q141 q1368) rfl rfl rfl q1368 cdX17_stops ⟨Nat.le_trans (Nat.le_of_ble_eq_true rfl) hf, Nat.le_trans (Nat.le_of_ble_eq_true rfl) hlo⟩) rfl hsize rfl hW hdg hroom) hP kk
  have h9 := it_f h9 c22
  by_cases c23 : c0 = 23
  · subst c23
    have h9 := it_t h9 rfl
    exact r_calli (r_runUP (As := [.int x]) (rest := rest) X hP hb lk_23 (mt_X20_stops__23 l G σ a x h9) (va_cwO (owner := "SpeaksInTurn$Plain") (x := yX17_stops) 1 hts (lw_O hlk q2282 q1367 q2291 q1377 q144 q1378) rfl rfl rfl q1368 cdX17_stops ⟨Nat.le_trans (Nat.le_of_ble_eq_true rfl) hf, Nat.le_trans (Nat.le_of_ble_eq_true rfl) hlo⟩) rfl hsize rfl hW hdg hroom) hP kk
  have h9 := it_f h9 c23
  by_cases c24 : c0 = 24
  · subst c24
    have h9 := it_t h9 rfl
    exact r_calli (r_runUP (As := [.int x]) (rest := rest) X hP hb lk_24 (mt_X21_stops__24 l G σ a x h9) (va_cwO (owner := "SpeaksInTurn$Plain") (x := yX17_stops) 1 hts (lw_O hlk q2282 q1367 q2296 q1363 q145 q1364) rfl rfl rfl q1368 cdX17_stops ⟨Nat.le_trans (Nat.le_of_ble_eq_true rfl) hf, Nat.le_trans (Nat.le_of_ble_eq_true rfl) hlo⟩) rfl hsize rfl hW hdg hroom) hP kk
  have h9 := it_f h9 c24
  by_cases c25 : c0 = 25
  · subst c25
    have h9 := it_t h9 rfl
    exact r_calli (r_runUP (As := [.int x]) (rest := rest) X hP hb lk_25 (mt_X20_stops__25 l G σ a x h9) (va_cwO (owner := "SpeaksInTurn$Plain") (x := yX17_stops) 1 hts (lw_O hlk q2282 q1367 q2297 q1377 q144 q1378) rfl rfl rfl q1368 cdX17_stops ⟨Nat.le_trans (Nat.le_of_ble_eq_true rfl) hf, Nat.le_trans (Nat.le_of_ble_eq_true rfl) hlo⟩) rfl hsize rfl hW hdg hroom) hP kk
  have h9 := it_f h9 c25
  by_cases c26 : c0 = 26
  · subst c26
    have h9 := it_t h9 rfl
    exact r_calli (r_runUP (As := [.int x]) (rest := rest) X hP hb lk_26 (mt_X17_stops__26 l G σ a x h9) (va_cwO (owner := "SpeaksInTurn$Plain") (x := yX17_stops) 1 hts (lw_O hlk q2282 q1367 q2292 q1367 q141 q1368) rfl rfl rfl q1368 cdX17_stops ⟨Nat.le_trans (Nat.le_of_ble_eq_true rfl) hf, Nat.le_trans (Nat.le_of_ble_eq_true rfl) hlo⟩) rfl hsize rfl hW hdg hroom) hP kk
  have h9 := it_f h9 c26
  by_cases c27 : c0 = 27
  · subst c27
    have h9 := it_t h9 rfl
    exact r_calli (r_runUP (As := [.int x]) (rest := rest) X hP hb lk_27 (mt_X21_stops__27 l G σ a x h9) (va_cwO (owner := "SpeaksInTurn$Plain") (x := yX17_stops) 1 hts (lw_O hlk q2282 q1367 q2298 q1363 q145 q1364) rfl rfl rfl q1368 cdX17_stops ⟨Nat.le_trans (Nat.le_of_ble_eq_true rfl) hf, Nat.le_trans (Nat.le_of_ble_eq_true rfl) hlo⟩) rfl hsize rfl hW hdg hroom) hP kk
  have h9 := it_f h9 c27
  cases h9
end PV
def pv_isUnder (σ : ST) (r : Option Nat) (x : Int32) : Option Int32 := bo2 (pcl σ r) fun (a c : Nat) => if c = 20 then pl20_X17_isUnder σ a x else if c = 21 then pl21_X17_isUnder σ a x else if c = 22 then pl22_X19_isUnder σ a x else if c = 23 then pl23_X20_isUnder σ a x else if c = 24 then pl24_X21_isUnder σ a x else if c = 25 then pl25_X20_isUnder σ a x else if c = 26 then pl26_X17_isUnder σ a x else if c = 27 then pl27_X21_isUnder σ a x else none
section PV
variable {p : Program} {l : Launch} {e : Env} {R : Room} {s : State} {m : MethodId} {args : Array Value} {below : List Frame} {meth : Method} {c : Code} {H : Heap} {locs : List Loc} {cells slots : Nat} {Q : State → Prop}
variable {cc : ByteArray} {pc nL : Nat} {ls : Array Slot} {rest : List Value} {own : String} {G : GT} {σ : ST}
theorem r_pv_isUnder (X : CX G p m c cc nL s args own) (hP : PS cp_ft G s σ H locs) {r : Option Nat} {x v : Int32} {u : ST} {index : Nat} (h : pv_isUnder σ r x = some v) (hlk : Cond.methodLink own index yX17_isUnder ∈ lw_all) (hf : 3 + 1 ≤ R.frames) (hlo : 83 ≤ R.locals) (hsize : ls.size = nL) (hW : (rest.map fun v => v.category).sum ≤ 8) (hdg : decode cc pc = .ok (.invokevirtual index, 3)) (hroom : cells + 0 ≤ R.cells ∧ slots + 0 ≤ R.slots)
    (kk : ∀ (H : Heap) (locs : List Loc), PS cp_ft G s σ H locs → W p l e R s m args below meth c H locs cells slots Q (F0 m (pc + 3) ls (.int v :: rest))) : W p l e R s m args below meth c H locs cells slots Q (F0 m pc ls (.int x :: va_rf r :: rest)) := by
  unfold pv_isUnder at h
  obtain ⟨a, c0, e0, h9⟩ := bo2_ex h
  obtain ⟨rfl, hb⟩ := pcl_ex e0
  have hts := X.1.2.2.2.2
  by_cases c20 : c0 = 20
  · subst c20
    have h9 := it_t h9 rfl
    exact r_calli (r_runUP (As := [.int x]) (rest := rest) X hP hb lk_20 (mt_X17_isUnder__20 l G σ a x h9) (va_cwO (owner := "SpeaksInTurn$Plain") (x := yX17_isUnder) 1 hts (lw_O hlk q1583 q1581 q1582 q1581 q141 q1600) rfl rfl rfl q1600 cdX17_isUnder ⟨Nat.le_trans (Nat.le_of_ble_eq_true rfl) hf, Nat.le_trans (Nat.le_of_ble_eq_true rfl) hlo⟩) rfl hsize rfl hW hdg hroom) hP kk
  have h9 := it_f h9 c20
  by_cases c21 : c0 = 21
  · subst c21
    have h9 := it_t h9 rfl
    exact r_calli (r_runUP (As := [.int x]) (rest := rest) X hP hb lk_21 (mt_X17_isUnder__21 l G σ a x h9) (va_cwO (owner := "SpeaksInTurn$Plain") (x := yX17_isUnder) 1 hts (lw_O hlk q1583 q1581 q1592 q1581 q141 q1600) rfl rfl rfl q1600 cdX17_isUnder ⟨Nat.le_trans (Nat.le_of_ble_eq_true rfl) hf, Nat.le_trans (Nat.le_of_ble_eq_true rfl) hlo⟩) rfl hsize rfl hW hdg hroom) hP kk
  have h9 := it_f h9 c21
  by_cases c22 : c0 = 22
  · subst c22
    have h9 := it_t h9 rfl
    exact r_calli (r_runUP (As := [.int x]) (rest := rest) X hP hb lk_22 (mt_X19_isUnder__22 l G σ a x h9) (va_cwO (owner := "SpeaksInTurn$Plain") (x := yX17_isUnder) 1 hts (lw_O hlk q1583 q1581 q1593 q1588 q143 q1589) rfl rfl rfl q1600 cdX17_isUnder ⟨Nat.le_trans (Nat.le_of_ble_eq_true rfl) hf, Nat.le_trans (Nat.le_of_ble_eq_true rfl) hlo⟩) rfl hsize rfl hW hdg hroom) hP kk
  have h9 := it_f h9 c22
  by_cases c23 : c0 = 23
  · subst c23
    have h9 := it_t h9 rfl
    exact r_calli (r_runUP (As := [.int x]) (rest := rest) X hP hb lk_23 (mt_X20_isUnder__23 l G σ a x h9) (va_cwO (owner := "SpeaksInTurn$Plain") (x := yX17_isUnder) 1 hts (lw_O hlk q1583 q1581 q1584 q1585 q144 q1586) rfl rfl rfl q1600 cdX17_isUnder ⟨Nat.le_trans (Nat.le_of_ble_eq_true rfl) hf, Nat.le_trans (Nat.le_of_ble_eq_true rfl) hlo⟩) rfl hsize rfl hW hdg hroom) hP kk
  have h9 := it_f h9 c23
  by_cases c24 : c0 = 24
  · subst c24
    have h9 := it_t h9 rfl
    exact r_calli (r_runUP (As := [.int x]) (rest := rest) X hP hb lk_24 (mt_X21_isUnder__24 l G σ a x h9) (va_cwO (owner := "SpeaksInTurn$Plain") (x := yX17_isUnder) 1 hts (lw_O hlk q1583 q1581 q1594 q1595 q145 q1596) rfl rfl rfl q1600 cdX17_isUnder ⟨Nat.le_trans (Nat.le_of_ble_eq_true rfl) hf, Nat.le_trans (Nat.le_of_ble_eq_true rfl) hlo⟩) rfl hsize rfl hW hdg hroom) hP kk
  have h9 := it_f h9 c24
  by_cases c25 : c0 = 25
  · subst c25
    have h9 := it_t h9 rfl
    exact r_calli (r_runUP (As := [.int x]) (rest := rest) X hP hb lk_25 (mt_X20_isUnder__25 l G σ a x h9) (va_cwO (owner := "SpeaksInTurn$Plain") (x := yX17_isUnder) 1 hts (lw_O hlk q1583 q1581 q1598 q1585 q144 q1586) rfl rfl rfl q1600 cdX17_isUnder ⟨Nat.le_trans (Nat.le_of_ble_eq_true rfl) hf, Nat.le_trans (Nat.le_of_ble_eq_true rfl) hlo⟩) rfl hsize rfl hW hdg hroom) hP kk
  have h9 := it_f h9 c25
  by_cases c26 : c0 = 26
  · subst c26
    have h9 := it_t h9 rfl
    exact r_calli (r_runUP (As := [.int x]) (rest := rest) X hP hb lk_26 (mt_X17_isUnder__26 l G σ a x h9) (va_cwO (owner := "SpeaksInTurn$Plain") (x := yX17_isUnder) 1 hts (lw_O hlk q1583 q1581 q1591 q1581 q141 q1600) rfl rfl rfl q1600 cdX17_isUnder ⟨Nat.le_trans (Nat.le_of_ble_eq_true rfl) hf, Nat.le_trans (Nat.le_of_ble_eq_true rfl) hlo⟩) rfl hsize rfl hW hdg hroom) hP kk
  have h9 := it_f h9 c26
  by_cases c27 : c0 = 27
  · subst c27
    have h9 := it_t h9 rfl
    exact r_calli (r_runUP (As := [.int x]) (rest := rest) X hP hb lk_27 (mt_X21_isUnder__27 l G σ a x h9) (va_cwO (owner := "SpeaksInTurn$Plain") (x := yX17_isUnder) 1 hts (lw_O hlk q1583 q1581 q1599 q1595 q145 q1596) rfl rfl rfl q1600 cdX17_isUnder ⟨Nat.le_trans (Nat.le_of_ble_eq_true rfl) hf, Nat.le_trans (Nat.le_of_ble_eq_true rfl) hlo⟩) rfl hsize rfl hW hdg hroom) hP kk
  have h9 := it_f h9 c27
  cases h9
end PV
def cp_made (x0 : Nat) (σ : ST) (a1 : Int32) : Option (Option Nat × ST) :=
  (if a1 = (1 : Int32) then st_ (aloc σ 21 [.int 0, .null, .null] 3) (fun (σ_2 : ST) => bo (pl21_X18_init x0 σ_2 (szo σ) (gI σ_2 0 32)) (fun (σ_5 : ST) => some ((some (szo σ)), σ_5))) else (if a1 = (2 : Int32) then st_ (aloc σ 22 [.int 0, .null, .null] 3) (fun (σ_7 : ST) => bo (pl22_X19_init x0 σ_7 (szo σ) (gI σ_7 0 32)) (fun (σ_10 : ST) => some ((some (szo σ)), σ_10))) else (if a1 = (3 : Int32) then st_ (aloc σ 23 [.int 0, .null, .null, .null] 4) (fun (σ_12 : ST) => bo (pl23_X20_init x0 σ_12 (szo σ) (gI σ_12 0 32)) (fun (σ_15 : ST) => some ((some (szo σ)), σ_15))) else (if a1 = (4 : Int32) then st_ (aloc σ 24 [.int 0, .null, .null] 3) (fun (σ_17 : ST) => bo (pl24_X21_init x0 σ_17 (szo σ) (gI σ_17 0 32)) (fun (σ_20 : ST) => some ((some (szo σ)), σ_20))) else (if a1 = (5 : Int32) then st_ (aloc σ 25 [.int 0, .null, .null, .null, .null] 5) (fun (σ_22 : ST) => bo (pl25_X22_init x0 σ_22 (szo σ) (gI σ_22 0 32)) (fun (σ_25 : ST) => some ((some (szo σ)), σ_25))) else (if a1 = (6 : Int32) then st_ (aloc σ 26 [.int 0, .null, .null] 3) (fun (σ_27 : ST) => bo (pl26_X23_init x0 σ_27 (szo σ) (gI σ_27 0 32)) (fun (σ_30 : ST) => some ((some (szo σ)), σ_30))) else (if a1 = (7 : Int32) then st_ (aloc σ 27 [.int 0, .null, .null, .null] 4) (fun (σ_32 : ST) => bo (pl27_X24_init x0 σ_32 (szo σ) (gI σ_32 0 32)) (fun (σ_35 : ST) => some ((some (szo σ)), σ_35))) else st_ (aloc σ 20 [.int 0, .null] 2) (fun (σ_36 : ST) => bo (pl20_X17_init x0 σ_36 (szo σ) (gI σ_36 0 32)) (fun (σ_39 : ST) => some ((some (szo σ)), σ_39))))))))))
abbrev rm_X0_made : Room := rmc 6 120 1 5
set_option maxHeartbeats 4000000 in
set_option maxRecDepth 100000 in
theorem mt_X0_made (l : Launch) (G : GT) (hal : G.2.2.2.2 = true) (σ : ST) (a1 : Int32) {r : Option Nat} {u : ST} (h : cp_made (G.2.2.1 0) σ a1 = some (r, u)) : CR l cp_ft G yX0_made (ws_ yX0_made cX0_made 2 (some (.object "SpeaksInTurn$Plain"))) rm_X0_made 1 5 [.ref (G.2.2.1 0), .int a1] σ (r, u) := by
  refine m_enterR (Or.inl ⟨_, rfl⟩) (by decide) rfl (lv := [(0, .ref (G.2.2.1 0)), (1, .int a1)]) rfl ?_
  intro p e s m args below meth c H locs ls Q X hret hP hl
  have hx := X.1.1
  have hb := X.1.2.1
  have hown := X.1.2.2.2.1
  have hts := X.1.2.2.2.2
  unfold cp_made at h
  refine lv_iload_n hx hb dX0_made_0 rfl (lv_at hl 1 rfl) ?_
  by_cases c_1 : a1 = (1 : Int32)
  · have h := it_t h c_1
    refine lv_tableIn (tgt := 44) hx hb dX0_made_1 (by rw [c_1]; decide) (by rw [c_1]; decide) (by rw [c_1]; rfl) (by decide) ?_
    refine r_new X hal hP 21 lk_21 tyX18 tyX18_ok (fs := [.int 0, .null, .null]) rfl q1168 q1169 q142 (Nat.le_of_ble_eq_true rfl) (Nat.le_of_ble_eq_true rfl) dX0_made_44 (fun σ_2 H e_3 hP => ?_)
    have h := st_k h e_3
    refine lv_dup hx hb dX0_made_47 rfl ?_
    refine lv_aload_n hx hb dX0_made_48 rfl (lv_at hl 0 rfl) ?_
    refine lv_aload_n hx hb dX0_made_49 rfl (lv_at hl 0 rfl) ?_
    refine r_geti X hP 0 cp_c0 lk_0 32 (Nat.le_of_ble_eq_true rfl) q321 cp_f32 dX0_made_50 ?_
    obtain ⟨σ_5, e_4, h⟩ := bo_ex h
    refine r_callv (r_runI (rest := [.ref (szo σ)]) X hP (mt_X18_init__21 l G σ_2 (szo σ) (gI σ_2 0 32) e_4) (cwI 2 hts (lw_meth q1172) rfl rfl rfl (hts _ q142) (hts _ q1170) (hts _ q1171) rfl cdX18_init ⟨Nat.le_of_ble_eq_true rfl, Nat.le_of_ble_eq_true rfl⟩) rfl hl.1 rfl (Nat.le_of_ble_eq_true rfl) dX0_made_53 ⟨Nat.le_of_ble_eq_true rfl, Nat.le_of_ble_eq_true rfl⟩) hP (fun H locs hP => ?_)
    refine W.widen (k := 1) (n := 5) (Nat.le_of_ble_eq_true rfl) (Nat.le_of_ble_eq_true rfl) ?_
    exact hret _ _ _ _ _ _ dX0_made_56 (Option.some.inj h) hP
  · have h := it_f h c_1
    by_cases c_6 : a1 = (2 : Int32)
    · have h := it_t h c_6
      refine lv_tableIn (tgt := 57) hx hb dX0_made_1 (by rw [c_6]; decide) (by rw [c_6]; decide) (by rw [c_6]; rfl) (by decide) ?_
      refine r_new X hal hP 22 lk_22 tyX19 tyX19_ok (fs := [.int 0, .null, .null]) rfl q1190 q1191 q143 (Nat.le_of_ble_eq_true rfl) (Nat.le_of_ble_eq_true rfl) dX0_made_57 (fun σ_7 H e_8 hP => ?_)
      have h := st_k h e_8
      refine lv_dup hx hb dX0_made_60 rfl ?_
      refine lv_aload_n hx hb dX0_made_61 rfl (lv_at hl 0 rfl) ?_
      refine lv_aload_n hx hb dX0_made_62 rfl (lv_at hl 0 rfl) ?_
      refine r_geti X hP 0 cp_c0 lk_0 32 (Nat.le_of_ble_eq_true rfl) q321 cp_f32 dX0_made_63 ?_
      obtain ⟨σ_10, e_9, h⟩ := bo_ex h
      refine r_callv (r_runI (rest := [.ref (szo σ)]) X hP (mt_X19_init__22 l G σ_7 (szo σ) (gI σ_7 0 32) e_9) (cwI 2 hts (lw_meth q1194) rfl rfl rfl (hts _ q143) (hts _ q1192) (hts _ q1193) rfl cdX19_init ⟨Nat.le_of_ble_eq_true rfl, Nat.le_of_ble_eq_true rfl⟩) rfl hl.1 rfl (Nat.le_of_ble_eq_true rfl) dX0_made_66 ⟨Nat.le_of_ble_eq_true rfl, Nat.le_of_ble_eq_true rfl⟩) hP (fun H locs hP => ?_)
      refine W.widen (k := 1) (n := 5) (Nat.le_of_ble_eq_true rfl) (Nat.le_of_ble_eq_true rfl) ?_
      exact hret _ _ _ _ _ _ dX0_made_69 (Option.some.inj h) hP
    · have h := it_f h c_6
      by_cases c_11 : a1 = (3 : Int32)
      · have h := it_t h c_11
        refine lv_tableIn (tgt := 70) hx hb dX0_made_1 (by rw [c_11]; decide) (by rw [c_11]; decide) (by rw [c_11]; rfl) (by decide) ?_
        refine r_new X hal hP 23 lk_23 tyX20 tyX20_ok (fs := [.int 0, .null, .null, .null]) rfl q1202 q1203 q144 (Nat.le_of_ble_eq_true rfl) (Nat.le_of_ble_eq_true rfl) dX0_made_70 (fun σ_12 H e_13 hP => ?_)
        have h := st_k h e_13
        refine lv_dup hx hb dX0_made_73 rfl ?_
        refine lv_aload_n hx hb dX0_made_74 rfl (lv_at hl 0 rfl) ?_
        refine lv_aload_n hx hb dX0_made_75 rfl (lv_at hl 0 rfl) ?_
        refine r_geti X hP 0 cp_c0 lk_0 32 (Nat.le_of_ble_eq_true rfl) q321 cp_f32 dX0_made_76 ?_
        obtain ⟨σ_15, e_14, h⟩ := bo_ex h
        refine r_callv (r_runI (rest := [.ref (szo σ)]) X hP (mt_X20_init__23 l G σ_12 (szo σ) (gI σ_12 0 32) e_14) (cwI 2 hts (lw_meth q1206) rfl rfl rfl (hts _ q144) (hts _ q1204) (hts _ q1205) rfl cdX20_init ⟨Nat.le_of_ble_eq_true rfl, Nat.le_of_ble_eq_true rfl⟩) rfl hl.1 rfl (Nat.le_of_ble_eq_true rfl) dX0_made_79 ⟨Nat.le_of_ble_eq_true rfl, Nat.le_of_ble_eq_true rfl⟩) hP (fun H locs hP => ?_)
        refine W.widen (k := 1) (n := 5) (Nat.le_of_ble_eq_true rfl) (Nat.le_of_ble_eq_true rfl) ?_
        exact hret _ _ _ _ _ _ dX0_made_82 (Option.some.inj h) hP
      · have h := it_f h c_11
        by_cases c_16 : a1 = (4 : Int32)
        · have h := it_t h c_16
          refine lv_tableIn (tgt := 83) hx hb dX0_made_1 (by rw [c_16]; decide) (by rw [c_16]; decide) (by rw [c_16]; rfl) (by decide) ?_
          refine r_new X hal hP 24 lk_24 tyX21 tyX21_ok (fs := [.int 0, .null, .null]) rfl q1215 q1216 q145 (Nat.le_of_ble_eq_true rfl) (Nat.le_of_ble_eq_true rfl) dX0_made_83 (fun σ_17 H e_18 hP => ?_)
          have h := st_k h e_18
          refine lv_dup hx hb dX0_made_86 rfl ?_
          refine lv_aload_n hx hb dX0_made_87 rfl (lv_at hl 0 rfl) ?_
          refine lv_aload_n hx hb dX0_made_88 rfl (lv_at hl 0 rfl) ?_
          refine r_geti X hP 0 cp_c0 lk_0 32 (Nat.le_of_ble_eq_true rfl) q321 cp_f32 dX0_made_89 ?_
          obtain ⟨σ_20, e_19, h⟩ := bo_ex h
          refine r_callv (r_runI (rest := [.ref (szo σ)]) X hP (mt_X21_init__24 l G σ_17 (szo σ) (gI σ_17 0 32) e_19) (cwI 2 hts (lw_meth q1219) rfl rfl rfl (hts _ q145) (hts _ q1217) (hts _ q1218) rfl cdX21_init ⟨Nat.le_of_ble_eq_true rfl, Nat.le_of_ble_eq_true rfl⟩) rfl hl.1 rfl (Nat.le_of_ble_eq_true rfl) dX0_made_92 ⟨Nat.le_of_ble_eq_true rfl, Nat.le_of_ble_eq_true rfl⟩) hP (fun H locs hP => ?_)
          refine W.widen (k := 1) (n := 5) (Nat.le_of_ble_eq_true rfl) (Nat.le_of_ble_eq_true rfl) ?_
          exact hret _ _ _ _ _ _ dX0_made_95 (Option.some.inj h) hP
        · have h := it_f h c_16
          by_cases c_21 : a1 = (5 : Int32)
          · have h := it_t h c_21
            refine lv_tableIn (tgt := 96) hx hb dX0_made_1 (by rw [c_21]; decide) (by rw [c_21]; decide) (by rw [c_21]; rfl) (by decide) ?_
            refine r_new X hal hP 25 lk_25 tyX22 tyX22_ok (fs := [.int 0, .null, .null, .null, .null]) rfl q1227 q1228 q146 (Nat.le_of_ble_eq_true rfl) (Nat.le_of_ble_eq_true rfl) dX0_made_96 (fun σ_22 H e_23 hP => ?_)
            have h := st_k h e_23
            refine lv_dup hx hb dX0_made_99 rfl ?_
            refine lv_aload_n hx hb dX0_made_100 rfl (lv_at hl 0 rfl) ?_
            refine lv_aload_n hx hb dX0_made_101 rfl (lv_at hl 0 rfl) ?_
            refine r_geti X hP 0 cp_c0 lk_0 32 (Nat.le_of_ble_eq_true rfl) q321 cp_f32 dX0_made_102 ?_
            obtain ⟨σ_25, e_24, h⟩ := bo_ex h
            refine r_callv (r_runI (rest := [.ref (szo σ)]) X hP (mt_X22_init__25 l G σ_22 (szo σ) (gI σ_22 0 32) e_24) (cwI 2 hts (lw_meth q1231) rfl rfl rfl (hts _ q146) (hts _ q1229) (hts _ q1230) rfl cdX22_init ⟨Nat.le_of_ble_eq_true rfl, Nat.le_of_ble_eq_true rfl⟩) rfl hl.1 rfl (Nat.le_of_ble_eq_true rfl) dX0_made_105 ⟨Nat.le_of_ble_eq_true rfl, Nat.le_of_ble_eq_true rfl⟩) hP (fun H locs hP => ?_)
            refine W.widen (k := 1) (n := 5) (Nat.le_of_ble_eq_true rfl) (Nat.le_of_ble_eq_true rfl) ?_
            exact hret _ _ _ _ _ _ dX0_made_108 (Option.some.inj h) hP
          · have h := it_f h c_21
            by_cases c_26 : a1 = (6 : Int32)
            · have h := it_t h c_26
              refine lv_tableIn (tgt := 109) hx hb dX0_made_1 (by rw [c_26]; decide) (by rw [c_26]; decide) (by rw [c_26]; rfl) (by decide) ?_
              refine r_new X hal hP 26 lk_26 tyX23 tyX23_ok (fs := [.int 0, .null, .null]) rfl q1241 q1242 q147 (Nat.le_of_ble_eq_true rfl) (Nat.le_of_ble_eq_true rfl) dX0_made_109 (fun σ_27 H e_28 hP => ?_)
              have h := st_k h e_28
              refine lv_dup hx hb dX0_made_112 rfl ?_
              refine lv_aload_n hx hb dX0_made_113 rfl (lv_at hl 0 rfl) ?_
              refine lv_aload_n hx hb dX0_made_114 rfl (lv_at hl 0 rfl) ?_
              refine r_geti X hP 0 cp_c0 lk_0 32 (Nat.le_of_ble_eq_true rfl) q321 cp_f32 dX0_made_115 ?_
              obtain ⟨σ_30, e_29, h⟩ := bo_ex h
              refine r_callv (r_runI (rest := [.ref (szo σ)]) X hP (mt_X23_init__26 l G σ_27 (szo σ) (gI σ_27 0 32) e_29) (cwI 2 hts (lw_meth q1245) rfl rfl rfl (hts _ q147) (hts _ q1243) (hts _ q1244) rfl cdX23_init ⟨Nat.le_of_ble_eq_true rfl, Nat.le_of_ble_eq_true rfl⟩) rfl hl.1 rfl (Nat.le_of_ble_eq_true rfl) dX0_made_118 ⟨Nat.le_of_ble_eq_true rfl, Nat.le_of_ble_eq_true rfl⟩) hP (fun H locs hP => ?_)
              refine W.widen (k := 1) (n := 5) (Nat.le_of_ble_eq_true rfl) (Nat.le_of_ble_eq_true rfl) ?_
              exact hret _ _ _ _ _ _ dX0_made_121 (Option.some.inj h) hP
            · have h := it_f h c_26
              by_cases c_31 : a1 = (7 : Int32)
              · have h := it_t h c_31
                refine lv_tableIn (tgt := 122) hx hb dX0_made_1 (by rw [c_31]; decide) (by rw [c_31]; decide) (by rw [c_31]; rfl) (by decide) ?_
                refine r_new X hal hP 27 lk_27 tyX24 tyX24_ok (fs := [.int 0, .null, .null, .null]) rfl q1253 q1254 q148 (Nat.le_of_ble_eq_true rfl) (Nat.le_of_ble_eq_true rfl) dX0_made_122 (fun σ_32 H e_33 hP => ?_)
                have h := st_k h e_33
                refine lv_dup hx hb dX0_made_125 rfl ?_
                refine lv_aload_n hx hb dX0_made_126 rfl (lv_at hl 0 rfl) ?_
                refine lv_aload_n hx hb dX0_made_127 rfl (lv_at hl 0 rfl) ?_
                refine r_geti X hP 0 cp_c0 lk_0 32 (Nat.le_of_ble_eq_true rfl) q321 cp_f32 dX0_made_128 ?_
                obtain ⟨σ_35, e_34, h⟩ := bo_ex h
                refine r_callv (r_runI (rest := [.ref (szo σ)]) X hP (mt_X24_init__27 l G σ_32 (szo σ) (gI σ_32 0 32) e_34) (cwI 2 hts (lw_meth q1257) rfl rfl rfl (hts _ q148) (hts _ q1255) (hts _ q1256) rfl cdX24_init ⟨Nat.le_of_ble_eq_true rfl, Nat.le_of_ble_eq_true rfl⟩) rfl hl.1 rfl (Nat.le_of_ble_eq_true rfl) dX0_made_131 ⟨Nat.le_of_ble_eq_true rfl, Nat.le_of_ble_eq_true rfl⟩) hP (fun H locs hP => ?_)
                refine W.widen (k := 1) (n := 5) (Nat.le_of_ble_eq_true rfl) (Nat.le_of_ble_eq_true rfl) ?_
                exact hret _ _ _ _ _ _ dX0_made_134 (Option.some.inj h) hP
              · have h := it_f h c_31
                refine lv_tableOut (tgt := 135) hx hb dX0_made_1 (by have n0 := lv_neT c_1 (a := 1) (by decide); have n1 := lv_neT c_6 (a := 2) (by decide); have n2 := lv_neT c_11 (a := 3) (by decide); have n3 := lv_neT c_16 (a := 4) (by decide); have n4 := lv_neT c_21 (a := 5) (by decide); have n5 := lv_neT c_26 (a := 6) (by decide); have n6 := lv_neT c_31 (a := 7) (by decide); omega) (by decide) ?_
                refine r_new X hal hP 20 lk_20 tyX17 tyX17_ok (fs := [.int 0, .null]) rfl q276 q1266 q141 (Nat.le_of_ble_eq_true rfl) (Nat.le_of_ble_eq_true rfl) dX0_made_135 (fun σ_36 H e_37 hP => ?_)
                have h := st_k h e_37
                refine lv_dup hx hb dX0_made_138 rfl ?_
                refine lv_aload_n hx hb dX0_made_139 rfl (lv_at hl 0 rfl) ?_
                refine lv_aload_n hx hb dX0_made_140 rfl (lv_at hl 0 rfl) ?_
                refine r_geti X hP 0 cp_c0 lk_0 32 (Nat.le_of_ble_eq_true rfl) q321 cp_f32 dX0_made_141 ?_
                obtain ⟨σ_39, e_38, h⟩ := bo_ex h
                refine r_callv (r_runI (rest := [.ref (szo σ)]) X hP (mt_X17_init__20 l G σ_36 (szo σ) (gI σ_36 0 32) e_38) (cwI 2 hts (lw_meth q1175) rfl rfl rfl (hts _ q141) (hts _ q1267) (hts _ q1174) rfl cdX17_init ⟨Nat.le_of_ble_eq_true rfl, Nat.le_of_ble_eq_true rfl⟩) rfl hl.1 rfl (Nat.le_of_ble_eq_true rfl) dX0_made_144 ⟨Nat.le_of_ble_eq_true rfl, Nat.le_of_ble_eq_true rfl⟩) hP (fun H locs hP => ?_)
                refine W.widen (k := 1) (n := 5) (Nat.le_of_ble_eq_true rfl) (Nat.le_of_ble_eq_true rfl) ?_
                exact hret _ _ _ _ _ _ dX0_made_147 (Option.some.inj h) hP
def cp_body (x0 : Nat) (σ : ST) (a1 : Int32) : Option (Int32 × ST) :=
  bo (cp_in a1 (0 : Int32) (7 : Int32)) (fun (r_2 : Int32) => (if r_2 = 0 then some ((-1 : Int32), σ) else (if (gI σ 0 32) = (50 : Int32) then some ((-3 : Int32), σ) else bo2 (cp_made x0 σ a1) (fun (r_6 : Option Nat) (σ_7 : ST) => ck (gI σ 0 32) 50 (bo (asl σ_7 0 31 (gI σ 0 32) r_6 [20, 21, 22, 23, 24, 25, 26, 27]) (fun (σ_8 : ST) => st_ (pI σ_8 0 32 ((gI σ_8 0 32) + (1 : Int32))) (fun (σ_11 : ST) => some (((gI σ_11 0 32) - (1 : Int32)), σ_11))))))))
abbrev rm_X0_body : Room := rmc 7 141 1 5
set_option maxHeartbeats 4000000 in
set_option maxRecDepth 100000 in
theorem mt_X0_body (l : Launch) (G : GT) (hal : G.2.2.2.2 = true) (σ : ST) (a1 : Int32) {r : Int32} {u : ST} (h : cp_body (G.2.2.1 0) σ a1 = some (r, u)) : CI l cp_ft G yX0_body (ws_ yX0_body cX0_body 2 (some .int)) rm_X0_body 1 5 [.ref (G.2.2.1 0), .int a1] σ (r, u) := by
  refine m_enterI (by decide) rfl (lv := [(0, .ref (G.2.2.1 0)), (1, .int a1)]) rfl ?_
  intro p e s m args below meth c H locs ls Q X hret hP hl
  have hx := X.1.1
  have hb := X.1.2.1
  have hown := X.1.2.2.2.1
  have hts := X.1.2.2.2.2
  unfold cp_body at h
  refine lv_iload_n hx hb dX0_body_0 rfl (lv_at hl 1 rfl) ?_
  refine lv_iconst (v := (0 : Int32)) hx hb dX0_body_1 (by decide) ?_
  refine lv_bipush (v := (7 : Int32)) hx hb dX0_body_2 (by decide) ?_
  obtain ⟨r_2, e_1, h⟩ := bo_ex h
  refine r_calli (r_runS (rest := []) X hP (mt_X0_in l G σ a1 (0 : Int32) (7 : Int32) e_1) (va_cwS 3 hts (lw_S q396 q397 q110 q398) rfl rfl rfl cdX0_in ⟨Nat.le_of_ble_eq_true rfl, Nat.le_of_ble_eq_true rfl⟩) rfl hl.1 rfl (Nat.le_of_ble_eq_true rfl) dX0_body_4 ⟨Nat.le_of_ble_eq_true rfl, Nat.le_of_ble_eq_true rfl⟩) hP (fun H locs hP => ?_)
  refine lv_if_ne (tgt := 12) hx hb dX0_body_7 (by decide) (fun c_3 => ?_) (fun c_3 => ?_)
  · have h := it_f h c_3
    refine lv_aload_n hx hb dX0_body_12 rfl (lv_at hl 0 rfl) ?_
    refine r_geti X hP 0 cp_c0 lk_0 32 (Nat.le_of_ble_eq_true rfl) q321 cp_f32 dX0_body_13 ?_
    refine lv_bipush (v := (50 : Int32)) hx hb dX0_body_16 (by decide) ?_
    refine lv_icmp_ne (tgt := 24) hx hb dX0_body_18 (by decide) (fun c_4 => ?_) (fun c_4 => ?_)
    · have h := it_f h c_4
      refine lv_aload_n hx hb dX0_body_24 rfl (lv_at hl 0 rfl) ?_
      refine r_geta X hP 0 cp_c0 lk_0 31 (Nat.le_of_ble_eq_true rfl) q320 cp_f31 dX0_body_25 ?_
      refine lv_aload_n hx hb dX0_body_28 rfl (lv_at hl 0 rfl) ?_
      refine r_geti X hP 0 cp_c0 lk_0 32 (Nat.le_of_ble_eq_true rfl) q321 cp_f32 dX0_body_29 ?_
      refine lv_aload_n hx hb dX0_body_32 rfl (lv_at hl 0 rfl) ?_
      refine lv_iload_n hx hb dX0_body_33 rfl (lv_at hl 1 rfl) ?_
      obtain ⟨r_6, σ_7, e_5, h⟩ := bo2_ex h
      refine r_callrM (r_runV (rest := [.int (gI σ 0 32), .ref (G.2.2.1 11)]) X hP 0 cp_c0 lk_0 (mt_X0_made l G hal σ a1 e_5) (cwV 1 hts (lw_V q1164 q1166 qs46 q110 q1167) rfl rfl rfl ⟨rfl, cdX0_made⟩ ⟨Nat.le_of_ble_eq_true rfl, Nat.le_of_ble_eq_true rfl⟩) rfl hl.1 rfl (Nat.le_of_ble_eq_true rfl) dX0_body_34 ⟨Nat.le_of_ble_eq_true rfl, Nat.le_of_ble_eq_true rfl⟩) hP (fun H locs hP => ?_)
      have h_10 := ck_in h
      have h := ck_k h
      obtain ⟨σ_8, e_9, h⟩ := bo_ex h
      refine r_aastL (t := 4) (v := r_6) X cp_w hP 11 cp_c11 bodies_ok rfl e_9 h_10 dX0_body_37 (fun H locs hP => ?_)
      refine lv_aload_n hx hb dX0_body_38 rfl (lv_at hl 0 rfl) ?_
      refine lv_dup hx hb dX0_body_39 rfl ?_
      refine r_geti X hP 0 cp_c0 lk_0 32 (Nat.le_of_ble_eq_true rfl) q321 cp_f32 dX0_body_40 ?_
      refine lv_iconst (v := (1 : Int32)) hx hb dX0_body_43 (by decide) ?_
      refine lv_iadd hx hb dX0_body_44 ?_
      refine r_puti X cp_w hP 0 cp_c0 lk_0 32 (Nat.le_of_ble_eq_true rfl) q321 cp_f32 rfl (tyX0_ok 32 (by decide)) rfl rfl dX0_body_45 (fun σ_11 H locs e_12 hP => ?_)
      have h := st_k h e_12
      refine lv_aload_n hx hb dX0_body_48 rfl (lv_at hl 0 rfl) ?_
      refine r_geti X hP 0 cp_c0 lk_0 32 (Nat.le_of_ble_eq_true rfl) q321 cp_f32 dX0_body_49 ?_
      refine lv_iconst (v := (1 : Int32)) hx hb dX0_body_52 (by decide) ?_
      refine lv_isub hx hb dX0_body_53 ?_
      refine W.widen (k := 1) (n := 5) (Nat.le_of_ble_eq_true rfl) (Nat.le_of_ble_eq_true rfl) ?_
      exact hret _ _ _ _ _ _ dX0_body_54 rfl (Option.some.inj h) hP
    · have h := it_t h c_4
      refine lv_bipush (v := (-3 : Int32)) hx hb dX0_body_21 (by decide) ?_
      refine W.widen (k := 1) (n := 5) (Nat.le_of_ble_eq_true rfl) (Nat.le_of_ble_eq_true rfl) ?_
      exact hret _ _ _ _ _ _ dX0_body_23 rfl (Option.some.inj h) hP
  · have h := it_t h c_3
    refine lv_iconst (v := (-1 : Int32)) hx hb dX0_body_10 (by decide) ?_
    refine W.widen (k := 1) (n := 5) (Nat.le_of_ble_eq_true rfl) (Nat.le_of_ble_eq_true rfl) ?_
    exact hret _ _ _ _ _ _ dX0_body_11 rfl (Option.some.inj h) hP
def cp_act (x0 : Nat) (σ : ST) (a1 : Int32) (a2 : Int32) (a3 : Int32) : Option (Int32 × ST) :=
  st_ (pI σ 0 29 (0 : Int32)) (fun (σ_1 : ST) => bo (cp_isBody σ_1 a1) (fun (r_4 : Int32) => (if r_4 = 0 then some ((0 : Int32), σ_1) else bo (cp_in a2 (0 : Int32) (3 : Int32)) (fun (r_7 : Int32) => (if r_7 = 0 then some ((0 : Int32), σ_1) else ck a1 50 ((if a2 = 0 then bo2 (pv_knows x0 σ_1 (lR σ_1 0 31 a1) a3) (fun (r_22 : Int32) (σ_23 : ST) => some (r_22, σ_23)) else (if a2 = (3 : Int32) then bo2 (pv_tells x0 σ_1 (lR σ_1 0 31 a1) a3) (fun (r_19 : Int32) (σ_20 : ST) => some (r_19, σ_20)) else (if a2 = (1 : Int32) then bo2 (pv_speaks x0 σ_1 (lR σ_1 0 31 a1) a3) (fun (r_16 : Int32) (σ_17 : ST) => some (r_16, σ_17)) else bo2 (pv_stops x0 σ_1 (lR σ_1 0 31 a1) a3) (fun (r_13 : Int32) (σ_14 : ST) => some (r_13, σ_14)))))))))))
abbrev rm_X0_act : Room := rmf 7 148
set_option maxHeartbeats 4000000 in
set_option maxRecDepth 100000 in
theorem mt_X0_act (l : Launch) (G : GT) (hal : G.2.2.2.2 = true) (σ : ST) (a1 : Int32) (a2 : Int32) (a3 : Int32) {r : Int32} {u : ST} (h : cp_act (G.2.2.1 0) σ a1 a2 a3 = some (r, u)) : CI l cp_ft G yX0_act (ws_ yX0_act cX0_act 6 (some .int)) rm_X0_act 0 0 [.ref (G.2.2.1 0), .int a1, .int a2, .int a3] σ (r, u) := by
  refine m_enterI (by decide) rfl (lv := [(0, .ref (G.2.2.1 0)), (1, .int a1), (2, .int a2), (3, .int a3)]) rfl ?_
  intro p e s m args below meth c H locs ls Q X hret hP hl
  have hx := X.1.1
  have hb := X.1.2.1
  have hown := X.1.2.2.2.1
  have hts := X.1.2.2.2.2
  unfold cp_act at h
  refine lv_aload_n hx hb dX0_act_0 rfl (lv_at hl 0 rfl) ?_
  refine lv_iconst (v := (0 : Int32)) hx hb dX0_act_1 (by decide) ?_
  refine r_puti X cp_w hP 0 cp_c0 lk_0 29 (Nat.le_of_ble_eq_true rfl) q318 cp_f29 rfl (tyX0_ok 29 (by decide)) rfl rfl dX0_act_2 (fun σ_1 H locs e_2 hP => ?_)
  have h := st_k h e_2
  refine lv_aload_n hx hb dX0_act_5 rfl (lv_at hl 0 rfl) ?_
  refine lv_iload_n hx hb dX0_act_6 rfl (lv_at hl 1 rfl) ?_
  obtain ⟨r_4, e_3, h⟩ := bo_ex h
  refine r_calli (r_runV (rest := []) X hP 0 cp_c0 lk_0 (mt_X0_isBody l G σ_1 a1 e_3) (cwV 1 hts (lw_V q1275 q1277 qs47 q110 q1278) rfl rfl rfl ⟨rfl, cdX0_isBody⟩ ⟨Nat.le_of_ble_eq_true rfl, Nat.le_of_ble_eq_true rfl⟩) rfl hl.1 rfl (Nat.le_of_ble_eq_true rfl) dX0_act_7 ⟨Nat.le_refl _, Nat.le_refl _⟩) hP (fun H locs hP => ?_)
  refine lv_if_eq (tgt := 22) hx hb dX0_act_10 (by decide) (fun c_5 => ?_) (fun c_5 => ?_)
  · have h := it_t h c_5
    refine lv_iconst (v := (0 : Int32)) hx hb dX0_act_22 (by decide) ?_
    exact hret _ _ _ _ _ _ dX0_act_23 rfl (Option.some.inj h) hP
  · have h := it_f h c_5
    refine lv_iload_n hx hb dX0_act_13 rfl (lv_at hl 2 rfl) ?_
    refine lv_iconst (v := (0 : Int32)) hx hb dX0_act_14 (by decide) ?_
    refine lv_iconst (v := (3 : Int32)) hx hb dX0_act_15 (by decide) ?_
    obtain ⟨r_7, e_6, h⟩ := bo_ex h
    refine r_calli (r_runS (rest := []) X hP (mt_X0_in l G σ_1 a2 (0 : Int32) (3 : Int32) e_6) (va_cwS 3 hts (lw_S q396 q397 q110 q398) rfl rfl rfl cdX0_in ⟨Nat.le_of_ble_eq_true rfl, Nat.le_of_ble_eq_true rfl⟩) rfl hl.1 rfl (Nat.le_of_ble_eq_true rfl) dX0_act_16 ⟨Nat.le_refl _, Nat.le_refl _⟩) hP (fun H locs hP => ?_)
    refine lv_if_ne (tgt := 24) hx hb dX0_act_19 (by decide) (fun c_8 => ?_) (fun c_8 => ?_)
    · have h := it_f h c_8
      refine lv_aload_n hx hb dX0_act_24 rfl (lv_at hl 0 rfl) ?_
      refine r_geta X hP 0 cp_c0 lk_0 31 (Nat.le_of_ble_eq_true rfl) q320 cp_f31 dX0_act_25 ?_
      refine lv_iload_n hx hb dX0_act_28 rfl (lv_at hl 1 rfl) ?_
      refine r_aald (t := 4) X hP 11 cp_c11 rfl (ck_in h) dX0_act_29 ?_
      have h := ck_k h
      refine rr_astore (lv' := [(4, va_rf (lR σ_1 0 31 a1)), (0, .ref (G.2.2.1 0)), (1, .int a1), (2, .int a2), (3, .int a3)]) hx hb dX0_act_30 hl (by decide) rfl (fun ls hl => ?_)
      refine lv_iload_n hx hb dX0_act_32 rfl (lv_at hl 3 rfl) ?_
      refine lv_if_ne (tgt := 49) hx hb dX0_act_33 (by decide) (fun c_9 => ?_) (fun c_9 => ?_)
      · have h := it_f h c_9
        refine lv_iload_n hx hb dX0_act_49 rfl (lv_at hl 3 rfl) ?_
        refine lv_iconst (v := (3 : Int32)) hx hb dX0_act_50 (by decide) ?_
        refine lv_icmp_ne (tgt := 67) hx hb dX0_act_51 (by decide) (fun c_10 => ?_) (fun c_10 => ?_)
        · have h := it_f h c_10
          refine lv_iload_n hx hb dX0_act_67 rfl (lv_at hl 3 rfl) ?_
          refine lv_iconst (v := (1 : Int32)) hx hb dX0_act_68 (by decide) ?_
          refine lv_icmp_ne (tgt := 81) hx hb dX0_act_69 (by decide) (fun c_11 => ?_) (fun c_11 => ?_)
          · have h := it_f h c_11
            refine rr_aload hx hb dX0_act_81 (lv_at hl 0 rfl) ?_
            refine lv_iload_n hx hb dX0_act_83 rfl (lv_at hl 4 rfl) ?_
            obtain ⟨r_13, σ_14, e_12, h⟩ := bo2_ex h
            refine r_pv_stops (r := (lR σ_1 0 31 a1)) (rest := []) X hP e_12 q1416 (Nat.le_of_ble_eq_true rfl) (Nat.le_of_ble_eq_true rfl) hl.1 (Nat.le_of_ble_eq_true rfl) dX0_act_84 ⟨Nat.le_of_ble_eq_true rfl, Nat.le_of_ble_eq_true rfl⟩ (fun H locs hP => ?_)
            exact hret _ _ _ _ _ _ dX0_act_87 rfl (Option.some.inj h) hP
          · have h := it_t h c_11
            refine rr_aload hx hb dX0_act_72 (lv_at hl 0 rfl) ?_
            refine lv_iload_n hx hb dX0_act_74 rfl (lv_at hl 4 rfl) ?_
            obtain ⟨r_16, σ_17, e_15, h⟩ := bo2_ex h
            refine r_pv_speaks (r := (lR σ_1 0 31 a1)) (rest := []) X hP e_15 q1415 (Nat.le_of_ble_eq_true rfl) (Nat.le_of_ble_eq_true rfl) hl.1 (Nat.le_of_ble_eq_true rfl) dX0_act_75 ⟨Nat.le_of_ble_eq_true rfl, Nat.le_of_ble_eq_true rfl⟩ (fun H locs hP => ?_)
            refine lv_goto (tgt := 87) hx hb dX0_act_78 (by decide) ?_
            exact hret _ _ _ _ _ _ dX0_act_87 rfl (Option.some.inj h) hP
        · have h := it_t h c_10
          refine rr_aload hx hb dX0_act_54 (lv_at hl 0 rfl) ?_
          refine rr_astore (lv' := [(5, va_rf (lR σ_1 0 31 a1)), (4, va_rf (lR σ_1 0 31 a1)), (0, .ref (G.2.2.1 0)), (1, .int a1), (2, .int a2), (3, .int a3)]) hx hb dX0_act_56 hl (by decide) (by simp [rr_cat]) (fun ls hl => ?_)
          refine rr_aload hx hb dX0_act_58 (lv_at hl 0 rfl) ?_
          refine lv_iload_n hx hb dX0_act_60 rfl (lv_at hl 5 rfl) ?_
          obtain ⟨r_19, σ_20, e_18, h⟩ := bo2_ex h
          refine r_pv_tells (r := (lR σ_1 0 31 a1)) (rest := []) X hal hP e_18 q1325 (Nat.le_of_ble_eq_true rfl) (Nat.le_of_ble_eq_true rfl) hl.1 (Nat.le_of_ble_eq_true rfl) dX0_act_61 ⟨Nat.le_of_ble_eq_true rfl, Nat.le_of_ble_eq_true rfl⟩ (fun H locs hP => ?_)
          exact hret _ _ _ _ _ _ dX0_act_66 rfl (Option.some.inj h) hP
      · have h := it_t h c_9
        refine rr_aload hx hb dX0_act_36 (lv_at hl 0 rfl) ?_
        refine rr_astore (lv' := [(5, va_rf (lR σ_1 0 31 a1)), (4, va_rf (lR σ_1 0 31 a1)), (0, .ref (G.2.2.1 0)), (1, .int a1), (2, .int a2), (3, .int a3)]) hx hb dX0_act_38 hl (by decide) (by simp [rr_cat]) (fun ls hl => ?_)
        refine rr_aload hx hb dX0_act_40 (lv_at hl 0 rfl) ?_
        refine lv_iload_n hx hb dX0_act_42 rfl (lv_at hl 5 rfl) ?_
        obtain ⟨r_22, σ_23, e_21, h⟩ := bo2_ex h
        refine r_pv_knows (r := (lR σ_1 0 31 a1)) (rest := []) X hal hP e_21 q1280 (Nat.le_of_ble_eq_true rfl) (Nat.le_of_ble_eq_true rfl) hl.1 (Nat.le_of_ble_eq_true rfl) dX0_act_43 ⟨Nat.le_of_ble_eq_true rfl, Nat.le_of_ble_eq_true rfl⟩ (fun H locs hP => ?_)
        exact hret _ _ _ _ _ _ dX0_act_48 rfl (Option.some.inj h) hP
    · have h := it_t h c_8
      refine lv_iconst (v := (0 : Int32)) hx hb dX0_act_22 (by decide) ?_
      exact hret _ _ _ _ _ _ dX0_act_23 rfl (Option.some.inj h) hP
def cp_keep_K22 (σ : ST) (k1 : Int32) (k2 : Int32) : Option (Int32 × ST) :=
  (if 0 ≤ k2 then ck k2 50 (ck k1 6 (bo (asl σ 0 33 k1 (lR σ 0 31 k2) [15, 16, 17, 18, 19, 20, 21, 22, 23, 24, 25, 26, 27]) (fun (σ_6 : ST) => some ((1 : Int32), σ_6)))) else ck k1 6 (bo (asl σ 0 33 k1 none [15, 16, 17, 18, 19, 20, 21, 22, 23, 24, 25, 26, 27]) (fun (σ_9 : ST) => some ((1 : Int32), σ_9))))
def cp_keep (σ : ST) (a1 : Int32) (a2 : Int32) : Option (Int32 × ST) :=
  bo (cp_isShelf a1) (fun (r_2 : Int32) => (if r_2 = 0 then some ((-1 : Int32), σ) else (if a2 = (-1 : Int32) then (cp_keep_K22 σ a1 a2) else bo (cp_isBody σ a2) (fun (r_21 : Int32) => (if r_21 = 0 then some ((-1 : Int32), σ) else (cp_keep_K22 σ a1 a2))))))
abbrev rm_X0_keep : Room := rmf 2 43
set_option maxHeartbeats 4000000 in
set_option maxRecDepth 100000 in
theorem mt_X0_keep (l : Launch) (G : GT) (σ : ST) (a1 : Int32) (a2 : Int32) {r : Int32} {u : ST} (h : cp_keep σ a1 a2 = some (r, u)) : CI l cp_ft G yX0_keep (ws_ yX0_keep cX0_keep 3 (some .int)) rm_X0_keep 0 0 [.ref (G.2.2.1 0), .int a1, .int a2] σ (r, u) := by
  refine m_enterI (by decide) rfl (lv := [(0, .ref (G.2.2.1 0)), (1, .int a1), (2, .int a2)]) rfl ?_
  intro p e s m args below meth c H locs ls Q X hret hP hl
  have hx := X.1.1
  have hb := X.1.2.1
  have hown := X.1.2.2.2.1
  have hts := X.1.2.2.2.2
  unfold cp_keep at h
  refine lv_iload_n hx hb dX0_keep_0 rfl (lv_at hl 1 rfl) ?_
  obtain ⟨r_2, e_1, h⟩ := bo_ex h
  refine r_calli (r_runS (rest := []) X hP (mt_X0_isShelf l G σ a1 e_1) (va_cwS 1 hts (lw_S q612 q613 q110 q614) rfl rfl rfl cdX0_isShelf ⟨Nat.le_of_ble_eq_true rfl, Nat.le_of_ble_eq_true rfl⟩) rfl hl.1 rfl (Nat.le_of_ble_eq_true rfl) dX0_keep_1 ⟨Nat.le_refl _, Nat.le_refl _⟩) hP (fun H locs hP => ?_)
  refine lv_if_eq (tgt := 20) hx hb dX0_keep_4 (by decide) (fun c_3 => ?_) (fun c_3 => ?_)
  · have h := it_t h c_3
    refine lv_iconst (v := (-1 : Int32)) hx hb dX0_keep_20 (by decide) ?_
    exact hret _ _ _ _ _ _ dX0_keep_21 rfl (Option.some.inj h) hP
  · have h := it_f h c_3
    refine lv_iload_n hx hb dX0_keep_7 rfl (lv_at hl 2 rfl) ?_
    refine lv_iconst (v := (-1 : Int32)) hx hb dX0_keep_8 (by decide) ?_
    have hK_4 : ∀ (H : Heap) (locs : List Loc) (ls : Array Slot), cp_keep_K22 σ a1 a2 = some (r, u) → PS cp_ft G s σ H locs → lv_has ls 3 [(0, .ref (G.2.2.1 0)), (1, .int a1), (2, .int a2)] → W p l e rm_X0_keep s m args below meth c H locs 0 0 Q (F0 m 22 ls []) := by
      intro  H locs ls h hP hl
      unfold cp_keep_K22 at h
      refine lv_aload_n hx hb dX0_keep_22 rfl (lv_at hl 0 rfl) ?_
      refine r_geta X hP 0 cp_c0 lk_0 33 (Nat.le_of_ble_eq_true rfl) q322 cp_f33 dX0_keep_23 ?_
      refine lv_iload_n hx hb dX0_keep_26 rfl (lv_at hl 1 rfl) ?_
      refine lv_iload_n hx hb dX0_keep_27 rfl (lv_at hl 2 rfl) ?_
      refine lv_if_ge (tgt := 35) hx hb dX0_keep_28 (by decide) (fun c_12 => ?_) (fun c_12 => ?_)
      · have h := it_t h c_12
        refine lv_aload_n hx hb dX0_keep_35 rfl (lv_at hl 0 rfl) ?_
        refine r_geta X hP 0 cp_c0 lk_0 31 (Nat.le_of_ble_eq_true rfl) q320 cp_f31 dX0_keep_36 ?_
        refine lv_iload_n hx hb dX0_keep_39 rfl (lv_at hl 2 rfl) ?_
        refine r_aald (t := 4) X hP 11 cp_c11 rfl (ck_in h) dX0_keep_40 ?_
        have h := ck_k h
        have h_15 := ck_in h
        have h := ck_k h
        obtain ⟨σ_13, e_14, h⟩ := bo_ex h
        refine r_aastL (t := 5) (v := (lR σ 0 31 a2)) X cp_w hP 12 cp_c12 shelves_ok rfl e_14 h_15 dX0_keep_41 (fun H locs hP => ?_)
        refine lv_iconst (v := (1 : Int32)) hx hb dX0_keep_42 (by decide) ?_
        exact hret _ _ _ _ _ _ dX0_keep_43 rfl (Option.some.inj h) hP
      · have h := it_f h c_12
        refine lv_null hx hb dX0_keep_31 ?_
        refine lv_goto (tgt := 41) hx hb dX0_keep_32 (by decide) ?_
        have h_18 := ck_in h
        have h := ck_k h
        obtain ⟨σ_16, e_17, h⟩ := bo_ex h
        refine r_aastL (t := 5) (v := none) X cp_w hP 12 cp_c12 shelves_ok rfl e_17 h_18 dX0_keep_41 (fun H locs hP => ?_)
        refine lv_iconst (v := (1 : Int32)) hx hb dX0_keep_42 (by decide) ?_
        exact hret _ _ _ _ _ _ dX0_keep_43 rfl (Option.some.inj h) hP
    refine lv_icmp_eq (tgt := 22) hx hb dX0_keep_9 (by decide) (fun c_19 => ?_) (fun c_19 => ?_)
    · have h := it_t h c_19
      exact hK_4  _ _ _ h hP (lv_sub hl [0, 1, 2] rfl)
    · have h := it_f h c_19
      refine lv_aload_n hx hb dX0_keep_12 rfl (lv_at hl 0 rfl) ?_
      refine lv_iload_n hx hb dX0_keep_13 rfl (lv_at hl 2 rfl) ?_
      obtain ⟨r_21, e_20, h⟩ := bo_ex h
      refine r_calli (r_runV (rest := []) X hP 0 cp_c0 lk_0 (mt_X0_isBody l G σ a2 e_20) (cwV 1 hts (lw_V q1275 q1277 qs47 q110 q1278) rfl rfl rfl ⟨rfl, cdX0_isBody⟩ ⟨Nat.le_of_ble_eq_true rfl, Nat.le_of_ble_eq_true rfl⟩) rfl hl.1 rfl (Nat.le_of_ble_eq_true rfl) dX0_keep_14 ⟨Nat.le_refl _, Nat.le_refl _⟩) hP (fun H locs hP => ?_)
      refine lv_if_ne (tgt := 22) hx hb dX0_keep_17 (by decide) (fun c_22 => ?_) (fun c_22 => ?_)
      · have h := it_f h c_22
        exact hK_4  _ _ _ h hP (lv_sub hl [0, 1, 2] rfl)
      · have h := it_t h c_22
        refine lv_iconst (v := (-1 : Int32)) hx hb dX0_keep_20 (by decide) ?_
        exact hret _ _ _ _ _ _ dX0_keep_21 rfl (Option.some.inj h) hP
