set_option maxRecDepth 100000
def tw_first (σ : ST) (a1 : Int32) (a2 : Int32) : Option Int32 :=
  (if (gI σ 0 46) < 0 then some (-2000000000 : Int32) else bo (tw_within ((a1).toInt64) (0 : Int64) ((((gI σ 0 49) - (1 : Int32))).toInt64)) (fun (r_3 : Int32) => (if r_3 = 0 then some (-2000000000 : Int32) else bo (tw_within ((a2).toInt64) (0 : Int64) (1 : Int64)) (fun (r_6 : Int32) => (if r_6 = 0 then some (-2000000000 : Int32) else (if a2 = 0 then ck a1 20 (some (lI σ 0 60 a1)) else ck a1 20 (some (lI σ 0 61 a1))))))))
abbrev rm_X3_first : Room := rmf 1 25
set_option maxHeartbeats 4000000 in
set_option maxRecDepth 100000 in
theorem mt_X3_first (l : Launch) (G : GT) (σ : ST) (a1 : Int32) (a2 : Int32) {r : Int32} (h : tw_first σ a1 a2 = some r) : CI l tw_ft G yX3_first (ws_ yX3_first cX3_first 3 (some .int)) rm_X3_first 0 0 [.ref (G.2.2.1 0), .int a1, .int a2] σ (r, σ) := by
  refine m_enterI (by decide) rfl (lv := [(0, .ref (G.2.2.1 0)), (1, .int a1), (2, .int a2)]) rfl ?_
  intro p e s m args below meth c H locs ls Q X hret hP hl
  have hx := X.1.1
  have hb := X.1.2.1
  have hown := X.1.2.2.2.1
  have hts := X.1.2.2.2.2
  unfold tw_first at h
  refine lv_aload_n hx hb dX3_first_0 rfl (lv_at hl 0 rfl) ?_
  refine r_geti X hP 0 tw_c0 lk_3 46 (Nat.le_of_ble_eq_true rfl) q1684 tw_f46 dX3_first_1 ?_
  refine lv_if_lt (tgt := 33) hx hb dX3_first_4 (by decide) (fun c_1 => ?_) (fun c_1 => ?_)
  · have h := it_t h c_1
    refine lv_ldc hx hb hown (hts _ q1935) dX3_first_33 ?_
    exact hret _ _ _ _ _ _ dX3_first_35 rfl (congrArg (fun z9 => (z9, σ)) (Option.some.inj h)) hP
  · have h := it_f h c_1
    refine lv_iload_n hx hb dX3_first_7 rfl (lv_at hl 1 rfl) ?_
    refine lv_i2l hx hb dX3_first_8 rfl ?_
    refine lv_lconst (v := (0 : Int64)) hx hb dX3_first_9 (by decide) ?_
    refine lv_aload_n hx hb dX3_first_10 rfl (lv_at hl 0 rfl) ?_
    refine r_geti X hP 0 tw_c0 lk_3 49 (Nat.le_of_ble_eq_true rfl) q1687 tw_f49 dX3_first_11 ?_
    refine lv_iconst (v := (1 : Int32)) hx hb dX3_first_14 (by decide) ?_
    refine lv_isub hx hb dX3_first_15 ?_
    refine lv_i2l hx hb dX3_first_16 rfl ?_
    obtain ⟨r_3, e_2, h⟩ := bo_ex h
    refine r_calli (r_runS (rest := []) X hP (mt_X3_within l G σ ((a1).toInt64) (0 : Int64) ((((gI σ 0 49) - (1 : Int32))).toInt64) e_2) (va_cwS 3 hts (lw_S q1880 q1881 q113 q1882) rfl rfl rfl cdX3_within ⟨Nat.le_of_ble_eq_true rfl, Nat.le_of_ble_eq_true rfl⟩) rfl hl.1 rfl (Nat.le_of_ble_eq_true rfl) dX3_first_17 ⟨Nat.le_refl _, Nat.le_refl _⟩) hP (fun H locs hP => ?_)
    refine lv_if_eq (tgt := 33) hx hb dX3_first_20 (by decide) (fun c_4 => ?_) (fun c_4 => ?_)
    · have h := it_t h c_4
      refine lv_ldc hx hb hown (hts _ q1935) dX3_first_33 ?_
      exact hret _ _ _ _ _ _ dX3_first_35 rfl (congrArg (fun z9 => (z9, σ)) (Option.some.inj h)) hP
    · have h := it_f h c_4
      refine lv_iload_n hx hb dX3_first_23 rfl (lv_at hl 2 rfl) ?_
      refine lv_i2l hx hb dX3_first_24 rfl ?_
      refine lv_lconst (v := (0 : Int64)) hx hb dX3_first_25 (by decide) ?_
      refine lv_lconst (v := (1 : Int64)) hx hb dX3_first_26 (by decide) ?_
      obtain ⟨r_6, e_5, h⟩ := bo_ex h
      refine r_calli (r_runS (rest := []) X hP (mt_X3_within l G σ ((a2).toInt64) (0 : Int64) (1 : Int64) e_5) (va_cwS 3 hts (lw_S q1880 q1881 q113 q1882) rfl rfl rfl cdX3_within ⟨Nat.le_of_ble_eq_true rfl, Nat.le_of_ble_eq_true rfl⟩) rfl hl.1 rfl (Nat.le_of_ble_eq_true rfl) dX3_first_27 ⟨Nat.le_refl _, Nat.le_refl _⟩) hP (fun H locs hP => ?_)
      refine lv_if_ne (tgt := 36) hx hb dX3_first_30 (by decide) (fun c_7 => ?_) (fun c_7 => ?_)
      · have h := it_f h c_7
        refine lv_iload_n hx hb dX3_first_36 rfl (lv_at hl 2 rfl) ?_
        refine lv_if_ne (tgt := 49) hx hb dX3_first_37 (by decide) (fun c_8 => ?_) (fun c_8 => ?_)
        · have h := it_f h c_8
          refine lv_aload_n hx hb dX3_first_49 rfl (lv_at hl 0 rfl) ?_
          refine r_geta X hP 0 tw_c0 lk_3 61 (Nat.le_of_ble_eq_true rfl) q1699 tw_f61 dX3_first_50 ?_
          refine lv_iload_n hx hb dX3_first_53 rfl (lv_at hl 1 rfl) ?_
          refine r_iald X hP 37 tw_c37 (ck_in h) dX3_first_54 ?_
          have h := ck_k h
          exact hret _ _ _ _ _ _ dX3_first_55 rfl (congrArg (fun z9 => (z9, σ)) (Option.some.inj h)) hP
        · have h := it_t h c_8
          refine lv_aload_n hx hb dX3_first_40 rfl (lv_at hl 0 rfl) ?_
          refine r_geta X hP 0 tw_c0 lk_3 60 (Nat.le_of_ble_eq_true rfl) q1698 tw_f60 dX3_first_41 ?_
          refine lv_iload_n hx hb dX3_first_44 rfl (lv_at hl 1 rfl) ?_
          refine r_iald X hP 36 tw_c36 (ck_in h) dX3_first_45 ?_
          have h := ck_k h
          refine lv_goto (tgt := 55) hx hb dX3_first_46 (by decide) ?_
          exact hret _ _ _ _ _ _ dX3_first_55 rfl (congrArg (fun z9 => (z9, σ)) (Option.some.inj h)) hP
      · have h := it_t h c_7
        refine lv_ldc hx hb hown (hts _ q1935) dX3_first_33 ?_
        exact hret _ _ _ _ _ _ dX3_first_35 rfl (congrArg (fun z9 => (z9, σ)) (Option.some.inj h)) hP
def tw_bestTold (σ : ST) (a1 : Int32) : Option Int32 :=
  (if a1 = 0 then some (gI σ 0 63) else (if a1 = (1 : Int32) then some (gI σ 0 64) else some (gI σ 0 65)))
abbrev rm_X3_bestTold : Room := rmf 0 0
set_option maxHeartbeats 4000000 in
set_option maxRecDepth 100000 in
theorem mt_X3_bestTold (l : Launch) (G : GT) (σ : ST) (a1 : Int32) {r : Int32} (h : tw_bestTold σ a1 = some r) : CI l tw_ft G yX3_bestTold (ws_ yX3_bestTold cX3_bestTold 2 (some .int)) rm_X3_bestTold 0 0 [.ref (G.2.2.1 0), .int a1] σ (r, σ) := by
  refine m_enterI (by decide) rfl (lv := [(0, .ref (G.2.2.1 0)), (1, .int a1)]) rfl ?_
  intro p e s m args below meth c H locs ls Q X hret hP hl
  have hx := X.1.1
  have hb := X.1.2.1
  have hown := X.1.2.2.2.1
  have hts := X.1.2.2.2.2
  unfold tw_bestTold at h
  refine lv_iload_n hx hb dX3_bestTold_0 rfl (lv_at hl 1 rfl) ?_
  refine lv_if_ne (tgt := 11) hx hb dX3_bestTold_1 (by decide) (fun c_1 => ?_) (fun c_1 => ?_)
  · have h := it_f h c_1
    refine lv_iload_n hx hb dX3_bestTold_11 rfl (lv_at hl 1 rfl) ?_
    refine lv_iconst (v := (1 : Int32)) hx hb dX3_bestTold_12 (by decide) ?_
    refine lv_icmp_ne (tgt := 23) hx hb dX3_bestTold_13 (by decide) (fun c_2 => ?_) (fun c_2 => ?_)
    · have h := it_f h c_2
      refine lv_aload_n hx hb dX3_bestTold_23 rfl (lv_at hl 0 rfl) ?_
      refine r_geti X hP 0 tw_c0 lk_3 65 (Nat.le_of_ble_eq_true rfl) q1703 tw_f65 dX3_bestTold_24 ?_
      exact hret _ _ _ _ _ _ dX3_bestTold_27 rfl (congrArg (fun z9 => (z9, σ)) (Option.some.inj h)) hP
    · have h := it_t h c_2
      refine lv_aload_n hx hb dX3_bestTold_16 rfl (lv_at hl 0 rfl) ?_
      refine r_geti X hP 0 tw_c0 lk_3 64 (Nat.le_of_ble_eq_true rfl) q1702 tw_f64 dX3_bestTold_17 ?_
      refine lv_goto (tgt := 27) hx hb dX3_bestTold_20 (by decide) ?_
      exact hret _ _ _ _ _ _ dX3_bestTold_27 rfl (congrArg (fun z9 => (z9, σ)) (Option.some.inj h)) hP
  · have h := it_t h c_1
    refine lv_aload_n hx hb dX3_bestTold_4 rfl (lv_at hl 0 rfl) ?_
    refine r_geti X hP 0 tw_c0 lk_3 63 (Nat.le_of_ble_eq_true rfl) q1701 tw_f63 dX3_bestTold_5 ?_
    refine lv_goto (tgt := 27) hx hb dX3_bestTold_8 (by decide) ?_
    exact hret _ _ _ _ _ _ dX3_bestTold_27 rfl (congrArg (fun z9 => (z9, σ)) (Option.some.inj h)) hP
def tw_wrongMany (σ : ST)  : Option Int32 :=
  bo (tw_decided σ) (fun (r_2 : Int32) => bo (tw_shouldBe σ) (fun (r_4 : Int32) => bo (tw_bitsOf σ (r_2 ^^^ r_4)) (fun (r_6 : Int32) => some r_6)))
abbrev rm_X3_wrongMany : Room := rmf 3 66
set_option maxHeartbeats 4000000 in
set_option maxRecDepth 100000 in
theorem mt_X3_wrongMany (l : Launch) (G : GT) (σ : ST)  {r : Int32} (h : tw_wrongMany σ = some r) : CI l tw_ft G yX3_wrongMany (ws_ yX3_wrongMany cX3_wrongMany 1 (some .int)) rm_X3_wrongMany 0 0 [.ref (G.2.2.1 0)] σ (r, σ) := by
  refine m_enterI (by decide) rfl (lv := [(0, .ref (G.2.2.1 0))]) rfl ?_
  intro p e s m args below meth c H locs ls Q X hret hP hl
  have hx := X.1.1
  have hb := X.1.2.1
  have hown := X.1.2.2.2.1
  have hts := X.1.2.2.2.2
  unfold tw_wrongMany at h
  refine lv_aload_n hx hb dX3_wrongMany_0 rfl (lv_at hl 0 rfl) ?_
  obtain ⟨r_2, e_1, h⟩ := bo_ex h
  refine r_calli (r_runV (rest := []) X hP 0 tw_c0 lk_3 (mt_X3_decided l G σ e_1) (cwV 0 hts (lw_V q2100 q2102 qs89 q113 q2103) rfl rfl rfl ⟨rfl, cdX3_decided⟩ ⟨Nat.le_of_ble_eq_true rfl, Nat.le_of_ble_eq_true rfl⟩) rfl hl.1 rfl (Nat.le_of_ble_eq_true rfl) dX3_wrongMany_1 ⟨Nat.le_refl _, Nat.le_refl _⟩) hP (fun H locs hP => ?_)
  refine lv_aload_n hx hb dX3_wrongMany_4 rfl (lv_at hl 0 rfl) ?_
  obtain ⟨r_4, e_3, h⟩ := bo_ex h
  refine r_calli (r_runV (rest := [.int r_2]) X hP 0 tw_c0 lk_3 (mt_X3_shouldBe l G σ e_3) (cwV 0 hts (lw_V q2108 q2110 qs91 q113 q2111) rfl rfl rfl ⟨rfl, cdX3_shouldBe⟩ ⟨Nat.le_of_ble_eq_true rfl, Nat.le_of_ble_eq_true rfl⟩) rfl hl.1 rfl (Nat.le_of_ble_eq_true rfl) dX3_wrongMany_5 ⟨Nat.le_refl _, Nat.le_refl _⟩) hP (fun H locs hP => ?_)
  refine lv_ixor hx hb dX3_wrongMany_8 ?_
  obtain ⟨r_6, e_5, h⟩ := bo_ex h
  refine r_calli (r_runS (rest := []) X hP (mt_X3_bitsOf l G σ (r_2 ^^^ r_4) e_5) (va_cwS 1 hts (lw_S q2124 q2125 q113 q2126) rfl rfl rfl cdX3_bitsOf ⟨Nat.le_of_ble_eq_true rfl, Nat.le_of_ble_eq_true rfl⟩) rfl hl.1 rfl (Nat.le_of_ble_eq_true rfl) dX3_wrongMany_9 ⟨Nat.le_refl _, Nat.le_refl _⟩) hP (fun H locs hP => ?_)
  exact hret _ _ _ _ _ _ dX3_wrongMany_12 rfl (congrArg (fun z9 => (z9, σ)) (Option.some.inj h)) hP
def tw_looksAt (σ : ST) (a1 : Int32) : Option ST :=
  bo (tw_meets σ) (fun (σ_2 : ST) => bo (tw_wrongMany σ_2) (fun (r_4 : Int32) => bo (tw_cost σ_2) (fun (r_6 : Int32) => (if (gI σ_2 0 63) < 0 then st_ (pI σ_2 0 63 a1) (fun (σ_8 : ST) => st_ (pI σ_8 0 64 r_4) (fun (σ_10 : ST) => st_ (pI σ_10 0 65 r_6) (fun (σ_12 : ST) => some σ_12))) else (if r_4 < (gI σ_2 0 64) then st_ (pI σ_2 0 63 a1) (fun (σ_15 : ST) => st_ (pI σ_15 0 64 r_4) (fun (σ_17 : ST) => st_ (pI σ_17 0 65 r_6) (fun (σ_19 : ST) => some σ_19))) else (if r_4 = (gI σ_2 0 64) then (if (gI σ_2 0 65) ≤ r_6 then some σ_2 else st_ (pI σ_2 0 63 a1) (fun (σ_23 : ST) => st_ (pI σ_23 0 64 r_4) (fun (σ_25 : ST) => st_ (pI σ_25 0 65 r_6) (fun (σ_27 : ST) => some σ_27)))) else some σ_2))))))
abbrev rm_X3_looksAt : Room := rmf 58 1332
set_option maxHeartbeats 4000000 in
set_option maxRecDepth 100000 in
theorem mt_X3_looksAt (l : Launch) (G : GT) (σ : ST) (a1 : Int32) {u : ST} (h : tw_looksAt σ a1 = some u) : CV l tw_ft G yX3_looksAt (ws_ yX3_looksAt cX3_looksAt 4 none) rm_X3_looksAt 0 0 [.ref (G.2.2.1 0), .int a1] σ u := by
  refine m_enterV (by decide) rfl (lv := [(0, .ref (G.2.2.1 0)), (1, .int a1)]) rfl ?_
  intro p e s m args below meth c H locs ls Q X hnm hret hP hl
  have hx := X.1.1
  have hb := X.1.2.1
  have hown := X.1.2.2.2.1
  have hts := X.1.2.2.2.2
  unfold tw_looksAt at h
  refine lv_aload_n hx hb dX3_looksAt_0 rfl (lv_at hl 0 rfl) ?_
  obtain ⟨σ_2, e_1, h⟩ := bo_ex h
  refine r_callv (r_runV (rest := []) X hP 0 tw_c0 lk_3 (mt_X3_meets l G σ e_1) (cwV 0 hts (lw_V q2016 q2018 qs68 q113 q2019) rfl rfl rfl ⟨rfl, cdX3_meets⟩ ⟨Nat.le_of_ble_eq_true rfl, Nat.le_of_ble_eq_true rfl⟩) rfl hl.1 rfl (Nat.le_of_ble_eq_true rfl) dX3_looksAt_1 ⟨Nat.le_refl _, Nat.le_refl _⟩) hP (fun H locs hP => ?_)
  refine lv_aload_n hx hb dX3_looksAt_4 rfl (lv_at hl 0 rfl) ?_
  obtain ⟨r_4, e_3, h⟩ := bo_ex h
  refine r_calli (r_runV (rest := []) X hP 0 tw_c0 lk_3 (mt_X3_wrongMany l G σ_2 e_3) (cwV 0 hts (lw_V q2169 q2171 qs98 q113 q2172) rfl rfl rfl ⟨rfl, cdX3_wrongMany⟩ ⟨Nat.le_of_ble_eq_true rfl, Nat.le_of_ble_eq_true rfl⟩) rfl hl.1 rfl (Nat.le_of_ble_eq_true rfl) dX3_looksAt_5 ⟨Nat.le_refl _, Nat.le_refl _⟩) hP (fun H locs hP => ?_)
  refine lv_istore_n (lv' := [(2, .int r_4), (0, .ref (G.2.2.1 0)), (1, .int a1)]) hx hb dX3_looksAt_8 rfl hl (by decide) rfl (fun ls hl => ?_)
  refine lv_aload_n hx hb dX3_looksAt_9 rfl (lv_at hl 1 rfl) ?_
  obtain ⟨r_6, e_5, h⟩ := bo_ex h
  refine r_calli (r_runV (rest := []) X hP 0 tw_c0 lk_3 (mt_X3_cost l G σ_2 e_5) (cwV 0 hts (lw_V q2127 q2129 qs95 q113 q2130) rfl rfl rfl ⟨rfl, cdX3_cost⟩ ⟨Nat.le_of_ble_eq_true rfl, Nat.le_of_ble_eq_true rfl⟩) rfl hl.1 rfl (Nat.le_of_ble_eq_true rfl) dX3_looksAt_10 ⟨Nat.le_refl _, Nat.le_refl _⟩) hP (fun H locs hP => ?_)
  refine lv_istore_n (lv' := [(3, .int r_6), (2, .int r_4), (0, .ref (G.2.2.1 0)), (1, .int a1)]) hx hb dX3_looksAt_13 rfl hl (by decide) rfl (fun ls hl => ?_)
  refine lv_aload_n hx hb dX3_looksAt_14 rfl (lv_at hl 2 rfl) ?_
  refine r_geti X hP 0 tw_c0 lk_3 63 (Nat.le_of_ble_eq_true rfl) q1701 tw_f63 dX3_looksAt_15 ?_
  refine lv_if_lt (tgt := 45) hx hb dX3_looksAt_18 (by decide) (fun c_7 => ?_) (fun c_7 => ?_)
  · have h := it_t h c_7
    refine lv_aload_n hx hb dX3_looksAt_45 rfl (lv_at hl 2 rfl) ?_
    refine lv_iload_n hx hb dX3_looksAt_46 rfl (lv_at hl 3 rfl) ?_
    refine r_puti X tw_w hP 0 tw_c0 lk_3 63 (Nat.le_of_ble_eq_true rfl) q1701 tw_f63 rfl (tyX3_ok 63 (by decide)) rfl rfl dX3_looksAt_47 (fun σ_8 H locs e_9 hP => ?_)
    have h := st_k h e_9
    refine lv_aload_n hx hb dX3_looksAt_50 rfl (lv_at hl 2 rfl) ?_
    refine lv_iload_n hx hb dX3_looksAt_51 rfl (lv_at hl 1 rfl) ?_
    refine r_puti X tw_w hP 0 tw_c0 lk_3 64 (Nat.le_of_ble_eq_true rfl) q1702 tw_f64 rfl (tyX3_ok 64 (by decide)) rfl rfl dX3_looksAt_52 (fun σ_10 H locs e_11 hP => ?_)
    have h := st_k h e_11
    refine lv_aload_n hx hb dX3_looksAt_55 rfl (lv_at hl 2 rfl) ?_
    refine lv_iload_n hx hb dX3_looksAt_56 rfl (lv_at hl 0 rfl) ?_
    refine r_puti X tw_w hP 0 tw_c0 lk_3 65 (Nat.le_of_ble_eq_true rfl) q1703 tw_f65 rfl (tyX3_ok 65 (by decide)) rfl rfl dX3_looksAt_57 (fun σ_12 H locs e_13 hP => ?_)
    have h := st_k h e_13
    exact hret _ _ _ _ _ dX3_looksAt_60 (Option.some.inj h) hP
  · have h := it_f h c_7
    refine lv_iload_n hx hb dX3_looksAt_21 rfl (lv_at hl 1 rfl) ?_
    refine lv_aload_n hx hb dX3_looksAt_22 rfl (lv_at hl 2 rfl) ?_
    refine r_geti X hP 0 tw_c0 lk_3 64 (Nat.le_of_ble_eq_true rfl) q1702 tw_f64 dX3_looksAt_23 ?_
    refine lv_icmp_lt (tgt := 45) hx hb dX3_looksAt_26 (by decide) (fun c_14 => ?_) (fun c_14 => ?_)
    · have h := it_t h c_14
      refine lv_aload_n hx hb dX3_looksAt_45 rfl (lv_at hl 2 rfl) ?_
      refine lv_iload_n hx hb dX3_looksAt_46 rfl (lv_at hl 3 rfl) ?_
      refine r_puti X tw_w hP 0 tw_c0 lk_3 63 (Nat.le_of_ble_eq_true rfl) q1701 tw_f63 rfl (tyX3_ok 63 (by decide)) rfl rfl dX3_looksAt_47 (fun σ_15 H locs e_16 hP => ?_)
      have h := st_k h e_16
      refine lv_aload_n hx hb dX3_looksAt_50 rfl (lv_at hl 2 rfl) ?_
      refine lv_iload_n hx hb dX3_looksAt_51 rfl (lv_at hl 1 rfl) ?_
      refine r_puti X tw_w hP 0 tw_c0 lk_3 64 (Nat.le_of_ble_eq_true rfl) q1702 tw_f64 rfl (tyX3_ok 64 (by decide)) rfl rfl dX3_looksAt_52 (fun σ_17 H locs e_18 hP => ?_)
      have h := st_k h e_18
      refine lv_aload_n hx hb dX3_looksAt_55 rfl (lv_at hl 2 rfl) ?_
      refine lv_iload_n hx hb dX3_looksAt_56 rfl (lv_at hl 0 rfl) ?_
      refine r_puti X tw_w hP 0 tw_c0 lk_3 65 (Nat.le_of_ble_eq_true rfl) q1703 tw_f65 rfl (tyX3_ok 65 (by decide)) rfl rfl dX3_looksAt_57 (fun σ_19 H locs e_20 hP => ?_)
      have h := st_k h e_20
      exact hret _ _ _ _ _ dX3_looksAt_60 (Option.some.inj h) hP
    · have h := it_f h c_14
      refine lv_iload_n hx hb dX3_looksAt_29 rfl (lv_at hl 1 rfl) ?_
      refine lv_aload_n hx hb dX3_looksAt_30 rfl (lv_at hl 2 rfl) ?_
      refine r_geti X hP 0 tw_c0 lk_3 64 (Nat.le_of_ble_eq_true rfl) q1702 tw_f64 dX3_looksAt_31 ?_
      refine lv_icmp_ne (tgt := 60) hx hb dX3_looksAt_34 (by decide) (fun c_21 => ?_) (fun c_21 => ?_)
      · have h := it_f h c_21
        exact hret _ _ _ _ _ dX3_looksAt_60 (Option.some.inj h) hP
      · have h := it_t h c_21
        refine lv_iload_n hx hb dX3_looksAt_37 rfl (lv_at hl 0 rfl) ?_
        refine lv_aload_n hx hb dX3_looksAt_38 rfl (lv_at hl 2 rfl) ?_
        refine r_geti X hP 0 tw_c0 lk_3 65 (Nat.le_of_ble_eq_true rfl) q1703 tw_f65 dX3_looksAt_39 ?_
        refine lv_icmp_ge (tgt := 60) hx hb dX3_looksAt_42 (by decide) (fun c_22 => ?_) (fun c_22 => ?_)
        · have h := it_t h c_22
          exact hret _ _ _ _ _ dX3_looksAt_60 (Option.some.inj h) hP
        · have h := it_f h c_22
          refine lv_aload_n hx hb dX3_looksAt_45 rfl (lv_at hl 2 rfl) ?_
          refine lv_iload_n hx hb dX3_looksAt_46 rfl (lv_at hl 3 rfl) ?_
          refine r_puti X tw_w hP 0 tw_c0 lk_3 63 (Nat.le_of_ble_eq_true rfl) q1701 tw_f63 rfl (tyX3_ok 63 (by decide)) rfl rfl dX3_looksAt_47 (fun σ_23 H locs e_24 hP => ?_)
          have h := st_k h e_24
          refine lv_aload_n hx hb dX3_looksAt_50 rfl (lv_at hl 2 rfl) ?_
          refine lv_iload_n hx hb dX3_looksAt_51 rfl (lv_at hl 1 rfl) ?_
          refine r_puti X tw_w hP 0 tw_c0 lk_3 64 (Nat.le_of_ble_eq_true rfl) q1702 tw_f64 rfl (tyX3_ok 64 (by decide)) rfl rfl dX3_looksAt_52 (fun σ_25 H locs e_26 hP => ?_)
          have h := st_k h e_26
          refine lv_aload_n hx hb dX3_looksAt_55 rfl (lv_at hl 2 rfl) ?_
          refine lv_iload_n hx hb dX3_looksAt_56 rfl (lv_at hl 0 rfl) ?_
          refine r_puti X tw_w hP 0 tw_c0 lk_3 65 (Nat.le_of_ble_eq_true rfl) q1703 tw_f65 rfl (tyX3_ok 65 (by decide)) rfl rfl dX3_looksAt_57 (fun σ_27 H locs e_28 hP => ?_)
          have h := st_k h e_28
          exact hret _ _ _ _ _ dX3_looksAt_60 (Option.some.inj h) hP
def tw_rule_B35 (l1 : Int32) (rc35 : Int32 → ST → Option (ST)) (w2 : Int32) (σ : ST) : Option (ST) :=
  (if (6 : Int32) ≤ w2 then some (σ) else st_ (pI σ 0 26 w2) (fun (σ_12 : ST) => bo (tw_looksAt σ_12 w2) (fun (σ_15 : ST) => (rc35 (w2 + (1 : Int32)) σ_15))))
def tw_rule (σ : ST) (a1 : Int32) : Option (Int32 × ST) :=
  bo (tw_within ((a1).toInt64) (0 : Int64) (2 : Int64)) (fun (r_2 : Int32) => (if r_2 = 0 then some ((-1 : Int32), σ) else bo (tw_isTable σ) (fun (r_5 : Int32) => (if r_5 = 0 then some ((-5 : Int32), σ) else bo (tw_plain σ) (fun (σ_8 : ST) => st_ (pI σ_8 0 63 (-1 : Int32)) (fun (σ_9 : ST) => bo (wl2 (tw_rule_B35 a1) FU (0 : Int32) σ_9) (fun (σ_17 : ST) => bo (tw_bestTold σ_17 a1) (fun (r_21 : Int32) => some (r_21, σ_17)))))))))
abbrev rm_X3_rule : Room := rmf 59 1355
set_option maxHeartbeats 4000000 in
set_option maxRecDepth 100000 in
theorem mt_X3_rule (l : Launch) (G : GT) (σ : ST) (a1 : Int32) {r : Int32} {u : ST} (h : tw_rule σ a1 = some (r, u)) : CI l tw_ft G yX3_rule (ws_ yX3_rule cX3_rule 3 (some .int)) rm_X3_rule 0 0 [.ref (G.2.2.1 0), .int a1] σ (r, u) := by
  refine m_enterI (by decide) rfl (lv := [(0, .ref (G.2.2.1 0)), (1, .int a1)]) rfl ?_
  intro p e s m args below meth c H locs ls Q X hret hP hl
  have hx := X.1.1
  have hb := X.1.2.1
  have hown := X.1.2.2.2.1
  have hts := X.1.2.2.2.2
  unfold tw_rule at h
  refine lv_iload_n hx hb dX3_rule_0 rfl (lv_at hl 1 rfl) ?_
  refine lv_i2l hx hb dX3_rule_1 rfl ?_
  refine lv_lconst (v := (0 : Int64)) hx hb dX3_rule_2 (by decide) ?_
  refine lv_ldc2 hx hb hown (hts _ q2164) dX3_rule_3 ?_
  obtain ⟨r_2, e_1, h⟩ := bo_ex h
  refine r_calli (r_runS (rest := []) X hP (mt_X3_within l G σ ((a1).toInt64) (0 : Int64) (2 : Int64) e_1) (va_cwS 3 hts (lw_S q1880 q1881 q113 q1882) rfl rfl rfl cdX3_within ⟨Nat.le_of_ble_eq_true rfl, Nat.le_of_ble_eq_true rfl⟩) rfl hl.1 rfl (Nat.le_of_ble_eq_true rfl) dX3_rule_6 ⟨Nat.le_refl _, Nat.le_refl _⟩) hP (fun H locs hP => ?_)
  refine lv_if_ne (tgt := 14) hx hb dX3_rule_9 (by decide) (fun c_3 => ?_) (fun c_3 => ?_)
  · have h := it_f h c_3
    refine lv_aload_n hx hb dX3_rule_14 rfl (lv_at hl 0 rfl) ?_
    obtain ⟨r_5, e_4, h⟩ := bo_ex h
    refine r_calli (r_runV (rest := []) X hP 0 tw_c0 lk_3 (mt_X3_isTable l G σ e_4) (cwV 0 hts (lw_V q2012 q2014 qs67 q113 q2015) rfl rfl rfl ⟨rfl, cdX3_isTable⟩ ⟨Nat.le_of_ble_eq_true rfl, Nat.le_of_ble_eq_true rfl⟩) rfl hl.1 rfl (Nat.le_of_ble_eq_true rfl) dX3_rule_15 ⟨Nat.le_refl _, Nat.le_refl _⟩) hP (fun H locs hP => ?_)
    refine lv_if_ne (tgt := 24) hx hb dX3_rule_18 (by decide) (fun c_6 => ?_) (fun c_6 => ?_)
    · have h := it_f h c_6
      refine lv_aload_n hx hb dX3_rule_24 rfl (lv_at hl 0 rfl) ?_
      obtain ⟨σ_8, e_7, h⟩ := bo_ex h
      refine r_callv (r_runV (rest := []) X hP 0 tw_c0 lk_3 (mt_X3_plain l G σ e_7) (cwV 0 hts (lw_V q2004 q2006 qs65 q113 q2007) rfl rfl rfl ⟨rfl, cdX3_plain⟩ ⟨Nat.le_of_ble_eq_true rfl, Nat.le_of_ble_eq_true rfl⟩) rfl hl.1 rfl (Nat.le_of_ble_eq_true rfl) dX3_rule_25 ⟨Nat.le_refl _, Nat.le_refl _⟩) hP (fun H locs hP => ?_)
      refine lv_aload_n hx hb dX3_rule_28 rfl (lv_at hl 0 rfl) ?_
      refine lv_iconst (v := (-1 : Int32)) hx hb dX3_rule_29 (by decide) ?_
      refine r_puti X tw_w hP 0 tw_c0 lk_3 63 (Nat.le_of_ble_eq_true rfl) q1701 tw_f63 rfl (tyX3_ok 63 (by decide)) rfl rfl dX3_rule_30 (fun σ_9 H locs e_10 hP => ?_)
      have h := st_k h e_10
      refine lv_iconst (v := (0 : Int32)) hx hb dX3_rule_33 (by decide) ?_
      refine lv_istore_n (lv' := [(2, .int (0 : Int32)), (0, .ref (G.2.2.1 0)), (1, .int a1)]) hx hb dX3_rule_34 rfl hl (by decide) rfl (fun ls hl => ?_)
      obtain ⟨σ_17, h_18, h⟩ := bo_ex h
      have hE_19 : ∀ (H : Heap) (locs : List Loc) (ls : Array Slot), PS tw_ft G s σ_17 H locs → lv_has ls 3 [(0, .ref (G.2.2.1 0)), (1, .int a1)] → W p l e rm_X3_rule s m args below meth c H locs 0 0 Q (F0 m 57 ls []) := by
        intro H locs ls hP hl
        refine lv_aload_n hx hb dX3_rule_57 rfl (lv_at hl 0 rfl) ?_
        refine lv_iload_n hx hb dX3_rule_58 rfl (lv_at hl 1 rfl) ?_
        obtain ⟨r_21, e_20, h⟩ := bo_ex h
        refine r_calli (r_runV (rest := []) X hP 0 tw_c0 lk_3 (mt_X3_bestTold l G σ_17 a1 e_20) (cwV 1 hts (lw_V q2173 q2175 qs99 q113 q2176) rfl rfl rfl ⟨rfl, cdX3_bestTold⟩ ⟨Nat.le_of_ble_eq_true rfl, Nat.le_of_ble_eq_true rfl⟩) rfl hl.1 rfl (Nat.le_of_ble_eq_true rfl) dX3_rule_59 ⟨Nat.le_refl _, Nat.le_refl _⟩) hP (fun H locs hP => ?_)
        exact hret _ _ _ _ _ _ dX3_rule_62 rfl (Option.some.inj h) hP
      have hL_16 : ∀ (n : Nat) (w_22 : Int32) (σ_23 : ST) (H : Heap) (locs : List Loc) (ls : Array Slot), wl2 (tw_rule_B35 a1) n w_22 σ_23 = some σ_17 → PS tw_ft G s σ_23 H locs → lv_has ls 3 [(0, .ref (G.2.2.1 0)), (1, .int a1), (2, .int w_22)] → W p l e rm_X3_rule s m args below meth c H locs 0 0 Q (F0 m 35 ls []) := by
        intro n
        induction n with
        | zero => intro w_22 σ_23 H locs ls h_24; cases h_24
        | succ n ih =>
          intro w_22 σ_23 H locs ls h_24 hP hl
          have h_24 : tw_rule_B35 a1 (wl2 (tw_rule_B35 a1) n) w_22 σ_23 = some _ := h_24
          generalize wl2 (tw_rule_B35 a1) n = rc_25 at h_24 ih
          unfold tw_rule_B35 at h_24
          refine lv_iload_n hx hb dX3_rule_35 rfl (lv_at hl 2 rfl) ?_
          refine lv_bipush (v := (6 : Int32)) hx hb dX3_rule_36 (by decide) ?_
          refine lv_icmp_ge (tgt := 57) hx hb dX3_rule_38 (by decide) (fun c_26 => ?_) (fun c_26 => ?_)
          · have h_24 := it_t h_24 c_26
            obtain rfl := Option.some.inj h_24
            exact hE_19 _ _ _ hP (lv_sub hl [0, 1] rfl)
          · have h_24 := it_f h_24 c_26
            refine lv_aload_n hx hb dX3_rule_41 rfl (lv_at hl 0 rfl) ?_
            refine lv_iload_n hx hb dX3_rule_42 rfl (lv_at hl 2 rfl) ?_
            refine r_puti X tw_w hP 0 tw_c0 lk_3 26 (Nat.le_of_ble_eq_true rfl) q1664 tw_f26 rfl (tyX3_ok 26 (by decide)) rfl rfl dX3_rule_43 (fun σ_27 H locs e_28 hP => ?_)
            have h_24 := st_k h_24 e_28
            refine lv_aload_n hx hb dX3_rule_46 rfl (lv_at hl 0 rfl) ?_
            refine lv_iload_n hx hb dX3_rule_47 rfl (lv_at hl 2 rfl) ?_
            obtain ⟨σ_30, e_29, h_24⟩ := bo_ex h_24
            refine r_callv (r_runV (rest := []) X hP 0 tw_c0 lk_3 (mt_X3_looksAt l G σ_27 w_22 e_29) (cwV 1 hts (lw_V q2165 q2167 qs97 q113 q2168) rfl rfl rfl ⟨rfl, cdX3_looksAt⟩ ⟨Nat.le_of_ble_eq_true rfl, Nat.le_of_ble_eq_true rfl⟩) rfl hl.1 rfl (Nat.le_of_ble_eq_true rfl) dX3_rule_48 ⟨Nat.le_refl _, Nat.le_refl _⟩) hP (fun H locs hP => ?_)
            refine lv_iinc (v := (w_22 + (1 : Int32))) (lv' := [(2, .int (w_22 + (1 : Int32))), (0, .ref (G.2.2.1 0)), (1, .int a1)]) hx hb dX3_rule_51 hl (k := 2) rfl rfl (by decide) rfl (fun ls hl => ?_)
            refine lv_goto (tgt := 35) hx hb dX3_rule_54 (by decide) ?_
            exact ih _ _ _ _ _ h_24 hP (lv_sub hl [1, 2, 0] rfl)
      exact hL_16 _ _ _ _ _ _ h_18 hP (lv_sub hl [1, 2, 0] rfl)
    · have h := it_t h c_6
      refine lv_bipush (v := (-5 : Int32)) hx hb dX3_rule_21 (by decide) ?_
      exact hret _ _ _ _ _ _ dX3_rule_23 rfl (Option.some.inj h) hP
  · have h := it_t h c_3
    refine lv_iconst (v := (-1 : Int32)) hx hb dX3_rule_12 (by decide) ?_
    exact hret _ _ _ _ _ _ dX3_rule_13 rfl (Option.some.inj h) hP
def tw_goesOrdersB_B17 (fg : ST → Int32 → Int32 → Int32 → Option ST) (l1 : Int32) (l2 : Int32) (l3 : Int32) (rc17 : Int32 → ST → Option (ST)) (w4 : Int32) (σ : ST) : Option (ST) :=
  (if (gI σ 0 8) ≤ w4 then some (σ) else bo (if ((l2 >>> (w4 &&& 31)) &&& (1 : Int32)) = 0 then ck l1 6 (st_ (aI σ 0 38 l1 w4) (fun (σ_7 : ST) => bo (fg σ_7 (l1 + (1 : Int32)) (l2 ||| ((1 : Int32) <<< (w4 &&& 31))) ((((10 : Int32) * l3) + w4) + (1 : Int32))) (fun (σ_10 : ST) => some (σ_10)))) else some (σ)) (fun (σ_3 : ST) => (rc17 (w4 + (1 : Int32)) σ_3)))
def tw_goesOrdersB (fg : ST → Int32 → Int32 → Int32 → Option ST) (σ : ST) (a1 : Int32) (a2 : Int32) (a3 : Int32) : Option ST :=
  (if a1 = (gI σ 0 8) then bo (tw_looksAt σ a3) (fun (σ_29 : ST) => some σ_29) else bo (wl2 (tw_goesOrdersB_B17 fg a1 a2 a3) FU (0 : Int32) σ) (fun (σ_12 : ST) => some σ_12))
set_option maxHeartbeats 4000000 in
set_option maxRecDepth 100000 in
theorem mt_X3_goesOrders (l : Launch) (G : GT) {f lo : Nat} (fg : ST → Int32 → Int32 → Int32 → Option ST) (hfg : ∀ (σ : ST) (b0 : Int32) (b1 : Int32) (b2 : Int32) {u : ST}, fg σ b0 b1 b2 = some u → CV l tw_ft G yX3_goesOrders (ws_ yX3_goesOrders cX3_goesOrders 5 none) (rmf f lo) 0 0 [.ref (G.2.2.1 0), .int b0, .int b1, .int b2] σ u) (σ : ST) (a1 : Int32) (a2 : Int32) (a3 : Int32) {u : ST} (h : tw_goesOrdersB fg σ a1 a2 a3 = some u) : CV l tw_ft G yX3_goesOrders (ws_ yX3_goesOrders cX3_goesOrders 5 none) (rmf (f + 59) (lo + 1355)) 0 0 [.ref (G.2.2.1 0), .int a1, .int a2, .int a3] σ u := by
  refine m_enterV (by decide) rfl (lv := [(0, .ref (G.2.2.1 0)), (1, .int a1), (2, .int a2), (3, .int a3)]) rfl ?_
  intro p e s m args below meth c H locs ls Q X hnm hret hP hl
  have hx := X.1.1
  have hb := X.1.2.1
  have hown := X.1.2.2.2.1
  have hts := X.1.2.2.2.2
  unfold tw_goesOrdersB at h
  refine lv_iload_n hx hb dX3_goesOrders_0 rfl (lv_at hl 1 rfl) ?_
  refine lv_aload_n hx hb dX3_goesOrders_1 rfl (lv_at hl 0 rfl) ?_
  refine r_geti X hP 0 tw_c0 lk_3 8 (Nat.le_of_ble_eq_true rfl) q1646 tw_f8 dX3_goesOrders_2 ?_
  refine lv_icmp_ne (tgt := 14) hx hb dX3_goesOrders_5 (by decide) (fun c_1 => ?_) (fun c_1 => ?_)
  · have h := it_f h c_1
    refine lv_iconst (v := (0 : Int32)) hx hb dX3_goesOrders_14 (by decide) ?_
    refine lv_istore (lv' := [(4, .int (0 : Int32)), (0, .ref (G.2.2.1 0)), (1, .int a1), (2, .int a2), (3, .int a3)]) hx hb dX3_goesOrders_15 hl (by decide) rfl (fun ls hl => ?_)
    obtain ⟨σ_12, h_13, h⟩ := bo_ex h
    have hE_14 : ∀ (H : Heap) (locs : List Loc) (ls : Array Slot), PS tw_ft G s σ_12 H locs → lv_has ls 5 [] → W p l e (rmf (f + 59) (lo + 1355)) s m args below meth c H locs 0 0 Q (F0 m 71 ls []) := by
      intro H locs ls hP hl
      exact hret _ _ _ _ _ dX3_goesOrders_71 (Option.some.inj h) hP
    have hL_11 : ∀ (n : Nat) (w_15 : Int32) (σ_16 : ST) (H : Heap) (locs : List Loc) (ls : Array Slot), wl2 (tw_goesOrdersB_B17 fg a1 a2 a3) n w_15 σ_16 = some σ_12 → PS tw_ft G s σ_16 H locs → lv_has ls 5 [(0, .ref (G.2.2.1 0)), (1, .int a1), (2, .int a2), (3, .int a3), (4, .int w_15)] → W p l e (rmf (f + 59) (lo + 1355)) s m args below meth c H locs 0 0 Q (F0 m 17 ls []) := by
      intro n
      induction n with
      | zero => intro w_15 σ_16 H locs ls h_17; cases h_17
      | succ n ih =>
        intro w_15 σ_16 H locs ls h_17 hP hl
        have h_17 : tw_goesOrdersB_B17 fg a1 a2 a3 (wl2 (tw_goesOrdersB_B17 fg a1 a2 a3) n) w_15 σ_16 = some _ := h_17
        generalize wl2 (tw_goesOrdersB_B17 fg a1 a2 a3) n = rc_18 at h_17 ih
        unfold tw_goesOrdersB_B17 at h_17
        refine lv_iload hx hb dX3_goesOrders_17 (lv_at hl 4 rfl) ?_
        refine lv_aload_n hx hb dX3_goesOrders_19 rfl (lv_at hl 0 rfl) ?_
        refine r_geti X hP 0 tw_c0 lk_3 8 (Nat.le_of_ble_eq_true rfl) q1646 tw_f8 dX3_goesOrders_20 ?_
        refine lv_icmp_ge (tgt := 71) hx hb dX3_goesOrders_23 (by decide) (fun c_19 => ?_) (fun c_19 => ?_)
        · have h_17 := it_t h_17 c_19
          obtain rfl := Option.some.inj h_17
          exact hE_14 _ _ _ hP (lv_sub hl [] rfl)
        · have h_17 := it_f h_17 c_19
          refine lv_iload_n hx hb dX3_goesOrders_26 rfl (lv_at hl 2 rfl) ?_
          refine lv_iload hx hb dX3_goesOrders_27 (lv_at hl 4 rfl) ?_
          refine lv_ishr hx hb dX3_goesOrders_29 ?_
          refine lv_iconst (v := (1 : Int32)) hx hb dX3_goesOrders_30 (by decide) ?_
          refine lv_iand hx hb dX3_goesOrders_31 ?_
          obtain ⟨σ_20, h_21, h_17⟩ := bo_ex h_17
          have hJ_22 : ∀ (H : Heap) (locs : List Loc) (ls : Array Slot), PS tw_ft G s σ_20 H locs → lv_has ls 5 [(0, .ref (G.2.2.1 0)), (1, .int a1), (2, .int a2), (3, .int a3), (4, .int w_15)] → W p l e (rmf (f + 59) (lo + 1355)) s m args below meth c H locs 0 0 Q (F0 m 65 ls []) := by
            intro H locs ls hP hl
            refine lv_iinc (v := (w_15 + (1 : Int32))) (lv' := [(4, .int (w_15 + (1 : Int32))), (0, .ref (G.2.2.1 0)), (1, .int a1), (2, .int a2), (3, .int a3)]) hx hb dX3_goesOrders_65 hl (k := 4) rfl rfl (by decide) rfl (fun ls hl => ?_)
            refine lv_goto (tgt := 17) hx hb dX3_goesOrders_68 (by decide) ?_
            exact ih _ _ _ _ _ h_17 hP (lv_sub hl [1, 2, 3, 4, 0] rfl)
          refine lv_if_ne (tgt := 65) hx hb dX3_goesOrders_32 (by decide) (fun c_23 => ?_) (fun c_23 => ?_)
          · have h_21 := it_f h_21 c_23
            obtain rfl := Option.some.inj h_21
            exact hJ_22 _ _ _ hP (lv_sub hl [0, 1, 2, 3, 4] rfl)
          · have h_21 := it_t h_21 c_23
            refine lv_aload_n hx hb dX3_goesOrders_35 rfl (lv_at hl 0 rfl) ?_
            refine r_geta X hP 0 tw_c0 lk_3 38 (Nat.le_of_ble_eq_true rfl) q1676 tw_f38 dX3_goesOrders_36 ?_
            refine lv_iload_n hx hb dX3_goesOrders_39 rfl (lv_at hl 1 rfl) ?_
            refine lv_iload hx hb dX3_goesOrders_40 (lv_at hl 4 rfl) ?_
            refine r_iast X tw_w hP 18 tw_c18 (ck_in h_21) dX3_goesOrders_42 (fun σ_24 H locs e_25 hP => ?_)
            have h_21 := st_k (ck_k h_21) e_25
            refine lv_aload_n hx hb dX3_goesOrders_43 rfl (lv_at hl 0 rfl) ?_
            refine lv_iload_n hx hb dX3_goesOrders_44 rfl (lv_at hl 1 rfl) ?_
            refine lv_iconst (v := (1 : Int32)) hx hb dX3_goesOrders_45 (by decide) ?_
            refine lv_iadd hx hb dX3_goesOrders_46 ?_
            refine lv_iload_n hx hb dX3_goesOrders_47 rfl (lv_at hl 2 rfl) ?_
            refine lv_iconst (v := (1 : Int32)) hx hb dX3_goesOrders_48 (by decide) ?_
            refine lv_iload hx hb dX3_goesOrders_49 (lv_at hl 4 rfl) ?_
            refine lv_ishl hx hb dX3_goesOrders_51 ?_
            refine lv_ior hx hb dX3_goesOrders_52 ?_
            refine lv_bipush (v := (10 : Int32)) hx hb dX3_goesOrders_53 (by decide) ?_
            refine lv_iload_n hx hb dX3_goesOrders_55 rfl (lv_at hl 3 rfl) ?_
            refine lv_imul hx hb dX3_goesOrders_56 ?_
            refine lv_iload hx hb dX3_goesOrders_57 (lv_at hl 4 rfl) ?_
            refine lv_iadd hx hb dX3_goesOrders_59 ?_
            refine lv_iconst (v := (1 : Int32)) hx hb dX3_goesOrders_60 (by decide) ?_
            refine lv_iadd hx hb dX3_goesOrders_61 ?_
            obtain ⟨σ_27, e_26, h_21⟩ := bo_ex h_21
            refine r_callv (r_runV (rest := []) X hP 0 tw_c0 lk_3 (hfg σ_24 (a1 + (1 : Int32)) (a2 ||| ((1 : Int32) <<< (w_15 &&& 31))) ((((10 : Int32) * a3) + w_15) + (1 : Int32)) e_26) (cwV 3 hts (lw_V q2181 q2183 qs100 q113 q2184) rfl rfl rfl ⟨rfl, cdX3_goesOrders⟩ (rm_le (by omega) (by omega))) rfl hl.1 rfl (Nat.le_of_ble_eq_true rfl) dX3_goesOrders_62 ⟨Nat.le_refl _, Nat.le_refl _⟩) hP (fun H locs hP => ?_)
            obtain rfl := Option.some.inj h_21
            exact hJ_22 _ _ _ hP (lv_sub hl [0, 1, 2, 3, 4] rfl)
    exact hL_11 _ _ _ _ _ _ h_13 hP (lv_sub hl [1, 2, 3, 4, 0] rfl)
  · have h := it_t h c_1
    refine lv_aload_n hx hb dX3_goesOrders_8 rfl (lv_at hl 0 rfl) ?_
    refine lv_iload_n hx hb dX3_goesOrders_9 rfl (lv_at hl 3 rfl) ?_
    obtain ⟨σ_29, e_28, h⟩ := bo_ex h
    refine r_callv (r_runV (rest := []) X hP 0 tw_c0 lk_3 (mt_X3_looksAt l G σ a3 e_28) (cwV 1 hts (lw_V q2165 q2167 qs97 q113 q2168) rfl rfl rfl ⟨rfl, cdX3_looksAt⟩ (rm_le (by omega) (by omega))) rfl hl.1 rfl (Nat.le_of_ble_eq_true rfl) dX3_goesOrders_10 ⟨Nat.le_refl _, Nat.le_refl _⟩) hP (fun H locs hP => ?_)
    exact hret _ _ _ _ _ dX3_goesOrders_13 (Option.some.inj h) hP
def tw_goesOrders : Nat → ST → Int32 → Int32 → Int32 → Option ST
  | 0, _, _, _, _ => none
  | n + 1, σ, b0, b1, b2 => tw_goesOrdersB (tw_goesOrders n) σ b0 b1 b2
theorem mt_goesOrders (l : Launch) (G : GT) : ∀ (n : Nat) (σ : ST) (b0 : Int32) (b1 : Int32) (b2 : Int32) {u : ST}, tw_goesOrders n σ b0 b1 b2 = some u → CV l tw_ft G yX3_goesOrders (ws_ yX3_goesOrders cX3_goesOrders 5 none) (rmf (n * 59) (n * 1355)) 0 0 [.ref (G.2.2.1 0), .int b0, .int b1, .int b2] σ u := by
  intro n
  induction n with
  | zero => intro σ b0 b1 b2 u h; cases h
  | succ n ih =>
    intro σ b0 b1 b2 u h
    have h1 := mt_X3_goesOrders l G (tw_goesOrders n) (fun σ b0 b1 b2 => ih σ b0 b1 b2) σ b0 b1 b2 h
    rw [Nat.succ_mul, Nat.succ_mul]
    exact h1
def tw_order (σ : ST) (a1 : Int32) : Option (Int32 × ST) :=
  bo (tw_within ((a1).toInt64) (0 : Int64) (2 : Int64)) (fun (r_2 : Int32) => (if r_2 = 0 then some ((-1 : Int32), σ) else bo (tw_isTable σ) (fun (r_5 : Int32) => (if r_5 = 0 then some ((-5 : Int32), σ) else (if (gI σ 0 8) ≤ (5 : Int32) then bo (tw_plain σ) (fun (σ_9 : ST) => st_ (pI σ_9 0 63 (-1 : Int32)) (fun (σ_10 : ST) => bo (tw_goesOrders 7 σ_10 (0 : Int32) (0 : Int32) (0 : Int32)) (fun (σ_13 : ST) => bo (tw_bestTold σ_13 a1) (fun (r_15 : Int32) => some (r_15, σ_13))))) else some ((-5 : Int32), σ))))))
abbrev rm_X3_order : Room := rmf 414 9509
set_option maxHeartbeats 4000000 in
set_option maxRecDepth 100000 in
theorem mt_X3_order (l : Launch) (G : GT) (σ : ST) (a1 : Int32) {r : Int32} {u : ST} (h : tw_order σ a1 = some (r, u)) : CI l tw_ft G yX3_order (ws_ yX3_order cX3_order 2 (some .int)) rm_X3_order 0 0 [.ref (G.2.2.1 0), .int a1] σ (r, u) := by
  refine m_enterI (by decide) rfl (lv := [(0, .ref (G.2.2.1 0)), (1, .int a1)]) rfl ?_
  intro p e s m args below meth c H locs ls Q X hret hP hl
  have hx := X.1.1
  have hb := X.1.2.1
  have hown := X.1.2.2.2.1
  have hts := X.1.2.2.2.2
  unfold tw_order at h
  refine lv_iload_n hx hb dX3_order_0 rfl (lv_at hl 1 rfl) ?_
  refine lv_i2l hx hb dX3_order_1 rfl ?_
  refine lv_lconst (v := (0 : Int64)) hx hb dX3_order_2 (by decide) ?_
  refine lv_ldc2 hx hb hown (hts _ q2164) dX3_order_3 ?_
  obtain ⟨r_2, e_1, h⟩ := bo_ex h
  refine r_calli (r_runS (rest := []) X hP (mt_X3_within l G σ ((a1).toInt64) (0 : Int64) (2 : Int64) e_1) (va_cwS 3 hts (lw_S q1880 q1881 q113 q1882) rfl rfl rfl cdX3_within ⟨Nat.le_of_ble_eq_true rfl, Nat.le_of_ble_eq_true rfl⟩) rfl hl.1 rfl (Nat.le_of_ble_eq_true rfl) dX3_order_6 ⟨Nat.le_refl _, Nat.le_refl _⟩) hP (fun H locs hP => ?_)
  refine lv_if_ne (tgt := 14) hx hb dX3_order_9 (by decide) (fun c_3 => ?_) (fun c_3 => ?_)
  · have h := it_f h c_3
    refine lv_aload_n hx hb dX3_order_14 rfl (lv_at hl 0 rfl) ?_
    obtain ⟨r_5, e_4, h⟩ := bo_ex h
    refine r_calli (r_runV (rest := []) X hP 0 tw_c0 lk_3 (mt_X3_isTable l G σ e_4) (cwV 0 hts (lw_V q2012 q2014 qs67 q113 q2015) rfl rfl rfl ⟨rfl, cdX3_isTable⟩ ⟨Nat.le_of_ble_eq_true rfl, Nat.le_of_ble_eq_true rfl⟩) rfl hl.1 rfl (Nat.le_of_ble_eq_true rfl) dX3_order_15 ⟨Nat.le_refl _, Nat.le_refl _⟩) hP (fun H locs hP => ?_)
    refine lv_if_eq (tgt := 29) hx hb dX3_order_18 (by decide) (fun c_6 => ?_) (fun c_6 => ?_)
    · have h := it_t h c_6
      refine lv_bipush (v := (-5 : Int32)) hx hb dX3_order_29 (by decide) ?_
      exact hret _ _ _ _ _ _ dX3_order_31 rfl (Option.some.inj h) hP
    · have h := it_f h c_6
      refine lv_aload_n hx hb dX3_order_21 rfl (lv_at hl 0 rfl) ?_
      refine r_geti X hP 0 tw_c0 lk_3 8 (Nat.le_of_ble_eq_true rfl) q1646 tw_f8 dX3_order_22 ?_
      refine lv_iconst (v := (5 : Int32)) hx hb dX3_order_25 (by decide) ?_
      refine lv_icmp_le (tgt := 32) hx hb dX3_order_26 (by decide) (fun c_7 => ?_) (fun c_7 => ?_)
      · have h := it_t h c_7
        refine lv_aload_n hx hb dX3_order_32 rfl (lv_at hl 0 rfl) ?_
        obtain ⟨σ_9, e_8, h⟩ := bo_ex h
        refine r_callv (r_runV (rest := []) X hP 0 tw_c0 lk_3 (mt_X3_plain l G σ e_8) (cwV 0 hts (lw_V q2004 q2006 qs65 q113 q2007) rfl rfl rfl ⟨rfl, cdX3_plain⟩ ⟨Nat.le_of_ble_eq_true rfl, Nat.le_of_ble_eq_true rfl⟩) rfl hl.1 rfl (Nat.le_of_ble_eq_true rfl) dX3_order_33 ⟨Nat.le_refl _, Nat.le_refl _⟩) hP (fun H locs hP => ?_)
        refine lv_aload_n hx hb dX3_order_36 rfl (lv_at hl 0 rfl) ?_
        refine lv_iconst (v := (-1 : Int32)) hx hb dX3_order_37 (by decide) ?_
        refine r_puti X tw_w hP 0 tw_c0 lk_3 63 (Nat.le_of_ble_eq_true rfl) q1701 tw_f63 rfl (tyX3_ok 63 (by decide)) rfl rfl dX3_order_38 (fun σ_10 H locs e_11 hP => ?_)
        have h := st_k h e_11
        refine lv_aload_n hx hb dX3_order_41 rfl (lv_at hl 0 rfl) ?_
        refine lv_iconst (v := (0 : Int32)) hx hb dX3_order_42 (by decide) ?_
        refine lv_iconst (v := (0 : Int32)) hx hb dX3_order_43 (by decide) ?_
        refine lv_iconst (v := (0 : Int32)) hx hb dX3_order_44 (by decide) ?_
        obtain ⟨σ_13, e_12, h⟩ := bo_ex h
        refine r_callv (r_runV (rest := []) X hP 0 tw_c0 lk_3 (mt_goesOrders l G 7 σ_10 (0 : Int32) (0 : Int32) (0 : Int32) e_12) (cwV 3 hts (lw_V q2181 q2183 qs100 q113 q2184) rfl rfl rfl ⟨rfl, cdX3_goesOrders⟩ ⟨Nat.le_of_ble_eq_true rfl, Nat.le_of_ble_eq_true rfl⟩) rfl hl.1 rfl (Nat.le_of_ble_eq_true rfl) dX3_order_45 ⟨Nat.le_refl _, Nat.le_refl _⟩) hP (fun H locs hP => ?_)
        refine lv_aload_n hx hb dX3_order_48 rfl (lv_at hl 0 rfl) ?_
        refine lv_iload_n hx hb dX3_order_49 rfl (lv_at hl 1 rfl) ?_
        obtain ⟨r_15, e_14, h⟩ := bo_ex h
        refine r_calli (r_runV (rest := []) X hP 0 tw_c0 lk_3 (mt_X3_bestTold l G σ_13 a1 e_14) (cwV 1 hts (lw_V q2173 q2175 qs99 q113 q2176) rfl rfl rfl ⟨rfl, cdX3_bestTold⟩ ⟨Nat.le_of_ble_eq_true rfl, Nat.le_of_ble_eq_true rfl⟩) rfl hl.1 rfl (Nat.le_of_ble_eq_true rfl) dX3_order_50 ⟨Nat.le_refl _, Nat.le_refl _⟩) hP (fun H locs hP => ?_)
        exact hret _ _ _ _ _ _ dX3_order_53 rfl (Option.some.inj h) hP
      · have h := it_f h c_7
        refine lv_bipush (v := (-5 : Int32)) hx hb dX3_order_29 (by decide) ?_
        exact hret _ _ _ _ _ _ dX3_order_31 rfl (Option.some.inj h) hP
  · have h := it_t h c_3
    refine lv_iconst (v := (-1 : Int32)) hx hb dX3_order_12 (by decide) ?_
    exact hret _ _ _ _ _ _ dX3_order_13 rfl (Option.some.inj h) hP
def tw_times_B35 (l1 : Int32) (rc35 : Int32 → ST → Option (ST)) (w2 : Int32) (σ : ST) : Option (ST) :=
  (if (10 : Int32) ≤ w2 then some (σ) else st_ (pI σ 0 27 w2) (fun (σ_12 : ST) => bo (tw_looksAt σ_12 w2) (fun (σ_15 : ST) => (rc35 (w2 + (1 : Int32)) σ_15))))
def tw_times (σ : ST) (a1 : Int32) : Option (Int32 × ST) :=
  bo (tw_within ((a1).toInt64) (0 : Int64) (2 : Int64)) (fun (r_2 : Int32) => (if r_2 = 0 then some ((-1 : Int32), σ) else bo (tw_isTable σ) (fun (r_5 : Int32) => (if r_5 = 0 then some ((-5 : Int32), σ) else bo (tw_plain σ) (fun (σ_8 : ST) => st_ (pI σ_8 0 63 (-1 : Int32)) (fun (σ_9 : ST) => bo (wl2 (tw_times_B35 a1) FU (1 : Int32) σ_9) (fun (σ_17 : ST) => bo (tw_bestTold σ_17 a1) (fun (r_21 : Int32) => some (r_21, σ_17)))))))))
abbrev rm_X3_times : Room := rmf 59 1355
set_option maxHeartbeats 4000000 in
set_option maxRecDepth 100000 in
theorem mt_X3_times (l : Launch) (G : GT) (σ : ST) (a1 : Int32) {r : Int32} {u : ST} (h : tw_times σ a1 = some (r, u)) : CI l tw_ft G yX3_times (ws_ yX3_times cX3_times 3 (some .int)) rm_X3_times 0 0 [.ref (G.2.2.1 0), .int a1] σ (r, u) := by
  refine m_enterI (by decide) rfl (lv := [(0, .ref (G.2.2.1 0)), (1, .int a1)]) rfl ?_
  intro p e s m args below meth c H locs ls Q X hret hP hl
  have hx := X.1.1
  have hb := X.1.2.1
  have hown := X.1.2.2.2.1
  have hts := X.1.2.2.2.2
  unfold tw_times at h
  refine lv_iload_n hx hb dX3_times_0 rfl (lv_at hl 1 rfl) ?_
  refine lv_i2l hx hb dX3_times_1 rfl ?_
  refine lv_lconst (v := (0 : Int64)) hx hb dX3_times_2 (by decide) ?_
  refine lv_ldc2 hx hb hown (hts _ q2164) dX3_times_3 ?_
  obtain ⟨r_2, e_1, h⟩ := bo_ex h
  refine r_calli (r_runS (rest := []) X hP (mt_X3_within l G σ ((a1).toInt64) (0 : Int64) (2 : Int64) e_1) (va_cwS 3 hts (lw_S q1880 q1881 q113 q1882) rfl rfl rfl cdX3_within ⟨Nat.le_of_ble_eq_true rfl, Nat.le_of_ble_eq_true rfl⟩) rfl hl.1 rfl (Nat.le_of_ble_eq_true rfl) dX3_times_6 ⟨Nat.le_refl _, Nat.le_refl _⟩) hP (fun H locs hP => ?_)
  refine lv_if_ne (tgt := 14) hx hb dX3_times_9 (by decide) (fun c_3 => ?_) (fun c_3 => ?_)
  · have h := it_f h c_3
    refine lv_aload_n hx hb dX3_times_14 rfl (lv_at hl 0 rfl) ?_
    obtain ⟨r_5, e_4, h⟩ := bo_ex h
    refine r_calli (r_runV (rest := []) X hP 0 tw_c0 lk_3 (mt_X3_isTable l G σ e_4) (cwV 0 hts (lw_V q2012 q2014 qs67 q113 q2015) rfl rfl rfl ⟨rfl, cdX3_isTable⟩ ⟨Nat.le_of_ble_eq_true rfl, Nat.le_of_ble_eq_true rfl⟩) rfl hl.1 rfl (Nat.le_of_ble_eq_true rfl) dX3_times_15 ⟨Nat.le_refl _, Nat.le_refl _⟩) hP (fun H locs hP => ?_)
    refine lv_if_ne (tgt := 24) hx hb dX3_times_18 (by decide) (fun c_6 => ?_) (fun c_6 => ?_)
    · have h := it_f h c_6
      refine lv_aload_n hx hb dX3_times_24 rfl (lv_at hl 0 rfl) ?_
      obtain ⟨σ_8, e_7, h⟩ := bo_ex h
      refine r_callv (r_runV (rest := []) X hP 0 tw_c0 lk_3 (mt_X3_plain l G σ e_7) (cwV 0 hts (lw_V q2004 q2006 qs65 q113 q2007) rfl rfl rfl ⟨rfl, cdX3_plain⟩ ⟨Nat.le_of_ble_eq_true rfl, Nat.le_of_ble_eq_true rfl⟩) rfl hl.1 rfl (Nat.le_of_ble_eq_true rfl) dX3_times_25 ⟨Nat.le_refl _, Nat.le_refl _⟩) hP (fun H locs hP => ?_)
      refine lv_aload_n hx hb dX3_times_28 rfl (lv_at hl 0 rfl) ?_
      refine lv_iconst (v := (-1 : Int32)) hx hb dX3_times_29 (by decide) ?_
      refine r_puti X tw_w hP 0 tw_c0 lk_3 63 (Nat.le_of_ble_eq_true rfl) q1701 tw_f63 rfl (tyX3_ok 63 (by decide)) rfl rfl dX3_times_30 (fun σ_9 H locs e_10 hP => ?_)
      have h := st_k h e_10
      refine lv_iconst (v := (1 : Int32)) hx hb dX3_times_33 (by decide) ?_
      refine lv_istore_n (lv' := [(2, .int (1 : Int32)), (0, .ref (G.2.2.1 0)), (1, .int a1)]) hx hb dX3_times_34 rfl hl (by decide) rfl (fun ls hl => ?_)
      obtain ⟨σ_17, h_18, h⟩ := bo_ex h
      have hE_19 : ∀ (H : Heap) (locs : List Loc) (ls : Array Slot), PS tw_ft G s σ_17 H locs → lv_has ls 3 [(0, .ref (G.2.2.1 0)), (1, .int a1)] → W p l e rm_X3_times s m args below meth c H locs 0 0 Q (F0 m 57 ls []) := by
        intro H locs ls hP hl
        refine lv_aload_n hx hb dX3_times_57 rfl (lv_at hl 0 rfl) ?_
        refine lv_iload_n hx hb dX3_times_58 rfl (lv_at hl 1 rfl) ?_
        obtain ⟨r_21, e_20, h⟩ := bo_ex h
        refine r_calli (r_runV (rest := []) X hP 0 tw_c0 lk_3 (mt_X3_bestTold l G σ_17 a1 e_20) (cwV 1 hts (lw_V q2173 q2175 qs99 q113 q2176) rfl rfl rfl ⟨rfl, cdX3_bestTold⟩ ⟨Nat.le_of_ble_eq_true rfl, Nat.le_of_ble_eq_true rfl⟩) rfl hl.1 rfl (Nat.le_of_ble_eq_true rfl) dX3_times_59 ⟨Nat.le_refl _, Nat.le_refl _⟩) hP (fun H locs hP => ?_)
        exact hret _ _ _ _ _ _ dX3_times_62 rfl (Option.some.inj h) hP
      have hL_16 : ∀ (n : Nat) (w_22 : Int32) (σ_23 : ST) (H : Heap) (locs : List Loc) (ls : Array Slot), wl2 (tw_times_B35 a1) n w_22 σ_23 = some σ_17 → PS tw_ft G s σ_23 H locs → lv_has ls 3 [(0, .ref (G.2.2.1 0)), (1, .int a1), (2, .int w_22)] → W p l e rm_X3_times s m args below meth c H locs 0 0 Q (F0 m 35 ls []) := by
        intro n
        induction n with
        | zero => intro w_22 σ_23 H locs ls h_24; cases h_24
        | succ n ih =>
          intro w_22 σ_23 H locs ls h_24 hP hl
          have h_24 : tw_times_B35 a1 (wl2 (tw_times_B35 a1) n) w_22 σ_23 = some _ := h_24
          generalize wl2 (tw_times_B35 a1) n = rc_25 at h_24 ih
          unfold tw_times_B35 at h_24
          refine lv_iload_n hx hb dX3_times_35 rfl (lv_at hl 2 rfl) ?_
          refine lv_bipush (v := (10 : Int32)) hx hb dX3_times_36 (by decide) ?_
          refine lv_icmp_ge (tgt := 57) hx hb dX3_times_38 (by decide) (fun c_26 => ?_) (fun c_26 => ?_)
          · have h_24 := it_t h_24 c_26
            obtain rfl := Option.some.inj h_24
            exact hE_19 _ _ _ hP (lv_sub hl [0, 1] rfl)
          · have h_24 := it_f h_24 c_26
            refine lv_aload_n hx hb dX3_times_41 rfl (lv_at hl 0 rfl) ?_
            refine lv_iload_n hx hb dX3_times_42 rfl (lv_at hl 2 rfl) ?_
            refine r_puti X tw_w hP 0 tw_c0 lk_3 27 (Nat.le_of_ble_eq_true rfl) q1665 tw_f27 rfl (tyX3_ok 27 (by decide)) rfl rfl dX3_times_43 (fun σ_27 H locs e_28 hP => ?_)
            have h_24 := st_k h_24 e_28
            refine lv_aload_n hx hb dX3_times_46 rfl (lv_at hl 0 rfl) ?_
            refine lv_iload_n hx hb dX3_times_47 rfl (lv_at hl 2 rfl) ?_
            obtain ⟨σ_30, e_29, h_24⟩ := bo_ex h_24
            refine r_callv (r_runV (rest := []) X hP 0 tw_c0 lk_3 (mt_X3_looksAt l G σ_27 w_22 e_29) (cwV 1 hts (lw_V q2165 q2167 qs97 q113 q2168) rfl rfl rfl ⟨rfl, cdX3_looksAt⟩ ⟨Nat.le_of_ble_eq_true rfl, Nat.le_of_ble_eq_true rfl⟩) rfl hl.1 rfl (Nat.le_of_ble_eq_true rfl) dX3_times_48 ⟨Nat.le_refl _, Nat.le_refl _⟩) hP (fun H locs hP => ?_)
            refine lv_iinc (v := (w_22 + (1 : Int32))) (lv' := [(2, .int (w_22 + (1 : Int32))), (0, .ref (G.2.2.1 0)), (1, .int a1)]) hx hb dX3_times_51 hl (k := 2) rfl rfl (by decide) rfl (fun ls hl => ?_)
            refine lv_goto (tgt := 35) hx hb dX3_times_54 (by decide) ?_
            exact ih _ _ _ _ _ h_24 hP (lv_sub hl [1, 2, 0] rfl)
      exact hL_16 _ _ _ _ _ _ h_18 hP (lv_sub hl [1, 2, 0] rfl)
    · have h := it_t h c_6
      refine lv_bipush (v := (-5 : Int32)) hx hb dX3_times_21 (by decide) ?_
      exact hret _ _ _ _ _ _ dX3_times_23 rfl (Option.some.inj h) hP
  · have h := it_t h c_3
    refine lv_iconst (v := (-1 : Int32)) hx hb dX3_times_12 (by decide) ?_
    exact hret _ _ _ _ _ _ dX3_times_13 rfl (Option.some.inj h) hP
def tw_film_B91 (σ : ST) (l1 : Int32) (l2 : Int32) (l3 : Int32) (rc91 : Int32 → Int32 → Option (Int32)) (w4 : Int32) (w5 : Int32) : Option (Int32) :=
  ck l1 6 ((if (lI σ 0 73 l1) ≤ w5 then some (w4) else (if w4 = 0 then some (w4) else ck w5 200 (ck (((60 : Int32) * l1) + w5) 360 (bo (if (lg_cmp (((lI σ 0 39 w5)).toInt64) (lL σ 0 74 (((60 : Int32) * l1) + w5))) = 0 then some ((1 : Int32)) else some ((0 : Int32))) (fun (x_21 : Int32) => (rc91 x_21 (w5 + (1 : Int32)))))))))
def tw_film_B53 (l1 : Int32) (rc53 : Int32 → Int32 → ST → Option (Int32 × ST)) (w2 : Int32) (w3 : Int32) (σ : ST) : Option (Int32 × ST) :=
  (if (6 : Int32) ≤ w3 then some (w2, σ) else st_ (pI σ 0 26 w3) (fun (σ_12 : ST) => bo (tw_meets σ_12) (fun (σ_15 : ST) => ck l1 6 (bo (if (gI σ_15 0 30) < (lI σ_15 0 73 l1) then some ((0 : Int32)) else some ((1 : Int32))) (fun (x_16 : Int32) => bo (wl2 (tw_film_B91 σ_15 l1 w2 w3) FU x_16 (0 : Int32)) (fun (o_26 : Int32) => bo (if o_26 = 0 then some ((0 : Int32)) else some (((1 : Int32) <<< (w3 &&& 31)))) (fun (x_29 : Int32) => (rc53 (w2 ||| x_29) (w3 + (1 : Int32)) σ_15))))))))
def tw_film (σ : ST) (a1 : Int32) : Option (Int32 × ST) :=
  bo (tw_isShelf a1) (fun (r_2 : Int32) => (if r_2 = 0 then some ((-1 : Int32), σ) else ck a1 6 ((if 0 ≤ (lI σ 0 72 a1) then ck a1 6 ((if (lI σ 0 72 a1) = (50 : Int32) then bo (tw_isTable σ) (fun (r_7 : Int32) => (if r_7 = 0 then some ((-5 : Int32), σ) else bo (tw_plain σ) (fun (σ_10 : ST) => bo2 (wl3 (tw_film_B53 a1) FU (0 : Int32) (0 : Int32) σ_10) (fun (o_45 : Int32) (σ_46 : ST) => some (o_45, σ_46))))) else some ((-12 : Int32), σ))) else some ((-11 : Int32), σ)))))
abbrev rm_X3_film : Room := rmf 58 1332
set_option maxHeartbeats 4000000 in
set_option maxRecDepth 100000 in
theorem mt_X3_film (l : Launch) (G : GT) (σ : ST) (a1 : Int32) {r : Int32} {u : ST} (h : tw_film σ a1 = some (r, u)) : CI l tw_ft G yX3_film (ws_ yX3_film cX3_film 6 (some .int)) rm_X3_film 0 0 [.ref (G.2.2.1 0), .int a1] σ (r, u) := by
  refine m_enterI (by decide) rfl (lv := [(0, .ref (G.2.2.1 0)), (1, .int a1)]) rfl ?_
  intro p e s m args below meth c H locs ls Q X hret hP hl
  have hx := X.1.1
  have hb := X.1.2.1
  have hown := X.1.2.2.2.1
  have hts := X.1.2.2.2.2
  unfold tw_film at h
  refine lv_iload_n hx hb dX3_film_0 rfl (lv_at hl 1 rfl) ?_
  obtain ⟨r_2, e_1, h⟩ := bo_ex h
  refine r_calli (r_runS (rest := []) X hP (mt_X3_isShelf l G σ a1 e_1) (va_cwS 1 hts (lw_S q1914 q1915 q113 q1916) rfl rfl rfl cdX3_isShelf ⟨Nat.le_of_ble_eq_true rfl, Nat.le_of_ble_eq_true rfl⟩) rfl hl.1 rfl (Nat.le_of_ble_eq_true rfl) dX3_film_1 ⟨Nat.le_refl _, Nat.le_refl _⟩) hP (fun H locs hP => ?_)
  refine lv_if_ne (tgt := 9) hx hb dX3_film_4 (by decide) (fun c_3 => ?_) (fun c_3 => ?_)
  · have h := it_f h c_3
    refine lv_aload_n hx hb dX3_film_9 rfl (lv_at hl 0 rfl) ?_
    refine r_geta X hP 0 tw_c0 lk_3 72 (Nat.le_of_ble_eq_true rfl) q1710 tw_f72 dX3_film_10 ?_
    refine lv_iload_n hx hb dX3_film_13 rfl (lv_at hl 1 rfl) ?_
    refine r_iald X hP 41 tw_c41 (ck_in h) dX3_film_14 ?_
    have h := ck_k h
    refine lv_if_ge (tgt := 21) hx hb dX3_film_15 (by decide) (fun c_4 => ?_) (fun c_4 => ?_)
    · have h := it_t h c_4
      refine lv_aload_n hx hb dX3_film_21 rfl (lv_at hl 0 rfl) ?_
      refine r_geta X hP 0 tw_c0 lk_3 72 (Nat.le_of_ble_eq_true rfl) q1710 tw_f72 dX3_film_22 ?_
      refine lv_iload_n hx hb dX3_film_25 rfl (lv_at hl 1 rfl) ?_
      refine r_iald X hP 41 tw_c41 (ck_in h) dX3_film_26 ?_
      have h := ck_k h
      refine lv_bipush (v := (50 : Int32)) hx hb dX3_film_27 (by decide) ?_
      refine lv_icmp_eq (tgt := 35) hx hb dX3_film_29 (by decide) (fun c_5 => ?_) (fun c_5 => ?_)
      · have h := it_t h c_5
        refine lv_aload_n hx hb dX3_film_35 rfl (lv_at hl 0 rfl) ?_
        obtain ⟨r_7, e_6, h⟩ := bo_ex h
        refine r_calli (r_runV (rest := []) X hP 0 tw_c0 lk_3 (mt_X3_isTable l G σ e_6) (cwV 0 hts (lw_V q2012 q2014 qs67 q113 q2015) rfl rfl rfl ⟨rfl, cdX3_isTable⟩ ⟨Nat.le_of_ble_eq_true rfl, Nat.le_of_ble_eq_true rfl⟩) rfl hl.1 rfl (Nat.le_of_ble_eq_true rfl) dX3_film_36 ⟨Nat.le_refl _, Nat.le_refl _⟩) hP (fun H locs hP => ?_)
        refine lv_if_ne (tgt := 45) hx hb dX3_film_39 (by decide) (fun c_8 => ?_) (fun c_8 => ?_)
        · have h := it_f h c_8
          refine lv_aload_n hx hb dX3_film_45 rfl (lv_at hl 0 rfl) ?_
          obtain ⟨σ_10, e_9, h⟩ := bo_ex h
          refine r_callv (r_runV (rest := []) X hP 0 tw_c0 lk_3 (mt_X3_plain l G σ e_9) (cwV 0 hts (lw_V q2004 q2006 qs65 q113 q2007) rfl rfl rfl ⟨rfl, cdX3_plain⟩ ⟨Nat.le_of_ble_eq_true rfl, Nat.le_of_ble_eq_true rfl⟩) rfl hl.1 rfl (Nat.le_of_ble_eq_true rfl) dX3_film_46 ⟨Nat.le_refl _, Nat.le_refl _⟩) hP (fun H locs hP => ?_)
          refine lv_iconst (v := (0 : Int32)) hx hb dX3_film_49 (by decide) ?_
          refine lv_istore_n (lv' := [(2, .int (0 : Int32)), (0, .ref (G.2.2.1 0)), (1, .int a1)]) hx hb dX3_film_50 rfl hl (by decide) rfl (fun ls hl => ?_)
          refine lv_iconst (v := (0 : Int32)) hx hb dX3_film_51 (by decide) ?_
          refine lv_istore_n (lv' := [(3, .int (0 : Int32)), (2, .int (0 : Int32)), (0, .ref (G.2.2.1 0)), (1, .int a1)]) hx hb dX3_film_52 rfl hl (by decide) rfl (fun ls hl => ?_)
          obtain ⟨o_45, σ_46, h_47, h⟩ := bo2_ex h
          have hE_48 : ∀ (H : Heap) (locs : List Loc) (ls : Array Slot), PS tw_ft G s σ_46 H locs → lv_has ls 6 [(2, .int o_45)] → W p l e rm_X3_film s m args below meth c H locs 0 0 Q (F0 m 165 ls []) := by
            intro H locs ls hP hl
            refine lv_iload_n hx hb dX3_film_165 rfl (lv_at hl 0 rfl) ?_
            exact hret _ _ _ _ _ _ dX3_film_166 rfl (Option.some.inj h) hP
          have hL_44 : ∀ (n : Nat) (w_49 : Int32) (w_50 : Int32) (σ_51 : ST) (H : Heap) (locs : List Loc) (ls : Array Slot), wl3 (tw_film_B53 a1) n w_49 w_50 σ_51 = some (o_45, σ_46) → PS tw_ft G s σ_51 H locs → lv_has ls 6 [(0, .ref (G.2.2.1 0)), (1, .int a1), (2, .int w_49), (3, .int w_50)] → W p l e rm_X3_film s m args below meth c H locs 0 0 Q (F0 m 53 ls []) := by
            intro n
            induction n with
            | zero => intro w_49 w_50 σ_51 H locs ls h_52; cases h_52
            | succ n ih =>
              intro w_49 w_50 σ_51 H locs ls h_52 hP hl
              have h_52 : tw_film_B53 a1 (wl3 (tw_film_B53 a1) n) w_49 w_50 σ_51 = some _ := h_52
              generalize wl3 (tw_film_B53 a1) n = rc_53 at h_52 ih
              unfold tw_film_B53 at h_52
              refine lv_iload_n hx hb dX3_film_53 rfl (lv_at hl 3 rfl) ?_
              refine lv_bipush (v := (6 : Int32)) hx hb dX3_film_54 (by decide) ?_
              refine lv_icmp_ge (tgt := 165) hx hb dX3_film_56 (by decide) (fun c_54 => ?_) (fun c_54 => ?_)
              · have h_52 := it_t h_52 c_54
                obtain ⟨rfl, rfl⟩ := so2 h_52
                exact hE_48 _ _ _ hP (lv_sub hl [2] rfl)
              · have h_52 := it_f h_52 c_54
                refine lv_aload_n hx hb dX3_film_59 rfl (lv_at hl 0 rfl) ?_
                refine lv_iload_n hx hb dX3_film_60 rfl (lv_at hl 3 rfl) ?_
                refine r_puti X tw_w hP 0 tw_c0 lk_3 26 (Nat.le_of_ble_eq_true rfl) q1664 tw_f26 rfl (tyX3_ok 26 (by decide)) rfl rfl dX3_film_61 (fun σ_55 H locs e_56 hP => ?_)
                have h_52 := st_k h_52 e_56
                refine lv_aload_n hx hb dX3_film_64 rfl (lv_at hl 0 rfl) ?_
                obtain ⟨σ_58, e_57, h_52⟩ := bo_ex h_52
                refine r_callv (r_runV (rest := []) X hP 0 tw_c0 lk_3 (mt_X3_meets l G σ_55 e_57) (cwV 0 hts (lw_V q2016 q2018 qs68 q113 q2019) rfl rfl rfl ⟨rfl, cdX3_meets⟩ ⟨Nat.le_of_ble_eq_true rfl, Nat.le_of_ble_eq_true rfl⟩) rfl hl.1 rfl (Nat.le_of_ble_eq_true rfl) dX3_film_65 ⟨Nat.le_refl _, Nat.le_refl _⟩) hP (fun H locs hP => ?_)
                refine lv_aload_n hx hb dX3_film_68 rfl (lv_at hl 0 rfl) ?_
                refine r_geti X hP 0 tw_c0 lk_3 30 (Nat.le_of_ble_eq_true rfl) q1668 tw_f30 dX3_film_69 ?_
                refine lv_aload_n hx hb dX3_film_72 rfl (lv_at hl 0 rfl) ?_
                refine r_geta X hP 0 tw_c0 lk_3 73 (Nat.le_of_ble_eq_true rfl) q1711 tw_f73 dX3_film_73 ?_
                refine lv_iload_n hx hb dX3_film_76 rfl (lv_at hl 1 rfl) ?_
                refine r_iald X hP 42 tw_c42 (ck_in h_52) dX3_film_77 ?_
                have h_52 := ck_k h_52
                obtain ⟨x_59, h_60, h_52⟩ := bo_ex h_52
                have hJ_61 : ∀ (H : Heap) (locs : List Loc) (ls : Array Slot), PS tw_ft G s σ_58 H locs → lv_has ls 6 [(0, .ref (G.2.2.1 0)), (1, .int a1), (2, .int w_49), (3, .int w_50)] → W p l e rm_X3_film s m args below meth c H locs 0 0 Q (F0 m 86 ls [.int x_59]) := by
                  intro H locs ls hP hl
                  refine lv_istore (lv' := [(4, .int x_59), (0, .ref (G.2.2.1 0)), (1, .int a1), (2, .int w_49), (3, .int w_50)]) hx hb dX3_film_86 hl (by decide) rfl (fun ls hl => ?_)
                  refine lv_iconst (v := (0 : Int32)) hx hb dX3_film_88 (by decide) ?_
                  refine lv_istore (lv' := [(5, .int (0 : Int32)), (4, .int x_59), (0, .ref (G.2.2.1 0)), (1, .int a1), (2, .int w_49), (3, .int w_50)]) hx hb dX3_film_89 hl (by decide) rfl (fun ls hl => ?_)
                  obtain ⟨o_63, h_64, h_52⟩ := bo_ex h_52
                  have hE_65 : ∀ (H : Heap) (locs : List Loc) (ls : Array Slot), PS tw_ft G s σ_58 H locs → lv_has ls 6 [(0, .ref (G.2.2.1 0)), (1, .int a1), (2, .int w_49), (3, .int w_50), (4, .int o_63)] → W p l e rm_X3_film s m args below meth c H locs 0 0 Q (F0 m 144 ls []) := by
                    intro H locs ls hP hl
                    refine lv_iload_n hx hb dX3_film_144 rfl (lv_at hl 2 rfl) ?_
                    refine lv_iload hx hb dX3_film_145 (lv_at hl 4 rfl) ?_
                    obtain ⟨x_66, h_67, h_52⟩ := bo_ex h_52
                    have hJ_68 : ∀ (H : Heap) (locs : List Loc) (ls : Array Slot), PS tw_ft G s σ_58 H locs → lv_has ls 6 [(0, .ref (G.2.2.1 0)), (1, .int a1), (3, .int w_50)] → W p l e rm_X3_film s m args below meth c H locs 0 0 Q (F0 m 157 ls [.int x_66, .int w_49]) := by
                      intro H locs ls hP hl
                      refine lv_ior hx hb dX3_film_157 ?_
                      refine lv_istore_n (lv' := [(2, .int (w_49 ||| x_66)), (0, .ref (G.2.2.1 0)), (1, .int a1), (3, .int w_50)]) hx hb dX3_film_158 rfl hl (by decide) rfl (fun ls hl => ?_)
                      refine lv_iinc (v := (w_50 + (1 : Int32))) (lv' := [(3, .int (w_50 + (1 : Int32))), (2, .int (w_49 ||| x_66)), (0, .ref (G.2.2.1 0)), (1, .int a1)]) hx hb dX3_film_159 hl (k := 3) rfl rfl (by decide) rfl (fun ls hl => ?_)
                      refine lv_goto (tgt := 53) hx hb dX3_film_162 (by decide) ?_
                      exact ih _ _ _ _ _ _ h_52 hP (lv_sub hl [2, 3, 1, 0] rfl)
                    refine lv_if_eq (tgt := 156) hx hb dX3_film_147 (by decide) (fun c_69 => ?_) (fun c_69 => ?_)
                    · have h_67 := it_t h_67 c_69
                      refine lv_iconst (v := (0 : Int32)) hx hb dX3_film_156 (by decide) ?_
                      obtain rfl := Option.some.inj h_67
                      exact hJ_68 _ _ _ hP (lv_sub hl [0, 1, 3] rfl)
                    · have h_67 := it_f h_67 c_69
                      refine lv_iconst (v := (1 : Int32)) hx hb dX3_film_150 (by decide) ?_
                      refine lv_iload_n hx hb dX3_film_151 rfl (lv_at hl 3 rfl) ?_
                      refine lv_ishl hx hb dX3_film_152 ?_
                      refine lv_goto (tgt := 157) hx hb dX3_film_153 (by decide) ?_
                      obtain rfl := Option.some.inj h_67
                      exact hJ_68 _ _ _ hP (lv_sub hl [0, 1, 3] rfl)
                  have hL_62 : ∀ (n : Nat) (w_70 : Int32) (w_71 : Int32) (H : Heap) (locs : List Loc) (ls : Array Slot), wl2 (tw_film_B91 σ_58 a1 w_49 w_50) n w_70 w_71 = some o_63 → PS tw_ft G s σ_58 H locs → lv_has ls 6 [(0, .ref (G.2.2.1 0)), (1, .int a1), (2, .int w_49), (3, .int w_50), (4, .int w_70), (5, .int w_71)] → W p l e rm_X3_film s m args below meth c H locs 0 0 Q (F0 m 91 ls []) := by
                    intro n
                    induction n with
                    | zero => intro w_70 w_71 H locs ls h_72; cases h_72
                    | succ n ih =>
                      intro w_70 w_71 H locs ls h_72 hP hl
                      have h_72 : tw_film_B91 σ_58 a1 w_49 w_50 (wl2 (tw_film_B91 σ_58 a1 w_49 w_50) n) w_70 w_71 = some _ := h_72
                      generalize wl2 (tw_film_B91 σ_58 a1 w_49 w_50) n = rc_73 at h_72 ih
                      unfold tw_film_B91 at h_72
                      refine lv_iload hx hb dX3_film_91 (lv_at hl 5 rfl) ?_
                      refine lv_aload_n hx hb dX3_film_93 rfl (lv_at hl 0 rfl) ?_
                      refine r_geta X hP 0 tw_c0 lk_3 73 (Nat.le_of_ble_eq_true rfl) q1711 tw_f73 dX3_film_94 ?_
                      refine lv_iload_n hx hb dX3_film_97 rfl (lv_at hl 1 rfl) ?_
                      refine r_iald X hP 42 tw_c42 (ck_in h_72) dX3_film_98 ?_
                      have h_72 := ck_k h_72
                      refine lv_icmp_ge (tgt := 144) hx hb dX3_film_99 (by decide) (fun c_74 => ?_) (fun c_74 => ?_)
                      · have h_72 := it_t h_72 c_74
                        obtain rfl := Option.some.inj h_72
                        exact hE_65 _ _ _ hP (lv_sub hl [0, 1, 2, 3, 4] rfl)
                      · have h_72 := it_f h_72 c_74
                        refine lv_iload hx hb dX3_film_102 (lv_at hl 4 rfl) ?_
                        refine lv_if_eq (tgt := 144) hx hb dX3_film_104 (by decide) (fun c_75 => ?_) (fun c_75 => ?_)
                        · have h_72 := it_t h_72 c_75
                          obtain rfl := Option.some.inj h_72
                          exact hE_65 _ _ _ hP (lv_sub hl [0, 1, 2, 3, 4] rfl)
                        · have h_72 := it_f h_72 c_75
                          refine lv_aload_n hx hb dX3_film_107 rfl (lv_at hl 0 rfl) ?_
                          refine r_geta X hP 0 tw_c0 lk_3 39 (Nat.le_of_ble_eq_true rfl) q1677 tw_f39 dX3_film_108 ?_
                          refine lv_iload hx hb dX3_film_111 (lv_at hl 5 rfl) ?_
                          refine r_iald X hP 19 tw_c19 (ck_in h_72) dX3_film_113 ?_
                          have h_72 := ck_k h_72
                          refine lv_i2l hx hb dX3_film_114 rfl ?_
                          refine lv_aload_n hx hb dX3_film_115 rfl (lv_at hl 0 rfl) ?_
                          refine r_geta X hP 0 tw_c0 lk_3 74 (Nat.le_of_ble_eq_true rfl) q1712 tw_f74 dX3_film_116 ?_
                          refine lv_bipush (v := (60 : Int32)) hx hb dX3_film_119 (by decide) ?_
                          refine lv_iload_n hx hb dX3_film_121 rfl (lv_at hl 1 rfl) ?_
                          refine lv_imul hx hb dX3_film_122 ?_
                          refine lv_iload hx hb dX3_film_123 (lv_at hl 5 rfl) ?_
                          refine lv_iadd hx hb dX3_film_125 ?_
                          refine r_lald X hP 43 tw_c43 (ck_in h_72) dX3_film_126 ?_
                          have h_72 := ck_k h_72
                          refine W.lcmp hx hb dX3_film_127 ?_
                          obtain ⟨x_76, h_77, h_72⟩ := bo_ex h_72
                          have hJ_78 : ∀ (H : Heap) (locs : List Loc) (ls : Array Slot), PS tw_ft G s σ_58 H locs → lv_has ls 6 [(0, .ref (G.2.2.1 0)), (1, .int a1), (2, .int w_49), (3, .int w_50), (5, .int w_71)] → W p l e rm_X3_film s m args below meth c H locs 0 0 Q (F0 m 136 ls [.int x_76]) := by
                            intro H locs ls hP hl
                            refine lv_istore (lv' := [(4, .int x_76), (0, .ref (G.2.2.1 0)), (1, .int a1), (2, .int w_49), (3, .int w_50), (5, .int w_71)]) hx hb dX3_film_136 hl (by decide) rfl (fun ls hl => ?_)
                            refine lv_iinc (v := (w_71 + (1 : Int32))) (lv' := [(5, .int (w_71 + (1 : Int32))), (4, .int x_76), (0, .ref (G.2.2.1 0)), (1, .int a1), (2, .int w_49), (3, .int w_50)]) hx hb dX3_film_138 hl (k := 5) rfl rfl (by decide) rfl (fun ls hl => ?_)
                            refine lv_goto (tgt := 91) hx hb dX3_film_141 (by decide) ?_
                            exact ih _ _ _ _ _ h_72 hP (lv_sub hl [2, 3, 4, 5, 1, 0] rfl)
                          refine lv_if_ne (tgt := 135) hx hb dX3_film_128 (by decide) (fun c_79 => ?_) (fun c_79 => ?_)
                          · have h_77 := it_f h_77 c_79
                            refine lv_iconst (v := (0 : Int32)) hx hb dX3_film_135 (by decide) ?_
                            obtain rfl := Option.some.inj h_77
                            exact hJ_78 _ _ _ hP (lv_sub hl [0, 1, 2, 3, 5] rfl)
                          · have h_77 := it_t h_77 c_79
                            refine lv_iconst (v := (1 : Int32)) hx hb dX3_film_131 (by decide) ?_
                            refine lv_goto (tgt := 136) hx hb dX3_film_132 (by decide) ?_
                            obtain rfl := Option.some.inj h_77
                            exact hJ_78 _ _ _ hP (lv_sub hl [0, 1, 2, 3, 5] rfl)
                  exact hL_62 _ _ _ _ _ _ h_64 hP (lv_sub hl [2, 3, 4, 5, 1, 0] rfl)
                refine lv_icmp_lt (tgt := 85) hx hb dX3_film_78 (by decide) (fun c_80 => ?_) (fun c_80 => ?_)
                · have h_60 := it_t h_60 c_80
                  refine lv_iconst (v := (0 : Int32)) hx hb dX3_film_85 (by decide) ?_
                  obtain rfl := Option.some.inj h_60
                  exact hJ_61 _ _ _ hP (lv_sub hl [0, 1, 2, 3] rfl)
                · have h_60 := it_f h_60 c_80
                  refine lv_iconst (v := (1 : Int32)) hx hb dX3_film_81 (by decide) ?_
                  refine lv_goto (tgt := 86) hx hb dX3_film_82 (by decide) ?_
                  obtain rfl := Option.some.inj h_60
                  exact hJ_61 _ _ _ hP (lv_sub hl [0, 1, 2, 3] rfl)
          exact hL_44 _ _ _ _ _ _ _ h_47 hP (lv_sub hl [2, 3, 1, 0] rfl)
        · have h := it_t h c_8
          refine lv_bipush (v := (-5 : Int32)) hx hb dX3_film_42 (by decide) ?_
          exact hret _ _ _ _ _ _ dX3_film_44 rfl (Option.some.inj h) hP
      · have h := it_f h c_5
        refine lv_bipush (v := (-12 : Int32)) hx hb dX3_film_32 (by decide) ?_
        exact hret _ _ _ _ _ _ dX3_film_34 rfl (Option.some.inj h) hP
    · have h := it_f h c_4
      refine lv_bipush (v := (-11 : Int32)) hx hb dX3_film_18 (by decide) ?_
      exact hret _ _ _ _ _ _ dX3_film_20 rfl (Option.some.inj h) hP
  · have h := it_t h c_3
    refine lv_iconst (v := (-1 : Int32)) hx hb dX3_film_7 (by decide) ?_
    exact hret _ _ _ _ _ _ dX3_film_8 rfl (Option.some.inj h) hP
def tw_wish_B24 (σ : ST) (l1 : Int32) (l2 : Int32) (rc24 : Int32 → Int32 → Option (Int32)) (w3 : Int32) (w4 : Int32) : Option (Int32) :=
  (if (gI σ 0 9) ≤ w4 then some (w3) else ck w4 20 (bo (if (lI σ 0 10 w4) = l2 then bo (tw_knows σ l1 w4) (fun (r_13 : Int32) => (if r_13 = 0 then some ((0 : Int32)) else some ((1 : Int32)))) else some ((0 : Int32))) (fun (x_8 : Int32) => (rc24 (w3 + x_8) (w4 + (1 : Int32))))))
def tw_wish (σ : ST) (a1 : Int32) (a2 : Int32) : Option (Int32 × ST) :=
  bo (tw_isPerson σ a1) (fun (r_2 : Int32) => (if r_2 = 0 then some ((-2000000000 : Int32), σ) else bo (tw_isThing σ a2) (fun (r_5 : Int32) => (if r_5 = 0 then some ((-2000000000 : Int32), σ) else bo (wl2 (tw_wish_B24 σ a1 a2) FU (0 : Int32) (0 : Int32)) (fun (o_16 : Int32) => bo2 (tw_wishOf σ a1 a2 o_16 (0 : Int32) (0 : Int32) (0 : Int32)) (fun (r_20 : Int32) (σ_21 : ST) => some (r_20, σ_21)))))))
abbrev rm_X3_wish : Room := rmf 56 1288
set_option maxHeartbeats 4000000 in
set_option maxRecDepth 100000 in
theorem mt_X3_wish (l : Launch) (G : GT) (σ : ST) (a1 : Int32) (a2 : Int32) {r : Int32} {u : ST} (h : tw_wish σ a1 a2 = some (r, u)) : CI l tw_ft G yX3_wish (ws_ yX3_wish cX3_wish 5 (some .int)) rm_X3_wish 0 0 [.ref (G.2.2.1 0), .int a1, .int a2] σ (r, u) := by
  refine m_enterI (by decide) rfl (lv := [(0, .ref (G.2.2.1 0)), (1, .int a1), (2, .int a2)]) rfl ?_
  intro p e s m args below meth c H locs ls Q X hret hP hl
  have hx := X.1.1
  have hb := X.1.2.1
  have hown := X.1.2.2.2.1
  have hts := X.1.2.2.2.2
  unfold tw_wish at h
  refine lv_aload_n hx hb dX3_wish_0 rfl (lv_at hl 0 rfl) ?_
  refine lv_iload_n hx hb dX3_wish_1 rfl (lv_at hl 1 rfl) ?_
  obtain ⟨r_2, e_1, h⟩ := bo_ex h
  refine r_calli (r_runV (rest := []) X hP 0 tw_c0 lk_3 (mt_X3_isPerson l G σ a1 e_1) (cwV 1 hts (lw_V q1927 q1929 qs51 q113 q1930) rfl rfl rfl ⟨rfl, cdX3_isPerson⟩ ⟨Nat.le_of_ble_eq_true rfl, Nat.le_of_ble_eq_true rfl⟩) rfl hl.1 rfl (Nat.le_of_ble_eq_true rfl) dX3_wish_2 ⟨Nat.le_refl _, Nat.le_refl _⟩) hP (fun H locs hP => ?_)
  refine lv_if_eq (tgt := 16) hx hb dX3_wish_5 (by decide) (fun c_3 => ?_) (fun c_3 => ?_)
  · have h := it_t h c_3
    refine lv_ldc hx hb hown (hts _ q1935) dX3_wish_16 ?_
    exact hret _ _ _ _ _ _ dX3_wish_18 rfl (Option.some.inj h) hP
  · have h := it_f h c_3
    refine lv_aload_n hx hb dX3_wish_8 rfl (lv_at hl 0 rfl) ?_
    refine lv_iload_n hx hb dX3_wish_9 rfl (lv_at hl 2 rfl) ?_
    obtain ⟨r_5, e_4, h⟩ := bo_ex h
    refine r_calli (r_runV (rest := []) X hP 0 tw_c0 lk_3 (mt_X3_isThing l G σ a2 e_4) (cwV 1 hts (lw_V q1936 q1938 qs53 q113 q1939) rfl rfl rfl ⟨rfl, cdX3_isThing⟩ ⟨Nat.le_of_ble_eq_true rfl, Nat.le_of_ble_eq_true rfl⟩) rfl hl.1 rfl (Nat.le_of_ble_eq_true rfl) dX3_wish_10 ⟨Nat.le_refl _, Nat.le_refl _⟩) hP (fun H locs hP => ?_)
    refine lv_if_ne (tgt := 19) hx hb dX3_wish_13 (by decide) (fun c_6 => ?_) (fun c_6 => ?_)
    · have h := it_f h c_6
      refine lv_iconst (v := (0 : Int32)) hx hb dX3_wish_19 (by decide) ?_
      refine lv_istore_n (lv' := [(3, .int (0 : Int32)), (0, .ref (G.2.2.1 0)), (1, .int a1), (2, .int a2)]) hx hb dX3_wish_20 rfl hl (by decide) rfl (fun ls hl => ?_)
      refine lv_iconst (v := (0 : Int32)) hx hb dX3_wish_21 (by decide) ?_
      refine lv_istore (lv' := [(4, .int (0 : Int32)), (3, .int (0 : Int32)), (0, .ref (G.2.2.1 0)), (1, .int a1), (2, .int a2)]) hx hb dX3_wish_22 hl (by decide) rfl (fun ls hl => ?_)
      obtain ⟨o_16, h_17, h⟩ := bo_ex h
      have hE_18 : ∀ (H : Heap) (locs : List Loc) (ls : Array Slot), PS tw_ft G s σ H locs → lv_has ls 5 [(0, .ref (G.2.2.1 0)), (1, .int a1), (2, .int a2), (3, .int o_16)] → W p l e rm_X3_wish s m args below meth c H locs 0 0 Q (F0 m 68 ls []) := by
        intro H locs ls hP hl
        refine lv_aload_n hx hb dX3_wish_68 rfl (lv_at hl 0 rfl) ?_
        refine lv_iload_n hx hb dX3_wish_69 rfl (lv_at hl 1 rfl) ?_
        refine lv_iload_n hx hb dX3_wish_70 rfl (lv_at hl 2 rfl) ?_
        refine lv_iload_n hx hb dX3_wish_71 rfl (lv_at hl 3 rfl) ?_
        refine lv_iconst (v := (0 : Int32)) hx hb dX3_wish_72 (by decide) ?_
        refine lv_iconst (v := (0 : Int32)) hx hb dX3_wish_73 (by decide) ?_
        refine lv_iconst (v := (0 : Int32)) hx hb dX3_wish_74 (by decide) ?_
        obtain ⟨r_20, σ_21, e_19, h⟩ := bo2_ex h
        refine r_calli (r_runV (rest := []) X hP 0 tw_c0 lk_3 (mt_X3_wishOf l G σ a1 a2 o_16 (0 : Int32) (0 : Int32) (0 : Int32) e_19) (cwV 6 hts (lw_V q2044 q2046 qs75 q113 q2047) rfl rfl rfl ⟨rfl, cdX3_wishOf⟩ ⟨Nat.le_of_ble_eq_true rfl, Nat.le_of_ble_eq_true rfl⟩) rfl hl.1 rfl (Nat.le_of_ble_eq_true rfl) dX3_wish_75 ⟨Nat.le_refl _, Nat.le_refl _⟩) hP (fun H locs hP => ?_)
        exact hret _ _ _ _ _ _ dX3_wish_78 rfl (Option.some.inj h) hP
      have hL_15 : ∀ (n : Nat) (w_22 : Int32) (w_23 : Int32) (H : Heap) (locs : List Loc) (ls : Array Slot), wl2 (tw_wish_B24 σ a1 a2) n w_22 w_23 = some o_16 → PS tw_ft G s σ H locs → lv_has ls 5 [(0, .ref (G.2.2.1 0)), (1, .int a1), (2, .int a2), (3, .int w_22), (4, .int w_23)] → W p l e rm_X3_wish s m args below meth c H locs 0 0 Q (F0 m 24 ls []) := by
        intro n
        induction n with
        | zero => intro w_22 w_23 H locs ls h_24; cases h_24
        | succ n ih =>
          intro w_22 w_23 H locs ls h_24 hP hl
          have h_24 : tw_wish_B24 σ a1 a2 (wl2 (tw_wish_B24 σ a1 a2) n) w_22 w_23 = some _ := h_24
          generalize wl2 (tw_wish_B24 σ a1 a2) n = rc_25 at h_24 ih
          unfold tw_wish_B24 at h_24
          refine lv_iload hx hb dX3_wish_24 (lv_at hl 4 rfl) ?_
          refine lv_aload_n hx hb dX3_wish_26 rfl (lv_at hl 0 rfl) ?_
          refine r_geti X hP 0 tw_c0 lk_3 9 (Nat.le_of_ble_eq_true rfl) q1647 tw_f9 dX3_wish_27 ?_
          refine lv_icmp_ge (tgt := 68) hx hb dX3_wish_30 (by decide) (fun c_26 => ?_) (fun c_26 => ?_)
          · have h_24 := it_t h_24 c_26
            obtain rfl := Option.some.inj h_24
            exact hE_18 _ _ _ hP (lv_sub hl [0, 1, 2, 3] rfl)
          · have h_24 := it_f h_24 c_26
            refine lv_iload_n hx hb dX3_wish_33 rfl (lv_at hl 3 rfl) ?_
            refine lv_aload_n hx hb dX3_wish_34 rfl (lv_at hl 0 rfl) ?_
            refine r_geta X hP 0 tw_c0 lk_3 10 (Nat.le_of_ble_eq_true rfl) q1648 tw_f10 dX3_wish_35 ?_
            refine lv_iload hx hb dX3_wish_38 (lv_at hl 4 rfl) ?_
            refine r_iald X hP 6 tw_c6 (ck_in h_24) dX3_wish_40 ?_
            have h_24 := ck_k h_24
            refine lv_iload_n hx hb dX3_wish_41 rfl (lv_at hl 2 rfl) ?_
            obtain ⟨x_27, h_28, h_24⟩ := bo_ex h_24
            have hJ_29 : ∀ (H : Heap) (locs : List Loc) (ls : Array Slot), PS tw_ft G s σ H locs → lv_has ls 5 [(0, .ref (G.2.2.1 0)), (1, .int a1), (2, .int a2), (4, .int w_23)] → W p l e rm_X3_wish s m args below meth c H locs 0 0 Q (F0 m 60 ls [.int x_27, .int w_22]) := by
              intro H locs ls hP hl
              refine lv_iadd hx hb dX3_wish_60 ?_
              refine lv_istore_n (lv' := [(3, .int (w_22 + x_27)), (0, .ref (G.2.2.1 0)), (1, .int a1), (2, .int a2), (4, .int w_23)]) hx hb dX3_wish_61 rfl hl (by decide) rfl (fun ls hl => ?_)
              refine lv_iinc (v := (w_23 + (1 : Int32))) (lv' := [(4, .int (w_23 + (1 : Int32))), (3, .int (w_22 + x_27)), (0, .ref (G.2.2.1 0)), (1, .int a1), (2, .int a2)]) hx hb dX3_wish_62 hl (k := 4) rfl rfl (by decide) rfl (fun ls hl => ?_)
              refine lv_goto (tgt := 24) hx hb dX3_wish_65 (by decide) ?_
              exact ih _ _ _ _ _ h_24 hP (lv_sub hl [2, 3, 4, 1, 0] rfl)
            refine lv_icmp_ne (tgt := 59) hx hb dX3_wish_42 (by decide) (fun c_30 => ?_) (fun c_30 => ?_)
            · have h_28 := it_f h_28 c_30
              refine lv_iconst (v := (0 : Int32)) hx hb dX3_wish_59 (by decide) ?_
              obtain rfl := Option.some.inj h_28
              exact hJ_29 _ _ _ hP (lv_sub hl [0, 1, 2, 4] rfl)
            · have h_28 := it_t h_28 c_30
              refine lv_aload_n hx hb dX3_wish_45 rfl (lv_at hl 0 rfl) ?_
              refine lv_iload_n hx hb dX3_wish_46 rfl (lv_at hl 1 rfl) ?_
              refine lv_iload hx hb dX3_wish_47 (lv_at hl 4 rfl) ?_
              obtain ⟨r_32, e_31, h_28⟩ := bo_ex h_28
              refine r_calli (r_runV (rest := [.int w_22]) X hP 0 tw_c0 lk_3 (mt_X3_knows l G σ a1 w_23 e_31) (cwV 2 hts (lw_V q2036 q2038 qs73 q113 q2039) rfl rfl rfl ⟨rfl, cdX3_knows⟩ ⟨Nat.le_of_ble_eq_true rfl, Nat.le_of_ble_eq_true rfl⟩) rfl hl.1 rfl (Nat.le_of_ble_eq_true rfl) dX3_wish_49 ⟨Nat.le_refl _, Nat.le_refl _⟩) hP (fun H locs hP => ?_)
              refine lv_if_eq (tgt := 59) hx hb dX3_wish_52 (by decide) (fun c_33 => ?_) (fun c_33 => ?_)
              · have h_28 := it_t h_28 c_33
                refine lv_iconst (v := (0 : Int32)) hx hb dX3_wish_59 (by decide) ?_
                obtain rfl := Option.some.inj h_28
                exact hJ_29 _ _ _ hP (lv_sub hl [0, 1, 2, 4] rfl)
              · have h_28 := it_f h_28 c_33
                refine lv_iconst (v := (1 : Int32)) hx hb dX3_wish_55 (by decide) ?_
                refine lv_goto (tgt := 60) hx hb dX3_wish_56 (by decide) ?_
                obtain rfl := Option.some.inj h_28
                exact hJ_29 _ _ _ hP (lv_sub hl [0, 1, 2, 4] rfl)
      exact hL_15 _ _ _ _ _ _ h_17 hP (lv_sub hl [2, 3, 4, 1, 0] rfl)
    · have h := it_t h c_6
      refine lv_ldc hx hb hown (hts _ q1935) dX3_wish_16 ?_
      exact hret _ _ _ _ _ _ dX3_wish_18 rfl (Option.some.inj h) hP
def tw_body (σ : ST) (a1 : Int32) : Option (Int32 × ST) :=
  bo (tw_within ((a1).toInt64) (0 : Int64) (7 : Int64)) (fun (r_2 : Int32) => (if r_2 = 0 then some ((-1 : Int32), σ) else (if (gI σ 0 66) = (50 : Int32) then some ((-3 : Int32), σ) else ck (gI σ 0 66) 50 (st_ (aI σ 0 67 (gI σ 0 66) a1) (fun (σ_5 : ST) => st_ (pI σ_5 0 66 ((gI σ_5 0 66) + (1 : Int32))) (fun (σ_7 : ST) => some (((gI σ_7 0 66) - (1 : Int32)), σ_7)))))))
abbrev rm_X3_body : Room := rmf 1 25
set_option maxHeartbeats 4000000 in
set_option maxRecDepth 100000 in
theorem mt_X3_body (l : Launch) (G : GT) (σ : ST) (a1 : Int32) {r : Int32} {u : ST} (h : tw_body σ a1 = some (r, u)) : CI l tw_ft G yX3_body (ws_ yX3_body cX3_body 2 (some .int)) rm_X3_body 0 0 [.ref (G.2.2.1 0), .int a1] σ (r, u) := by
  refine m_enterI (by decide) rfl (lv := [(0, .ref (G.2.2.1 0)), (1, .int a1)]) rfl ?_
  intro p e s m args below meth c H locs ls Q X hret hP hl
  have hx := X.1.1
  have hb := X.1.2.1
  have hown := X.1.2.2.2.1
  have hts := X.1.2.2.2.2
  unfold tw_body at h
  refine lv_iload_n hx hb dX3_body_0 rfl (lv_at hl 1 rfl) ?_
  refine lv_i2l hx hb dX3_body_1 rfl ?_
  refine lv_lconst (v := (0 : Int64)) hx hb dX3_body_2 (by decide) ?_
  refine lv_ldc2 hx hb hown (hts _ q2201) dX3_body_3 ?_
  obtain ⟨r_2, e_1, h⟩ := bo_ex h
  refine r_calli (r_runS (rest := []) X hP (mt_X3_within l G σ ((a1).toInt64) (0 : Int64) (7 : Int64) e_1) (va_cwS 3 hts (lw_S q1880 q1881 q113 q1882) rfl rfl rfl cdX3_within ⟨Nat.le_of_ble_eq_true rfl, Nat.le_of_ble_eq_true rfl⟩) rfl hl.1 rfl (Nat.le_of_ble_eq_true rfl) dX3_body_6 ⟨Nat.le_refl _, Nat.le_refl _⟩) hP (fun H locs hP => ?_)
  refine lv_if_ne (tgt := 14) hx hb dX3_body_9 (by decide) (fun c_3 => ?_) (fun c_3 => ?_)
  · have h := it_f h c_3
    refine lv_aload_n hx hb dX3_body_14 rfl (lv_at hl 0 rfl) ?_
    refine r_geti X hP 0 tw_c0 lk_3 66 (Nat.le_of_ble_eq_true rfl) q1704 tw_f66 dX3_body_15 ?_
    refine lv_bipush (v := (50 : Int32)) hx hb dX3_body_18 (by decide) ?_
    refine lv_icmp_ne (tgt := 26) hx hb dX3_body_20 (by decide) (fun c_4 => ?_) (fun c_4 => ?_)
    · have h := it_f h c_4
      refine lv_aload_n hx hb dX3_body_26 rfl (lv_at hl 0 rfl) ?_
      refine r_geta X hP 0 tw_c0 lk_3 67 (Nat.le_of_ble_eq_true rfl) q1705 tw_f67 dX3_body_27 ?_
      refine lv_aload_n hx hb dX3_body_30 rfl (lv_at hl 0 rfl) ?_
      refine r_geti X hP 0 tw_c0 lk_3 66 (Nat.le_of_ble_eq_true rfl) q1704 tw_f66 dX3_body_31 ?_
      refine lv_iload_n hx hb dX3_body_34 rfl (lv_at hl 1 rfl) ?_
      refine r_iast X tw_w hP 39 tw_c39 (ck_in h) dX3_body_35 (fun σ_5 H locs e_6 hP => ?_)
      have h := st_k (ck_k h) e_6
      refine lv_aload_n hx hb dX3_body_36 rfl (lv_at hl 0 rfl) ?_
      refine lv_dup hx hb dX3_body_37 rfl ?_
      refine r_geti X hP 0 tw_c0 lk_3 66 (Nat.le_of_ble_eq_true rfl) q1704 tw_f66 dX3_body_38 ?_
      refine lv_iconst (v := (1 : Int32)) hx hb dX3_body_41 (by decide) ?_
      refine lv_iadd hx hb dX3_body_42 ?_
      refine r_puti X tw_w hP 0 tw_c0 lk_3 66 (Nat.le_of_ble_eq_true rfl) q1704 tw_f66 rfl (tyX3_ok 66 (by decide)) rfl rfl dX3_body_43 (fun σ_7 H locs e_8 hP => ?_)
      have h := st_k h e_8
      refine lv_aload_n hx hb dX3_body_46 rfl (lv_at hl 0 rfl) ?_
      refine r_geti X hP 0 tw_c0 lk_3 66 (Nat.le_of_ble_eq_true rfl) q1704 tw_f66 dX3_body_47 ?_
      refine lv_iconst (v := (1 : Int32)) hx hb dX3_body_50 (by decide) ?_
      refine lv_isub hx hb dX3_body_51 ?_
      exact hret _ _ _ _ _ _ dX3_body_52 rfl (Option.some.inj h) hP
    · have h := it_t h c_4
      refine lv_bipush (v := (-3 : Int32)) hx hb dX3_body_23 (by decide) ?_
      exact hret _ _ _ _ _ _ dX3_body_25 rfl (Option.some.inj h) hP
  · have h := it_t h c_3
    refine lv_iconst (v := (-1 : Int32)) hx hb dX3_body_12 (by decide) ?_
    exact hret _ _ _ _ _ _ dX3_body_13 rfl (Option.some.inj h) hP
def tw_begins (σ : ST) (a1 : Int32) : Option ST :=
  (if (24 : Int32) ≤ (gI σ 0 69) then st_ (pI σ 0 69 ((gI σ 0 69) + (1 : Int32))) (fun (σ_2 : ST) => some σ_2) else ck (gI σ 0 69) 24 (st_ (aI σ 0 68 (gI σ 0 69) a1) (fun (σ_4 : ST) => st_ (pI σ_4 0 69 ((gI σ_4 0 69) + (1 : Int32))) (fun (σ_6 : ST) => some σ_6))))
abbrev rm_X3_begins : Room := rmf 0 0
set_option maxHeartbeats 4000000 in
set_option maxRecDepth 100000 in
theorem mt_X3_begins (l : Launch) (G : GT) (σ : ST) (a1 : Int32) {u : ST} (h : tw_begins σ a1 = some u) : CV l tw_ft G yX3_begins (ws_ yX3_begins cX3_begins 2 none) rm_X3_begins 0 0 [.ref (G.2.2.1 0), .int a1] σ u := by
  refine m_enterV (by decide) rfl (lv := [(0, .ref (G.2.2.1 0)), (1, .int a1)]) rfl ?_
  intro p e s m args below meth c H locs ls Q X hnm hret hP hl
  have hx := X.1.1
  have hb := X.1.2.1
  have hown := X.1.2.2.2.1
  have hts := X.1.2.2.2.2
  unfold tw_begins at h
  refine lv_aload_n hx hb dX3_begins_0 rfl (lv_at hl 0 rfl) ?_
  refine r_geti X hP 0 tw_c0 lk_3 69 (Nat.le_of_ble_eq_true rfl) q1707 tw_f69 dX3_begins_1 ?_
  refine lv_bipush (v := (24 : Int32)) hx hb dX3_begins_4 (by decide) ?_
  refine lv_icmp_ge (tgt := 19) hx hb dX3_begins_6 (by decide) (fun c_1 => ?_) (fun c_1 => ?_)
  · have h := it_t h c_1
    refine lv_aload_n hx hb dX3_begins_19 rfl (lv_at hl 0 rfl) ?_
    refine lv_dup hx hb dX3_begins_20 rfl ?_
    refine r_geti X hP 0 tw_c0 lk_3 69 (Nat.le_of_ble_eq_true rfl) q1707 tw_f69 dX3_begins_21 ?_
    refine lv_iconst (v := (1 : Int32)) hx hb dX3_begins_24 (by decide) ?_
    refine lv_iadd hx hb dX3_begins_25 ?_
    refine r_puti X tw_w hP 0 tw_c0 lk_3 69 (Nat.le_of_ble_eq_true rfl) q1707 tw_f69 rfl (tyX3_ok 69 (by decide)) rfl rfl dX3_begins_26 (fun σ_2 H locs e_3 hP => ?_)
    have h := st_k h e_3
    exact hret _ _ _ _ _ dX3_begins_29 (Option.some.inj h) hP
  · have h := it_f h c_1
    refine lv_aload_n hx hb dX3_begins_9 rfl (lv_at hl 0 rfl) ?_
    refine r_geta X hP 0 tw_c0 lk_3 68 (Nat.le_of_ble_eq_true rfl) q1706 tw_f68 dX3_begins_10 ?_
    refine lv_aload_n hx hb dX3_begins_13 rfl (lv_at hl 0 rfl) ?_
    refine r_geti X hP 0 tw_c0 lk_3 69 (Nat.le_of_ble_eq_true rfl) q1707 tw_f69 dX3_begins_14 ?_
    refine lv_iload_n hx hb dX3_begins_17 rfl (lv_at hl 1 rfl) ?_
    refine r_iast X tw_w hP 40 tw_c40 (ck_in h) dX3_begins_18 (fun σ_4 H locs e_5 hP => ?_)
    have h := st_k (ck_k h) e_5
    refine lv_aload_n hx hb dX3_begins_19 rfl (lv_at hl 0 rfl) ?_
    refine lv_dup hx hb dX3_begins_20 rfl ?_
    refine r_geti X hP 0 tw_c0 lk_3 69 (Nat.le_of_ble_eq_true rfl) q1707 tw_f69 dX3_begins_21 ?_
    refine lv_iconst (v := (1 : Int32)) hx hb dX3_begins_24 (by decide) ?_
    refine lv_iadd hx hb dX3_begins_25 ?_
    refine r_puti X tw_w hP 0 tw_c0 lk_3 69 (Nat.le_of_ble_eq_true rfl) q1707 tw_f69 rfl (tyX3_ok 69 (by decide)) rfl rfl dX3_begins_26 (fun σ_6 H locs e_7 hP => ?_)
    have h := st_k h e_7
    exact hret _ _ _ _ _ dX3_begins_29 (Option.some.inj h) hP
def tw_knowsAsB (fk : ST → Int32 → Int32 → Option (Int32 × ST)) (σ : ST) (a1 : Int32) (a2 : Int32) : Option (Int32 × ST) :=
  (if a1 = (1 : Int32) then bo (tw_begins σ (20 : Int32)) (fun (σ_11 : ST) => bo2 (fk σ_11 (0 : Int32) a2) (fun (r_13 : Int32) (σ_14 : ST) => some ((r_13 + (3 : Int32)), σ_14))) else (if a1 = (6 : Int32) then bo (tw_begins σ (70 : Int32)) (fun (σ_6 : ST) => bo2 (fk σ_6 (0 : Int32) a2) (fun (r_8 : Int32) (σ_9 : ST) => some ((r_8 * (2 : Int32)), σ_9))) else bo (tw_begins σ (1 : Int32)) (fun (σ_4 : ST) => some ((a2 + (gI σ_4 0 71)), σ_4))))
set_option maxHeartbeats 4000000 in
set_option maxRecDepth 100000 in
theorem mt_X3_knowsAs (l : Launch) (G : GT) {f lo : Nat} (fk : ST → Int32 → Int32 → Option (Int32 × ST)) (hfk : ∀ (σ : ST) (b0 : Int32) (b1 : Int32) {r : Int32} {u : ST}, fk σ b0 b1 = some (r, u) → CI l tw_ft G yX3_knowsAs (ws_ yX3_knowsAs cX3_knowsAs 3 (some .int)) (rmf f lo) 0 0 [.ref (G.2.2.1 0), .int b0, .int b1] σ (r, u)) (σ : ST) (a1 : Int32) (a2 : Int32) {r : Int32} {u : ST} (h : tw_knowsAsB fk σ a1 a2 = some (r, u)) : CI l tw_ft G yX3_knowsAs (ws_ yX3_knowsAs cX3_knowsAs 3 (some .int)) (rmf (f + 1) (lo + 22)) 0 0 [.ref (G.2.2.1 0), .int a1, .int a2] σ (r, u) := by
  refine m_enterI (by decide) rfl (lv := [(0, .ref (G.2.2.1 0)), (1, .int a1), (2, .int a2)]) rfl ?_
  intro p e s m args below meth c H locs ls Q X hret hP hl
  have hx := X.1.1
  have hb := X.1.2.1
  have hown := X.1.2.2.2.1
  have hts := X.1.2.2.2.2
  unfold tw_knowsAsB at h
  refine lv_iload_n hx hb dX3_knowsAs_0 rfl (lv_at hl 1 rfl) ?_
  refine lv_iconst (v := (1 : Int32)) hx hb dX3_knowsAs_1 (by decide) ?_
  refine lv_icmp_ne (tgt := 20) hx hb dX3_knowsAs_2 (by decide) (fun c_1 => ?_) (fun c_1 => ?_)
  · have h := it_f h c_1
    refine lv_iload_n hx hb dX3_knowsAs_20 rfl (lv_at hl 1 rfl) ?_
    refine lv_bipush (v := (6 : Int32)) hx hb dX3_knowsAs_21 (by decide) ?_
    refine lv_icmp_ne (tgt := 41) hx hb dX3_knowsAs_23 (by decide) (fun c_2 => ?_) (fun c_2 => ?_)
    · have h := it_f h c_2
      refine lv_aload_n hx hb dX3_knowsAs_41 rfl (lv_at hl 0 rfl) ?_
      refine lv_iconst (v := (1 : Int32)) hx hb dX3_knowsAs_42 (by decide) ?_
      obtain ⟨σ_4, e_3, h⟩ := bo_ex h
      refine r_callv (r_runV (rest := []) X hP 0 tw_c0 lk_3 (mt_X3_begins l G σ (1 : Int32) e_3) (cwV 1 hts (lw_V q2214 q2216 qs103 q113 q2217) rfl rfl rfl ⟨rfl, cdX3_begins⟩ (rm_le (by omega) (by omega))) rfl hl.1 rfl (Nat.le_of_ble_eq_true rfl) dX3_knowsAs_43 ⟨Nat.le_refl _, Nat.le_refl _⟩) hP (fun H locs hP => ?_)
      refine lv_iload_n hx hb dX3_knowsAs_46 rfl (lv_at hl 2 rfl) ?_
      refine lv_aload_n hx hb dX3_knowsAs_47 rfl (lv_at hl 0 rfl) ?_
      refine r_geti X hP 0 tw_c0 lk_3 71 (Nat.le_of_ble_eq_true rfl) q1709 tw_f71 dX3_knowsAs_48 ?_
      refine lv_iadd hx hb dX3_knowsAs_51 ?_
      exact hret _ _ _ _ _ _ dX3_knowsAs_52 rfl (Option.some.inj h) hP
    · have h := it_t h c_2
      refine lv_aload_n hx hb dX3_knowsAs_26 rfl (lv_at hl 0 rfl) ?_
      refine lv_bipush (v := (70 : Int32)) hx hb dX3_knowsAs_27 (by decide) ?_
      obtain ⟨σ_6, e_5, h⟩ := bo_ex h
      refine r_callv (r_runV (rest := []) X hP 0 tw_c0 lk_3 (mt_X3_begins l G σ (70 : Int32) e_5) (cwV 1 hts (lw_V q2214 q2216 qs103 q113 q2217) rfl rfl rfl ⟨rfl, cdX3_begins⟩ (rm_le (by omega) (by omega))) rfl hl.1 rfl (Nat.le_of_ble_eq_true rfl) dX3_knowsAs_29 ⟨Nat.le_refl _, Nat.le_refl _⟩) hP (fun H locs hP => ?_)
      refine lv_aload_n hx hb dX3_knowsAs_32 rfl (lv_at hl 0 rfl) ?_
      refine lv_iconst (v := (0 : Int32)) hx hb dX3_knowsAs_33 (by decide) ?_
      refine lv_iload_n hx hb dX3_knowsAs_34 rfl (lv_at hl 2 rfl) ?_
      obtain ⟨r_8, σ_9, e_7, h⟩ := bo2_ex h
      refine r_calli (r_runV (rest := []) X hP 0 tw_c0 lk_3 (hfk σ_6 (0 : Int32) a2 e_7) (cwV 2 hts (lw_V q2210 q2212 qs102 q113 q2213) rfl rfl rfl ⟨rfl, cdX3_knowsAs⟩ (rm_le (by omega) (by omega))) rfl hl.1 rfl (Nat.le_of_ble_eq_true rfl) dX3_knowsAs_35 ⟨Nat.le_refl _, Nat.le_refl _⟩) hP (fun H locs hP => ?_)
      refine lv_iconst (v := (2 : Int32)) hx hb dX3_knowsAs_38 (by decide) ?_
      refine lv_imul hx hb dX3_knowsAs_39 ?_
      exact hret _ _ _ _ _ _ dX3_knowsAs_40 rfl (Option.some.inj h) hP
  · have h := it_t h c_1
    refine lv_aload_n hx hb dX3_knowsAs_5 rfl (lv_at hl 0 rfl) ?_
    refine lv_bipush (v := (20 : Int32)) hx hb dX3_knowsAs_6 (by decide) ?_
    obtain ⟨σ_11, e_10, h⟩ := bo_ex h
    refine r_callv (r_runV (rest := []) X hP 0 tw_c0 lk_3 (mt_X3_begins l G σ (20 : Int32) e_10) (cwV 1 hts (lw_V q2214 q2216 qs103 q113 q2217) rfl rfl rfl ⟨rfl, cdX3_begins⟩ (rm_le (by omega) (by omega))) rfl hl.1 rfl (Nat.le_of_ble_eq_true rfl) dX3_knowsAs_8 ⟨Nat.le_refl _, Nat.le_refl _⟩) hP (fun H locs hP => ?_)
    refine lv_aload_n hx hb dX3_knowsAs_11 rfl (lv_at hl 0 rfl) ?_
    refine lv_iconst (v := (0 : Int32)) hx hb dX3_knowsAs_12 (by decide) ?_
    refine lv_iload_n hx hb dX3_knowsAs_13 rfl (lv_at hl 2 rfl) ?_
    obtain ⟨r_13, σ_14, e_12, h⟩ := bo2_ex h
    refine r_calli (r_runV (rest := []) X hP 0 tw_c0 lk_3 (hfk σ_11 (0 : Int32) a2 e_12) (cwV 2 hts (lw_V q2210 q2212 qs102 q113 q2213) rfl rfl rfl ⟨rfl, cdX3_knowsAs⟩ (rm_le (by omega) (by omega))) rfl hl.1 rfl (Nat.le_of_ble_eq_true rfl) dX3_knowsAs_14 ⟨Nat.le_refl _, Nat.le_refl _⟩) hP (fun H locs hP => ?_)
    refine lv_iconst (v := (3 : Int32)) hx hb dX3_knowsAs_17 (by decide) ?_
    refine lv_iadd hx hb dX3_knowsAs_18 ?_
    exact hret _ _ _ _ _ _ dX3_knowsAs_19 rfl (Option.some.inj h) hP
def tw_knowsAs : Nat → ST → Int32 → Int32 → Option (Int32 × ST)
  | 0, _, _, _ => none
  | n + 1, σ, b0, b1 => tw_knowsAsB (tw_knowsAs n) σ b0 b1
theorem mt_knowsAs (l : Launch) (G : GT) : ∀ (n : Nat) (σ : ST) (b0 : Int32) (b1 : Int32) {r : Int32} {u : ST}, tw_knowsAs n σ b0 b1 = some (r, u) → CI l tw_ft G yX3_knowsAs (ws_ yX3_knowsAs cX3_knowsAs 3 (some .int)) (rmf (n * 1) (n * 22)) 0 0 [.ref (G.2.2.1 0), .int b0, .int b1] σ (r, u) := by
  intro n
  induction n with
  | zero => intro σ b0 b1 r u h; cases h
  | succ n ih =>
    intro σ b0 b1 r u h
    have h1 := mt_X3_knowsAs l G (tw_knowsAs n) (fun σ b0 b1 => ih σ b0 b1) σ b0 b1 h
    rw [Nat.succ_mul, Nat.succ_mul]
    exact h1
def tw_stopsAsB_K10 (ft_ : ST → Int32 → Int32 → Option (Int32 × ST)) (σ : ST) (k2 : Int32) : Option (Int32 × ST) :=
  bo (tw_begins σ (40 : Int32)) (fun (σ_3 : ST) => bo2 (ft_ σ_3 (2 : Int32) k2) (fun (r_5 : Int32) (σ_6 : ST) => some ((r_5 * (3 : Int32)), σ_6)))
def tw_stopsAsB_K36 (ft_ : ST → Int32 → Int32 → Option (Int32 × ST)) (σ : ST) (k2 : Int32) : Option (Int32 × ST) :=
  bo (tw_begins σ (50 : Int32)) (fun (σ_17 : ST) => bo2 (ft_ σ_17 (0 : Int32) k2) (fun (r_19 : Int32) (σ_20 : ST) => bo2 (tw_knowsAs 4 σ_20 (gI σ_20 0 70) (2 : Int32)) (fun (r_22 : Int32) (σ_23 : ST) => some ((r_19 - r_22), σ_23))))
def tw_stopsAsB (ft_ : ST → Int32 → Int32 → Option (Int32 × ST)) (σ : ST) (a1 : Int32) (a2 : Int32) : Option (Int32 × ST) :=
  (if a1 = (3 : Int32) then (tw_stopsAsB_K10 ft_ σ a2) else (if a1 = (5 : Int32) then (tw_stopsAsB_K10 ft_ σ a2) else (if a1 = (4 : Int32) then (tw_stopsAsB_K36 ft_ σ a2) else (if a1 = (7 : Int32) then (tw_stopsAsB_K36 ft_ σ a2) else bo (tw_begins σ (11 : Int32)) (fun (σ_36 : ST) => some ((a2 ^^^ (gI σ_36 0 71)), σ_36))))))
set_option maxHeartbeats 4000000 in
set_option maxRecDepth 100000 in
theorem mt_X3_stopsAs (l : Launch) (G : GT) {f lo : Nat} (ft_ : ST → Int32 → Int32 → Option (Int32 × ST)) (hft_ : ∀ (σ : ST) (b0 : Int32) (b1 : Int32) {r : Int32} {u : ST}, ft_ σ b0 b1 = some (r, u) → CI l tw_ft G yX3_stopsAs (ws_ yX3_stopsAs cX3_stopsAs 4 (some .int)) (rmf f lo) 0 0 [.ref (G.2.2.1 0), .int b0, .int b1] σ (r, u)) (σ : ST) (a1 : Int32) (a2 : Int32) {r : Int32} {u : ST} (h : tw_stopsAsB ft_ σ a1 a2 = some (r, u)) : CI l tw_ft G yX3_stopsAs (ws_ yX3_stopsAs cX3_stopsAs 4 (some .int)) (rmf (f + 5) (lo + 110)) 0 0 [.ref (G.2.2.1 0), .int a1, .int a2] σ (r, u) := by
  refine m_enterI (by decide) rfl (lv := [(0, .ref (G.2.2.1 0)), (1, .int a1), (2, .int a2)]) rfl ?_
  intro p e s m args below meth c H locs ls Q X hret hP hl
  have hx := X.1.1
  have hb := X.1.2.1
  have hown := X.1.2.2.2.1
  have hts := X.1.2.2.2.2
  unfold tw_stopsAsB at h
  refine lv_iload_n hx hb dX3_stopsAs_0 rfl (lv_at hl 1 rfl) ?_
  refine lv_iconst (v := (3 : Int32)) hx hb dX3_stopsAs_1 (by decide) ?_
  have hK_1 : ∀ (σ_7 : ST) (H : Heap) (locs : List Loc) (ls : Array Slot), tw_stopsAsB_K10 ft_ σ_7 a2 = some (r, u) → PS tw_ft G s σ_7 H locs → lv_has ls 4 [(0, .ref (G.2.2.1 0)), (2, .int a2)] → W p l e (rmf (f + 5) (lo + 110)) s m args below meth c H locs 0 0 Q (F0 m 10 ls []) := by
    intro σ_7 H locs ls h hP hl
    unfold tw_stopsAsB_K10 at h
    refine lv_aload_n hx hb dX3_stopsAs_10 rfl (lv_at hl 0 rfl) ?_
    refine lv_bipush (v := (40 : Int32)) hx hb dX3_stopsAs_11 (by decide) ?_
    obtain ⟨σ_9, e_8, h⟩ := bo_ex h
    refine r_callv (r_runV (rest := []) X hP 0 tw_c0 lk_3 (mt_X3_begins l G σ_7 (40 : Int32) e_8) (cwV 1 hts (lw_V q2214 q2216 qs103 q113 q2217) rfl rfl rfl ⟨rfl, cdX3_begins⟩ (rm_le (by omega) (by omega))) rfl hl.1 rfl (Nat.le_of_ble_eq_true rfl) dX3_stopsAs_13 ⟨Nat.le_refl _, Nat.le_refl _⟩) hP (fun H locs hP => ?_)
    refine lv_aload_n hx hb dX3_stopsAs_16 rfl (lv_at hl 0 rfl) ?_
    refine lv_iconst (v := (2 : Int32)) hx hb dX3_stopsAs_17 (by decide) ?_
    refine lv_iload_n hx hb dX3_stopsAs_18 rfl (lv_at hl 1 rfl) ?_
    obtain ⟨r_11, σ_12, e_10, h⟩ := bo2_ex h
    refine r_calli (r_runV (rest := []) X hP 0 tw_c0 lk_3 (hft_ σ_9 (2 : Int32) a2 e_10) (cwV 2 hts (lw_V q2222 q2224 qs105 q113 q2225) rfl rfl rfl ⟨rfl, cdX3_stopsAs⟩ (rm_le (by omega) (by omega))) rfl hl.1 rfl (Nat.le_of_ble_eq_true rfl) dX3_stopsAs_19 ⟨Nat.le_refl _, Nat.le_refl _⟩) hP (fun H locs hP => ?_)
    refine lv_iconst (v := (3 : Int32)) hx hb dX3_stopsAs_22 (by decide) ?_
    refine lv_imul hx hb dX3_stopsAs_23 ?_
    exact hret _ _ _ _ _ _ dX3_stopsAs_24 rfl (Option.some.inj h) hP
  refine lv_icmp_eq (tgt := 10) hx hb dX3_stopsAs_2 (by decide) (fun c_13 => ?_) (fun c_13 => ?_)
  · have h := it_t h c_13
    exact hK_1 _ _ _ _ h hP (lv_sub hl [0, 2] rfl)
  · have h := it_f h c_13
    refine lv_iload_n hx hb dX3_stopsAs_5 rfl (lv_at hl 1 rfl) ?_
    refine lv_iconst (v := (5 : Int32)) hx hb dX3_stopsAs_6 (by decide) ?_
    refine lv_icmp_ne (tgt := 25) hx hb dX3_stopsAs_7 (by decide) (fun c_14 => ?_) (fun c_14 => ?_)
    · have h := it_f h c_14
      refine lv_iload_n hx hb dX3_stopsAs_25 rfl (lv_at hl 1 rfl) ?_
      refine lv_iconst (v := (4 : Int32)) hx hb dX3_stopsAs_26 (by decide) ?_
      have hK_15 : ∀ (σ_24 : ST) (H : Heap) (locs : List Loc) (ls : Array Slot), tw_stopsAsB_K36 ft_ σ_24 a2 = some (r, u) → PS tw_ft G s σ_24 H locs → lv_has ls 4 [(0, .ref (G.2.2.1 0)), (2, .int a2)] → W p l e (rmf (f + 5) (lo + 110)) s m args below meth c H locs 0 0 Q (F0 m 36 ls []) := by
        intro σ_24 H locs ls h hP hl
        unfold tw_stopsAsB_K36 at h
        refine lv_aload_n hx hb dX3_stopsAs_36 rfl (lv_at hl 0 rfl) ?_
        refine lv_bipush (v := (50 : Int32)) hx hb dX3_stopsAs_37 (by decide) ?_
        obtain ⟨σ_26, e_25, h⟩ := bo_ex h
        refine r_callv (r_runV (rest := []) X hP 0 tw_c0 lk_3 (mt_X3_begins l G σ_24 (50 : Int32) e_25) (cwV 1 hts (lw_V q2214 q2216 qs103 q113 q2217) rfl rfl rfl ⟨rfl, cdX3_begins⟩ (rm_le (by omega) (by omega))) rfl hl.1 rfl (Nat.le_of_ble_eq_true rfl) dX3_stopsAs_39 ⟨Nat.le_refl _, Nat.le_refl _⟩) hP (fun H locs hP => ?_)
        refine lv_aload_n hx hb dX3_stopsAs_42 rfl (lv_at hl 0 rfl) ?_
        refine lv_iconst (v := (0 : Int32)) hx hb dX3_stopsAs_43 (by decide) ?_
        refine lv_iload_n hx hb dX3_stopsAs_44 rfl (lv_at hl 1 rfl) ?_
        obtain ⟨r_28, σ_29, e_27, h⟩ := bo2_ex h
        refine r_calli (r_runV (rest := []) X hP 0 tw_c0 lk_3 (hft_ σ_26 (0 : Int32) a2 e_27) (cwV 2 hts (lw_V q2222 q2224 qs105 q113 q2225) rfl rfl rfl ⟨rfl, cdX3_stopsAs⟩ (rm_le (by omega) (by omega))) rfl hl.1 rfl (Nat.le_of_ble_eq_true rfl) dX3_stopsAs_45 ⟨Nat.le_refl _, Nat.le_refl _⟩) hP (fun H locs hP => ?_)
        refine lv_istore_n (lv' := [(3, .int r_28), (0, .ref (G.2.2.1 0)), (2, .int a2)]) hx hb dX3_stopsAs_48 rfl hl (by decide) rfl (fun ls hl => ?_)
        refine lv_iload_n hx hb dX3_stopsAs_49 rfl (lv_at hl 0 rfl) ?_
        refine lv_aload_n hx hb dX3_stopsAs_50 rfl (lv_at hl 1 rfl) ?_
        refine lv_aload_n hx hb dX3_stopsAs_51 rfl (lv_at hl 1 rfl) ?_
        refine r_geti X hP 0 tw_c0 lk_3 70 (Nat.le_of_ble_eq_true rfl) q1708 tw_f70 dX3_stopsAs_52 ?_
        refine lv_iconst (v := (2 : Int32)) hx hb dX3_stopsAs_55 (by decide) ?_
        obtain ⟨r_31, σ_32, e_30, h⟩ := bo2_ex h
        refine r_calli (r_runV (rest := [.int r_28]) X hP 0 tw_c0 lk_3 (mt_knowsAs l G 4 σ_29 (gI σ_29 0 70) (2 : Int32) e_30) (cwV 2 hts (lw_V q2210 q2212 qs102 q113 q2213) rfl rfl rfl ⟨rfl, cdX3_knowsAs⟩ (rm_le (by omega) (by omega))) rfl hl.1 rfl (Nat.le_of_ble_eq_true rfl) dX3_stopsAs_56 ⟨Nat.le_refl _, Nat.le_refl _⟩) hP (fun H locs hP => ?_)
        refine lv_isub hx hb dX3_stopsAs_59 ?_
        exact hret _ _ _ _ _ _ dX3_stopsAs_60 rfl (Option.some.inj h) hP
      refine lv_icmp_eq (tgt := 36) hx hb dX3_stopsAs_27 (by decide) (fun c_33 => ?_) (fun c_33 => ?_)
      · have h := it_t h c_33
        exact hK_15 _ _ _ _ h hP (lv_sub hl [0, 2] rfl)
      · have h := it_f h c_33
        refine lv_iload_n hx hb dX3_stopsAs_30 rfl (lv_at hl 1 rfl) ?_
        refine lv_bipush (v := (7 : Int32)) hx hb dX3_stopsAs_31 (by decide) ?_
        refine lv_icmp_ne (tgt := 61) hx hb dX3_stopsAs_33 (by decide) (fun c_34 => ?_) (fun c_34 => ?_)
        · have h := it_f h c_34
          refine lv_aload_n hx hb dX3_stopsAs_61 rfl (lv_at hl 0 rfl) ?_
          refine lv_bipush (v := (11 : Int32)) hx hb dX3_stopsAs_62 (by decide) ?_
          obtain ⟨σ_36, e_35, h⟩ := bo_ex h
          refine r_callv (r_runV (rest := []) X hP 0 tw_c0 lk_3 (mt_X3_begins l G σ (11 : Int32) e_35) (cwV 1 hts (lw_V q2214 q2216 qs103 q113 q2217) rfl rfl rfl ⟨rfl, cdX3_begins⟩ (rm_le (by omega) (by omega))) rfl hl.1 rfl (Nat.le_of_ble_eq_true rfl) dX3_stopsAs_64 ⟨Nat.le_refl _, Nat.le_refl _⟩) hP (fun H locs hP => ?_)
          refine lv_iload_n hx hb dX3_stopsAs_67 rfl (lv_at hl 2 rfl) ?_
          refine lv_aload_n hx hb dX3_stopsAs_68 rfl (lv_at hl 0 rfl) ?_
          refine r_geti X hP 0 tw_c0 lk_3 71 (Nat.le_of_ble_eq_true rfl) q1709 tw_f71 dX3_stopsAs_69 ?_
          refine lv_ixor hx hb dX3_stopsAs_72 ?_
          exact hret _ _ _ _ _ _ dX3_stopsAs_73 rfl (Option.some.inj h) hP
        · have h := it_t h c_34
          exact hK_15 _ _ _ _ h hP (lv_sub hl [0, 2] rfl)
    · have h := it_t h c_14
      exact hK_1 _ _ _ _ h hP (lv_sub hl [0, 2] rfl)
def tw_stopsAs : Nat → ST → Int32 → Int32 → Option (Int32 × ST)
  | 0, _, _, _ => none
  | n + 1, σ, b0, b1 => tw_stopsAsB (tw_stopsAs n) σ b0 b1
theorem mt_stopsAs (l : Launch) (G : GT) : ∀ (n : Nat) (σ : ST) (b0 : Int32) (b1 : Int32) {r : Int32} {u : ST}, tw_stopsAs n σ b0 b1 = some (r, u) → CI l tw_ft G yX3_stopsAs (ws_ yX3_stopsAs cX3_stopsAs 4 (some .int)) (rmf (n * 5) (n * 110)) 0 0 [.ref (G.2.2.1 0), .int b0, .int b1] σ (r, u) := by
  intro n
  induction n with
  | zero => intro σ b0 b1 r u h; cases h
  | succ n ih =>
    intro σ b0 b1 r u h
    have h1 := mt_X3_stopsAs l G (tw_stopsAs n) (fun σ b0 b1 => ih σ b0 b1) σ b0 b1 h
    rw [Nat.succ_mul, Nat.succ_mul]
    exact h1
def tw_speaksAsB_K10 (fs : ST → Int32 → Int32 → Option (Int32 × ST)) (σ : ST) (k2 : Int32) : Option (Int32 × ST) :=
  bo (tw_begins σ (41 : Int32)) (fun (σ_3 : ST) => bo2 (fs σ_3 (2 : Int32) (k2 + (1 : Int32))) (fun (r_5 : Int32) (σ_6 : ST) => some (r_5, σ_6)))
def tw_speaksAsB (fs : ST → Int32 → Int32 → Option (Int32 × ST)) (σ : ST) (a1 : Int32) (a2 : Int32) : Option (Int32 × ST) :=
  (if a1 = (3 : Int32) then (tw_speaksAsB_K10 fs σ a2) else (if a1 = (5 : Int32) then (tw_speaksAsB_K10 fs σ a2) else (if a1 = (2 : Int32) then bo (tw_begins σ (30 : Int32)) (fun (σ_31 : ST) => bo2 (fs σ_31 (0 : Int32) a2) (fun (r_33 : Int32) (σ_34 : ST) => some ((-r_33), σ_34))) else (if a1 = (7 : Int32) then bo (tw_begins σ (80 : Int32)) (fun (σ_23 : ST) => bo2 (fs σ_23 (4 : Int32) a2) (fun (r_25 : Int32) (σ_26 : ST) => bo2 (tw_stopsAs 4 σ_26 (gI σ_26 0 70) (2 : Int32)) (fun (r_28 : Int32) (σ_29 : ST) => some ((r_25 + r_28), σ_29)))) else bo (tw_begins σ (10 : Int32)) (fun (σ_18 : ST) => bo2 (tw_knowsAs 4 σ_18 (gI σ_18 0 70) a2) (fun (r_20 : Int32) (σ_21 : ST) => some ((r_20 * (2 : Int32)), σ_21)))))))
set_option maxHeartbeats 4000000 in
set_option maxRecDepth 100000 in
theorem mt_X3_speaksAs (l : Launch) (G : GT) {f lo : Nat} (fs : ST → Int32 → Int32 → Option (Int32 × ST)) (hfs : ∀ (σ : ST) (b0 : Int32) (b1 : Int32) {r : Int32} {u : ST}, fs σ b0 b1 = some (r, u) → CI l tw_ft G yX3_speaksAs (ws_ yX3_speaksAs cX3_speaksAs 4 (some .int)) (rmf f lo) 0 0 [.ref (G.2.2.1 0), .int b0, .int b1] σ (r, u)) (σ : ST) (a1 : Int32) (a2 : Int32) {r : Int32} {u : ST} (h : tw_speaksAsB fs σ a1 a2 = some (r, u)) : CI l tw_ft G yX3_speaksAs (ws_ yX3_speaksAs cX3_speaksAs 4 (some .int)) (rmf (f + 21) (lo + 463)) 0 0 [.ref (G.2.2.1 0), .int a1, .int a2] σ (r, u) := by
  refine m_enterI (by decide) rfl (lv := [(0, .ref (G.2.2.1 0)), (1, .int a1), (2, .int a2)]) rfl ?_
  intro p e s m args below meth c H locs ls Q X hret hP hl
  have hx := X.1.1
  have hb := X.1.2.1
  have hown := X.1.2.2.2.1
  have hts := X.1.2.2.2.2
  unfold tw_speaksAsB at h
  refine lv_iload_n hx hb dX3_speaksAs_0 rfl (lv_at hl 1 rfl) ?_
  refine lv_iconst (v := (3 : Int32)) hx hb dX3_speaksAs_1 (by decide) ?_
  have hK_1 : ∀ (σ_7 : ST) (H : Heap) (locs : List Loc) (ls : Array Slot), tw_speaksAsB_K10 fs σ_7 a2 = some (r, u) → PS tw_ft G s σ_7 H locs → lv_has ls 4 [(0, .ref (G.2.2.1 0)), (2, .int a2)] → W p l e (rmf (f + 21) (lo + 463)) s m args below meth c H locs 0 0 Q (F0 m 10 ls []) := by
    intro σ_7 H locs ls h hP hl
    unfold tw_speaksAsB_K10 at h
    refine lv_aload_n hx hb dX3_speaksAs_10 rfl (lv_at hl 0 rfl) ?_
    refine lv_bipush (v := (41 : Int32)) hx hb dX3_speaksAs_11 (by decide) ?_
    obtain ⟨σ_9, e_8, h⟩ := bo_ex h
    refine r_callv (r_runV (rest := []) X hP 0 tw_c0 lk_3 (mt_X3_begins l G σ_7 (41 : Int32) e_8) (cwV 1 hts (lw_V q2214 q2216 qs103 q113 q2217) rfl rfl rfl ⟨rfl, cdX3_begins⟩ (rm_le (by omega) (by omega))) rfl hl.1 rfl (Nat.le_of_ble_eq_true rfl) dX3_speaksAs_13 ⟨Nat.le_refl _, Nat.le_refl _⟩) hP (fun H locs hP => ?_)
    refine lv_aload_n hx hb dX3_speaksAs_16 rfl (lv_at hl 0 rfl) ?_
    refine lv_iconst (v := (2 : Int32)) hx hb dX3_speaksAs_17 (by decide) ?_
    refine lv_iload_n hx hb dX3_speaksAs_18 rfl (lv_at hl 1 rfl) ?_
    refine lv_iconst (v := (1 : Int32)) hx hb dX3_speaksAs_19 (by decide) ?_
    refine lv_iadd hx hb dX3_speaksAs_20 ?_
    obtain ⟨r_11, σ_12, e_10, h⟩ := bo2_ex h
    refine r_calli (r_runV (rest := []) X hP 0 tw_c0 lk_3 (hfs σ_9 (2 : Int32) (a2 + (1 : Int32)) e_10) (cwV 2 hts (lw_V q2218 q2220 qs104 q113 q2221) rfl rfl rfl ⟨rfl, cdX3_speaksAs⟩ (rm_le (by omega) (by omega))) rfl hl.1 rfl (Nat.le_of_ble_eq_true rfl) dX3_speaksAs_21 ⟨Nat.le_refl _, Nat.le_refl _⟩) hP (fun H locs hP => ?_)
    exact hret _ _ _ _ _ _ dX3_speaksAs_24 rfl (Option.some.inj h) hP
  refine lv_icmp_eq (tgt := 10) hx hb dX3_speaksAs_2 (by decide) (fun c_13 => ?_) (fun c_13 => ?_)
  · have h := it_t h c_13
    exact hK_1 _ _ _ _ h hP (lv_sub hl [0, 2] rfl)
  · have h := it_f h c_13
    refine lv_iload_n hx hb dX3_speaksAs_5 rfl (lv_at hl 1 rfl) ?_
    refine lv_iconst (v := (5 : Int32)) hx hb dX3_speaksAs_6 (by decide) ?_
    refine lv_icmp_ne (tgt := 25) hx hb dX3_speaksAs_7 (by decide) (fun c_14 => ?_) (fun c_14 => ?_)
    · have h := it_f h c_14
      refine lv_iload_n hx hb dX3_speaksAs_25 rfl (lv_at hl 1 rfl) ?_
      refine lv_iconst (v := (2 : Int32)) hx hb dX3_speaksAs_26 (by decide) ?_
      refine lv_icmp_ne (tgt := 44) hx hb dX3_speaksAs_27 (by decide) (fun c_15 => ?_) (fun c_15 => ?_)
      · have h := it_f h c_15
        refine lv_iload_n hx hb dX3_speaksAs_44 rfl (lv_at hl 1 rfl) ?_
        refine lv_bipush (v := (7 : Int32)) hx hb dX3_speaksAs_45 (by decide) ?_
        refine lv_icmp_ne (tgt := 75) hx hb dX3_speaksAs_47 (by decide) (fun c_16 => ?_) (fun c_16 => ?_)
        · have h := it_f h c_16
          refine lv_aload_n hx hb dX3_speaksAs_75 rfl (lv_at hl 0 rfl) ?_
          refine lv_bipush (v := (10 : Int32)) hx hb dX3_speaksAs_76 (by decide) ?_
          obtain ⟨σ_18, e_17, h⟩ := bo_ex h
          refine r_callv (r_runV (rest := []) X hP 0 tw_c0 lk_3 (mt_X3_begins l G σ (10 : Int32) e_17) (cwV 1 hts (lw_V q2214 q2216 qs103 q113 q2217) rfl rfl rfl ⟨rfl, cdX3_begins⟩ (rm_le (by omega) (by omega))) rfl hl.1 rfl (Nat.le_of_ble_eq_true rfl) dX3_speaksAs_78 ⟨Nat.le_refl _, Nat.le_refl _⟩) hP (fun H locs hP => ?_)
          refine lv_aload_n hx hb dX3_speaksAs_81 rfl (lv_at hl 0 rfl) ?_
          refine lv_aload_n hx hb dX3_speaksAs_82 rfl (lv_at hl 0 rfl) ?_
          refine r_geti X hP 0 tw_c0 lk_3 70 (Nat.le_of_ble_eq_true rfl) q1708 tw_f70 dX3_speaksAs_83 ?_
          refine lv_iload_n hx hb dX3_speaksAs_86 rfl (lv_at hl 2 rfl) ?_
          obtain ⟨r_20, σ_21, e_19, h⟩ := bo2_ex h
          refine r_calli (r_runV (rest := []) X hP 0 tw_c0 lk_3 (mt_knowsAs l G 4 σ_18 (gI σ_18 0 70) a2 e_19) (cwV 2 hts (lw_V q2210 q2212 qs102 q113 q2213) rfl rfl rfl ⟨rfl, cdX3_knowsAs⟩ (rm_le (by omega) (by omega))) rfl hl.1 rfl (Nat.le_of_ble_eq_true rfl) dX3_speaksAs_87 ⟨Nat.le_refl _, Nat.le_refl _⟩) hP (fun H locs hP => ?_)
          refine lv_iconst (v := (2 : Int32)) hx hb dX3_speaksAs_90 (by decide) ?_
          refine lv_imul hx hb dX3_speaksAs_91 ?_
          exact hret _ _ _ _ _ _ dX3_speaksAs_92 rfl (Option.some.inj h) hP
        · have h := it_t h c_16
          refine lv_aload_n hx hb dX3_speaksAs_50 rfl (lv_at hl 0 rfl) ?_
          refine lv_bipush (v := (80 : Int32)) hx hb dX3_speaksAs_51 (by decide) ?_
          obtain ⟨σ_23, e_22, h⟩ := bo_ex h
          refine r_callv (r_runV (rest := []) X hP 0 tw_c0 lk_3 (mt_X3_begins l G σ (80 : Int32) e_22) (cwV 1 hts (lw_V q2214 q2216 qs103 q113 q2217) rfl rfl rfl ⟨rfl, cdX3_begins⟩ (rm_le (by omega) (by omega))) rfl hl.1 rfl (Nat.le_of_ble_eq_true rfl) dX3_speaksAs_53 ⟨Nat.le_refl _, Nat.le_refl _⟩) hP (fun H locs hP => ?_)
          refine lv_aload_n hx hb dX3_speaksAs_56 rfl (lv_at hl 0 rfl) ?_
          refine lv_iconst (v := (4 : Int32)) hx hb dX3_speaksAs_57 (by decide) ?_
          refine lv_iload_n hx hb dX3_speaksAs_58 rfl (lv_at hl 2 rfl) ?_
          obtain ⟨r_25, σ_26, e_24, h⟩ := bo2_ex h
          refine r_calli (r_runV (rest := []) X hP 0 tw_c0 lk_3 (hfs σ_23 (4 : Int32) a2 e_24) (cwV 2 hts (lw_V q2218 q2220 qs104 q113 q2221) rfl rfl rfl ⟨rfl, cdX3_speaksAs⟩ (rm_le (by omega) (by omega))) rfl hl.1 rfl (Nat.le_of_ble_eq_true rfl) dX3_speaksAs_59 ⟨Nat.le_refl _, Nat.le_refl _⟩) hP (fun H locs hP => ?_)
          refine lv_istore_n (lv' := [(3, .int r_25), (0, .ref (G.2.2.1 0)), (1, .int a1), (2, .int a2)]) hx hb dX3_speaksAs_62 rfl hl (by decide) rfl (fun ls hl => ?_)
          refine lv_iload_n hx hb dX3_speaksAs_63 rfl (lv_at hl 0 rfl) ?_
          refine lv_aload_n hx hb dX3_speaksAs_64 rfl (lv_at hl 1 rfl) ?_
          refine lv_aload_n hx hb dX3_speaksAs_65 rfl (lv_at hl 1 rfl) ?_
          refine r_geti X hP 0 tw_c0 lk_3 70 (Nat.le_of_ble_eq_true rfl) q1708 tw_f70 dX3_speaksAs_66 ?_
          refine lv_iconst (v := (2 : Int32)) hx hb dX3_speaksAs_69 (by decide) ?_
          obtain ⟨r_28, σ_29, e_27, h⟩ := bo2_ex h
          refine r_calli (r_runV (rest := [.int r_25]) X hP 0 tw_c0 lk_3 (mt_stopsAs l G 4 σ_26 (gI σ_26 0 70) (2 : Int32) e_27) (cwV 2 hts (lw_V q2222 q2224 qs105 q113 q2225) rfl rfl rfl ⟨rfl, cdX3_stopsAs⟩ (rm_le (by omega) (by omega))) rfl hl.1 rfl (Nat.le_of_ble_eq_true rfl) dX3_speaksAs_70 ⟨Nat.le_refl _, Nat.le_refl _⟩) hP (fun H locs hP => ?_)
          refine lv_iadd hx hb dX3_speaksAs_73 ?_
          exact hret _ _ _ _ _ _ dX3_speaksAs_74 rfl (Option.some.inj h) hP
      · have h := it_t h c_15
        refine lv_aload_n hx hb dX3_speaksAs_30 rfl (lv_at hl 0 rfl) ?_
        refine lv_bipush (v := (30 : Int32)) hx hb dX3_speaksAs_31 (by decide) ?_
        obtain ⟨σ_31, e_30, h⟩ := bo_ex h
        refine r_callv (r_runV (rest := []) X hP 0 tw_c0 lk_3 (mt_X3_begins l G σ (30 : Int32) e_30) (cwV 1 hts (lw_V q2214 q2216 qs103 q113 q2217) rfl rfl rfl ⟨rfl, cdX3_begins⟩ (rm_le (by omega) (by omega))) rfl hl.1 rfl (Nat.le_of_ble_eq_true rfl) dX3_speaksAs_33 ⟨Nat.le_refl _, Nat.le_refl _⟩) hP (fun H locs hP => ?_)
        refine lv_aload_n hx hb dX3_speaksAs_36 rfl (lv_at hl 0 rfl) ?_
        refine lv_iconst (v := (0 : Int32)) hx hb dX3_speaksAs_37 (by decide) ?_
        refine lv_iload_n hx hb dX3_speaksAs_38 rfl (lv_at hl 2 rfl) ?_
        obtain ⟨r_33, σ_34, e_32, h⟩ := bo2_ex h
        refine r_calli (r_runV (rest := []) X hP 0 tw_c0 lk_3 (hfs σ_31 (0 : Int32) a2 e_32) (cwV 2 hts (lw_V q2218 q2220 qs104 q113 q2221) rfl rfl rfl ⟨rfl, cdX3_speaksAs⟩ (rm_le (by omega) (by omega))) rfl hl.1 rfl (Nat.le_of_ble_eq_true rfl) dX3_speaksAs_39 ⟨Nat.le_refl _, Nat.le_refl _⟩) hP (fun H locs hP => ?_)
        refine lv_ineg hx hb dX3_speaksAs_42 ?_
        exact hret _ _ _ _ _ _ dX3_speaksAs_43 rfl (Option.some.inj h) hP
    · have h := it_t h c_14
      exact hK_1 _ _ _ _ h hP (lv_sub hl [0, 2] rfl)
def tw_speaksAs : Nat → ST → Int32 → Int32 → Option (Int32 × ST)
  | 0, _, _, _ => none
  | n + 1, σ, b0, b1 => tw_speaksAsB (tw_speaksAs n) σ b0 b1
theorem mt_speaksAs (l : Launch) (G : GT) : ∀ (n : Nat) (σ : ST) (b0 : Int32) (b1 : Int32) {r : Int32} {u : ST}, tw_speaksAs n σ b0 b1 = some (r, u) → CI l tw_ft G yX3_speaksAs (ws_ yX3_speaksAs cX3_speaksAs 4 (some .int)) (rmf (n * 21) (n * 463)) 0 0 [.ref (G.2.2.1 0), .int b0, .int b1] σ (r, u) := by
  intro n
  induction n with
  | zero => intro σ b0 b1 r u h; cases h
  | succ n ih =>
    intro σ b0 b1 r u h
    have h1 := mt_X3_speaksAs l G (tw_speaksAs n) (fun σ b0 b1 => ih σ b0 b1) σ b0 b1 h
    rw [Nat.succ_mul, Nat.succ_mul]
    exact h1
def tw_decidesAsB (fd : ST → Int32 → Int32 → Option (Int32 × ST)) (σ : ST) (a1 : Int32) (a2 : Int32) : Option (Int32 × ST) :=
  (if a1 = (5 : Int32) then bo (tw_begins σ (60 : Int32)) (fun (σ_17 : ST) => bo2 (fd σ_17 (3 : Int32) a2) (fun (r_19 : Int32) (σ_20 : ST) => some ((r_19 ^^^ (5 : Int32)), σ_20))) else (if a1 = (7 : Int32) then bo (tw_begins σ (81 : Int32)) (fun (σ_12 : ST) => bo2 (fd σ_12 (4 : Int32) a2) (fun (r_14 : Int32) (σ_15 : ST) => some ((r_14 - (1 : Int32)), σ_15))) else bo (tw_begins σ (2 : Int32)) (fun (σ_4 : ST) => bo2 (tw_speaksAs 4 σ_4 (gI σ_4 0 70) a2) (fun (r_6 : Int32) (σ_7 : ST) => bo2 (tw_stopsAs 4 σ_7 (gI σ_7 0 70) (1 : Int32)) (fun (r_9 : Int32) (σ_10 : ST) => some ((r_6 - r_9), σ_10))))))
set_option maxHeartbeats 4000000 in
set_option maxRecDepth 100000 in
theorem mt_X3_decidesAs (l : Launch) (G : GT) {f lo : Nat} (fd : ST → Int32 → Int32 → Option (Int32 × ST)) (hfd : ∀ (σ : ST) (b0 : Int32) (b1 : Int32) {r : Int32} {u : ST}, fd σ b0 b1 = some (r, u) → CI l tw_ft G yX3_decidesAs (ws_ yX3_decidesAs cX3_decidesAs 4 (some .int)) (rmf f lo) 0 0 [.ref (G.2.2.1 0), .int b0, .int b1] σ (r, u)) (σ : ST) (a1 : Int32) (a2 : Int32) {r : Int32} {u : ST} (h : tw_decidesAsB fd σ a1 a2 = some (r, u)) : CI l tw_ft G yX3_decidesAs (ws_ yX3_decidesAs cX3_decidesAs 4 (some .int)) (rmf (f + 85) (lo + 1875)) 0 0 [.ref (G.2.2.1 0), .int a1, .int a2] σ (r, u) := by
  refine m_enterI (by decide) rfl (lv := [(0, .ref (G.2.2.1 0)), (1, .int a1), (2, .int a2)]) rfl ?_
  intro p e s m args below meth c H locs ls Q X hret hP hl
  have hx := X.1.1
  have hb := X.1.2.1
  have hown := X.1.2.2.2.1
  have hts := X.1.2.2.2.2
  unfold tw_decidesAsB at h
  refine lv_iload_n hx hb dX3_decidesAs_0 rfl (lv_at hl 1 rfl) ?_
  refine lv_iconst (v := (5 : Int32)) hx hb dX3_decidesAs_1 (by decide) ?_
  refine lv_icmp_ne (tgt := 20) hx hb dX3_decidesAs_2 (by decide) (fun c_1 => ?_) (fun c_1 => ?_)
  · have h := it_f h c_1
    refine lv_iload_n hx hb dX3_decidesAs_20 rfl (lv_at hl 1 rfl) ?_
    refine lv_bipush (v := (7 : Int32)) hx hb dX3_decidesAs_21 (by decide) ?_
    refine lv_icmp_ne (tgt := 41) hx hb dX3_decidesAs_23 (by decide) (fun c_2 => ?_) (fun c_2 => ?_)
    · have h := it_f h c_2
      refine lv_aload_n hx hb dX3_decidesAs_41 rfl (lv_at hl 0 rfl) ?_
      refine lv_iconst (v := (2 : Int32)) hx hb dX3_decidesAs_42 (by decide) ?_
      obtain ⟨σ_4, e_3, h⟩ := bo_ex h
      refine r_callv (r_runV (rest := []) X hP 0 tw_c0 lk_3 (mt_X3_begins l G σ (2 : Int32) e_3) (cwV 1 hts (lw_V q2214 q2216 qs103 q113 q2217) rfl rfl rfl ⟨rfl, cdX3_begins⟩ (rm_le (by omega) (by omega))) rfl hl.1 rfl (Nat.le_of_ble_eq_true rfl) dX3_decidesAs_43 ⟨Nat.le_refl _, Nat.le_refl _⟩) hP (fun H locs hP => ?_)
      refine lv_aload_n hx hb dX3_decidesAs_46 rfl (lv_at hl 0 rfl) ?_
      refine lv_aload_n hx hb dX3_decidesAs_47 rfl (lv_at hl 0 rfl) ?_
      refine r_geti X hP 0 tw_c0 lk_3 70 (Nat.le_of_ble_eq_true rfl) q1708 tw_f70 dX3_decidesAs_48 ?_
      refine lv_iload_n hx hb dX3_decidesAs_51 rfl (lv_at hl 2 rfl) ?_
      obtain ⟨r_6, σ_7, e_5, h⟩ := bo2_ex h
      refine r_calli (r_runV (rest := []) X hP 0 tw_c0 lk_3 (mt_speaksAs l G 4 σ_4 (gI σ_4 0 70) a2 e_5) (cwV 2 hts (lw_V q2218 q2220 qs104 q113 q2221) rfl rfl rfl ⟨rfl, cdX3_speaksAs⟩ (rm_le (by omega) (by omega))) rfl hl.1 rfl (Nat.le_of_ble_eq_true rfl) dX3_decidesAs_52 ⟨Nat.le_refl _, Nat.le_refl _⟩) hP (fun H locs hP => ?_)
      refine lv_istore_n (lv' := [(3, .int r_6), (0, .ref (G.2.2.1 0)), (1, .int a1), (2, .int a2)]) hx hb dX3_decidesAs_55 rfl hl (by decide) rfl (fun ls hl => ?_)
      refine lv_iload_n hx hb dX3_decidesAs_56 rfl (lv_at hl 0 rfl) ?_
      refine lv_aload_n hx hb dX3_decidesAs_57 rfl (lv_at hl 1 rfl) ?_
      refine lv_aload_n hx hb dX3_decidesAs_58 rfl (lv_at hl 1 rfl) ?_
      refine r_geti X hP 0 tw_c0 lk_3 70 (Nat.le_of_ble_eq_true rfl) q1708 tw_f70 dX3_decidesAs_59 ?_
      refine lv_iconst (v := (1 : Int32)) hx hb dX3_decidesAs_62 (by decide) ?_
      obtain ⟨r_9, σ_10, e_8, h⟩ := bo2_ex h
      refine r_calli (r_runV (rest := [.int r_6]) X hP 0 tw_c0 lk_3 (mt_stopsAs l G 4 σ_7 (gI σ_7 0 70) (1 : Int32) e_8) (cwV 2 hts (lw_V q2222 q2224 qs105 q113 q2225) rfl rfl rfl ⟨rfl, cdX3_stopsAs⟩ (rm_le (by omega) (by omega))) rfl hl.1 rfl (Nat.le_of_ble_eq_true rfl) dX3_decidesAs_63 ⟨Nat.le_refl _, Nat.le_refl _⟩) hP (fun H locs hP => ?_)
      refine lv_isub hx hb dX3_decidesAs_66 ?_
      exact hret _ _ _ _ _ _ dX3_decidesAs_67 rfl (Option.some.inj h) hP
    · have h := it_t h c_2
      refine lv_aload_n hx hb dX3_decidesAs_26 rfl (lv_at hl 0 rfl) ?_
      refine lv_bipush (v := (81 : Int32)) hx hb dX3_decidesAs_27 (by decide) ?_
      obtain ⟨σ_12, e_11, h⟩ := bo_ex h
      refine r_callv (r_runV (rest := []) X hP 0 tw_c0 lk_3 (mt_X3_begins l G σ (81 : Int32) e_11) (cwV 1 hts (lw_V q2214 q2216 qs103 q113 q2217) rfl rfl rfl ⟨rfl, cdX3_begins⟩ (rm_le (by omega) (by omega))) rfl hl.1 rfl (Nat.le_of_ble_eq_true rfl) dX3_decidesAs_29 ⟨Nat.le_refl _, Nat.le_refl _⟩) hP (fun H locs hP => ?_)
      refine lv_aload_n hx hb dX3_decidesAs_32 rfl (lv_at hl 0 rfl) ?_
      refine lv_iconst (v := (4 : Int32)) hx hb dX3_decidesAs_33 (by decide) ?_
      refine lv_iload_n hx hb dX3_decidesAs_34 rfl (lv_at hl 2 rfl) ?_
      obtain ⟨r_14, σ_15, e_13, h⟩ := bo2_ex h
      refine r_calli (r_runV (rest := []) X hP 0 tw_c0 lk_3 (hfd σ_12 (4 : Int32) a2 e_13) (cwV 2 hts (lw_V q2226 q2228 qs106 q113 q2229) rfl rfl rfl ⟨rfl, cdX3_decidesAs⟩ (rm_le (by omega) (by omega))) rfl hl.1 rfl (Nat.le_of_ble_eq_true rfl) dX3_decidesAs_35 ⟨Nat.le_refl _, Nat.le_refl _⟩) hP (fun H locs hP => ?_)
      refine lv_iconst (v := (1 : Int32)) hx hb dX3_decidesAs_38 (by decide) ?_
      refine lv_isub hx hb dX3_decidesAs_39 ?_
      exact hret _ _ _ _ _ _ dX3_decidesAs_40 rfl (Option.some.inj h) hP
  · have h := it_t h c_1
    refine lv_aload_n hx hb dX3_decidesAs_5 rfl (lv_at hl 0 rfl) ?_
    refine lv_bipush (v := (60 : Int32)) hx hb dX3_decidesAs_6 (by decide) ?_
    obtain ⟨σ_17, e_16, h⟩ := bo_ex h
    refine r_callv (r_runV (rest := []) X hP 0 tw_c0 lk_3 (mt_X3_begins l G σ (60 : Int32) e_16) (cwV 1 hts (lw_V q2214 q2216 qs103 q113 q2217) rfl rfl rfl ⟨rfl, cdX3_begins⟩ (rm_le (by omega) (by omega))) rfl hl.1 rfl (Nat.le_of_ble_eq_true rfl) dX3_decidesAs_8 ⟨Nat.le_refl _, Nat.le_refl _⟩) hP (fun H locs hP => ?_)
    refine lv_aload_n hx hb dX3_decidesAs_11 rfl (lv_at hl 0 rfl) ?_
    refine lv_iconst (v := (3 : Int32)) hx hb dX3_decidesAs_12 (by decide) ?_
    refine lv_iload_n hx hb dX3_decidesAs_13 rfl (lv_at hl 2 rfl) ?_
    obtain ⟨r_19, σ_20, e_18, h⟩ := bo2_ex h
    refine r_calli (r_runV (rest := []) X hP 0 tw_c0 lk_3 (hfd σ_17 (3 : Int32) a2 e_18) (cwV 2 hts (lw_V q2226 q2228 qs106 q113 q2229) rfl rfl rfl ⟨rfl, cdX3_decidesAs⟩ (rm_le (by omega) (by omega))) rfl hl.1 rfl (Nat.le_of_ble_eq_true rfl) dX3_decidesAs_14 ⟨Nat.le_refl _, Nat.le_refl _⟩) hP (fun H locs hP => ?_)
    refine lv_iconst (v := (5 : Int32)) hx hb dX3_decidesAs_17 (by decide) ?_
    refine lv_ixor hx hb dX3_decidesAs_18 ?_
    exact hret _ _ _ _ _ _ dX3_decidesAs_19 rfl (Option.some.inj h) hP
def tw_decidesAs : Nat → ST → Int32 → Int32 → Option (Int32 × ST)
  | 0, _, _, _ => none
  | n + 1, σ, b0, b1 => tw_decidesAsB (tw_decidesAs n) σ b0 b1
theorem mt_decidesAs (l : Launch) (G : GT) : ∀ (n : Nat) (σ : ST) (b0 : Int32) (b1 : Int32) {r : Int32} {u : ST}, tw_decidesAs n σ b0 b1 = some (r, u) → CI l tw_ft G yX3_decidesAs (ws_ yX3_decidesAs cX3_decidesAs 4 (some .int)) (rmf (n * 85) (n * 1875)) 0 0 [.ref (G.2.2.1 0), .int b0, .int b1] σ (r, u) := by
  intro n
  induction n with
  | zero => intro σ b0 b1 r u h; cases h
  | succ n ih =>
    intro σ b0 b1 r u h
    have h1 := mt_X3_decidesAs l G (tw_decidesAs n) (fun σ b0 b1 => ih σ b0 b1) σ b0 b1 h
    rw [Nat.succ_mul, Nat.succ_mul]
    exact h1
def tw_isBody (σ : ST) (a1 : Int32) : Option Int32 :=
  bo (tw_within ((a1).toInt64) (0 : Int64) ((((gI σ 0 66) - (1 : Int32))).toInt64)) (fun (r_2 : Int32) => bz r_2 (some r_2))
abbrev rm_X3_isBody : Room := rmf 1 25
set_option maxHeartbeats 4000000 in
set_option maxRecDepth 100000 in
theorem mt_X3_isBody (l : Launch) (G : GT) (σ : ST) (a1 : Int32) {r : Int32} (h : tw_isBody σ a1 = some r) : CI l tw_ft G yX3_isBody (ws_ yX3_isBody cX3_isBody 2 (some .boolean)) rm_X3_isBody 0 0 [.ref (G.2.2.1 0), .int a1] σ (r, σ) := by
  refine m_enterI (by decide) rfl (lv := [(0, .ref (G.2.2.1 0)), (1, .int a1)]) rfl ?_
  intro p e s m args below meth c H locs ls Q X hret hP hl
  have hx := X.1.1
  have hb := X.1.2.1
  have hown := X.1.2.2.2.1
  have hts := X.1.2.2.2.2
  unfold tw_isBody at h
  refine lv_iload_n hx hb dX3_isBody_0 rfl (lv_at hl 1 rfl) ?_
  refine lv_i2l hx hb dX3_isBody_1 rfl ?_
  refine lv_lconst (v := (0 : Int64)) hx hb dX3_isBody_2 (by decide) ?_
  refine lv_aload_n hx hb dX3_isBody_3 rfl (lv_at hl 0 rfl) ?_
  refine r_geti X hP 0 tw_c0 lk_3 66 (Nat.le_of_ble_eq_true rfl) q1704 tw_f66 dX3_isBody_4 ?_
  refine lv_iconst (v := (1 : Int32)) hx hb dX3_isBody_7 (by decide) ?_
  refine lv_isub hx hb dX3_isBody_8 ?_
  refine lv_i2l hx hb dX3_isBody_9 rfl ?_
  obtain ⟨r_2, e_1, h⟩ := bo_ex h
  refine r_calli (r_runS (rest := []) X hP (mt_X3_within l G σ ((a1).toInt64) (0 : Int64) ((((gI σ 0 66) - (1 : Int32))).toInt64) e_1) (va_cwS 3 hts (lw_S q1880 q1881 q113 q1882) rfl rfl rfl cdX3_within ⟨Nat.le_of_ble_eq_true rfl, Nat.le_of_ble_eq_true rfl⟩) rfl hl.1 rfl (Nat.le_of_ble_eq_true rfl) dX3_isBody_10 ⟨Nat.le_refl _, Nat.le_refl _⟩) hP (fun H locs hP => ?_)
  exact hret _ _ _ _ _ _ dX3_isBody_13 (bz_or h) (congrArg (fun z9 => (z9, σ)) (Option.some.inj (bz_k h))) hP
def tw_act (σ : ST) (a1 : Int32) (a2 : Int32) (a3 : Int32) : Option (Int32 × ST) :=
  st_ (pI σ 0 69 (0 : Int32)) (fun (σ_1 : ST) => bo (tw_isBody σ_1 a1) (fun (r_4 : Int32) => (if r_4 = 0 then some ((0 : Int32), σ_1) else ck a1 50 (st_ (pI σ_1 0 70 (lI σ_1 0 67 a1)) (fun (σ_6 : ST) => st_ (pI σ_6 0 71 a1) (fun (σ_8 : ST) => (if a2 = (0 : Int32) then bo2 (tw_knowsAs 4 σ_8 (gI σ_8 0 70) a3) (fun (r_12 : Int32) (σ_13 : ST) => some (r_12, σ_13)) else (if a2 = (1 : Int32) then bo2 (tw_speaksAs 4 σ_8 (gI σ_8 0 70) a3) (fun (r_16 : Int32) (σ_17 : ST) => some (r_16, σ_17)) else (if a2 = (2 : Int32) then bo2 (tw_stopsAs 4 σ_8 (gI σ_8 0 70) a3) (fun (r_20 : Int32) (σ_21 : ST) => some (r_20, σ_21)) else (if a2 = (3 : Int32) then bo2 (tw_decidesAs 4 σ_8 (gI σ_8 0 70) a3) (fun (r_24 : Int32) (σ_25 : ST) => some (r_24, σ_25)) else some ((0 : Int32), σ_8)))))))))))
abbrev rm_X3_act : Room := rmf 341 7523
set_option maxHeartbeats 4000000 in
set_option maxRecDepth 100000 in
theorem mt_X3_act (l : Launch) (G : GT) (σ : ST) (a1 : Int32) (a2 : Int32) (a3 : Int32) {r : Int32} {u : ST} (h : tw_act σ a1 a2 a3 = some (r, u)) : CI l tw_ft G yX3_act (ws_ yX3_act cX3_act 4 (some .int)) rm_X3_act 0 0 [.ref (G.2.2.1 0), .int a1, .int a2, .int a3] σ (r, u) := by
  refine m_enterI (by decide) rfl (lv := [(0, .ref (G.2.2.1 0)), (1, .int a1), (2, .int a2), (3, .int a3)]) rfl ?_
  intro p e s m args below meth c H locs ls Q X hret hP hl
  have hx := X.1.1
  have hb := X.1.2.1
  have hown := X.1.2.2.2.1
  have hts := X.1.2.2.2.2
  unfold tw_act at h
  refine lv_aload_n hx hb dX3_act_0 rfl (lv_at hl 0 rfl) ?_
  refine lv_iconst (v := (0 : Int32)) hx hb dX3_act_1 (by decide) ?_
  refine r_puti X tw_w hP 0 tw_c0 lk_3 69 (Nat.le_of_ble_eq_true rfl) q1707 tw_f69 rfl (tyX3_ok 69 (by decide)) rfl rfl dX3_act_2 (fun σ_1 H locs e_2 hP => ?_)
  have h := st_k h e_2
  refine lv_aload_n hx hb dX3_act_5 rfl (lv_at hl 0 rfl) ?_
  refine lv_iload_n hx hb dX3_act_6 rfl (lv_at hl 1 rfl) ?_
  obtain ⟨r_4, e_3, h⟩ := bo_ex h
  refine r_calli (r_runV (rest := []) X hP 0 tw_c0 lk_3 (mt_X3_isBody l G σ_1 a1 e_3) (cwV 1 hts (lw_V q2206 q2208 qs101 q113 q2209) rfl rfl rfl ⟨rfl, cdX3_isBody⟩ ⟨Nat.le_of_ble_eq_true rfl, Nat.le_of_ble_eq_true rfl⟩) rfl hl.1 rfl (Nat.le_of_ble_eq_true rfl) dX3_act_7 ⟨Nat.le_refl _, Nat.le_refl _⟩) hP (fun H locs hP => ?_)
  refine lv_if_ne (tgt := 15) hx hb dX3_act_10 (by decide) (fun c_5 => ?_) (fun c_5 => ?_)
  · have h := it_f h c_5
    refine lv_aload_n hx hb dX3_act_15 rfl (lv_at hl 0 rfl) ?_
    refine lv_aload_n hx hb dX3_act_16 rfl (lv_at hl 0 rfl) ?_
    refine r_geta X hP 0 tw_c0 lk_3 67 (Nat.le_of_ble_eq_true rfl) q1705 tw_f67 dX3_act_17 ?_
    refine lv_iload_n hx hb dX3_act_20 rfl (lv_at hl 1 rfl) ?_
    refine r_iald X hP 39 tw_c39 (ck_in h) dX3_act_21 ?_
    have h := ck_k h
    refine r_puti X tw_w hP 0 tw_c0 lk_3 70 (Nat.le_of_ble_eq_true rfl) q1708 tw_f70 rfl (tyX3_ok 70 (by decide)) rfl rfl dX3_act_22 (fun σ_6 H locs e_7 hP => ?_)
    have h := st_k h e_7
    refine lv_aload_n hx hb dX3_act_25 rfl (lv_at hl 0 rfl) ?_
    refine lv_iload_n hx hb dX3_act_26 rfl (lv_at hl 1 rfl) ?_
    refine r_puti X tw_w hP 0 tw_c0 lk_3 71 (Nat.le_of_ble_eq_true rfl) q1709 tw_f71 rfl (tyX3_ok 71 (by decide)) rfl rfl dX3_act_27 (fun σ_8 H locs e_9 hP => ?_)
    have h := st_k h e_9
    refine lv_iload_n hx hb dX3_act_30 rfl (lv_at hl 2 rfl) ?_
    by_cases c_10 : a2 = (0 : Int32)
    · have h := it_t h c_10
      refine lv_tableIn (tgt := 60) hx hb dX3_act_31 (by rw [c_10]; decide) (by rw [c_10]; decide) (by rw [c_10]; rfl) (by decide) ?_
      refine lv_aload_n hx hb dX3_act_60 rfl (lv_at hl 0 rfl) ?_
      refine lv_aload_n hx hb dX3_act_61 rfl (lv_at hl 0 rfl) ?_
      refine r_geti X hP 0 tw_c0 lk_3 70 (Nat.le_of_ble_eq_true rfl) q1708 tw_f70 dX3_act_62 ?_
      refine lv_iload_n hx hb dX3_act_65 rfl (lv_at hl 3 rfl) ?_
      obtain ⟨r_12, σ_13, e_11, h⟩ := bo2_ex h
      refine r_calli (r_runV (rest := []) X hP 0 tw_c0 lk_3 (mt_knowsAs l G 4 σ_8 (gI σ_8 0 70) a3 e_11) (cwV 2 hts (lw_V q2210 q2212 qs102 q113 q2213) rfl rfl rfl ⟨rfl, cdX3_knowsAs⟩ ⟨Nat.le_of_ble_eq_true rfl, Nat.le_of_ble_eq_true rfl⟩) rfl hl.1 rfl (Nat.le_of_ble_eq_true rfl) dX3_act_66 ⟨Nat.le_refl _, Nat.le_refl _⟩) hP (fun H locs hP => ?_)
      exact hret _ _ _ _ _ _ dX3_act_69 rfl (Option.some.inj h) hP
    · have h := it_f h c_10
      by_cases c_14 : a2 = (1 : Int32)
      · have h := it_t h c_14
        refine lv_tableIn (tgt := 70) hx hb dX3_act_31 (by rw [c_14]; decide) (by rw [c_14]; decide) (by rw [c_14]; rfl) (by decide) ?_
        refine lv_aload_n hx hb dX3_act_70 rfl (lv_at hl 0 rfl) ?_
        refine lv_aload_n hx hb dX3_act_71 rfl (lv_at hl 0 rfl) ?_
        refine r_geti X hP 0 tw_c0 lk_3 70 (Nat.le_of_ble_eq_true rfl) q1708 tw_f70 dX3_act_72 ?_
        refine lv_iload_n hx hb dX3_act_75 rfl (lv_at hl 3 rfl) ?_
        obtain ⟨r_16, σ_17, e_15, h⟩ := bo2_ex h
        refine r_calli (r_runV (rest := []) X hP 0 tw_c0 lk_3 (mt_speaksAs l G 4 σ_8 (gI σ_8 0 70) a3 e_15) (cwV 2 hts (lw_V q2218 q2220 qs104 q113 q2221) rfl rfl rfl ⟨rfl, cdX3_speaksAs⟩ ⟨Nat.le_of_ble_eq_true rfl, Nat.le_of_ble_eq_true rfl⟩) rfl hl.1 rfl (Nat.le_of_ble_eq_true rfl) dX3_act_76 ⟨Nat.le_refl _, Nat.le_refl _⟩) hP (fun H locs hP => ?_)
        exact hret _ _ _ _ _ _ dX3_act_79 rfl (Option.some.inj h) hP
      · have h := it_f h c_14
        by_cases c_18 : a2 = (2 : Int32)
        · have h := it_t h c_18
          refine lv_tableIn (tgt := 80) hx hb dX3_act_31 (by rw [c_18]; decide) (by rw [c_18]; decide) (by rw [c_18]; rfl) (by decide) ?_
          refine lv_aload_n hx hb dX3_act_80 rfl (lv_at hl 0 rfl) ?_
          refine lv_aload_n hx hb dX3_act_81 rfl (lv_at hl 0 rfl) ?_
          refine r_geti X hP 0 tw_c0 lk_3 70 (Nat.le_of_ble_eq_true rfl) q1708 tw_f70 dX3_act_82 ?_
          refine lv_iload_n hx hb dX3_act_85 rfl (lv_at hl 3 rfl) ?_
          obtain ⟨r_20, σ_21, e_19, h⟩ := bo2_ex h
          refine r_calli (r_runV (rest := []) X hP 0 tw_c0 lk_3 (mt_stopsAs l G 4 σ_8 (gI σ_8 0 70) a3 e_19) (cwV 2 hts (lw_V q2222 q2224 qs105 q113 q2225) rfl rfl rfl ⟨rfl, cdX3_stopsAs⟩ ⟨Nat.le_of_ble_eq_true rfl, Nat.le_of_ble_eq_true rfl⟩) rfl hl.1 rfl (Nat.le_of_ble_eq_true rfl) dX3_act_86 ⟨Nat.le_refl _, Nat.le_refl _⟩) hP (fun H locs hP => ?_)
          exact hret _ _ _ _ _ _ dX3_act_89 rfl (Option.some.inj h) hP
        · have h := it_f h c_18
          by_cases c_22 : a2 = (3 : Int32)
          · have h := it_t h c_22
            refine lv_tableIn (tgt := 90) hx hb dX3_act_31 (by rw [c_22]; decide) (by rw [c_22]; decide) (by rw [c_22]; rfl) (by decide) ?_
            refine lv_aload_n hx hb dX3_act_90 rfl (lv_at hl 0 rfl) ?_
            refine lv_aload_n hx hb dX3_act_91 rfl (lv_at hl 0 rfl) ?_
            refine r_geti X hP 0 tw_c0 lk_3 70 (Nat.le_of_ble_eq_true rfl) q1708 tw_f70 dX3_act_92 ?_
            refine lv_iload_n hx hb dX3_act_95 rfl (lv_at hl 3 rfl) ?_
            obtain ⟨r_24, σ_25, e_23, h⟩ := bo2_ex h
            refine r_calli (r_runV (rest := []) X hP 0 tw_c0 lk_3 (mt_decidesAs l G 4 σ_8 (gI σ_8 0 70) a3 e_23) (cwV 2 hts (lw_V q2226 q2228 qs106 q113 q2229) rfl rfl rfl ⟨rfl, cdX3_decidesAs⟩ ⟨Nat.le_of_ble_eq_true rfl, Nat.le_of_ble_eq_true rfl⟩) rfl hl.1 rfl (Nat.le_of_ble_eq_true rfl) dX3_act_96 ⟨Nat.le_refl _, Nat.le_refl _⟩) hP (fun H locs hP => ?_)
            exact hret _ _ _ _ _ _ dX3_act_99 rfl (Option.some.inj h) hP
          · have h := it_f h c_22
            refine lv_tableOut (tgt := 100) hx hb dX3_act_31 (by have n0 := lv_neT c_10 (a := 0) (by decide); have n1 := lv_neT c_14 (a := 1) (by decide); have n2 := lv_neT c_18 (a := 2) (by decide); have n3 := lv_neT c_22 (a := 3) (by decide); omega) (by decide) ?_
            refine lv_iconst (v := (0 : Int32)) hx hb dX3_act_100 (by decide) ?_
            exact hret _ _ _ _ _ _ dX3_act_101 rfl (Option.some.inj h) hP
  · have h := it_t h c_5
    refine lv_iconst (v := (0 : Int32)) hx hb dX3_act_13 (by decide) ?_
    exact hret _ _ _ _ _ _ dX3_act_14 rfl (Option.some.inj h) hP
def tw_trace (σ : ST) (a1 : Int32) : Option Int32 :=
  (if a1 < 0 then some (-1 : Int32) else (if (gI σ 0 69) ≤ a1 then some (-1 : Int32) else (if (24 : Int32) ≤ a1 then some (-1 : Int32) else ck a1 24 (some (lI σ 0 68 a1)))))
abbrev rm_X3_trace : Room := rmf 0 0
set_option maxHeartbeats 4000000 in
set_option maxRecDepth 100000 in
theorem mt_X3_trace (l : Launch) (G : GT) (σ : ST) (a1 : Int32) {r : Int32} (h : tw_trace σ a1 = some r) : CI l tw_ft G yX3_trace (ws_ yX3_trace cX3_trace 2 (some .int)) rm_X3_trace 0 0 [.ref (G.2.2.1 0), .int a1] σ (r, σ) := by
  refine m_enterI (by decide) rfl (lv := [(0, .ref (G.2.2.1 0)), (1, .int a1)]) rfl ?_
  intro p e s m args below meth c H locs ls Q X hret hP hl
  have hx := X.1.1
  have hb := X.1.2.1
  have hown := X.1.2.2.2.1
  have hts := X.1.2.2.2.2
  unfold tw_trace at h
  refine lv_iload_n hx hb dX3_trace_0 rfl (lv_at hl 1 rfl) ?_
  refine lv_if_lt (tgt := 27) hx hb dX3_trace_1 (by decide) (fun c_1 => ?_) (fun c_1 => ?_)
  · have h := it_t h c_1
    refine lv_iconst (v := (-1 : Int32)) hx hb dX3_trace_27 (by decide) ?_
    exact hret _ _ _ _ _ _ dX3_trace_28 rfl (congrArg (fun z9 => (z9, σ)) (Option.some.inj h)) hP
  · have h := it_f h c_1
    refine lv_iload_n hx hb dX3_trace_4 rfl (lv_at hl 1 rfl) ?_
    refine lv_aload_n hx hb dX3_trace_5 rfl (lv_at hl 0 rfl) ?_
    refine r_geti X hP 0 tw_c0 lk_3 69 (Nat.le_of_ble_eq_true rfl) q1707 tw_f69 dX3_trace_6 ?_
    refine lv_icmp_ge (tgt := 27) hx hb dX3_trace_9 (by decide) (fun c_2 => ?_) (fun c_2 => ?_)
    · have h := it_t h c_2
      refine lv_iconst (v := (-1 : Int32)) hx hb dX3_trace_27 (by decide) ?_
      exact hret _ _ _ _ _ _ dX3_trace_28 rfl (congrArg (fun z9 => (z9, σ)) (Option.some.inj h)) hP
    · have h := it_f h c_2
      refine lv_iload_n hx hb dX3_trace_12 rfl (lv_at hl 1 rfl) ?_
      refine lv_bipush (v := (24 : Int32)) hx hb dX3_trace_13 (by decide) ?_
      refine lv_icmp_ge (tgt := 27) hx hb dX3_trace_15 (by decide) (fun c_3 => ?_) (fun c_3 => ?_)
      · have h := it_t h c_3
        refine lv_iconst (v := (-1 : Int32)) hx hb dX3_trace_27 (by decide) ?_
        exact hret _ _ _ _ _ _ dX3_trace_28 rfl (congrArg (fun z9 => (z9, σ)) (Option.some.inj h)) hP
      · have h := it_f h c_3
        refine lv_aload_n hx hb dX3_trace_18 rfl (lv_at hl 0 rfl) ?_
        refine r_geta X hP 0 tw_c0 lk_3 68 (Nat.le_of_ble_eq_true rfl) q1706 tw_f68 dX3_trace_19 ?_
        refine lv_iload_n hx hb dX3_trace_22 rfl (lv_at hl 1 rfl) ?_
        refine r_iald X hP 40 tw_c40 (ck_in h) dX3_trace_23 ?_
        have h := ck_k h
        refine lv_goto (tgt := 28) hx hb dX3_trace_24 (by decide) ?_
        exact hret _ _ _ _ _ _ dX3_trace_28 rfl (congrArg (fun z9 => (z9, σ)) (Option.some.inj h)) hP
def tw_keep_K22 (σ : ST) (k1 : Int32) (k2 : Int32) : Option (Int32 × ST) :=
  ck k1 6 (st_ (aI σ 0 72 k1 k2) (fun (σ_5 : ST) => ck k1 6 (st_ (aI σ_5 0 73 k1 (0 : Int32)) (fun (σ_7 : ST) => some ((1 : Int32), σ_7)))))
def tw_keep (σ : ST) (a1 : Int32) (a2 : Int32) : Option (Int32 × ST) :=
  bo (tw_isShelf a1) (fun (r_2 : Int32) => (if r_2 = 0 then some ((-1 : Int32), σ) else (if a2 = (-1 : Int32) then (tw_keep_K22 σ a1 a2) else bo (tw_isBody σ a2) (fun (r_15 : Int32) => (if r_15 = 0 then some ((-1 : Int32), σ) else (tw_keep_K22 σ a1 a2))))))
abbrev rm_X3_keep : Room := rmf 2 46
set_option maxHeartbeats 4000000 in
set_option maxRecDepth 100000 in
theorem mt_X3_keep (l : Launch) (G : GT) (σ : ST) (a1 : Int32) (a2 : Int32) {r : Int32} {u : ST} (h : tw_keep σ a1 a2 = some (r, u)) : CI l tw_ft G yX3_keep (ws_ yX3_keep cX3_keep 3 (some .int)) rm_X3_keep 0 0 [.ref (G.2.2.1 0), .int a1, .int a2] σ (r, u) := by
  refine m_enterI (by decide) rfl (lv := [(0, .ref (G.2.2.1 0)), (1, .int a1), (2, .int a2)]) rfl ?_
  intro p e s m args below meth c H locs ls Q X hret hP hl
  have hx := X.1.1
  have hb := X.1.2.1
  have hown := X.1.2.2.2.1
  have hts := X.1.2.2.2.2
  unfold tw_keep at h
  refine lv_iload_n hx hb dX3_keep_0 rfl (lv_at hl 1 rfl) ?_
  obtain ⟨r_2, e_1, h⟩ := bo_ex h
  refine r_calli (r_runS (rest := []) X hP (mt_X3_isShelf l G σ a1 e_1) (va_cwS 1 hts (lw_S q1914 q1915 q113 q1916) rfl rfl rfl cdX3_isShelf ⟨Nat.le_of_ble_eq_true rfl, Nat.le_of_ble_eq_true rfl⟩) rfl hl.1 rfl (Nat.le_of_ble_eq_true rfl) dX3_keep_1 ⟨Nat.le_refl _, Nat.le_refl _⟩) hP (fun H locs hP => ?_)
  refine lv_if_eq (tgt := 20) hx hb dX3_keep_4 (by decide) (fun c_3 => ?_) (fun c_3 => ?_)
  · have h := it_t h c_3
    refine lv_iconst (v := (-1 : Int32)) hx hb dX3_keep_20 (by decide) ?_
    exact hret _ _ _ _ _ _ dX3_keep_21 rfl (Option.some.inj h) hP
  · have h := it_f h c_3
    refine lv_iload_n hx hb dX3_keep_7 rfl (lv_at hl 2 rfl) ?_
    refine lv_iconst (v := (-1 : Int32)) hx hb dX3_keep_8 (by decide) ?_
    have hK_4 : ∀ (H : Heap) (locs : List Loc) (ls : Array Slot), tw_keep_K22 σ a1 a2 = some (r, u) → PS tw_ft G s σ H locs → lv_has ls 3 [(0, .ref (G.2.2.1 0)), (1, .int a1), (2, .int a2)] → W p l e rm_X3_keep s m args below meth c H locs 0 0 Q (F0 m 22 ls []) := by
      intro  H locs ls h hP hl
      unfold tw_keep_K22 at h
      refine lv_aload_n hx hb dX3_keep_22 rfl (lv_at hl 0 rfl) ?_
      refine r_geta X hP 0 tw_c0 lk_3 72 (Nat.le_of_ble_eq_true rfl) q1710 tw_f72 dX3_keep_23 ?_
      refine lv_iload_n hx hb dX3_keep_26 rfl (lv_at hl 1 rfl) ?_
      refine lv_iload_n hx hb dX3_keep_27 rfl (lv_at hl 2 rfl) ?_
      refine r_iast X tw_w hP 41 tw_c41 (ck_in h) dX3_keep_28 (fun σ_9 H locs e_10 hP => ?_)
      have h := st_k (ck_k h) e_10
      refine lv_aload_n hx hb dX3_keep_29 rfl (lv_at hl 0 rfl) ?_
      refine r_geta X hP 0 tw_c0 lk_3 73 (Nat.le_of_ble_eq_true rfl) q1711 tw_f73 dX3_keep_30 ?_
      refine lv_iload_n hx hb dX3_keep_33 rfl (lv_at hl 1 rfl) ?_
      refine lv_iconst (v := (0 : Int32)) hx hb dX3_keep_34 (by decide) ?_
      refine r_iast X tw_w hP 42 tw_c42 (ck_in h) dX3_keep_35 (fun σ_11 H locs e_12 hP => ?_)
      have h := st_k (ck_k h) e_12
      refine lv_iconst (v := (1 : Int32)) hx hb dX3_keep_36 (by decide) ?_
      exact hret _ _ _ _ _ _ dX3_keep_37 rfl (Option.some.inj h) hP
    refine lv_icmp_eq (tgt := 22) hx hb dX3_keep_9 (by decide) (fun c_13 => ?_) (fun c_13 => ?_)
    · have h := it_t h c_13
      exact hK_4  _ _ _ h hP (lv_sub hl [0, 1, 2] rfl)
    · have h := it_f h c_13
      refine lv_aload_n hx hb dX3_keep_12 rfl (lv_at hl 0 rfl) ?_
      refine lv_iload_n hx hb dX3_keep_13 rfl (lv_at hl 2 rfl) ?_
      obtain ⟨r_15, e_14, h⟩ := bo_ex h
      refine r_calli (r_runV (rest := []) X hP 0 tw_c0 lk_3 (mt_X3_isBody l G σ a2 e_14) (cwV 1 hts (lw_V q2206 q2208 qs101 q113 q2209) rfl rfl rfl ⟨rfl, cdX3_isBody⟩ ⟨Nat.le_of_ble_eq_true rfl, Nat.le_of_ble_eq_true rfl⟩) rfl hl.1 rfl (Nat.le_of_ble_eq_true rfl) dX3_keep_14 ⟨Nat.le_refl _, Nat.le_refl _⟩) hP (fun H locs hP => ?_)
      refine lv_if_ne (tgt := 22) hx hb dX3_keep_17 (by decide) (fun c_16 => ?_) (fun c_16 => ?_)
      · have h := it_f h c_16
        exact hK_4  _ _ _ h hP (lv_sub hl [0, 1, 2] rfl)
      · have h := it_t h c_16
        refine lv_iconst (v := (-1 : Int32)) hx hb dX3_keep_20 (by decide) ?_
        exact hret _ _ _ _ _ _ dX3_keep_21 rfl (Option.some.inj h) hP
def tw_row_B57 (l1 : Int32) (rc57 : Int32 → ST → Option (ST)) (w4 : Int32) (σ : ST) : Option (ST) :=
  (if (((60 : Int32) * l1) + (60 : Int32)) ≤ w4 then some (σ) else ck w4 360 (st_ (aL σ 0 74 w4 (0 : Int64)) (fun (σ_14 : ST) => (rc57 (w4 + (1 : Int32)) σ_14))))
def tw_row (σ : ST) (a1 : Int32) (a2 : Int32) (a3 : Int32) : Option (Int32 × ST) :=
  bo (tw_isShelf a1) (fun (r_2 : Int32) => (if r_2 = 0 then some ((-1 : Int32), σ) else bo (tw_within ((a2).toInt64) (0 : Int64) (4 : Int64)) (fun (r_5 : Int32) => (if r_5 = 0 then some ((-1 : Int32), σ) else (if a3 ≤ (60 : Int32) then (if 0 ≤ a3 then ck a1 6 (st_ (aI σ 0 72 a1 ((50 : Int32) + a2)) (fun (σ_9 : ST) => ck a1 6 (st_ (aI σ_9 0 73 a1 a3) (fun (σ_11 : ST) => bo (wl2 (tw_row_B57 a1) FU ((60 : Int32) * a1) σ_11) (fun (σ_17 : ST) => some ((1 : Int32), σ_17)))))) else some ((-14 : Int32), σ)) else some ((-1 : Int32), σ))))))
abbrev rm_X3_row : Room := rmf 2 45
set_option maxHeartbeats 4000000 in
set_option maxRecDepth 100000 in
theorem mt_X3_row (l : Launch) (G : GT) (σ : ST) (a1 : Int32) (a2 : Int32) (a3 : Int32) {r : Int32} {u : ST} (h : tw_row σ a1 a2 a3 = some (r, u)) : CI l tw_ft G yX3_row (ws_ yX3_row cX3_row 5 (some .int)) rm_X3_row 0 0 [.ref (G.2.2.1 0), .int a1, .int a2, .int a3] σ (r, u) := by
  refine m_enterI (by decide) rfl (lv := [(0, .ref (G.2.2.1 0)), (1, .int a1), (2, .int a2), (3, .int a3)]) rfl ?_
  intro p e s m args below meth c H locs ls Q X hret hP hl
  have hx := X.1.1
  have hb := X.1.2.1
  have hown := X.1.2.2.2.1
  have hts := X.1.2.2.2.2
  unfold tw_row at h
  refine lv_iload_n hx hb dX3_row_0 rfl (lv_at hl 1 rfl) ?_
  obtain ⟨r_2, e_1, h⟩ := bo_ex h
  refine r_calli (r_runS (rest := []) X hP (mt_X3_isShelf l G σ a1 e_1) (va_cwS 1 hts (lw_S q1914 q1915 q113 q1916) rfl rfl rfl cdX3_isShelf ⟨Nat.le_of_ble_eq_true rfl, Nat.le_of_ble_eq_true rfl⟩) rfl hl.1 rfl (Nat.le_of_ble_eq_true rfl) dX3_row_1 ⟨Nat.le_refl _, Nat.le_refl _⟩) hP (fun H locs hP => ?_)
  refine lv_if_eq (tgt := 25) hx hb dX3_row_4 (by decide) (fun c_3 => ?_) (fun c_3 => ?_)
  · have h := it_t h c_3
    refine lv_iconst (v := (-1 : Int32)) hx hb dX3_row_25 (by decide) ?_
    exact hret _ _ _ _ _ _ dX3_row_26 rfl (Option.some.inj h) hP
  · have h := it_f h c_3
    refine lv_iload_n hx hb dX3_row_7 rfl (lv_at hl 2 rfl) ?_
    refine lv_i2l hx hb dX3_row_8 rfl ?_
    refine lv_lconst (v := (0 : Int64)) hx hb dX3_row_9 (by decide) ?_
    refine lv_ldc2 hx hb hown (hts _ q2242) dX3_row_10 ?_
    obtain ⟨r_5, e_4, h⟩ := bo_ex h
    refine r_calli (r_runS (rest := []) X hP (mt_X3_within l G σ ((a2).toInt64) (0 : Int64) (4 : Int64) e_4) (va_cwS 3 hts (lw_S q1880 q1881 q113 q1882) rfl rfl rfl cdX3_within ⟨Nat.le_of_ble_eq_true rfl, Nat.le_of_ble_eq_true rfl⟩) rfl hl.1 rfl (Nat.le_of_ble_eq_true rfl) dX3_row_13 ⟨Nat.le_refl _, Nat.le_refl _⟩) hP (fun H locs hP => ?_)
    refine lv_if_eq (tgt := 25) hx hb dX3_row_16 (by decide) (fun c_6 => ?_) (fun c_6 => ?_)
    · have h := it_t h c_6
      refine lv_iconst (v := (-1 : Int32)) hx hb dX3_row_25 (by decide) ?_
      exact hret _ _ _ _ _ _ dX3_row_26 rfl (Option.some.inj h) hP
    · have h := it_f h c_6
      refine lv_iload_n hx hb dX3_row_19 rfl (lv_at hl 3 rfl) ?_
      refine lv_bipush (v := (60 : Int32)) hx hb dX3_row_20 (by decide) ?_
      refine lv_icmp_le (tgt := 27) hx hb dX3_row_22 (by decide) (fun c_7 => ?_) (fun c_7 => ?_)
      · have h := it_t h c_7
        refine lv_iload_n hx hb dX3_row_27 rfl (lv_at hl 3 rfl) ?_
        refine lv_if_ge (tgt := 34) hx hb dX3_row_28 (by decide) (fun c_8 => ?_) (fun c_8 => ?_)
        · have h := it_t h c_8
          refine lv_aload_n hx hb dX3_row_34 rfl (lv_at hl 0 rfl) ?_
          refine r_geta X hP 0 tw_c0 lk_3 72 (Nat.le_of_ble_eq_true rfl) q1710 tw_f72 dX3_row_35 ?_
          refine lv_iload_n hx hb dX3_row_38 rfl (lv_at hl 1 rfl) ?_
          refine lv_bipush (v := (50 : Int32)) hx hb dX3_row_39 (by decide) ?_
          refine lv_iload_n hx hb dX3_row_41 rfl (lv_at hl 2 rfl) ?_
          refine lv_iadd hx hb dX3_row_42 ?_
          refine r_iast X tw_w hP 41 tw_c41 (ck_in h) dX3_row_43 (fun σ_9 H locs e_10 hP => ?_)
          have h := st_k (ck_k h) e_10
          refine lv_aload_n hx hb dX3_row_44 rfl (lv_at hl 0 rfl) ?_
          refine r_geta X hP 0 tw_c0 lk_3 73 (Nat.le_of_ble_eq_true rfl) q1711 tw_f73 dX3_row_45 ?_
          refine lv_iload_n hx hb dX3_row_48 rfl (lv_at hl 1 rfl) ?_
          refine lv_iload_n hx hb dX3_row_49 rfl (lv_at hl 3 rfl) ?_
          refine r_iast X tw_w hP 42 tw_c42 (ck_in h) dX3_row_50 (fun σ_11 H locs e_12 hP => ?_)
          have h := st_k (ck_k h) e_12
          refine lv_bipush (v := (60 : Int32)) hx hb dX3_row_51 (by decide) ?_
          refine lv_iload_n hx hb dX3_row_53 rfl (lv_at hl 1 rfl) ?_
          refine lv_imul hx hb dX3_row_54 ?_
          refine lv_istore (lv' := [(4, .int ((60 : Int32) * a1)), (0, .ref (G.2.2.1 0)), (1, .int a1), (2, .int a2), (3, .int a3)]) hx hb dX3_row_55 hl (by decide) rfl (fun ls hl => ?_)
          obtain ⟨σ_17, h_18, h⟩ := bo_ex h
          have hE_19 : ∀ (H : Heap) (locs : List Loc) (ls : Array Slot), PS tw_ft G s σ_17 H locs → lv_has ls 5 [] → W p l e rm_X3_row s m args below meth c H locs 0 0 Q (F0 m 83 ls []) := by
            intro H locs ls hP hl
            refine lv_iconst (v := (1 : Int32)) hx hb dX3_row_83 (by decide) ?_
            exact hret _ _ _ _ _ _ dX3_row_84 rfl (Option.some.inj h) hP
          have hL_16 : ∀ (n : Nat) (w_20 : Int32) (σ_21 : ST) (H : Heap) (locs : List Loc) (ls : Array Slot), wl2 (tw_row_B57 a1) n w_20 σ_21 = some σ_17 → PS tw_ft G s σ_21 H locs → lv_has ls 5 [(0, .ref (G.2.2.1 0)), (1, .int a1), (4, .int w_20)] → W p l e rm_X3_row s m args below meth c H locs 0 0 Q (F0 m 57 ls []) := by
            intro n
            induction n with
            | zero => intro w_20 σ_21 H locs ls h_22; cases h_22
            | succ n ih =>
              intro w_20 σ_21 H locs ls h_22 hP hl
              have h_22 : tw_row_B57 a1 (wl2 (tw_row_B57 a1) n) w_20 σ_21 = some _ := h_22
              generalize wl2 (tw_row_B57 a1) n = rc_23 at h_22 ih
              unfold tw_row_B57 at h_22
              refine lv_iload hx hb dX3_row_57 (lv_at hl 2 rfl) ?_
              refine lv_bipush (v := (60 : Int32)) hx hb dX3_row_59 (by decide) ?_
              refine lv_iload_n hx hb dX3_row_61 rfl (lv_at hl 1 rfl) ?_
              refine lv_imul hx hb dX3_row_62 ?_
              refine lv_bipush (v := (60 : Int32)) hx hb dX3_row_63 (by decide) ?_
              refine lv_iadd hx hb dX3_row_65 ?_
              refine lv_icmp_ge (tgt := 83) hx hb dX3_row_66 (by decide) (fun c_24 => ?_) (fun c_24 => ?_)
              · have h_22 := it_t h_22 c_24
                obtain rfl := Option.some.inj h_22
                exact hE_19 _ _ _ hP (lv_sub hl [] rfl)
              · have h_22 := it_f h_22 c_24
                refine lv_aload_n hx hb dX3_row_69 rfl (lv_at hl 0 rfl) ?_
                refine r_geta X hP 0 tw_c0 lk_3 74 (Nat.le_of_ble_eq_true rfl) q1712 tw_f74 dX3_row_70 ?_
                refine lv_iload hx hb dX3_row_73 (lv_at hl 2 rfl) ?_
                refine lv_lconst (v := (0 : Int64)) hx hb dX3_row_75 (by decide) ?_
                refine r_last X tw_w hP 43 tw_c43 (ck_in h_22) dX3_row_76 (fun σ_25 H locs e_26 hP => ?_)
                have h_22 := st_k (ck_k h_22) e_26
                refine lv_iinc (v := (w_20 + (1 : Int32))) (lv' := [(4, .int (w_20 + (1 : Int32))), (0, .ref (G.2.2.1 0)), (1, .int a1)]) hx hb dX3_row_77 hl (k := 2) rfl rfl (by decide) rfl (fun ls hl => ?_)
                refine lv_goto (tgt := 57) hx hb dX3_row_80 (by decide) ?_
                exact ih _ _ _ _ _ h_22 hP (lv_sub hl [1, 2, 0] rfl)
          exact hL_16 _ _ _ _ _ _ h_18 hP (lv_sub hl [1, 2, 0] rfl)
        · have h := it_f h c_8
          refine lv_bipush (v := (-14 : Int32)) hx hb dX3_row_31 (by decide) ?_
          exact hret _ _ _ _ _ _ dX3_row_33 rfl (Option.some.inj h) hP
      · have h := it_f h c_7
        refine lv_iconst (v := (-1 : Int32)) hx hb dX3_row_25 (by decide) ?_
        exact hret _ _ _ _ _ _ dX3_row_26 rfl (Option.some.inj h) hP
