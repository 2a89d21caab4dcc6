set_option maxRecDepth 100000
def tw_asSort (a0 : Int32) (a1 : Int64) : Option Int64 :=
  (if a0 = 0 then some ((((((a1).toInt32)).toInt8.toInt32)).toInt64) else (if a0 = (1 : Int32) then some ((((((a1).toInt32)).toInt16.toInt32)).toInt64) else (if a0 = (2 : Int32) then some ((((a1).toInt32)).toInt64) else (if a0 = (4 : Int32) then (if (lg_cmp a1 (0 : Int64)) = 0 then some (0 : Int64) else some (1 : Int64)) else some a1))))
abbrev rm_X3_asSort : Room := rmf 0 0
set_option maxHeartbeats 4000000 in
set_option maxRecDepth 100000 in
theorem mt_X3_asSort (l : Launch) (G : GT) (σ : ST) (a0 : Int32) (a1 : Int64) {r : Int64} (h : tw_asSort a0 a1 = some r) : CL l tw_ft G yX3_asSort (ws_ yX3_asSort cX3_asSort 3 (some .long)) rm_X3_asSort 0 0 [.int a0, .long a1] σ (r, σ) := by
  refine m_enterL (by decide) rfl (lv := [(0, .int a0), (1, .long a1)]) rfl ?_
  intro p e s m args below meth c H locs ls Q X hret hP hl
  have hx := X.1.1
  have hb := X.1.2.1
  have hown := X.1.2.2.2.1
  have hts := X.1.2.2.2.2
  unfold tw_asSort at h
  refine lv_iload_n hx hb dX3_asSort_0 rfl (lv_at hl 0 rfl) ?_
  refine lv_if_ne (tgt := 11) hx hb dX3_asSort_1 (by decide) (fun c_1 => ?_) (fun c_1 => ?_)
  · have h := it_f h c_1
    refine lv_iload_n hx hb dX3_asSort_11 rfl (lv_at hl 0 rfl) ?_
    refine lv_iconst (v := (1 : Int32)) hx hb dX3_asSort_12 (by decide) ?_
    refine lv_icmp_ne (tgt := 23) hx hb dX3_asSort_13 (by decide) (fun c_2 => ?_) (fun c_2 => ?_)
    · have h := it_f h c_2
      refine lv_iload_n hx hb dX3_asSort_23 rfl (lv_at hl 0 rfl) ?_
      refine lv_iconst (v := (2 : Int32)) hx hb dX3_asSort_24 (by decide) ?_
      refine lv_icmp_ne (tgt := 34) hx hb dX3_asSort_25 (by decide) (fun c_3 => ?_) (fun c_3 => ?_)
      · have h := it_f h c_3
        refine lv_iload_n hx hb dX3_asSort_34 rfl (lv_at hl 0 rfl) ?_
        refine lv_iconst (v := (4 : Int32)) hx hb dX3_asSort_35 (by decide) ?_
        refine lv_icmp_ne (tgt := 53) hx hb dX3_asSort_36 (by decide) (fun c_4 => ?_) (fun c_4 => ?_)
        · have h := it_f h c_4
          refine lv_lload_n hx hb dX3_asSort_53 rfl (lv_at hl 1 rfl) ?_
          exact hret _ _ _ _ _ _ dX3_asSort_54 (congrArg (fun z9 => (z9, σ)) (Option.some.inj h)) hP
        · have h := it_t h c_4
          refine lv_lload_n hx hb dX3_asSort_39 rfl (lv_at hl 1 rfl) ?_
          refine lv_lconst (v := (0 : Int64)) hx hb dX3_asSort_40 (by decide) ?_
          refine W.lcmp hx hb dX3_asSort_41 ?_
          refine lv_if_eq (tgt := 49) hx hb dX3_asSort_42 (by decide) (fun c_5 => ?_) (fun c_5 => ?_)
          · have h := it_t h c_5
            refine lv_lconst (v := (0 : Int64)) hx hb dX3_asSort_49 (by decide) ?_
            refine lv_goto (tgt := 54) hx hb dX3_asSort_50 (by decide) ?_
            exact hret _ _ _ _ _ _ dX3_asSort_54 (congrArg (fun z9 => (z9, σ)) (Option.some.inj h)) hP
          · have h := it_f h c_5
            refine lv_lconst (v := (1 : Int64)) hx hb dX3_asSort_45 (by decide) ?_
            refine lv_goto (tgt := 54) hx hb dX3_asSort_46 (by decide) ?_
            exact hret _ _ _ _ _ _ dX3_asSort_54 (congrArg (fun z9 => (z9, σ)) (Option.some.inj h)) hP
      · have h := it_t h c_3
        refine lv_lload_n hx hb dX3_asSort_28 rfl (lv_at hl 1 rfl) ?_
        refine lv_l2i hx hb dX3_asSort_29 rfl ?_
        refine lv_i2l hx hb dX3_asSort_30 rfl ?_
        refine lv_goto (tgt := 54) hx hb dX3_asSort_31 (by decide) ?_
        exact hret _ _ _ _ _ _ dX3_asSort_54 (congrArg (fun z9 => (z9, σ)) (Option.some.inj h)) hP
    · have h := it_t h c_2
      refine lv_lload_n hx hb dX3_asSort_16 rfl (lv_at hl 1 rfl) ?_
      refine lv_l2i hx hb dX3_asSort_17 rfl ?_
      refine lv_i2s hx hb dX3_asSort_18 rfl ?_
      refine lv_i2l hx hb dX3_asSort_19 rfl ?_
      refine lv_goto (tgt := 54) hx hb dX3_asSort_20 (by decide) ?_
      exact hret _ _ _ _ _ _ dX3_asSort_54 (congrArg (fun z9 => (z9, σ)) (Option.some.inj h)) hP
  · have h := it_t h c_1
    refine lv_lload_n hx hb dX3_asSort_4 rfl (lv_at hl 1 rfl) ?_
    refine lv_l2i hx hb dX3_asSort_5 rfl ?_
    refine lv_i2b hx hb dX3_asSort_6 rfl ?_
    refine lv_i2l hx hb dX3_asSort_7 rfl ?_
    refine lv_goto (tgt := 54) hx hb dX3_asSort_8 (by decide) ?_
    exact hret _ _ _ _ _ _ dX3_asSort_54 (congrArg (fun z9 => (z9, σ)) (Option.some.inj h)) hP
def tw_refusal (σ : ST) (a1 : Int32) (a2 : Int32) : Option Int32 :=
  bo (tw_isShelf a1) (fun (r_2 : Int32) => (if r_2 = 0 then some (-1 : Int32) else ck a1 6 ((if 0 ≤ (lI σ 0 72 a1) then ck a1 6 ((if (50 : Int32) ≤ (lI σ 0 72 a1) then (if a2 < 0 then some (-13 : Int32) else ck a1 6 ((if (lI σ 0 73 a1) ≤ a2 then some (-13 : Int32) else some (0 : Int32)))) else some (-12 : Int32))) else some (-11 : Int32)))))
abbrev rm_X3_refusal : Room := rmf 2 45
set_option maxHeartbeats 4000000 in
set_option maxRecDepth 100000 in
theorem mt_X3_refusal (l : Launch) (G : GT) (σ : ST) (a1 : Int32) (a2 : Int32) {r : Int32} (h : tw_refusal σ a1 a2 = some r) : CI l tw_ft G yX3_refusal (ws_ yX3_refusal cX3_refusal 3 (some .int)) rm_X3_refusal 0 0 [.ref (G.2.2.1 0), .int a1, .int a2] σ (r, σ) := by
  refine m_enterI (by decide) rfl (lv := [(0, .ref (G.2.2.1 0)), (1, .int a1), (2, .int a2)]) rfl ?_
  intro p e s m args below meth c H locs ls Q X hret hP hl
  have hx := X.1.1
  have hb := X.1.2.1
  have hown := X.1.2.2.2.1
  have hts := X.1.2.2.2.2
  unfold tw_refusal at h
  refine lv_iload_n hx hb dX3_refusal_0 rfl (lv_at hl 1 rfl) ?_
  obtain ⟨r_2, e_1, h⟩ := bo_ex h
  refine r_calli (r_runS (rest := []) X hP (mt_X3_isShelf l G σ a1 e_1) (va_cwS 1 hts (lw_S q1914 q1915 q113 q1916) rfl rfl rfl cdX3_isShelf ⟨Nat.le_of_ble_eq_true rfl, Nat.le_of_ble_eq_true rfl⟩) rfl hl.1 rfl (Nat.le_of_ble_eq_true rfl) dX3_refusal_1 ⟨Nat.le_refl _, Nat.le_refl _⟩) hP (fun H locs hP => ?_)
  refine lv_if_ne (tgt := 9) hx hb dX3_refusal_4 (by decide) (fun c_3 => ?_) (fun c_3 => ?_)
  · have h := it_f h c_3
    refine lv_aload_n hx hb dX3_refusal_9 rfl (lv_at hl 0 rfl) ?_
    refine r_geta X hP 0 tw_c0 lk_3 72 (Nat.le_of_ble_eq_true rfl) q1710 tw_f72 dX3_refusal_10 ?_
    refine lv_iload_n hx hb dX3_refusal_13 rfl (lv_at hl 1 rfl) ?_
    refine r_iald X hP 41 tw_c41 (ck_in h) dX3_refusal_14 ?_
    have h := ck_k h
    refine lv_if_ge (tgt := 21) hx hb dX3_refusal_15 (by decide) (fun c_4 => ?_) (fun c_4 => ?_)
    · have h := it_t h c_4
      refine lv_aload_n hx hb dX3_refusal_21 rfl (lv_at hl 0 rfl) ?_
      refine r_geta X hP 0 tw_c0 lk_3 72 (Nat.le_of_ble_eq_true rfl) q1710 tw_f72 dX3_refusal_22 ?_
      refine lv_iload_n hx hb dX3_refusal_25 rfl (lv_at hl 1 rfl) ?_
      refine r_iald X hP 41 tw_c41 (ck_in h) dX3_refusal_26 ?_
      have h := ck_k h
      refine lv_bipush (v := (50 : Int32)) hx hb dX3_refusal_27 (by decide) ?_
      refine lv_icmp_ge (tgt := 35) hx hb dX3_refusal_29 (by decide) (fun c_5 => ?_) (fun c_5 => ?_)
      · have h := it_t h c_5
        refine lv_iload_n hx hb dX3_refusal_35 rfl (lv_at hl 2 rfl) ?_
        refine lv_if_lt (tgt := 53) hx hb dX3_refusal_36 (by decide) (fun c_6 => ?_) (fun c_6 => ?_)
        · have h := it_t h c_6
          refine lv_bipush (v := (-13 : Int32)) hx hb dX3_refusal_53 (by decide) ?_
          exact hret _ _ _ _ _ _ dX3_refusal_55 rfl (congrArg (fun z9 => (z9, σ)) (Option.some.inj h)) hP
        · have h := it_f h c_6
          refine lv_iload_n hx hb dX3_refusal_39 rfl (lv_at hl 2 rfl) ?_
          refine lv_aload_n hx hb dX3_refusal_40 rfl (lv_at hl 0 rfl) ?_
          refine r_geta X hP 0 tw_c0 lk_3 73 (Nat.le_of_ble_eq_true rfl) q1711 tw_f73 dX3_refusal_41 ?_
          refine lv_iload_n hx hb dX3_refusal_44 rfl (lv_at hl 1 rfl) ?_
          refine r_iald X hP 42 tw_c42 (ck_in h) dX3_refusal_45 ?_
          have h := ck_k h
          refine lv_icmp_ge (tgt := 53) hx hb dX3_refusal_46 (by decide) (fun c_7 => ?_) (fun c_7 => ?_)
          · have h := it_t h c_7
            refine lv_bipush (v := (-13 : Int32)) hx hb dX3_refusal_53 (by decide) ?_
            exact hret _ _ _ _ _ _ dX3_refusal_55 rfl (congrArg (fun z9 => (z9, σ)) (Option.some.inj h)) hP
          · have h := it_f h c_7
            refine lv_iconst (v := (0 : Int32)) hx hb dX3_refusal_49 (by decide) ?_
            refine lv_goto (tgt := 55) hx hb dX3_refusal_50 (by decide) ?_
            exact hret _ _ _ _ _ _ dX3_refusal_55 rfl (congrArg (fun z9 => (z9, σ)) (Option.some.inj h)) hP
      · have h := it_f h c_5
        refine lv_bipush (v := (-12 : Int32)) hx hb dX3_refusal_32 (by decide) ?_
        exact hret _ _ _ _ _ _ dX3_refusal_34 rfl (congrArg (fun z9 => (z9, σ)) (Option.some.inj h)) hP
    · have h := it_f h c_4
      refine lv_bipush (v := (-11 : Int32)) hx hb dX3_refusal_18 (by decide) ?_
      exact hret _ _ _ _ _ _ dX3_refusal_20 rfl (congrArg (fun z9 => (z9, σ)) (Option.some.inj h)) hP
  · have h := it_t h c_3
    refine lv_iconst (v := (-1 : Int32)) hx hb dX3_refusal_7 (by decide) ?_
    exact hret _ _ _ _ _ _ dX3_refusal_8 rfl (congrArg (fun z9 => (z9, σ)) (Option.some.inj h)) hP
def tw_put (σ : ST) (a1 : Int32) (a2 : Int32) (a3 : Int64) : Option (Int32 × ST) :=
  bo (tw_refusal σ a1 a2) (fun (r_2 : Int32) => bo (if r_2 = 0 then ck a1 6 (bo (tw_asSort ((lI σ 0 72 a1) - (50 : Int32)) a3) (fun (r_9 : Int64) => ck (((60 : Int32) * a1) + a2) 360 (st_ (aL σ 0 74 (((60 : Int32) * a1) + a2) r_9) (fun (σ_10 : ST) => some (σ_10))))) else some (σ)) (fun (σ_3 : ST) => (if r_2 = 0 then some ((1 : Int32), σ_3) else some (r_2, σ_3))))
abbrev rm_X3_put : Room := rmf 3 67
set_option maxHeartbeats 4000000 in
set_option maxRecDepth 100000 in
theorem mt_X3_put (l : Launch) (G : GT) (σ : ST) (a1 : Int32) (a2 : Int32) (a3 : Int64) {r : Int32} {u : ST} (h : tw_put σ a1 a2 a3 = some (r, u)) : CI l tw_ft G yX3_put (ws_ yX3_put cX3_put 6 (some .int)) rm_X3_put 0 0 [.ref (G.2.2.1 0), .int a1, .int a2, .long a3] σ (r, u) := by
  refine m_enterI (by decide) rfl (lv := [(0, .ref (G.2.2.1 0)), (1, .int a1), (2, .int a2), (3, .long a3)]) rfl ?_
  intro p e s m args below meth c H locs ls Q X hret hP hl
  have hx := X.1.1
  have hb := X.1.2.1
  have hown := X.1.2.2.2.1
  have hts := X.1.2.2.2.2
  unfold tw_put at h
  refine lv_aload_n hx hb dX3_put_0 rfl (lv_at hl 0 rfl) ?_
  refine lv_iload_n hx hb dX3_put_1 rfl (lv_at hl 1 rfl) ?_
  refine lv_iload_n hx hb dX3_put_2 rfl (lv_at hl 2 rfl) ?_
  obtain ⟨r_2, e_1, h⟩ := bo_ex h
  refine r_calli (r_runV (rest := []) X hP 0 tw_c0 lk_3 (mt_X3_refusal l G σ a1 a2 e_1) (cwV 2 hts (lw_V q2247 q2249 qs107 q113 q2250) rfl rfl rfl ⟨rfl, cdX3_refusal⟩ ⟨Nat.le_of_ble_eq_true rfl, Nat.le_of_ble_eq_true rfl⟩) rfl hl.1 rfl (Nat.le_of_ble_eq_true rfl) dX3_put_3 ⟨Nat.le_refl _, Nat.le_refl _⟩) hP (fun H locs hP => ?_)
  refine lv_istore (lv' := [(5, .int r_2), (0, .ref (G.2.2.1 0)), (1, .int a1), (2, .int a2), (3, .long a3)]) hx hb dX3_put_6 hl (by decide) rfl (fun ls hl => ?_)
  refine lv_iload hx hb dX3_put_8 (lv_at hl 0 rfl) ?_
  obtain ⟨σ_3, h_4, h⟩ := bo_ex h
  have hJ_5 : ∀ (H : Heap) (locs : List Loc) (ls : Array Slot), PS tw_ft G s σ_3 H locs → lv_has ls 6 [(5, .int r_2)] → W p l e rm_X3_put s m args below meth c H locs 0 0 Q (F0 m 37 ls []) := by
    intro H locs ls hP hl
    refine lv_iload hx hb dX3_put_37 (lv_at hl 0 rfl) ?_
    refine lv_if_ne (tgt := 46) hx hb dX3_put_39 (by decide) (fun c_6 => ?_) (fun c_6 => ?_)
    · have h := it_f h c_6
      refine lv_iload hx hb dX3_put_46 (lv_at hl 0 rfl) ?_
      exact hret _ _ _ _ _ _ dX3_put_48 rfl (Option.some.inj h) hP
    · have h := it_t h c_6
      refine lv_iconst (v := (1 : Int32)) hx hb dX3_put_42 (by decide) ?_
      refine lv_goto (tgt := 48) hx hb dX3_put_43 (by decide) ?_
      exact hret _ _ _ _ _ _ dX3_put_48 rfl (Option.some.inj h) hP
  refine lv_if_ne (tgt := 37) hx hb dX3_put_10 (by decide) (fun c_7 => ?_) (fun c_7 => ?_)
  · have h_4 := it_f h_4 c_7
    obtain rfl := Option.some.inj h_4
    exact hJ_5 _ _ _ hP (lv_sub hl [0] rfl)
  · have h_4 := it_t h_4 c_7
    refine lv_aload_n hx hb dX3_put_13 rfl (lv_at hl 1 rfl) ?_
    refine r_geta X hP 0 tw_c0 lk_3 74 (Nat.le_of_ble_eq_true rfl) q1712 tw_f74 dX3_put_14 ?_
    refine lv_bipush (v := (60 : Int32)) hx hb dX3_put_17 (by decide) ?_
    refine lv_iload_n hx hb dX3_put_19 rfl (lv_at hl 2 rfl) ?_
    refine lv_imul hx hb dX3_put_20 ?_
    refine lv_iload_n hx hb dX3_put_21 rfl (lv_at hl 3 rfl) ?_
    refine lv_iadd hx hb dX3_put_22 ?_
    refine lv_aload_n hx hb dX3_put_23 rfl (lv_at hl 1 rfl) ?_
    refine r_geta X hP 0 tw_c0 lk_3 72 (Nat.le_of_ble_eq_true rfl) q1710 tw_f72 dX3_put_24 ?_
    refine lv_iload_n hx hb dX3_put_27 rfl (lv_at hl 2 rfl) ?_
    refine r_iald X hP 41 tw_c41 (ck_in h_4) dX3_put_28 ?_
    have h_4 := ck_k h_4
    refine lv_bipush (v := (50 : Int32)) hx hb dX3_put_29 (by decide) ?_
    refine lv_isub hx hb dX3_put_31 ?_
    refine lv_lload_n hx hb dX3_put_32 rfl (lv_at hl 4 rfl) ?_
    obtain ⟨r_9, e_8, h_4⟩ := bo_ex h_4
    refine r_calll (r_runS (rest := [.int (((60 : Int32) * a1) + a2), .ref (G.2.2.1 43)]) X hP (mt_X3_asSort l G σ ((lI σ 0 72 a1) - (50 : Int32)) a3 e_8) (va_cwS 2 hts (lw_S q2251 q2252 q113 q2253) rfl rfl rfl cdX3_asSort ⟨Nat.le_of_ble_eq_true rfl, Nat.le_of_ble_eq_true rfl⟩) rfl hl.1 rfl (Nat.le_of_ble_eq_true rfl) dX3_put_33 ⟨Nat.le_refl _, Nat.le_refl _⟩) hP (fun H locs hP => ?_)
    refine r_last X tw_w hP 43 tw_c43 (ck_in h_4) dX3_put_36 (fun σ_10 H locs e_11 hP => ?_)
    have h_4 := st_k (ck_k h_4) e_11
    obtain rfl := Option.some.inj h_4
    exact hJ_5 _ _ _ hP (lv_sub hl [0] rfl)
def tw_element (σ : ST) (a1 : Int32) (a2 : Int32) : Option Int64 :=
  bo (tw_refusal σ a1 a2) (fun (r_2 : Int32) => (if r_2 = 0 then ck (((60 : Int32) * a1) + a2) 360 (some (lL σ 0 74 (((60 : Int32) * a1) + a2))) else some (-9223372036854775808 : Int64)))
abbrev rm_X3_element : Room := rmf 3 67
set_option maxHeartbeats 4000000 in
set_option maxRecDepth 100000 in
theorem mt_X3_element (l : Launch) (G : GT) (σ : ST) (a1 : Int32) (a2 : Int32) {r : Int64} (h : tw_element σ a1 a2 = some r) : CL l tw_ft G yX3_element (ws_ yX3_element cX3_element 3 (some .long)) rm_X3_element 0 0 [.ref (G.2.2.1 0), .int a1, .int a2] σ (r, σ) := by
  refine m_enterL (by decide) rfl (lv := [(0, .ref (G.2.2.1 0)), (1, .int a1), (2, .int a2)]) rfl ?_
  intro p e s m args below meth c H locs ls Q X hret hP hl
  have hx := X.1.1
  have hb := X.1.2.1
  have hown := X.1.2.2.2.1
  have hts := X.1.2.2.2.2
  unfold tw_element at h
  refine lv_aload_n hx hb dX3_element_0 rfl (lv_at hl 0 rfl) ?_
  refine lv_iload_n hx hb dX3_element_1 rfl (lv_at hl 1 rfl) ?_
  refine lv_iload_n hx hb dX3_element_2 rfl (lv_at hl 2 rfl) ?_
  obtain ⟨r_2, e_1, h⟩ := bo_ex h
  refine r_calli (r_runV (rest := []) X hP 0 tw_c0 lk_3 (mt_X3_refusal l G σ a1 a2 e_1) (cwV 2 hts (lw_V q2247 q2249 qs107 q113 q2250) rfl rfl rfl ⟨rfl, cdX3_refusal⟩ ⟨Nat.le_of_ble_eq_true rfl, Nat.le_of_ble_eq_true rfl⟩) rfl hl.1 rfl (Nat.le_of_ble_eq_true rfl) dX3_element_3 ⟨Nat.le_refl _, Nat.le_refl _⟩) hP (fun H locs hP => ?_)
  refine lv_if_eq (tgt := 15) hx hb dX3_element_6 (by decide) (fun c_3 => ?_) (fun c_3 => ?_)
  · have h := it_t h c_3
    refine lv_aload_n hx hb dX3_element_15 rfl (lv_at hl 0 rfl) ?_
    refine r_geta X hP 0 tw_c0 lk_3 74 (Nat.le_of_ble_eq_true rfl) q1712 tw_f74 dX3_element_16 ?_
    refine lv_bipush (v := (60 : Int32)) hx hb dX3_element_19 (by decide) ?_
    refine lv_iload_n hx hb dX3_element_21 rfl (lv_at hl 1 rfl) ?_
    refine lv_imul hx hb dX3_element_22 ?_
    refine lv_iload_n hx hb dX3_element_23 rfl (lv_at hl 2 rfl) ?_
    refine lv_iadd hx hb dX3_element_24 ?_
    refine r_lald X hP 43 tw_c43 (ck_in h) dX3_element_25 ?_
    have h := ck_k h
    exact hret _ _ _ _ _ _ dX3_element_26 (congrArg (fun z9 => (z9, σ)) (Option.some.inj h)) hP
  · have h := it_f h c_3
    refine lv_ldc2 hx hb hown (hts _ q2258) dX3_element_9 ?_
    refine lv_goto (tgt := 26) hx hb dX3_element_12 (by decide) ?_
    exact hret _ _ _ _ _ _ dX3_element_26 (congrArg (fun z9 => (z9, σ)) (Option.some.inj h)) hP
def tw_shift_B113 (l1 : Int32) (l2 : Int32) (l3 : Int32) (l4 : Int32) (l5 : Int32) (rc113 : Int32 → ST → Option (ST)) (w6 : Int32) (σ : ST) : Option (ST) :=
  (if l5 ≤ w6 then some (σ) else ck ((((60 : Int32) * l1) + l2) + w6) 360 (ck w6 60 (st_ (aL σ 0 75 w6 (lL σ 0 74 ((((60 : Int32) * l1) + l2) + w6))) (fun (σ_17 : ST) => (rc113 (w6 + (1 : Int32)) σ_17)))))
def tw_shift_B150 (l3 : Int32) (l4 : Int32) (l5 : Int32) (rc150 : Int32 → ST → Option (ST)) (w6 : Int32) (σ : ST) : Option (ST) :=
  (if l5 ≤ w6 then some (σ) else ck w6 60 (ck ((((60 : Int32) * l3) + l4) + w6) 360 (st_ (aL σ 0 74 ((((60 : Int32) * l3) + l4) + w6) (lL σ 0 75 w6)) (fun (σ_24 : ST) => (rc150 (w6 + (1 : Int32)) σ_24)))))
def tw_shift (σ : ST) (a1 : Int32) (a2 : Int32) (a3 : Int32) (a4 : Int32) (a5 : Int32) : Option (Int32 × ST) :=
  bo (tw_isShelf a1) (fun (r_2 : Int32) => (if r_2 = 0 then some ((-1 : Int32), σ) else bo (tw_isShelf a3) (fun (r_5 : Int32) => (if r_5 = 0 then some ((-1 : Int32), σ) else ck a1 6 ((if (lI σ 0 72 a1) < 0 then some ((-11 : Int32), σ) else ck a3 6 ((if 0 ≤ (lI σ 0 72 a3) then ck a1 6 ((if (lI σ 0 72 a1) < (50 : Int32) then some ((-12 : Int32), σ) else ck a1 6 (ck a3 6 ((if (lI σ 0 72 a1) = (lI σ 0 72 a3) then (if a5 < 0 then some ((-13 : Int32), σ) else (if a2 < 0 then some ((-13 : Int32), σ) else (if a4 < 0 then some ((-13 : Int32), σ) else ck a1 6 ((if ((lI σ 0 73 a1) - a5) < a2 then some ((-13 : Int32), σ) else ck a3 6 ((if a4 ≤ ((lI σ 0 73 a3) - a5) then bo (wl2 (tw_shift_B113 a1 a2 a3 a4 a5) FU (0 : Int32) σ) (fun (σ_20 : ST) => bo (wl2 (tw_shift_B150 a3 a4 a5) FU (0 : Int32) σ_20) (fun (σ_27 : ST) => some (a5, σ_27))) else some ((-13 : Int32), σ)))))))) else some ((-12 : Int32), σ)))))) else some ((-11 : Int32), σ)))))))))
abbrev rm_X3_shift : Room := rmf 2 45
set_option maxHeartbeats 4000000 in
set_option maxRecDepth 100000 in
theorem mt_X3_shift (l : Launch) (G : GT) (σ : ST) (a1 : Int32) (a2 : Int32) (a3 : Int32) (a4 : Int32) (a5 : Int32) {r : Int32} {u : ST} (h : tw_shift σ a1 a2 a3 a4 a5 = some (r, u)) : CI l tw_ft G yX3_shift (ws_ yX3_shift cX3_shift 7 (some .int)) rm_X3_shift 0 0 [.ref (G.2.2.1 0), .int a1, .int a2, .int a3, .int a4, .int a5] σ (r, u) := by
  refine m_enterI (by decide) rfl (lv := [(0, .ref (G.2.2.1 0)), (1, .int a1), (2, .int a2), (3, .int a3), (4, .int a4), (5, .int a5)]) rfl ?_
  intro p e s m args below meth c H locs ls Q X hret hP hl
  have hx := X.1.1
  have hb := X.1.2.1
  have hown := X.1.2.2.2.1
  have hts := X.1.2.2.2.2
  unfold tw_shift at h
  refine lv_iload_n hx hb dX3_shift_0 rfl (lv_at hl 1 rfl) ?_
  obtain ⟨r_2, e_1, h⟩ := bo_ex h
  refine r_calli (r_runS (rest := []) X hP (mt_X3_isShelf l G σ a1 e_1) (va_cwS 1 hts (lw_S q1914 q1915 q113 q1916) rfl rfl rfl cdX3_isShelf ⟨Nat.le_of_ble_eq_true rfl, Nat.le_of_ble_eq_true rfl⟩) rfl hl.1 rfl (Nat.le_of_ble_eq_true rfl) dX3_shift_1 ⟨Nat.le_refl _, Nat.le_refl _⟩) hP (fun H locs hP => ?_)
  refine lv_if_eq (tgt := 14) hx hb dX3_shift_4 (by decide) (fun c_3 => ?_) (fun c_3 => ?_)
  · have h := it_t h c_3
    refine lv_iconst (v := (-1 : Int32)) hx hb dX3_shift_14 (by decide) ?_
    exact hret _ _ _ _ _ _ dX3_shift_15 rfl (Option.some.inj h) hP
  · have h := it_f h c_3
    refine lv_iload_n hx hb dX3_shift_7 rfl (lv_at hl 3 rfl) ?_
    obtain ⟨r_5, e_4, h⟩ := bo_ex h
    refine r_calli (r_runS (rest := []) X hP (mt_X3_isShelf l G σ a3 e_4) (va_cwS 1 hts (lw_S q1914 q1915 q113 q1916) rfl rfl rfl cdX3_isShelf ⟨Nat.le_of_ble_eq_true rfl, Nat.le_of_ble_eq_true rfl⟩) rfl hl.1 rfl (Nat.le_of_ble_eq_true rfl) dX3_shift_8 ⟨Nat.le_refl _, Nat.le_refl _⟩) hP (fun H locs hP => ?_)
    refine lv_if_ne (tgt := 16) hx hb dX3_shift_11 (by decide) (fun c_6 => ?_) (fun c_6 => ?_)
    · have h := it_f h c_6
      refine lv_aload_n hx hb dX3_shift_16 rfl (lv_at hl 0 rfl) ?_
      refine r_geta X hP 0 tw_c0 lk_3 72 (Nat.le_of_ble_eq_true rfl) q1710 tw_f72 dX3_shift_17 ?_
      refine lv_iload_n hx hb dX3_shift_20 rfl (lv_at hl 1 rfl) ?_
      refine r_iald X hP 41 tw_c41 (ck_in h) dX3_shift_21 ?_
      have h := ck_k h
      refine lv_if_lt (tgt := 34) hx hb dX3_shift_22 (by decide) (fun c_7 => ?_) (fun c_7 => ?_)
      · have h := it_t h c_7
        refine lv_bipush (v := (-11 : Int32)) hx hb dX3_shift_34 (by decide) ?_
        exact hret _ _ _ _ _ _ dX3_shift_36 rfl (Option.some.inj h) hP
      · have h := it_f h c_7
        refine lv_aload_n hx hb dX3_shift_25 rfl (lv_at hl 0 rfl) ?_
        refine r_geta X hP 0 tw_c0 lk_3 72 (Nat.le_of_ble_eq_true rfl) q1710 tw_f72 dX3_shift_26 ?_
        refine lv_iload_n hx hb dX3_shift_29 rfl (lv_at hl 3 rfl) ?_
        refine r_iald X hP 41 tw_c41 (ck_in h) dX3_shift_30 ?_
        have h := ck_k h
        refine lv_if_ge (tgt := 37) hx hb dX3_shift_31 (by decide) (fun c_8 => ?_) (fun c_8 => ?_)
        · have h := it_t h c_8
          refine lv_aload_n hx hb dX3_shift_37 rfl (lv_at hl 0 rfl) ?_
          refine r_geta X hP 0 tw_c0 lk_3 72 (Nat.le_of_ble_eq_true rfl) q1710 tw_f72 dX3_shift_38 ?_
          refine lv_iload_n hx hb dX3_shift_41 rfl (lv_at hl 1 rfl) ?_
          refine r_iald X hP 41 tw_c41 (ck_in h) dX3_shift_42 ?_
          have h := ck_k h
          refine lv_bipush (v := (50 : Int32)) hx hb dX3_shift_43 (by decide) ?_
          refine lv_icmp_lt (tgt := 63) hx hb dX3_shift_45 (by decide) (fun c_9 => ?_) (fun c_9 => ?_)
          · have h := it_t h c_9
            refine lv_bipush (v := (-12 : Int32)) hx hb dX3_shift_63 (by decide) ?_
            exact hret _ _ _ _ _ _ dX3_shift_65 rfl (Option.some.inj h) hP
          · have h := it_f h c_9
            refine lv_aload_n hx hb dX3_shift_48 rfl (lv_at hl 0 rfl) ?_
            refine r_geta X hP 0 tw_c0 lk_3 72 (Nat.le_of_ble_eq_true rfl) q1710 tw_f72 dX3_shift_49 ?_
            refine lv_iload_n hx hb dX3_shift_52 rfl (lv_at hl 1 rfl) ?_
            refine r_iald X hP 41 tw_c41 (ck_in h) dX3_shift_53 ?_
            have h := ck_k h
            refine lv_aload_n hx hb dX3_shift_54 rfl (lv_at hl 0 rfl) ?_
            refine r_geta X hP 0 tw_c0 lk_3 72 (Nat.le_of_ble_eq_true rfl) q1710 tw_f72 dX3_shift_55 ?_
            refine lv_iload_n hx hb dX3_shift_58 rfl (lv_at hl 3 rfl) ?_
            refine r_iald X hP 41 tw_c41 (ck_in h) dX3_shift_59 ?_
            have h := ck_k h
            refine lv_icmp_eq (tgt := 66) hx hb dX3_shift_60 (by decide) (fun c_10 => ?_) (fun c_10 => ?_)
            · have h := it_t h c_10
              refine lv_iload hx hb dX3_shift_66 (lv_at hl 5 rfl) ?_
              refine lv_if_lt (tgt := 107) hx hb dX3_shift_68 (by decide) (fun c_11 => ?_) (fun c_11 => ?_)
              · have h := it_t h c_11
                refine lv_bipush (v := (-13 : Int32)) hx hb dX3_shift_107 (by decide) ?_
                exact hret _ _ _ _ _ _ dX3_shift_109 rfl (Option.some.inj h) hP
              · have h := it_f h c_11
                refine lv_iload_n hx hb dX3_shift_71 rfl (lv_at hl 2 rfl) ?_
                refine lv_if_lt (tgt := 107) hx hb dX3_shift_72 (by decide) (fun c_12 => ?_) (fun c_12 => ?_)
                · have h := it_t h c_12
                  refine lv_bipush (v := (-13 : Int32)) hx hb dX3_shift_107 (by decide) ?_
                  exact hret _ _ _ _ _ _ dX3_shift_109 rfl (Option.some.inj h) hP
                · have h := it_f h c_12
                  refine lv_iload hx hb dX3_shift_75 (lv_at hl 4 rfl) ?_
                  refine lv_if_lt (tgt := 107) hx hb dX3_shift_77 (by decide) (fun c_13 => ?_) (fun c_13 => ?_)
                  · have h := it_t h c_13
                    refine lv_bipush (v := (-13 : Int32)) hx hb dX3_shift_107 (by decide) ?_
                    exact hret _ _ _ _ _ _ dX3_shift_109 rfl (Option.some.inj h) hP
                  · have h := it_f h c_13
                    refine lv_iload_n hx hb dX3_shift_80 rfl (lv_at hl 2 rfl) ?_
                    refine lv_aload_n hx hb dX3_shift_81 rfl (lv_at hl 0 rfl) ?_
                    refine r_geta X hP 0 tw_c0 lk_3 73 (Nat.le_of_ble_eq_true rfl) q1711 tw_f73 dX3_shift_82 ?_
                    refine lv_iload_n hx hb dX3_shift_85 rfl (lv_at hl 1 rfl) ?_
                    refine r_iald X hP 42 tw_c42 (ck_in h) dX3_shift_86 ?_
                    have h := ck_k h
                    refine lv_iload hx hb dX3_shift_87 (lv_at hl 5 rfl) ?_
                    refine lv_isub hx hb dX3_shift_89 ?_
                    refine lv_icmp_gt (tgt := 107) hx hb dX3_shift_90 (by decide) (fun c_14 => ?_) (fun c_14 => ?_)
                    · have h := it_t h c_14
                      refine lv_bipush (v := (-13 : Int32)) hx hb dX3_shift_107 (by decide) ?_
                      exact hret _ _ _ _ _ _ dX3_shift_109 rfl (Option.some.inj h) hP
                    · have h := it_f h c_14
                      refine lv_iload hx hb dX3_shift_93 (lv_at hl 4 rfl) ?_
                      refine lv_aload_n hx hb dX3_shift_95 rfl (lv_at hl 0 rfl) ?_
                      refine r_geta X hP 0 tw_c0 lk_3 73 (Nat.le_of_ble_eq_true rfl) q1711 tw_f73 dX3_shift_96 ?_
                      refine lv_iload_n hx hb dX3_shift_99 rfl (lv_at hl 3 rfl) ?_
                      refine r_iald X hP 42 tw_c42 (ck_in h) dX3_shift_100 ?_
                      have h := ck_k h
                      refine lv_iload hx hb dX3_shift_101 (lv_at hl 5 rfl) ?_
                      refine lv_isub hx hb dX3_shift_103 ?_
                      refine lv_icmp_le (tgt := 110) hx hb dX3_shift_104 (by decide) (fun c_15 => ?_) (fun c_15 => ?_)
                      · have h := it_t h c_15
                        refine lv_iconst (v := (0 : Int32)) hx hb dX3_shift_110 (by decide) ?_
                        refine lv_istore (lv' := [(6, .int (0 : Int32)), (0, .ref (G.2.2.1 0)), (1, .int a1), (2, .int a2), (3, .int a3), (4, .int a4), (5, .int a5)]) hx hb dX3_shift_111 hl (by decide) rfl (fun ls hl => ?_)
                        obtain ⟨σ_20, h_21, h⟩ := bo_ex h
                        have hE_22 : ∀ (H : Heap) (locs : List Loc) (ls : Array Slot), PS tw_ft G s σ_20 H locs → lv_has ls 7 [(0, .ref (G.2.2.1 0)), (3, .int a3), (4, .int a4), (5, .int a5)] → W p l e rm_X3_shift s m args below meth c H locs 0 0 Q (F0 m 147 ls []) := by
                          intro H locs ls hP hl
                          refine lv_iconst (v := (0 : Int32)) hx hb dX3_shift_147 (by decide) ?_
                          refine lv_istore (lv' := [(6, .int (0 : Int32)), (0, .ref (G.2.2.1 0)), (3, .int a3), (4, .int a4), (5, .int a5)]) hx hb dX3_shift_148 hl (by decide) rfl (fun ls hl => ?_)
                          obtain ⟨σ_27, h_28, h⟩ := bo_ex h
                          have hE_29 : ∀ (H : Heap) (locs : List Loc) (ls : Array Slot), PS tw_ft G s σ_27 H locs → lv_has ls 7 [(5, .int a5)] → W p l e rm_X3_shift s m args below meth c H locs 0 0 Q (F0 m 185 ls []) := by
                            intro H locs ls hP hl
                            refine lv_iload hx hb dX3_shift_185 (lv_at hl 0 rfl) ?_
                            exact hret _ _ _ _ _ _ dX3_shift_187 rfl (Option.some.inj h) hP
                          have hL_26 : ∀ (n : Nat) (w_30 : Int32) (σ_31 : ST) (H : Heap) (locs : List Loc) (ls : Array Slot), wl2 (tw_shift_B150 a3 a4 a5) n w_30 σ_31 = some σ_27 → PS tw_ft G s σ_31 H locs → lv_has ls 7 [(0, .ref (G.2.2.1 0)), (3, .int a3), (4, .int a4), (5, .int a5), (6, .int w_30)] → W p l e rm_X3_shift s m args below meth c H locs 0 0 Q (F0 m 150 ls []) := by
                            intro n
                            induction n with
                            | zero => intro w_30 σ_31 H locs ls h_32; cases h_32
                            | succ n ih =>
                              intro w_30 σ_31 H locs ls h_32 hP hl
                              have h_32 : tw_shift_B150 a3 a4 a5 (wl2 (tw_shift_B150 a3 a4 a5) n) w_30 σ_31 = some _ := h_32
                              generalize wl2 (tw_shift_B150 a3 a4 a5) n = rc_33 at h_32 ih
                              unfold tw_shift_B150 at h_32
                              refine lv_iload hx hb dX3_shift_150 (lv_at hl 4 rfl) ?_
                              refine lv_iload hx hb dX3_shift_152 (lv_at hl 3 rfl) ?_
                              refine lv_icmp_ge (tgt := 185) hx hb dX3_shift_154 (by decide) (fun c_34 => ?_) (fun c_34 => ?_)
                              · have h_32 := it_t h_32 c_34
                                obtain rfl := Option.some.inj h_32
                                exact hE_29 _ _ _ hP (lv_sub hl [3] rfl)
                              · have h_32 := it_f h_32 c_34
                                refine lv_aload_n hx hb dX3_shift_157 rfl (lv_at hl 0 rfl) ?_
                                refine r_geta X hP 0 tw_c0 lk_3 74 (Nat.le_of_ble_eq_true rfl) q1712 tw_f74 dX3_shift_158 ?_
                                refine lv_bipush (v := (60 : Int32)) hx hb dX3_shift_161 (by decide) ?_
                                refine lv_iload_n hx hb dX3_shift_163 rfl (lv_at hl 1 rfl) ?_
                                refine lv_imul hx hb dX3_shift_164 ?_
                                refine lv_iload hx hb dX3_shift_165 (lv_at hl 2 rfl) ?_
                                refine lv_iadd hx hb dX3_shift_167 ?_
                                refine lv_iload hx hb dX3_shift_168 (lv_at hl 4 rfl) ?_
                                refine lv_iadd hx hb dX3_shift_170 ?_
                                refine lv_aload_n hx hb dX3_shift_171 rfl (lv_at hl 0 rfl) ?_
                                refine r_geta X hP 0 tw_c0 lk_3 75 (Nat.le_of_ble_eq_true rfl) q1713 tw_f75 dX3_shift_172 ?_
                                refine lv_iload hx hb dX3_shift_175 (lv_at hl 4 rfl) ?_
                                refine r_lald X hP 44 tw_c44 (ck_in h_32) dX3_shift_177 ?_
                                have h_32 := ck_k h_32
                                refine r_last X tw_w hP 43 tw_c43 (ck_in h_32) dX3_shift_178 (fun σ_35 H locs e_36 hP => ?_)
                                have h_32 := st_k (ck_k h_32) e_36
                                refine lv_iinc (v := (w_30 + (1 : Int32))) (lv' := [(6, .int (w_30 + (1 : Int32))), (0, .ref (G.2.2.1 0)), (3, .int a3), (4, .int a4), (5, .int a5)]) hx hb dX3_shift_179 hl (k := 4) rfl rfl (by decide) rfl (fun ls hl => ?_)
                                refine lv_goto (tgt := 150) hx hb dX3_shift_182 (by decide) ?_
                                exact ih _ _ _ _ _ h_32 hP (lv_sub hl [1, 2, 3, 4, 0] rfl)
                          exact hL_26 _ _ _ _ _ _ h_28 hP (lv_sub hl [1, 2, 3, 4, 0] rfl)
                        have hL_19 : ∀ (n : Nat) (w_37 : Int32) (σ_38 : ST) (H : Heap) (locs : List Loc) (ls : Array Slot), wl2 (tw_shift_B113 a1 a2 a3 a4 a5) n w_37 σ_38 = some σ_20 → PS tw_ft G s σ_38 H locs → lv_has ls 7 [(0, .ref (G.2.2.1 0)), (1, .int a1), (2, .int a2), (3, .int a3), (4, .int a4), (5, .int a5), (6, .int w_37)] → W p l e rm_X3_shift s m args below meth c H locs 0 0 Q (F0 m 113 ls []) := by
                          intro n
                          induction n with
                          | zero => intro w_37 σ_38 H locs ls h_39; cases h_39
                          | succ n ih =>
                            intro w_37 σ_38 H locs ls h_39 hP hl
                            have h_39 : tw_shift_B113 a1 a2 a3 a4 a5 (wl2 (tw_shift_B113 a1 a2 a3 a4 a5) n) w_37 σ_38 = some _ := h_39
                            generalize wl2 (tw_shift_B113 a1 a2 a3 a4 a5) n = rc_40 at h_39 ih
                            unfold tw_shift_B113 at h_39
                            refine lv_iload hx hb dX3_shift_113 (lv_at hl 6 rfl) ?_
                            refine lv_iload hx hb dX3_shift_115 (lv_at hl 5 rfl) ?_
                            refine lv_icmp_ge (tgt := 147) hx hb dX3_shift_117 (by decide) (fun c_41 => ?_) (fun c_41 => ?_)
                            · have h_39 := it_t h_39 c_41
                              obtain rfl := Option.some.inj h_39
                              exact hE_22 _ _ _ hP (lv_sub hl [0, 3, 4, 5] rfl)
                            · have h_39 := it_f h_39 c_41
                              refine lv_aload_n hx hb dX3_shift_120 rfl (lv_at hl 0 rfl) ?_
                              refine r_geta X hP 0 tw_c0 lk_3 75 (Nat.le_of_ble_eq_true rfl) q1713 tw_f75 dX3_shift_121 ?_
                              refine lv_iload hx hb dX3_shift_124 (lv_at hl 6 rfl) ?_
                              refine lv_aload_n hx hb dX3_shift_126 rfl (lv_at hl 0 rfl) ?_
                              refine r_geta X hP 0 tw_c0 lk_3 74 (Nat.le_of_ble_eq_true rfl) q1712 tw_f74 dX3_shift_127 ?_
                              refine lv_bipush (v := (60 : Int32)) hx hb dX3_shift_130 (by decide) ?_
                              refine lv_iload_n hx hb dX3_shift_132 rfl (lv_at hl 1 rfl) ?_
                              refine lv_imul hx hb dX3_shift_133 ?_
                              refine lv_iload_n hx hb dX3_shift_134 rfl (lv_at hl 2 rfl) ?_
                              refine lv_iadd hx hb dX3_shift_135 ?_
                              refine lv_iload hx hb dX3_shift_136 (lv_at hl 6 rfl) ?_
                              refine lv_iadd hx hb dX3_shift_138 ?_
                              refine r_lald X hP 43 tw_c43 (ck_in h_39) dX3_shift_139 ?_
                              have h_39 := ck_k h_39
                              refine r_last X tw_w hP 44 tw_c44 (ck_in h_39) dX3_shift_140 (fun σ_42 H locs e_43 hP => ?_)
                              have h_39 := st_k (ck_k h_39) e_43
                              refine lv_iinc (v := (w_37 + (1 : Int32))) (lv' := [(6, .int (w_37 + (1 : Int32))), (0, .ref (G.2.2.1 0)), (1, .int a1), (2, .int a2), (3, .int a3), (4, .int a4), (5, .int a5)]) hx hb dX3_shift_141 hl (k := 6) rfl rfl (by decide) rfl (fun ls hl => ?_)
                              refine lv_goto (tgt := 113) hx hb dX3_shift_144 (by decide) ?_
                              exact ih _ _ _ _ _ h_39 hP (lv_sub hl [1, 2, 3, 4, 5, 6, 0] rfl)
                        exact hL_19 _ _ _ _ _ _ h_21 hP (lv_sub hl [1, 2, 3, 4, 5, 6, 0] rfl)
                      · have h := it_f h c_15
                        refine lv_bipush (v := (-13 : Int32)) hx hb dX3_shift_107 (by decide) ?_
                        exact hret _ _ _ _ _ _ dX3_shift_109 rfl (Option.some.inj h) hP
            · have h := it_f h c_10
              refine lv_bipush (v := (-12 : Int32)) hx hb dX3_shift_63 (by decide) ?_
              exact hret _ _ _ _ _ _ dX3_shift_65 rfl (Option.some.inj h) hP
        · have h := it_f h c_8
          refine lv_bipush (v := (-11 : Int32)) hx hb dX3_shift_34 (by decide) ?_
          exact hret _ _ _ _ _ _ dX3_shift_36 rfl (Option.some.inj h) hP
    · have h := it_t h c_6
      refine lv_iconst (v := (-1 : Int32)) hx hb dX3_shift_14 (by decide) ?_
      exact hret _ _ _ _ _ _ dX3_shift_15 rfl (Option.some.inj h) hP
def tw_above (a0 : Int32) : Option Int32 :=
  (if a0 = (3 : Int32) then some (2 : Int32) else (if a0 = (5 : Int32) then some (3 : Int32) else (if a0 = (7 : Int32) then some (4 : Int32) else some (0 : Int32))))
abbrev rm_X3_above : Room := rmf 0 0
set_option maxHeartbeats 4000000 in
set_option maxRecDepth 100000 in
theorem mt_X3_above (l : Launch) (G : GT) (σ : ST) (a0 : Int32) {r : Int32} (h : tw_above a0 = some r) : CI l tw_ft G yX3_above (ws_ yX3_above cX3_above 1 (some .int)) rm_X3_above 0 0 [.int a0] σ (r, σ) := by
  refine m_enterI (by decide) rfl (lv := [(0, .int a0)]) rfl ?_
  intro p e s m args below meth c H locs ls Q X hret hP hl
  have hx := X.1.1
  have hb := X.1.2.1
  have hown := X.1.2.2.2.1
  have hts := X.1.2.2.2.2
  unfold tw_above at h
  refine lv_iload_n hx hb dX3_above_0 rfl (lv_at hl 0 rfl) ?_
  refine lv_iconst (v := (3 : Int32)) hx hb dX3_above_1 (by decide) ?_
  refine lv_icmp_ne (tgt := 9) hx hb dX3_above_2 (by decide) (fun c_1 => ?_) (fun c_1 => ?_)
  · have h := it_f h c_1
    refine lv_iload_n hx hb dX3_above_9 rfl (lv_at hl 0 rfl) ?_
    refine lv_iconst (v := (5 : Int32)) hx hb dX3_above_10 (by decide) ?_
    refine lv_icmp_ne (tgt := 18) hx hb dX3_above_11 (by decide) (fun c_2 => ?_) (fun c_2 => ?_)
    · have h := it_f h c_2
      refine lv_iload_n hx hb dX3_above_18 rfl (lv_at hl 0 rfl) ?_
      refine lv_bipush (v := (7 : Int32)) hx hb dX3_above_19 (by decide) ?_
      refine lv_icmp_ne (tgt := 28) hx hb dX3_above_21 (by decide) (fun c_3 => ?_) (fun c_3 => ?_)
      · have h := it_f h c_3
        refine lv_iconst (v := (0 : Int32)) hx hb dX3_above_28 (by decide) ?_
        exact hret _ _ _ _ _ _ dX3_above_29 rfl (congrArg (fun z9 => (z9, σ)) (Option.some.inj h)) hP
      · have h := it_t h c_3
        refine lv_iconst (v := (4 : Int32)) hx hb dX3_above_24 (by decide) ?_
        refine lv_goto (tgt := 29) hx hb dX3_above_25 (by decide) ?_
        exact hret _ _ _ _ _ _ dX3_above_29 rfl (congrArg (fun z9 => (z9, σ)) (Option.some.inj h)) hP
    · have h := it_t h c_2
      refine lv_iconst (v := (3 : Int32)) hx hb dX3_above_14 (by decide) ?_
      refine lv_goto (tgt := 29) hx hb dX3_above_15 (by decide) ?_
      exact hret _ _ _ _ _ _ dX3_above_29 rfl (congrArg (fun z9 => (z9, σ)) (Option.some.inj h)) hP
  · have h := it_t h c_1
    refine lv_iconst (v := (2 : Int32)) hx hb dX3_above_5 (by decide) ?_
    refine lv_goto (tgt := 29) hx hb dX3_above_6 (by decide) ?_
    exact hret _ _ _ _ _ _ dX3_above_29 rfl (congrArg (fun z9 => (z9, σ)) (Option.some.inj h)) hP
def tw_kindOf (σ : ST) (a1 : Int32) : Option Int32 :=
  ck a1 50 (some (lI σ 0 67 a1))
abbrev rm_X3_kindOf : Room := rmf 0 0
set_option maxHeartbeats 4000000 in
set_option maxRecDepth 100000 in
theorem mt_X3_kindOf (l : Launch) (G : GT) (σ : ST) (a1 : Int32) {r : Int32} (h : tw_kindOf σ a1 = some r) : CI l tw_ft G yX3_kindOf (ws_ yX3_kindOf cX3_kindOf 2 (some .int)) rm_X3_kindOf 0 0 [.ref (G.2.2.1 0), .int a1] σ (r, σ) := by
  refine m_enterI (by decide) rfl (lv := [(0, .ref (G.2.2.1 0)), (1, .int a1)]) rfl ?_
  intro p e s m args below meth c H locs ls Q X hret hP hl
  have hx := X.1.1
  have hb := X.1.2.1
  have hown := X.1.2.2.2.1
  have hts := X.1.2.2.2.2
  unfold tw_kindOf at h
  refine lv_aload_n hx hb dX3_kindOf_0 rfl (lv_at hl 0 rfl) ?_
  refine r_geta X hP 0 tw_c0 lk_3 67 (Nat.le_of_ble_eq_true rfl) q1705 tw_f67 dX3_kindOf_1 ?_
  refine lv_iload_n hx hb dX3_kindOf_4 rfl (lv_at hl 1 rfl) ?_
  refine r_iald X hP 39 tw_c39 (ck_in h) dX3_kindOf_5 ?_
  have h := ck_k h
  exact hret _ _ _ _ _ _ dX3_kindOf_6 rfl (congrArg (fun z9 => (z9, σ)) (Option.some.inj h)) hP
def tw_taken_B58 (σ : ST) (l1 : Int32) (l2 : Int32) (rc58 : Int32 → Option (Int32)) (w3 : Int32) : Option (Int32) :=
  (if w3 = l2 then some (w3) else (if w3 ≤ 0 then some (w3) else bo (tw_above w3) (fun (r_14 : Int32) => (rc58 r_14))))
def tw_taken (σ : ST) (a1 : Int32) (a2 : Int32) : Option Int32 :=
  bo (tw_isShelf a1) (fun (r_2 : Int32) => (if r_2 = 0 then some (-1 : Int32) else bo (tw_within ((a2).toInt64) (0 : Int64) (7 : Int64)) (fun (r_5 : Int32) => (if r_5 = 0 then some (-1 : Int32) else ck a1 6 ((if 0 ≤ (lI σ 0 72 a1) then ck a1 6 ((if (lI σ 0 72 a1) < (50 : Int32) then ck a1 6 (bo (tw_kindOf σ (lI σ 0 72 a1)) (fun (r_10 : Int32) => bo (wl1 (tw_taken_B58 σ a1 a2) FU r_10) (fun (o_16 : Int32) => (if o_16 = a2 then ck a1 6 (bo (tw_kindOf σ (lI σ 0 72 a1)) (fun (r_21 : Int32) => some r_21)) else some (-12 : Int32))))) else some (-12 : Int32))) else some (-11 : Int32)))))))
abbrev rm_X3_taken : Room := rmf 2 45
set_option maxHeartbeats 4000000 in
set_option maxRecDepth 100000 in
theorem mt_X3_taken (l : Launch) (G : GT) (σ : ST) (a1 : Int32) (a2 : Int32) {r : Int32} (h : tw_taken σ a1 a2 = some r) : CI l tw_ft G yX3_taken (ws_ yX3_taken cX3_taken 4 (some .int)) rm_X3_taken 0 0 [.ref (G.2.2.1 0), .int a1, .int a2] σ (r, σ) := by
  refine m_enterI (by decide) rfl (lv := [(0, .ref (G.2.2.1 0)), (1, .int a1), (2, .int a2)]) rfl ?_
  intro p e s m args below meth c H locs ls Q X hret hP hl
  have hx := X.1.1
  have hb := X.1.2.1
  have hown := X.1.2.2.2.1
  have hts := X.1.2.2.2.2
  unfold tw_taken at h
  refine lv_iload_n hx hb dX3_taken_0 rfl (lv_at hl 1 rfl) ?_
  obtain ⟨r_2, e_1, h⟩ := bo_ex h
  refine r_calli (r_runS (rest := []) X hP (mt_X3_isShelf l G σ a1 e_1) (va_cwS 1 hts (lw_S q1914 q1915 q113 q1916) rfl rfl rfl cdX3_isShelf ⟨Nat.le_of_ble_eq_true rfl, Nat.le_of_ble_eq_true rfl⟩) rfl hl.1 rfl (Nat.le_of_ble_eq_true rfl) dX3_taken_1 ⟨Nat.le_refl _, Nat.le_refl _⟩) hP (fun H locs hP => ?_)
  refine lv_if_eq (tgt := 19) hx hb dX3_taken_4 (by decide) (fun c_3 => ?_) (fun c_3 => ?_)
  · have h := it_t h c_3
    refine lv_iconst (v := (-1 : Int32)) hx hb dX3_taken_19 (by decide) ?_
    exact hret _ _ _ _ _ _ dX3_taken_20 rfl (congrArg (fun z9 => (z9, σ)) (Option.some.inj h)) hP
  · have h := it_f h c_3
    refine lv_iload_n hx hb dX3_taken_7 rfl (lv_at hl 2 rfl) ?_
    refine lv_i2l hx hb dX3_taken_8 rfl ?_
    refine lv_lconst (v := (0 : Int64)) hx hb dX3_taken_9 (by decide) ?_
    refine lv_ldc2 hx hb hown (hts _ q2201) dX3_taken_10 ?_
    obtain ⟨r_5, e_4, h⟩ := bo_ex h
    refine r_calli (r_runS (rest := []) X hP (mt_X3_within l G σ ((a2).toInt64) (0 : Int64) (7 : Int64) e_4) (va_cwS 3 hts (lw_S q1880 q1881 q113 q1882) rfl rfl rfl cdX3_within ⟨Nat.le_of_ble_eq_true rfl, Nat.le_of_ble_eq_true rfl⟩) rfl hl.1 rfl (Nat.le_of_ble_eq_true rfl) dX3_taken_13 ⟨Nat.le_refl _, Nat.le_refl _⟩) hP (fun H locs hP => ?_)
    refine lv_if_ne (tgt := 21) hx hb dX3_taken_16 (by decide) (fun c_6 => ?_) (fun c_6 => ?_)
    · have h := it_f h c_6
      refine lv_aload_n hx hb dX3_taken_21 rfl (lv_at hl 0 rfl) ?_
      refine r_geta X hP 0 tw_c0 lk_3 72 (Nat.le_of_ble_eq_true rfl) q1710 tw_f72 dX3_taken_22 ?_
      refine lv_iload_n hx hb dX3_taken_25 rfl (lv_at hl 1 rfl) ?_
      refine r_iald X hP 41 tw_c41 (ck_in h) dX3_taken_26 ?_
      have h := ck_k h
      refine lv_if_ge (tgt := 33) hx hb dX3_taken_27 (by decide) (fun c_7 => ?_) (fun c_7 => ?_)
      · have h := it_t h c_7
        refine lv_aload_n hx hb dX3_taken_33 rfl (lv_at hl 0 rfl) ?_
        refine r_geta X hP 0 tw_c0 lk_3 72 (Nat.le_of_ble_eq_true rfl) q1710 tw_f72 dX3_taken_34 ?_
        refine lv_iload_n hx hb dX3_taken_37 rfl (lv_at hl 1 rfl) ?_
        refine r_iald X hP 41 tw_c41 (ck_in h) dX3_taken_38 ?_
        have h := ck_k h
        refine lv_bipush (v := (50 : Int32)) hx hb dX3_taken_39 (by decide) ?_
        refine lv_icmp_lt (tgt := 47) hx hb dX3_taken_41 (by decide) (fun c_8 => ?_) (fun c_8 => ?_)
        · have h := it_t h c_8
          refine lv_aload_n hx hb dX3_taken_47 rfl (lv_at hl 0 rfl) ?_
          refine lv_aload_n hx hb dX3_taken_48 rfl (lv_at hl 0 rfl) ?_
          refine r_geta X hP 0 tw_c0 lk_3 72 (Nat.le_of_ble_eq_true rfl) q1710 tw_f72 dX3_taken_49 ?_
          refine lv_iload_n hx hb dX3_taken_52 rfl (lv_at hl 1 rfl) ?_
          refine r_iald X hP 41 tw_c41 (ck_in h) dX3_taken_53 ?_
          have h := ck_k h
          obtain ⟨r_10, e_9, h⟩ := bo_ex h
          refine r_calli (r_runV (rest := []) X hP 0 tw_c0 lk_3 (mt_X3_kindOf l G σ (lI σ 0 72 a1) e_9) (cwV 1 hts (lw_V q2267 q2269 qs108 q113 q2270) rfl rfl rfl ⟨rfl, cdX3_kindOf⟩ ⟨Nat.le_of_ble_eq_true rfl, Nat.le_of_ble_eq_true rfl⟩) rfl hl.1 rfl (Nat.le_of_ble_eq_true rfl) dX3_taken_54 ⟨Nat.le_refl _, Nat.le_refl _⟩) hP (fun H locs hP => ?_)
          refine lv_istore_n (lv' := [(3, .int r_10), (0, .ref (G.2.2.1 0)), (1, .int a1), (2, .int a2)]) hx hb dX3_taken_57 rfl hl (by decide) rfl (fun ls hl => ?_)
          obtain ⟨o_16, h_17, h⟩ := bo_ex h
          have hE_18 : ∀ (H : Heap) (locs : List Loc) (ls : Array Slot), PS tw_ft G s σ H locs → lv_has ls 4 [(0, .ref (G.2.2.1 0)), (1, .int a1), (2, .int a2), (3, .int o_16)] → W p l e rm_X3_taken s m args below meth c H locs 0 0 Q (F0 m 75 ls []) := by
            intro H locs ls hP hl
            refine lv_iload_n hx hb dX3_taken_75 rfl (lv_at hl 3 rfl) ?_
            refine lv_iload_n hx hb dX3_taken_76 rfl (lv_at hl 2 rfl) ?_
            refine lv_icmp_ne (tgt := 93) hx hb dX3_taken_77 (by decide) (fun c_19 => ?_) (fun c_19 => ?_)
            · have h := it_f h c_19
              refine lv_bipush (v := (-12 : Int32)) hx hb dX3_taken_93 (by decide) ?_
              exact hret _ _ _ _ _ _ dX3_taken_95 rfl (congrArg (fun z9 => (z9, σ)) (Option.some.inj h)) hP
            · have h := it_t h c_19
              refine lv_aload_n hx hb dX3_taken_80 rfl (lv_at hl 0 rfl) ?_
              refine lv_aload_n hx hb dX3_taken_81 rfl (lv_at hl 0 rfl) ?_
              refine r_geta X hP 0 tw_c0 lk_3 72 (Nat.le_of_ble_eq_true rfl) q1710 tw_f72 dX3_taken_82 ?_
              refine lv_iload_n hx hb dX3_taken_85 rfl (lv_at hl 1 rfl) ?_
              refine r_iald X hP 41 tw_c41 (ck_in h) dX3_taken_86 ?_
              have h := ck_k h
              obtain ⟨r_21, e_20, h⟩ := bo_ex h
              refine r_calli (r_runV (rest := []) X hP 0 tw_c0 lk_3 (mt_X3_kindOf l G σ (lI σ 0 72 a1) e_20) (cwV 1 hts (lw_V q2267 q2269 qs108 q113 q2270) rfl rfl rfl ⟨rfl, cdX3_kindOf⟩ ⟨Nat.le_of_ble_eq_true rfl, Nat.le_of_ble_eq_true rfl⟩) rfl hl.1 rfl (Nat.le_of_ble_eq_true rfl) dX3_taken_87 ⟨Nat.le_refl _, Nat.le_refl _⟩) hP (fun H locs hP => ?_)
              refine lv_goto (tgt := 95) hx hb dX3_taken_90 (by decide) ?_
              exact hret _ _ _ _ _ _ dX3_taken_95 rfl (congrArg (fun z9 => (z9, σ)) (Option.some.inj h)) hP
          have hL_15 : ∀ (n : Nat) (w_22 : Int32) (H : Heap) (locs : List Loc) (ls : Array Slot), wl1 (tw_taken_B58 σ a1 a2) n w_22 = some o_16 → PS tw_ft G s σ H locs → lv_has ls 4 [(0, .ref (G.2.2.1 0)), (1, .int a1), (2, .int a2), (3, .int w_22)] → W p l e rm_X3_taken s m args below meth c H locs 0 0 Q (F0 m 58 ls []) := by
            intro n
            induction n with
            | zero => intro w_22 H locs ls h_23; cases h_23
            | succ n ih =>
              intro w_22 H locs ls h_23 hP hl
              have h_23 : tw_taken_B58 σ a1 a2 (wl1 (tw_taken_B58 σ a1 a2) n) w_22 = some _ := h_23
              generalize wl1 (tw_taken_B58 σ a1 a2) n = rc_24 at h_23 ih
              unfold tw_taken_B58 at h_23
              refine lv_iload_n hx hb dX3_taken_58 rfl (lv_at hl 3 rfl) ?_
              refine lv_iload_n hx hb dX3_taken_59 rfl (lv_at hl 2 rfl) ?_
              refine lv_icmp_eq (tgt := 75) hx hb dX3_taken_60 (by decide) (fun c_25 => ?_) (fun c_25 => ?_)
              · have h_23 := it_t h_23 c_25
                obtain rfl := Option.some.inj h_23
                exact hE_18 _ _ _ hP (lv_sub hl [0, 1, 2, 3] rfl)
              · have h_23 := it_f h_23 c_25
                refine lv_iload_n hx hb dX3_taken_63 rfl (lv_at hl 3 rfl) ?_
                refine lv_if_le (tgt := 75) hx hb dX3_taken_64 (by decide) (fun c_26 => ?_) (fun c_26 => ?_)
                · have h_23 := it_t h_23 c_26
                  obtain rfl := Option.some.inj h_23
                  exact hE_18 _ _ _ hP (lv_sub hl [0, 1, 2, 3] rfl)
                · have h_23 := it_f h_23 c_26
                  refine lv_iload_n hx hb dX3_taken_67 rfl (lv_at hl 3 rfl) ?_
                  obtain ⟨r_28, e_27, h_23⟩ := bo_ex h_23
                  refine r_calli (r_runS (rest := []) X hP (mt_X3_above l G σ w_22 e_27) (va_cwS 1 hts (lw_S q2271 q2272 q113 q2273) rfl rfl rfl cdX3_above ⟨Nat.le_of_ble_eq_true rfl, Nat.le_of_ble_eq_true rfl⟩) rfl hl.1 rfl (Nat.le_of_ble_eq_true rfl) dX3_taken_68 ⟨Nat.le_refl _, Nat.le_refl _⟩) hP (fun H locs hP => ?_)
                  refine lv_istore_n (lv' := [(3, .int r_28), (0, .ref (G.2.2.1 0)), (1, .int a1), (2, .int a2)]) hx hb dX3_taken_71 rfl hl (by decide) rfl (fun ls hl => ?_)
                  refine lv_goto (tgt := 58) hx hb dX3_taken_72 (by decide) ?_
                  exact ih _ _ _ _ h_23 hP (lv_sub hl [1, 2, 3, 0] rfl)
          exact hL_15 _ _ _ _ _ h_17 hP (lv_sub hl [1, 2, 3, 0] rfl)
        · have h := it_f h c_8
          refine lv_bipush (v := (-12 : Int32)) hx hb dX3_taken_44 (by decide) ?_
          exact hret _ _ _ _ _ _ dX3_taken_46 rfl (congrArg (fun z9 => (z9, σ)) (Option.some.inj h)) hP
      · have h := it_f h c_7
        refine lv_bipush (v := (-11 : Int32)) hx hb dX3_taken_30 (by decide) ?_
        exact hret _ _ _ _ _ _ dX3_taken_32 rfl (congrArg (fun z9 => (z9, σ)) (Option.some.inj h)) hP
    · have h := it_t h c_6
      refine lv_iconst (v := (-1 : Int32)) hx hb dX3_taken_19 (by decide) ?_
      exact hret _ _ _ _ _ _ dX3_taken_20 rfl (congrArg (fun z9 => (z9, σ)) (Option.some.inj h)) hP
def tw_count (σ : ST) (a1 : Int32) : Option Int32 :=
  (if a1 = (0 : Int32) then some (gI σ 0 6) else (if a1 = (1 : Int32) then some (gI σ 0 8) else (if a1 = (2 : Int32) then some (gI σ 0 9) else (if a1 = (3 : Int32) then some (gI σ 0 17) else (if a1 = (4 : Int32) then some (gI σ 0 5) else (if a1 = (5 : Int32) then some (gI σ 0 66) else (if a1 = (6 : Int32) then some (gI σ 0 69) else some (-1 : Int32))))))))
abbrev rm_X3_count : Room := rmf 0 0
set_option maxHeartbeats 4000000 in
set_option maxRecDepth 100000 in
theorem mt_X3_count (l : Launch) (G : GT) (σ : ST) (a1 : Int32) {r : Int32} (h : tw_count σ a1 = some r) : CI l tw_ft G yX3_count (ws_ yX3_count cX3_count 2 (some .int)) rm_X3_count 0 0 [.ref (G.2.2.1 0), .int a1] σ (r, σ) := by
  refine m_enterI (by decide) rfl (lv := [(0, .ref (G.2.2.1 0)), (1, .int a1)]) rfl ?_
  intro p e s m args below meth c H locs ls Q X hret hP hl
  have hx := X.1.1
  have hb := X.1.2.1
  have hown := X.1.2.2.2.1
  have hts := X.1.2.2.2.2
  unfold tw_count at h
  refine lv_iload_n hx hb dX3_count_0 rfl (lv_at hl 1 rfl) ?_
  by_cases c_1 : a1 = (0 : Int32)
  · have h := it_t h c_1
    refine lv_tableIn (tgt := 44) hx hb dX3_count_1 (by rw [c_1]; decide) (by rw [c_1]; decide) (by rw [c_1]; rfl) (by decide) ?_
    refine lv_aload_n hx hb dX3_count_44 rfl (lv_at hl 0 rfl) ?_
    refine r_geti X hP 0 tw_c0 lk_3 6 (Nat.le_of_ble_eq_true rfl) q1644 tw_f6 dX3_count_45 ?_
    exact hret _ _ _ _ _ _ dX3_count_48 rfl (congrArg (fun z9 => (z9, σ)) (Option.some.inj h)) hP
  · have h := it_f h c_1
    by_cases c_2 : a1 = (1 : Int32)
    · have h := it_t h c_2
      refine lv_tableIn (tgt := 49) hx hb dX3_count_1 (by rw [c_2]; decide) (by rw [c_2]; decide) (by rw [c_2]; rfl) (by decide) ?_
      refine lv_aload_n hx hb dX3_count_49 rfl (lv_at hl 0 rfl) ?_
      refine r_geti X hP 0 tw_c0 lk_3 8 (Nat.le_of_ble_eq_true rfl) q1646 tw_f8 dX3_count_50 ?_
      exact hret _ _ _ _ _ _ dX3_count_53 rfl (congrArg (fun z9 => (z9, σ)) (Option.some.inj h)) hP
    · have h := it_f h c_2
      by_cases c_3 : a1 = (2 : Int32)
      · have h := it_t h c_3
        refine lv_tableIn (tgt := 54) hx hb dX3_count_1 (by rw [c_3]; decide) (by rw [c_3]; decide) (by rw [c_3]; rfl) (by decide) ?_
        refine lv_aload_n hx hb dX3_count_54 rfl (lv_at hl 0 rfl) ?_
        refine r_geti X hP 0 tw_c0 lk_3 9 (Nat.le_of_ble_eq_true rfl) q1647 tw_f9 dX3_count_55 ?_
        exact hret _ _ _ _ _ _ dX3_count_58 rfl (congrArg (fun z9 => (z9, σ)) (Option.some.inj h)) hP
      · have h := it_f h c_3
        by_cases c_4 : a1 = (3 : Int32)
        · have h := it_t h c_4
          refine lv_tableIn (tgt := 59) hx hb dX3_count_1 (by rw [c_4]; decide) (by rw [c_4]; decide) (by rw [c_4]; rfl) (by decide) ?_
          refine lv_aload_n hx hb dX3_count_59 rfl (lv_at hl 0 rfl) ?_
          refine r_geti X hP 0 tw_c0 lk_3 17 (Nat.le_of_ble_eq_true rfl) q1655 tw_f17 dX3_count_60 ?_
          exact hret _ _ _ _ _ _ dX3_count_63 rfl (congrArg (fun z9 => (z9, σ)) (Option.some.inj h)) hP
        · have h := it_f h c_4
          by_cases c_5 : a1 = (4 : Int32)
          · have h := it_t h c_5
            refine lv_tableIn (tgt := 64) hx hb dX3_count_1 (by rw [c_5]; decide) (by rw [c_5]; decide) (by rw [c_5]; rfl) (by decide) ?_
            refine lv_aload_n hx hb dX3_count_64 rfl (lv_at hl 0 rfl) ?_
            refine r_geti X hP 0 tw_c0 lk_3 5 (Nat.le_of_ble_eq_true rfl) q1643 tw_f5 dX3_count_65 ?_
            exact hret _ _ _ _ _ _ dX3_count_68 rfl (congrArg (fun z9 => (z9, σ)) (Option.some.inj h)) hP
          · have h := it_f h c_5
            by_cases c_6 : a1 = (5 : Int32)
            · have h := it_t h c_6
              refine lv_tableIn (tgt := 69) hx hb dX3_count_1 (by rw [c_6]; decide) (by rw [c_6]; decide) (by rw [c_6]; rfl) (by decide) ?_
              refine lv_aload_n hx hb dX3_count_69 rfl (lv_at hl 0 rfl) ?_
              refine r_geti X hP 0 tw_c0 lk_3 66 (Nat.le_of_ble_eq_true rfl) q1704 tw_f66 dX3_count_70 ?_
              exact hret _ _ _ _ _ _ dX3_count_73 rfl (congrArg (fun z9 => (z9, σ)) (Option.some.inj h)) hP
            · have h := it_f h c_6
              by_cases c_7 : a1 = (6 : Int32)
              · have h := it_t h c_7
                refine lv_tableIn (tgt := 74) hx hb dX3_count_1 (by rw [c_7]; decide) (by rw [c_7]; decide) (by rw [c_7]; rfl) (by decide) ?_
                refine lv_aload_n hx hb dX3_count_74 rfl (lv_at hl 0 rfl) ?_
                refine r_geti X hP 0 tw_c0 lk_3 69 (Nat.le_of_ble_eq_true rfl) q1707 tw_f69 dX3_count_75 ?_
                exact hret _ _ _ _ _ _ dX3_count_78 rfl (congrArg (fun z9 => (z9, σ)) (Option.some.inj h)) hP
              · have h := it_f h c_7
                refine lv_tableOut (tgt := 79) hx hb dX3_count_1 (by have n0 := lv_neT c_1 (a := 0) (by decide); have n1 := lv_neT c_2 (a := 1) (by decide); have n2 := lv_neT c_3 (a := 2) (by decide); have n3 := lv_neT c_4 (a := 3) (by decide); have n4 := lv_neT c_5 (a := 4) (by decide); have n5 := lv_neT c_6 (a := 5) (by decide); have n6 := lv_neT c_7 (a := 6) (by decide); omega) (by decide) ?_
                refine lv_iconst (v := (-1 : Int32)) hx hb dX3_count_79 (by decide) ?_
                exact hret _ _ _ _ _ _ dX3_count_80 rfl (congrArg (fun z9 => (z9, σ)) (Option.some.inj h)) hP
