set_option maxRecDepth 100000
def cp_isOrder_B22 (rc22 : Int32 → Int32 → Int32 → ST → Option (Int32 × ST)) (w2 : Int32) (w3 : Int32) (w4 : Int32) (σ : ST) : Option (Int32 × ST) :=
  (if w4 < 0 then (if w2 = 0 then some ((1 : Int32), σ) else some ((0 : Int32), σ)) else nz (10 : Int32) (nz (10 : Int32) (bo (cp_isThing σ ((w2 - w2 / (10 : Int32) * (10 : Int32)) - (1 : Int32))) (fun (r_7 : Int32) => (if r_7 = 0 then some ((0 : Int32), σ) else (if ((w3 >>> (((w2 - w2 / (10 : Int32) * (10 : Int32)) - (1 : Int32)) &&& 31)) &&& (1 : Int32)) = (1 : Int32) then some ((0 : Int32), σ) else ck w4 6 (st_ (aI σ 0 16 w4 ((w2 - w2 / (10 : Int32) * (10 : Int32)) - (1 : Int32))) (fun (σ_10 : ST) => (rc22 (w2 / (10 : Int32)) (w3 ||| ((1 : Int32) <<< (((w2 - w2 / (10 : Int32) * (10 : Int32)) - (1 : Int32)) &&& 31))) (w4 + (-1 : Int32)) σ_10)))))))))
def cp_isOrder (σ : ST) (a1 : Int32) : Option (Int32 × ST) :=
  bo (cp_asTheyCame σ) (fun (σ_2 : ST) => (if a1 = 0 then some ((1 : Int32), σ_2) else wl4 (cp_isOrder_B22 ) FU a1 (0 : Int32) ((gI σ_2 0 4) - (1 : Int32)) σ_2))
abbrev rm_X0_isOrder : Room := rmf 2 43
set_option maxHeartbeats 4000000 in
set_option maxRecDepth 100000 in
theorem mt_X0_isOrder (l : Launch) (G : GT) (σ : ST) (a1 : Int32) {r : Int32} {u : ST} (h : cp_isOrder σ a1 = some (r, u)) : CI l cp_ft G yX0_isOrder (ws_ yX0_isOrder cX0_isOrder 6 (some .boolean)) rm_X0_isOrder 0 0 [.ref (G.2.2.1 0), .int a1] σ (r, u) := by
  refine m_enterI (by decide) rfl (lv := [(0, .ref (G.2.2.1 0)), (1, .int a1)]) rfl ?_
  intro p e s m args below meth c H locs ls Q X hret hP hl
  have hx := X.1.1
  have hb := X.1.2.1
  have hown := X.1.2.2.2.1
  have hts := X.1.2.2.2.2
  unfold cp_isOrder at h
  refine lv_aload_n hx hb dX0_isOrder_0 rfl (lv_at hl 0 rfl) ?_
  obtain ⟨σ_2, e_1, h⟩ := bo_ex h
  refine r_callv (r_runV (rest := []) X hP 0 cp_c0 lk_0 (mt_X0_asTheyCame l G σ e_1) (cwV 0 hts (lw_V q932 q934 qs21 q110 q935) rfl rfl rfl ⟨rfl, cdX0_asTheyCame⟩ ⟨Nat.le_of_ble_eq_true rfl, Nat.le_of_ble_eq_true rfl⟩) rfl hl.1 rfl (Nat.le_of_ble_eq_true rfl) dX0_isOrder_1 ⟨Nat.le_refl _, Nat.le_refl _⟩) hP (fun H locs hP => ?_)
  refine lv_iload_n hx hb dX0_isOrder_4 rfl (lv_at hl 1 rfl) ?_
  refine lv_if_ne (tgt := 10) hx hb dX0_isOrder_5 (by decide) (fun c_3 => ?_) (fun c_3 => ?_)
  · have h := it_f h c_3
    refine lv_iload_n hx hb dX0_isOrder_10 rfl (lv_at hl 1 rfl) ?_
    refine lv_istore_n (lv' := [(2, .int a1), (0, .ref (G.2.2.1 0)), (1, .int a1)]) hx hb dX0_isOrder_11 rfl hl (by decide) rfl (fun ls hl => ?_)
    refine lv_iconst (v := (0 : Int32)) hx hb dX0_isOrder_12 (by decide) ?_
    refine lv_istore_n (lv' := [(3, .int (0 : Int32)), (2, .int a1), (0, .ref (G.2.2.1 0)), (1, .int a1)]) hx hb dX0_isOrder_13 rfl hl (by decide) rfl (fun ls hl => ?_)
    refine lv_aload_n hx hb dX0_isOrder_14 rfl (lv_at hl 2 rfl) ?_
    refine r_geti X hP 0 cp_c0 lk_0 4 (Nat.le_of_ble_eq_true rfl) q289 cp_f4 dX0_isOrder_15 ?_
    refine lv_iconst (v := (1 : Int32)) hx hb dX0_isOrder_18 (by decide) ?_
    refine lv_isub hx hb dX0_isOrder_19 ?_
    refine lv_istore (lv' := [(4, .int ((gI σ_2 0 4) - (1 : Int32))), (3, .int (0 : Int32)), (2, .int a1), (0, .ref (G.2.2.1 0)), (1, .int a1)]) hx hb dX0_isOrder_20 hl (by decide) rfl (fun ls hl => ?_)
    have hL_12 : ∀ (n : Nat) (w_13 : Int32) (w_14 : Int32) (w_15 : Int32) (σ_16 : ST) (H : Heap) (locs : List Loc) (ls : Array Slot), wl4 (cp_isOrder_B22 ) n w_13 w_14 w_15 σ_16 = some (r, u) → PS cp_ft G s σ_16 H locs → lv_has ls 6 [(0, .ref (G.2.2.1 0)), (2, .int w_13), (3, .int w_14), (4, .int w_15)] → W p l e rm_X0_isOrder s m args below meth c H locs 0 0 Q (F0 m 22 ls []) := by
      intro n
      induction n with
      | zero => intro w_13 w_14 w_15 σ_16 H locs ls h; cases h
      | succ n ih =>
        intro w_13 w_14 w_15 σ_16 H locs ls h hP hl
        have h : cp_isOrder_B22  (wl4 (cp_isOrder_B22 ) n) w_13 w_14 w_15 σ_16 = some _ := h
        generalize wl4 (cp_isOrder_B22 ) n = rc_17 at h ih
        unfold cp_isOrder_B22 at h
        refine lv_iload hx hb dX0_isOrder_22 (lv_at hl 3 rfl) ?_
        refine lv_if_lt (tgt := 83) hx hb dX0_isOrder_24 (by decide) (fun c_18 => ?_) (fun c_18 => ?_)
        · have h := it_t h c_18
          refine lv_iload_n hx hb dX0_isOrder_83 rfl (lv_at hl 1 rfl) ?_
          refine lv_if_ne (tgt := 91) hx hb dX0_isOrder_84 (by decide) (fun c_19 => ?_) (fun c_19 => ?_)
          · have h := it_f h c_19
            refine lv_iconst (v := (0 : Int32)) hx hb dX0_isOrder_91 (by decide) ?_
            exact hret _ _ _ _ _ _ dX0_isOrder_92 rfl (Option.some.inj h) hP
          · have h := it_t h c_19
            refine lv_iconst (v := (1 : Int32)) hx hb dX0_isOrder_87 (by decide) ?_
            refine lv_goto (tgt := 92) hx hb dX0_isOrder_88 (by decide) ?_
            exact hret _ _ _ _ _ _ dX0_isOrder_92 rfl (Option.some.inj h) hP
        · have h := it_f h c_18
          refine lv_iload_n hx hb dX0_isOrder_27 rfl (lv_at hl 1 rfl) ?_
          refine lv_bipush (v := (10 : Int32)) hx hb dX0_isOrder_28 (by decide) ?_
          refine lv_irem hx hb dX0_isOrder_30 (nz_ne h) ?_
          have h := nz_k h
          refine lv_iconst (v := (1 : Int32)) hx hb dX0_isOrder_31 (by decide) ?_
          refine lv_isub hx hb dX0_isOrder_32 ?_
          refine lv_istore (lv' := [(5, .int ((w_13 - w_13 / (10 : Int32) * (10 : Int32)) - (1 : Int32))), (0, .ref (G.2.2.1 0)), (2, .int w_13), (3, .int w_14), (4, .int w_15)]) hx hb dX0_isOrder_33 hl (by decide) rfl (fun ls hl => ?_)
          refine lv_iload_n hx hb dX0_isOrder_35 rfl (lv_at hl 2 rfl) ?_
          refine lv_bipush (v := (10 : Int32)) hx hb dX0_isOrder_36 (by decide) ?_
          refine lv_idiv hx hb dX0_isOrder_38 (nz_ne h) ?_
          have h := nz_k h
          refine lv_istore_n (lv' := [(2, .int (w_13 / (10 : Int32))), (5, .int ((w_13 - w_13 / (10 : Int32) * (10 : Int32)) - (1 : Int32))), (0, .ref (G.2.2.1 0)), (3, .int w_14), (4, .int w_15)]) hx hb dX0_isOrder_39 rfl hl (by decide) rfl (fun ls hl => ?_)
          refine lv_aload_n hx hb dX0_isOrder_40 rfl (lv_at hl 2 rfl) ?_
          refine lv_iload hx hb dX0_isOrder_41 (lv_at hl 1 rfl) ?_
          obtain ⟨r_21, e_20, h⟩ := bo_ex h
          refine r_calli (r_runV (rest := []) X hP 0 cp_c0 lk_0 (mt_X0_isThing l G σ_16 ((w_13 - w_13 / (10 : Int32) * (10 : Int32)) - (1 : Int32)) e_20) (cwV 1 hts (lw_V q452 q454 qs1 q110 q455) rfl rfl rfl ⟨rfl, cdX0_isThing⟩ ⟨Nat.le_of_ble_eq_true rfl, Nat.le_of_ble_eq_true rfl⟩) rfl hl.1 rfl (Nat.le_of_ble_eq_true rfl) dX0_isOrder_43 ⟨Nat.le_refl _, Nat.le_refl _⟩) hP (fun H locs hP => ?_)
          refine lv_if_eq (tgt := 59) hx hb dX0_isOrder_46 (by decide) (fun c_22 => ?_) (fun c_22 => ?_)
          · have h := it_t h c_22
            refine lv_iconst (v := (0 : Int32)) hx hb dX0_isOrder_59 (by decide) ?_
            exact hret _ _ _ _ _ _ dX0_isOrder_60 rfl (Option.some.inj h) hP
          · have h := it_f h c_22
            refine lv_iload_n hx hb dX0_isOrder_49 rfl (lv_at hl 3 rfl) ?_
            refine lv_iload hx hb dX0_isOrder_50 (lv_at hl 1 rfl) ?_
            refine lv_ishr hx hb dX0_isOrder_52 ?_
            refine lv_iconst (v := (1 : Int32)) hx hb dX0_isOrder_53 (by decide) ?_
            refine lv_iand hx hb dX0_isOrder_54 ?_
            refine lv_iconst (v := (1 : Int32)) hx hb dX0_isOrder_55 (by decide) ?_
            refine lv_icmp_ne (tgt := 61) hx hb dX0_isOrder_56 (by decide) (fun c_23 => ?_) (fun c_23 => ?_)
            · have h := it_f h c_23
              refine lv_iload_n hx hb dX0_isOrder_61 rfl (lv_at hl 3 rfl) ?_
              refine lv_iconst (v := (1 : Int32)) hx hb dX0_isOrder_62 (by decide) ?_
              refine lv_iload hx hb dX0_isOrder_63 (lv_at hl 1 rfl) ?_
              refine lv_ishl hx hb dX0_isOrder_65 ?_
              refine lv_ior hx hb dX0_isOrder_66 ?_
              refine lv_istore_n (lv' := [(3, .int (w_14 ||| ((1 : Int32) <<< (((w_13 - w_13 / (10 : Int32) * (10 : Int32)) - (1 : Int32)) &&& 31)))), (2, .int (w_13 / (10 : Int32))), (5, .int ((w_13 - w_13 / (10 : Int32) * (10 : Int32)) - (1 : Int32))), (0, .ref (G.2.2.1 0)), (4, .int w_15)]) hx hb dX0_isOrder_67 rfl hl (by decide) rfl (fun ls hl => ?_)
              refine lv_aload_n hx hb dX0_isOrder_68 rfl (lv_at hl 3 rfl) ?_
              refine r_geta X hP 0 cp_c0 lk_0 16 (Nat.le_of_ble_eq_true rfl) q305 cp_f16 dX0_isOrder_69 ?_
              refine lv_iload hx hb dX0_isOrder_72 (lv_at hl 4 rfl) ?_
              refine lv_iload hx hb dX0_isOrder_74 (lv_at hl 2 rfl) ?_
              refine r_iast X cp_w hP 6 cp_c6 (ck_in h) dX0_isOrder_76 (fun σ_24 H locs e_25 hP => ?_)
              have h := st_k (ck_k h) e_25
              refine lv_iinc (v := (w_15 + (-1 : Int32))) (lv' := [(4, .int (w_15 + (-1 : Int32))), (3, .int (w_14 ||| ((1 : Int32) <<< (((w_13 - w_13 / (10 : Int32) * (10 : Int32)) - (1 : Int32)) &&& 31)))), (2, .int (w_13 / (10 : Int32))), (5, .int ((w_13 - w_13 / (10 : Int32) * (10 : Int32)) - (1 : Int32))), (0, .ref (G.2.2.1 0))]) hx hb dX0_isOrder_77 hl (k := 4) rfl rfl (by decide) rfl (fun ls hl => ?_)
              refine lv_goto (tgt := 22) hx hb dX0_isOrder_80 (by decide) ?_
              exact ih _ _ _ _ _ _ _ h hP (lv_sub hl [4, 2, 1, 0] rfl)
            · have h := it_t h c_23
              refine lv_iconst (v := (0 : Int32)) hx hb dX0_isOrder_59 (by decide) ?_
              exact hret _ _ _ _ _ _ dX0_isOrder_60 rfl (Option.some.inj h) hP
    exact hL_12 _ _ _ _ _ _ _ _ h hP (lv_sub hl [3, 2, 1, 0] rfl)
  · have h := it_t h c_3
    refine lv_iconst (v := (1 : Int32)) hx hb dX0_isOrder_8 (by decide) ?_
    exact hret _ _ _ _ _ _ dX0_isOrder_9 rfl (Option.some.inj h) hP
def cp_isEmpty (σ : ST)  : Option Int32 :=
  (if (gI σ 0 3) = 0 then some (1 : Int32) else (if (gI σ 0 4) = 0 then some (1 : Int32) else some (0 : Int32)))
abbrev rm_X0_isEmpty : Room := rmf 0 0
set_option maxHeartbeats 4000000 in
set_option maxRecDepth 100000 in
theorem mt_X0_isEmpty (l : Launch) (G : GT) (σ : ST)  {r : Int32} (h : cp_isEmpty σ = some r) : CI l cp_ft G yX0_isEmpty (ws_ yX0_isEmpty cX0_isEmpty 1 (some .boolean)) rm_X0_isEmpty 0 0 [.ref (G.2.2.1 0)] σ (r, σ) := by
  refine m_enterI (by decide) rfl (lv := [(0, .ref (G.2.2.1 0))]) rfl ?_
  intro p e s m args below meth c H locs ls Q X hret hP hl
  have hx := X.1.1
  have hb := X.1.2.1
  have hown := X.1.2.2.2.1
  have hts := X.1.2.2.2.2
  unfold cp_isEmpty at h
  refine lv_aload_n hx hb dX0_isEmpty_0 rfl (lv_at hl 0 rfl) ?_
  refine r_geti X hP 0 cp_c0 lk_0 3 (Nat.le_of_ble_eq_true rfl) q286 cp_f3 dX0_isEmpty_1 ?_
  refine lv_if_eq (tgt := 14) hx hb dX0_isEmpty_4 (by decide) (fun c_1 => ?_) (fun c_1 => ?_)
  · have h := it_t h c_1
    refine lv_iconst (v := (1 : Int32)) hx hb dX0_isEmpty_14 (by decide) ?_
    refine lv_goto (tgt := 19) hx hb dX0_isEmpty_15 (by decide) ?_
    exact hret _ _ _ _ _ _ dX0_isEmpty_19 rfl (congrArg (fun z9 => (z9, σ)) (Option.some.inj h)) hP
  · have h := it_f h c_1
    refine lv_aload_n hx hb dX0_isEmpty_7 rfl (lv_at hl 0 rfl) ?_
    refine r_geti X hP 0 cp_c0 lk_0 4 (Nat.le_of_ble_eq_true rfl) q289 cp_f4 dX0_isEmpty_8 ?_
    refine lv_if_ne (tgt := 18) hx hb dX0_isEmpty_11 (by decide) (fun c_2 => ?_) (fun c_2 => ?_)
    · have h := it_f h c_2
      refine lv_iconst (v := (0 : Int32)) hx hb dX0_isEmpty_18 (by decide) ?_
      exact hret _ _ _ _ _ _ dX0_isEmpty_19 rfl (congrArg (fun z9 => (z9, σ)) (Option.some.inj h)) hP
    · have h := it_t h c_2
      refine lv_iconst (v := (1 : Int32)) hx hb dX0_isEmpty_14 (by decide) ?_
      refine lv_goto (tgt := 19) hx hb dX0_isEmpty_15 (by decide) ?_
      exact hret _ _ _ _ _ _ dX0_isEmpty_19 rfl (congrArg (fun z9 => (z9, σ)) (Option.some.inj h)) hP
def mg_isThere (b : Nat) (σ : ST) (a1 : Int32) : Option Int32 :=
  (if a1 = (gI σ (1 + b) 20) then some (0 : Int32) else ck a1 10 (bo (pgi σ (lR σ 0 0 a1) 4 3) (fun (v_3 : Int32) => (if (gI σ (1 + b) 16) < v_3 then some (0 : Int32) else some (1 : Int32)))))
abbrev rm_X2_isThere : Room := rmf 0 0
set_option maxHeartbeats 4000000 in
set_option maxRecDepth 100000 in
theorem mt_X2_isThere (l : Launch) (G : GT) (b : Nat) (hbb : b < 2) (σ : ST) (a1 : Int32) {r : Int32} (h : mg_isThere b σ a1 = some r) : CI l cp_ft G yX2_isThere (ws_ yX2_isThere cX2_isThere 2 (some .boolean)) rm_X2_isThere 0 0 [.ref (G.2.2.1 (15 + 17 * b)), .int a1] σ (r, σ) := by
  refine m_enterI (by decide) rfl (lv := [(0, .ref (G.2.2.1 (15 + 17 * b))), (1, .int a1)]) rfl ?_
  intro p e s m args below meth c H locs ls Q X hret hP hl
  have hx := X.1.1
  have hb := X.1.2.1
  have hown := X.1.2.2.2.1
  have hts := X.1.2.2.2.2
  unfold mg_isThere at h
  refine lv_iload_n hx hb dX2_isThere_0 rfl (lv_at hl 1 rfl) ?_
  refine lv_aload_n hx hb dX2_isThere_1 rfl (lv_at hl 0 rfl) ?_
  refine r_geti X hP (15 + 17 * b) (mg_c b hbb) lk_2 20 (Nat.le_of_ble_eq_true rfl) q229 (mg_f20 b) dX2_isThere_2 ?_
  refine lv_icmp_eq (tgt := 31) hx hb dX2_isThere_5 (by decide) (fun c_1 => ?_) (fun c_1 => ?_)
  · have h := it_t h c_1
    refine lv_iconst (v := (0 : Int32)) hx hb dX2_isThere_31 (by decide) ?_
    exact hret _ _ _ _ _ _ dX2_isThere_32 rfl (congrArg (fun z9 => (z9, σ)) (Option.some.inj h)) hP
  · have h := it_f h c_1
    refine lv_aload_n hx hb dX2_isThere_8 rfl (lv_at hl 0 rfl) ?_
    refine r_geta X hP (15 + 17 * b) (mg_c b hbb) lk_2 21 (Nat.le_of_ble_eq_true rfl) q230 (mg_f21 b) dX2_isThere_9 ?_
    refine r_getaN X hP 0 cp_c0 lk_0 0 (Nat.le_of_ble_eq_true rfl) q281 cp_f0 dX2_isThere_12 ?_
    refine lv_iload_n hx hb dX2_isThere_15 rfl (lv_at hl 1 rfl) ?_
    refine r_aald (t := 0) X hP 1 cp_c1 rfl (ck_in h) dX2_isThere_16 ?_
    have h := ck_k h
    obtain ⟨v_3, e_2, h⟩ := bo_ex h
    refine r_pgiN (r := (lR σ 0 0 a1)) X hP lk_4 3 (Nat.le_of_ble_eq_true rfl) e_2 q414 dX2_isThere_17 ?_
    refine lv_aload_n hx hb dX2_isThere_20 rfl (lv_at hl 0 rfl) ?_
    refine r_geti X hP (15 + 17 * b) (mg_c b hbb) lk_2 16 (Nat.le_of_ble_eq_true rfl) q222 (mg_f16 b) dX2_isThere_21 ?_
    refine lv_icmp_gt (tgt := 31) hx hb dX2_isThere_24 (by decide) (fun c_4 => ?_) (fun c_4 => ?_)
    · have h := it_t h c_4
      refine lv_iconst (v := (0 : Int32)) hx hb dX2_isThere_31 (by decide) ?_
      exact hret _ _ _ _ _ _ dX2_isThere_32 rfl (congrArg (fun z9 => (z9, σ)) (Option.some.inj h)) hP
    · have h := it_f h c_4
      refine lv_iconst (v := (1 : Int32)) hx hb dX2_isThere_27 (by decide) ?_
      refine lv_goto (tgt := 32) hx hb dX2_isThere_28 (by decide) ?_
      exact hret _ _ _ _ _ _ dX2_isThere_32 rfl (congrArg (fun z9 => (z9, σ)) (Option.some.inj h)) hP
def cd_isOf (σ : ST) (t0 : Nat) (a1 : Int32) : Option Int32 :=
  bo (pgi σ (some t0) 6 2) (fun (v_2 : Int32) => (if ((v_2 >>> (a1 &&& 31)) &&& (1 : Int32)) = (1 : Int32) then some (1 : Int32) else some (0 : Int32)))
abbrev rm_X6_isOf : Room := rmf 0 0
set_option maxHeartbeats 4000000 in
set_option maxRecDepth 100000 in
theorem mt_X6_isOf (l : Launch) (G : GT) (σ : ST) (t0 : Nat) (a1 : Int32) {r : Int32} (h : cd_isOf σ t0 a1 = some r) : CI l cp_ft G yX6_isOf (ws_ yX6_isOf cX6_isOf 2 (some .boolean)) rm_X6_isOf 0 0 [.ref t0, .int a1] σ (r, σ) := by
  refine m_enterI (by decide) rfl (lv := [(0, .ref t0), (1, .int a1)]) rfl ?_
  intro p e s m args below meth c H locs ls Q X hret hP hl
  have hx := X.1.1
  have hb := X.1.2.1
  have hown := X.1.2.2.2.1
  have hts := X.1.2.2.2.2
  unfold cd_isOf at h
  refine lv_aload_n hx hb dX6_isOf_0 rfl (lv_at hl 0 rfl) ?_
  obtain ⟨v_2, e_1, h⟩ := bo_ex h
  refine r_pgi (r := (some t0)) X hP lk_6 2 (Nat.le_of_ble_eq_true rfl) e_1 q471 dX6_isOf_1 ?_
  refine lv_iload_n hx hb dX6_isOf_4 rfl (lv_at hl 1 rfl) ?_
  refine lv_ishr hx hb dX6_isOf_5 ?_
  refine lv_iconst (v := (1 : Int32)) hx hb dX6_isOf_6 (by decide) ?_
  refine lv_iand hx hb dX6_isOf_7 ?_
  refine lv_iconst (v := (1 : Int32)) hx hb dX6_isOf_8 (by decide) ?_
  refine lv_icmp_ne (tgt := 16) hx hb dX6_isOf_9 (by decide) (fun c_3 => ?_) (fun c_3 => ?_)
  · have h := it_f h c_3
    refine lv_iconst (v := (0 : Int32)) hx hb dX6_isOf_16 (by decide) ?_
    exact hret _ _ _ _ _ _ dX6_isOf_17 rfl (congrArg (fun z9 => (z9, σ)) (Option.some.inj h)) hP
  · have h := it_t h c_3
    refine lv_iconst (v := (1 : Int32)) hx hb dX6_isOf_12 (by decide) ?_
    refine lv_goto (tgt := 17) hx hb dX6_isOf_13 (by decide) ?_
    exact hret _ _ _ _ _ _ dX6_isOf_17 rfl (congrArg (fun z9 => (z9, σ)) (Option.some.inj h)) hP
def mg_isKnownHere_B2 (b : Nat) (σ : ST) (l1 : Option Nat) (rc2 : Int32 → Option Int32) (w2 : Int32) : Option Int32 :=
  (if (gI σ 0 3) ≤ w2 then some (0 : Int32) else bo (mg_isThere b σ w2) (fun (r_3 : Int32) => (if r_3 = 0 then (rc2 (w2 + (1 : Int32))) else bo (pis σ l1 6) (fun (a_5 : Nat) => bo (cd_isOf σ a_5 w2) (fun (r_8 : Int32) => (if r_8 = 0 then (rc2 (w2 + (1 : Int32))) else some (1 : Int32)))))))
def mg_isKnownHere (b : Nat) (σ : ST) (a1 : Option Nat) : Option Int32 :=
  wl1 (mg_isKnownHere_B2 b σ a1) FU (0 : Int32)
abbrev rm_X2_isKnownHere : Room := rmf 1 21
set_option maxHeartbeats 4000000 in
set_option maxRecDepth 100000 in
theorem mt_X2_isKnownHere (l : Launch) (G : GT) (b : Nat) (hbb : b < 2) (σ : ST) (a1 : Option Nat) {r : Int32} (h : mg_isKnownHere b σ a1 = some r) : CI l cp_ft G yX2_isKnownHere (ws_ yX2_isKnownHere cX2_isKnownHere 3 (some .boolean)) rm_X2_isKnownHere 0 0 [.ref (G.2.2.1 (15 + 17 * b)), va_rf a1] σ (r, σ) := by
  refine m_enterI (by decide) (by cases a1 <;> rfl) (lv := [(0, .ref (G.2.2.1 (15 + 17 * b))), (1, va_rf a1)]) (by cases a1 <;> rfl) ?_
  intro p e s m args below meth c H locs ls Q X hret hP hl
  have hx := X.1.1
  have hb := X.1.2.1
  have hown := X.1.2.2.2.1
  have hts := X.1.2.2.2.2
  unfold mg_isKnownHere at h
  refine lv_iconst (v := (0 : Int32)) hx hb dX2_isKnownHere_0 (by decide) ?_
  refine lv_istore_n (lv' := [(2, .int (0 : Int32)), (0, .ref (G.2.2.1 (15 + 17 * b))), (1, va_rf a1)]) hx hb dX2_isKnownHere_1 rfl hl (by decide) (by simp [rr_cat]) (fun ls hl => ?_)
  have hL_10 : ∀ (n : Nat) (w_11 : Int32) (H : Heap) (locs : List Loc) (ls : Array Slot), wl1 (mg_isKnownHere_B2 b σ a1) n w_11 = some r → PS cp_ft G s σ H locs → lv_has ls 3 [(0, .ref (G.2.2.1 (15 + 17 * b))), (1, va_rf a1), (2, .int w_11)] → W p l e rm_X2_isKnownHere s m args below meth c H locs 0 0 Q (F0 m 2 ls []) := by
    intro n
    induction n with
    | zero => intro w_11 H locs ls h; cases h
    | succ n ih =>
      intro w_11 H locs ls h hP hl
      have h : mg_isKnownHere_B2 b σ a1 (wl1 (mg_isKnownHere_B2 b σ a1) n) w_11 = some _ := h
      generalize wl1 (mg_isKnownHere_B2 b σ a1) n = rc_12 at h ih
      unfold mg_isKnownHere_B2 at h
      refine lv_iload_n hx hb dX2_isKnownHere_2 rfl (lv_at hl 2 rfl) ?_
      refine lv_aload_n hx hb dX2_isKnownHere_3 rfl (lv_at hl 0 rfl) ?_
      refine r_geta X hP (15 + 17 * b) (mg_c b hbb) lk_2 21 (Nat.le_of_ble_eq_true rfl) q230 (mg_f21 b) dX2_isKnownHere_4 ?_
      refine r_getiN X hP 0 cp_c0 lk_0 3 (Nat.le_of_ble_eq_true rfl) q287 cp_f3 dX2_isKnownHere_7 ?_
      refine lv_icmp_ge (tgt := 37) hx hb dX2_isKnownHere_10 (by decide) (fun c_13 => ?_) (fun c_13 => ?_)
      · have h := it_t h c_13
        refine lv_iconst (v := (0 : Int32)) hx hb dX2_isKnownHere_37 (by decide) ?_
        exact hret _ _ _ _ _ _ dX2_isKnownHere_38 rfl (congrArg (fun z9 => (z9, σ)) (Option.some.inj h)) hP
      · have h := it_f h c_13
        refine lv_aload_n hx hb dX2_isKnownHere_13 rfl (lv_at hl 0 rfl) ?_
        refine lv_iload_n hx hb dX2_isKnownHere_14 rfl (lv_at hl 2 rfl) ?_
        obtain ⟨r_15, e_14, h⟩ := bo_ex h
        refine r_calli (r_runV (rest := []) X hP (15 + 17 * b) (mg_c b hbb) lk_2 (mt_X2_isThere l G b hbb σ w_11 e_14) (cwV 1 hts (lw_V q956 q957 q958 q112 q959) rfl rfl rfl ⟨rfl, cdX2_isThere⟩ ⟨Nat.le_of_ble_eq_true rfl, Nat.le_of_ble_eq_true rfl⟩) rfl hl.1 rfl (Nat.le_of_ble_eq_true rfl) dX2_isKnownHere_15 ⟨Nat.le_refl _, Nat.le_refl _⟩) hP (fun H locs hP => ?_)
        refine lv_if_eq (tgt := 31) hx hb dX2_isKnownHere_18 (by decide) (fun c_16 => ?_) (fun c_16 => ?_)
        · have h := it_t h c_16
          refine lv_iinc (v := (w_11 + (1 : Int32))) (lv' := [(2, .int (w_11 + (1 : Int32))), (0, .ref (G.2.2.1 (15 + 17 * b))), (1, va_rf a1)]) hx hb dX2_isKnownHere_31 hl (k := 2) rfl rfl (by decide) (by simp [rr_cat]) (fun ls hl => ?_)
          refine lv_goto (tgt := 2) hx hb dX2_isKnownHere_34 (by decide) ?_
          exact ih _ _ _ _ h hP (lv_sub hl [1, 2, 0] rfl)
        · have h := it_f h c_16
          refine rr_aload_n hx hb dX2_isKnownHere_21 rfl (lv_at hl 1 rfl) ?_
          refine lv_iload_n hx hb dX2_isKnownHere_22 rfl (lv_at hl 2 rfl) ?_
          obtain ⟨a_17, e_18, h⟩ := bo_ex h
          rw [rr_known (pis_ex e_18).1]
          obtain ⟨r_20, e_19, h⟩ := bo_ex h
          refine r_calli (r_runP (rest := []) X hP (pis_ex e_18).2 lk_6 (mt_X6_isOf l G σ a_17 w_11 e_19) (cwV 1 hts (lw_V q960 q961 q962 q116 q963) rfl rfl rfl ⟨rfl, cdX6_isOf⟩ ⟨Nat.le_of_ble_eq_true rfl, Nat.le_of_ble_eq_true rfl⟩) rfl hl.1 rfl (Nat.le_of_ble_eq_true rfl) dX2_isKnownHere_23 ⟨Nat.le_refl _, Nat.le_refl _⟩) hP (fun H locs hP => ?_)
          refine lv_if_eq (tgt := 31) hx hb dX2_isKnownHere_26 (by decide) (fun c_21 => ?_) (fun c_21 => ?_)
          · have h := it_t h c_21
            refine lv_iinc (v := (w_11 + (1 : Int32))) (lv' := [(2, .int (w_11 + (1 : Int32))), (0, .ref (G.2.2.1 (15 + 17 * b))), (1, va_rf a1)]) hx hb dX2_isKnownHere_31 hl (k := 2) rfl rfl (by decide) (by simp [rr_cat]) (fun ls hl => ?_)
            refine lv_goto (tgt := 2) hx hb dX2_isKnownHere_34 (by decide) ?_
            exact ih _ _ _ _ h hP (lv_sub hl [1, 2, 0] rfl)
          · have h := it_f h c_21
            refine lv_iconst (v := (1 : Int32)) hx hb dX2_isKnownHere_29 (by decide) ?_
            exact hret _ _ _ _ _ _ dX2_isKnownHere_30 rfl (congrArg (fun z9 => (z9, σ)) (Option.some.inj h)) hP
  exact hL_10 _ _ _ _ _ h hP (lv_sub hl [1, 2, 0] rfl)
def mg_layPaper_B2 (b : Nat) (l1 : Int32) (rc2 : Int32 → ST → Option (ST)) (w2 : Int32) (σ : ST) : Option (ST) :=
  (if (gI σ 0 5) ≤ w2 then some (σ) else ck w2 20 (bo (pgi σ (lR σ 0 2 w2) 6 0) (fun (v_3 : Int32) => bo (if v_3 = l1 then ck w2 20 (bo (mg_isKnownHere b σ (lR σ 0 2 w2)) (fun (r_9 : Int32) => (if r_9 = 0 then some (σ) else st_ (pI σ (1 + b) 18 ((gI σ (1 + b) 18) ||| ((1 : Int32) <<< (w2 &&& 31)))) (fun (σ_11 : ST) => ck w2 20 (st_ (aI σ_11 (1 + b) 8 w2 (-1 : Int32)) (fun (σ_13 : ST) => ck w2 20 (st_ (aI σ_13 (1 + b) 9 w2 (-1 : Int32)) (fun (σ_15 : ST) => some (σ_15))))))))) else some (σ)) (fun (σ_4 : ST) => (rc2 (w2 + (1 : Int32)) σ_4)))))
def mg_layPaper (b : Nat) (σ : ST) (a1 : Int32) : Option ST :=
  bo (wl2 (mg_layPaper_B2 b a1) FU (0 : Int32) σ) (fun (σ_18 : ST) => some σ_18)
abbrev rm_X2_layPaper : Room := rmf 2 43
set_option maxHeartbeats 4000000 in
set_option maxRecDepth 100000 in
theorem mt_X2_layPaper (l : Launch) (G : GT) (b : Nat) (hbb : b < 2) (σ : ST) (a1 : Int32) {u : ST} (h : mg_layPaper b σ a1 = some u) : CV l cp_ft G yX2_layPaper (ws_ yX2_layPaper cX2_layPaper 3 none) rm_X2_layPaper 0 0 [.ref (G.2.2.1 (15 + 17 * b)), .int a1] σ u := by
  refine m_enterV (by decide) rfl (lv := [(0, .ref (G.2.2.1 (15 + 17 * b))), (1, .int a1)]) rfl ?_
  intro p e s m args below meth c H locs ls Q X hnm hret hP hl
  have hx := X.1.1
  have hb := X.1.2.1
  have hown := X.1.2.2.2.1
  have hts := X.1.2.2.2.2
  unfold mg_layPaper at h
  refine lv_iconst (v := (0 : Int32)) hx hb dX2_layPaper_0 (by decide) ?_
  refine lv_istore_n (lv' := [(2, .int (0 : Int32)), (0, .ref (G.2.2.1 (15 + 17 * b))), (1, .int a1)]) hx hb dX2_layPaper_1 rfl hl (by decide) rfl (fun ls hl => ?_)
  obtain ⟨σ_18, h_19, h⟩ := bo_ex h
  have hE_20 : ∀ (H : Heap) (locs : List Loc) (ls : Array Slot), PS cp_ft G s σ_18 H locs → lv_has ls 3 [] → W p l e rm_X2_layPaper s m args below meth c H locs 0 0 Q (F0 m 80 ls []) := by
    intro H locs ls hP hl
    exact hret _ _ _ _ _ dX2_layPaper_80 (Option.some.inj h) hP
  have hL_17 : ∀ (n : Nat) (w_21 : Int32) (σ_22 : ST) (H : Heap) (locs : List Loc) (ls : Array Slot), wl2 (mg_layPaper_B2 b a1) n w_21 σ_22 = some σ_18 → PS cp_ft G s σ_22 H locs → lv_has ls 3 [(0, .ref (G.2.2.1 (15 + 17 * b))), (1, .int a1), (2, .int w_21)] → W p l e rm_X2_layPaper s m args below meth c H locs 0 0 Q (F0 m 2 ls []) := by
    intro n
    induction n with
    | zero => intro w_21 σ_22 H locs ls h_23; cases h_23
    | succ n ih =>
      intro w_21 σ_22 H locs ls h_23 hP hl
      have h_23 : mg_layPaper_B2 b a1 (wl2 (mg_layPaper_B2 b a1) n) w_21 σ_22 = some _ := h_23
      generalize wl2 (mg_layPaper_B2 b a1) n = rc_24 at h_23 ih
      unfold mg_layPaper_B2 at h_23
      refine lv_iload_n hx hb dX2_layPaper_2 rfl (lv_at hl 2 rfl) ?_
      refine lv_aload_n hx hb dX2_layPaper_3 rfl (lv_at hl 0 rfl) ?_
      refine r_geta X hP (15 + 17 * b) (mg_c b hbb) lk_2 21 (Nat.le_of_ble_eq_true rfl) q230 (mg_f21 b) dX2_layPaper_4 ?_
      refine r_getiN X hP 0 cp_c0 lk_0 5 (Nat.le_of_ble_eq_true rfl) q290 cp_f5 dX2_layPaper_7 ?_
      refine lv_icmp_ge (tgt := 80) hx hb dX2_layPaper_10 (by decide) (fun c_25 => ?_) (fun c_25 => ?_)
      · have h_23 := it_t h_23 c_25
        obtain rfl := Option.some.inj h_23
        exact hE_20 _ _ _ hP (lv_sub hl [] rfl)
      · have h_23 := it_f h_23 c_25
        refine lv_aload_n hx hb dX2_layPaper_13 rfl (lv_at hl 0 rfl) ?_
        refine r_geta X hP (15 + 17 * b) (mg_c b hbb) lk_2 21 (Nat.le_of_ble_eq_true rfl) q230 (mg_f21 b) dX2_layPaper_14 ?_
        refine r_getaN X hP 0 cp_c0 lk_0 2 (Nat.le_of_ble_eq_true rfl) q285 cp_f2 dX2_layPaper_17 ?_
        refine lv_iload_n hx hb dX2_layPaper_20 rfl (lv_at hl 2 rfl) ?_
        refine r_aald (t := 2) X hP 3 cp_c3 rfl (ck_in h_23) dX2_layPaper_21 ?_
        have h_23 := ck_k h_23
        obtain ⟨v_27, e_26, h_23⟩ := bo_ex h_23
        refine r_pgiN (r := (lR σ_22 0 2 w_21)) X hP lk_6 0 (Nat.le_of_ble_eq_true rfl) e_26 q466 dX2_layPaper_22 ?_
        refine lv_iload_n hx hb dX2_layPaper_25 rfl (lv_at hl 1 rfl) ?_
        obtain ⟨σ_28, h_29, h_23⟩ := bo_ex h_23
        have hJ_30 : ∀ (H : Heap) (locs : List Loc) (ls : Array Slot), PS cp_ft G s σ_28 H locs → lv_has ls 3 [(0, .ref (G.2.2.1 (15 + 17 * b))), (1, .int a1), (2, .int w_21)] → W p l e rm_X2_layPaper s m args below meth c H locs 0 0 Q (F0 m 74 ls []) := by
          intro H locs ls hP hl
          refine lv_iinc (v := (w_21 + (1 : Int32))) (lv' := [(2, .int (w_21 + (1 : Int32))), (0, .ref (G.2.2.1 (15 + 17 * b))), (1, .int a1)]) hx hb dX2_layPaper_74 hl (k := 2) rfl rfl (by decide) rfl (fun ls hl => ?_)
          refine lv_goto (tgt := 2) hx hb dX2_layPaper_77 (by decide) ?_
          exact ih _ _ _ _ _ h_23 hP (lv_sub hl [1, 2, 0] rfl)
        refine lv_icmp_ne (tgt := 74) hx hb dX2_layPaper_26 (by decide) (fun c_31 => ?_) (fun c_31 => ?_)
        · have h_29 := it_f h_29 c_31
          obtain rfl := Option.some.inj h_29
          exact hJ_30 _ _ _ hP (lv_sub hl [0, 1, 2] rfl)
        · have h_29 := it_t h_29 c_31
          refine lv_aload_n hx hb dX2_layPaper_29 rfl (lv_at hl 0 rfl) ?_
          refine lv_aload_n hx hb dX2_layPaper_30 rfl (lv_at hl 0 rfl) ?_
          refine r_geta X hP (15 + 17 * b) (mg_c b hbb) lk_2 21 (Nat.le_of_ble_eq_true rfl) q230 (mg_f21 b) dX2_layPaper_31 ?_
          refine r_getaN X hP 0 cp_c0 lk_0 2 (Nat.le_of_ble_eq_true rfl) q285 cp_f2 dX2_layPaper_34 ?_
          refine lv_iload_n hx hb dX2_layPaper_37 rfl (lv_at hl 2 rfl) ?_
          refine r_aald (t := 2) X hP 3 cp_c3 rfl (ck_in h_29) dX2_layPaper_38 ?_
          have h_29 := ck_k h_29
          obtain ⟨r_33, e_32, h_29⟩ := bo_ex h_29
          refine r_calli (r_runV (rest := []) X hP (15 + 17 * b) (mg_c b hbb) lk_2 (mt_X2_isKnownHere l G b hbb σ_22 (lR σ_22 0 2 w_21) e_32) (cwV 1 hts (lw_V q952 q954 qs25 q112 q955) rfl rfl rfl ⟨rfl, cdX2_isKnownHere⟩ ⟨Nat.le_of_ble_eq_true rfl, Nat.le_of_ble_eq_true rfl⟩) rfl hl.1 rfl (Nat.le_of_ble_eq_true rfl) dX2_layPaper_39 ⟨Nat.le_refl _, Nat.le_refl _⟩) hP (fun H locs hP => ?_)
          refine lv_if_ne (tgt := 48) hx hb dX2_layPaper_42 (by decide) (fun c_34 => ?_) (fun c_34 => ?_)
          · have h_29 := it_f h_29 c_34
            refine lv_aload_n hx hb dX2_layPaper_48 rfl (lv_at hl 0 rfl) ?_
            refine lv_dup hx hb dX2_layPaper_49 rfl ?_
            refine r_geti X hP (15 + 17 * b) (mg_c b hbb) lk_2 18 (Nat.le_of_ble_eq_true rfl) q226 (mg_f18 b) dX2_layPaper_50 ?_
            refine lv_iconst (v := (1 : Int32)) hx hb dX2_layPaper_53 (by decide) ?_
            refine lv_iload_n hx hb dX2_layPaper_54 rfl (lv_at hl 2 rfl) ?_
            refine lv_ishl hx hb dX2_layPaper_55 ?_
            refine lv_ior hx hb dX2_layPaper_56 ?_
            refine r_puti X cp_w hP (15 + 17 * b) (mg_c b hbb) lk_2 18 (Nat.le_of_ble_eq_true rfl) q226 (mg_f18 b) rfl (tyX2_ok 18 (by decide)) rfl rfl dX2_layPaper_57 (fun σ_35 H locs e_36 hP => ?_)
            have h_29 := st_k h_29 e_36
            refine lv_aload_n hx hb dX2_layPaper_60 rfl (lv_at hl 0 rfl) ?_
            refine r_geta X hP (15 + 17 * b) (mg_c b hbb) lk_2 8 (Nat.le_of_ble_eq_true rfl) q209 (mg_f8 b) dX2_layPaper_61 ?_
            refine lv_iload_n hx hb dX2_layPaper_64 rfl (lv_at hl 2 rfl) ?_
            refine lv_iconst (v := (-1 : Int32)) hx hb dX2_layPaper_65 (by decide) ?_
            refine r_iast X cp_w hP (16 + 17 * b + 8) (mg_a8 b hbb) (ck_in h_29) dX2_layPaper_66 (fun σ_37 H locs e_38 hP => ?_)
            have h_29 := st_k (ck_k h_29) e_38
            refine lv_aload_n hx hb dX2_layPaper_67 rfl (lv_at hl 0 rfl) ?_
            refine r_geta X hP (15 + 17 * b) (mg_c b hbb) lk_2 9 (Nat.le_of_ble_eq_true rfl) q211 (mg_f9 b) dX2_layPaper_68 ?_
            refine lv_iload_n hx hb dX2_layPaper_71 rfl (lv_at hl 2 rfl) ?_
            refine lv_iconst (v := (-1 : Int32)) hx hb dX2_layPaper_72 (by decide) ?_
            refine r_iast X cp_w hP (16 + 17 * b + 9) (mg_a9 b hbb) (ck_in h_29) dX2_layPaper_73 (fun σ_39 H locs e_40 hP => ?_)
            have h_29 := st_k (ck_k h_29) e_40
            obtain rfl := Option.some.inj h_29
            exact hJ_30 _ _ _ hP (lv_sub hl [0, 1, 2] rfl)
          · have h_29 := it_t h_29 c_34
            refine lv_goto (tgt := 74) hx hb dX2_layPaper_45 (by decide) ?_
            obtain rfl := Option.some.inj h_29
            exact hJ_30 _ _ _ hP (lv_sub hl [0, 1, 2] rfl)
  exact hL_17 _ _ _ _ _ _ h_19 hP (lv_sub hl [1, 2, 0] rfl)
def mg_unsaid_B5 (b : Nat) (σ : ST) (l1 : Int32) (l2 : Int32) (rc5 : Int32 → Int32 → Option (Int32)) (w3 : Int32) (w4 : Int32) : Option (Int32) :=
  (if (gI σ 0 5) ≤ w4 then some (w3) else ck w4 20 (bo (pgi σ (lR σ 0 2 w4) 6 0) (fun (v_3 : Int32) => bo (if v_3 = l2 then ck w4 20 (bo (pis σ (lR σ 0 2 w4) 6) (fun (a_8 : Nat) => bo (cd_isOf σ a_8 l1) (fun (r_11 : Int32) => (if r_11 = 0 then some ((0 : Int32)) else (if (((gI σ (1 + b) 18) >>> (w4 &&& 31)) &&& (1 : Int32)) = 0 then some ((1 : Int32)) else some ((0 : Int32))))))) else some ((0 : Int32))) (fun (x_4 : Int32) => (rc5 (w3 + x_4) (w4 + (1 : Int32)))))))
def mg_unsaid (b : Nat) (σ : ST) (a1 : Int32) (a2 : Int32) : Option Int32 :=
  bo (wl2 (mg_unsaid_B5 b σ a1 a2) FU (0 : Int32) (0 : Int32)) (fun (o_15 : Int32) => some o_15)
abbrev rm_X2_unsaid : Room := rmf 1 21
set_option maxHeartbeats 4000000 in
set_option maxRecDepth 100000 in
theorem mt_X2_unsaid (l : Launch) (G : GT) (b : Nat) (hbb : b < 2) (σ : ST) (a1 : Int32) (a2 : Int32) {r : Int32} (h : mg_unsaid b σ a1 a2 = some r) : CI l cp_ft G yX2_unsaid (ws_ yX2_unsaid cX2_unsaid 5 (some .int)) rm_X2_unsaid 0 0 [.ref (G.2.2.1 (15 + 17 * b)), .int a1, .int a2] σ (r, σ) := by
  refine m_enterI (by decide) rfl (lv := [(0, .ref (G.2.2.1 (15 + 17 * b))), (1, .int a1), (2, .int a2)]) rfl ?_
  intro p e s m args below meth c H locs ls Q X hret hP hl
  have hx := X.1.1
  have hb := X.1.2.1
  have hown := X.1.2.2.2.1
  have hts := X.1.2.2.2.2
  unfold mg_unsaid at h
  refine lv_iconst (v := (0 : Int32)) hx hb dX2_unsaid_0 (by decide) ?_
  refine lv_istore_n (lv' := [(3, .int (0 : Int32)), (0, .ref (G.2.2.1 (15 + 17 * b))), (1, .int a1), (2, .int a2)]) hx hb dX2_unsaid_1 rfl hl (by decide) rfl (fun ls hl => ?_)
  refine lv_iconst (v := (0 : Int32)) hx hb dX2_unsaid_2 (by decide) ?_
  refine lv_istore (lv' := [(4, .int (0 : Int32)), (3, .int (0 : Int32)), (0, .ref (G.2.2.1 (15 + 17 * b))), (1, .int a1), (2, .int a2)]) hx hb dX2_unsaid_3 hl (by decide) rfl (fun ls hl => ?_)
  obtain ⟨o_15, h_16, h⟩ := bo_ex h
  have hE_17 : ∀ (H : Heap) (locs : List Loc) (ls : Array Slot), PS cp_ft G s σ H locs → lv_has ls 5 [(3, .int o_15)] → W p l e rm_X2_unsaid s m args below meth c H locs 0 0 Q (F0 m 77 ls []) := by
    intro H locs ls hP hl
    refine lv_iload_n hx hb dX2_unsaid_77 rfl (lv_at hl 0 rfl) ?_
    exact hret _ _ _ _ _ _ dX2_unsaid_78 rfl (congrArg (fun z9 => (z9, σ)) (Option.some.inj h)) hP
  have hL_14 : ∀ (n : Nat) (w_18 : Int32) (w_19 : Int32) (H : Heap) (locs : List Loc) (ls : Array Slot), wl2 (mg_unsaid_B5 b σ a1 a2) n w_18 w_19 = some o_15 → PS cp_ft G s σ H locs → lv_has ls 5 [(0, .ref (G.2.2.1 (15 + 17 * b))), (1, .int a1), (2, .int a2), (3, .int w_18), (4, .int w_19)] → W p l e rm_X2_unsaid s m args below meth c H locs 0 0 Q (F0 m 5 ls []) := by
    intro n
    induction n with
    | zero => intro w_18 w_19 H locs ls h_20; cases h_20
    | succ n ih =>
      intro w_18 w_19 H locs ls h_20 hP hl
      have h_20 : mg_unsaid_B5 b σ a1 a2 (wl2 (mg_unsaid_B5 b σ a1 a2) n) w_18 w_19 = some _ := h_20
      generalize wl2 (mg_unsaid_B5 b σ a1 a2) n = rc_21 at h_20 ih
      unfold mg_unsaid_B5 at h_20
      refine lv_iload hx hb dX2_unsaid_5 (lv_at hl 4 rfl) ?_
      refine lv_aload_n hx hb dX2_unsaid_7 rfl (lv_at hl 0 rfl) ?_
      refine r_geta X hP (15 + 17 * b) (mg_c b hbb) lk_2 21 (Nat.le_of_ble_eq_true rfl) q230 (mg_f21 b) dX2_unsaid_8 ?_
      refine r_getiN X hP 0 cp_c0 lk_0 5 (Nat.le_of_ble_eq_true rfl) q290 cp_f5 dX2_unsaid_11 ?_
      refine lv_icmp_ge (tgt := 77) hx hb dX2_unsaid_14 (by decide) (fun c_22 => ?_) (fun c_22 => ?_)
      · have h_20 := it_t h_20 c_22
        obtain rfl := Option.some.inj h_20
        exact hE_17 _ _ _ hP (lv_sub hl [3] rfl)
      · have h_20 := it_f h_20 c_22
        refine lv_iload_n hx hb dX2_unsaid_17 rfl (lv_at hl 3 rfl) ?_
        refine lv_aload_n hx hb dX2_unsaid_18 rfl (lv_at hl 0 rfl) ?_
        refine r_geta X hP (15 + 17 * b) (mg_c b hbb) lk_2 21 (Nat.le_of_ble_eq_true rfl) q230 (mg_f21 b) dX2_unsaid_19 ?_
        refine r_getaN X hP 0 cp_c0 lk_0 2 (Nat.le_of_ble_eq_true rfl) q285 cp_f2 dX2_unsaid_22 ?_
        refine lv_iload hx hb dX2_unsaid_25 (lv_at hl 4 rfl) ?_
        refine r_aald (t := 2) X hP 3 cp_c3 rfl (ck_in h_20) dX2_unsaid_27 ?_
        have h_20 := ck_k h_20
        obtain ⟨v_24, e_23, h_20⟩ := bo_ex h_20
        refine r_pgiN (r := (lR σ 0 2 w_19)) X hP lk_6 0 (Nat.le_of_ble_eq_true rfl) e_23 q466 dX2_unsaid_28 ?_
        refine lv_iload_n hx hb dX2_unsaid_31 rfl (lv_at hl 2 rfl) ?_
        obtain ⟨x_25, h_26, h_20⟩ := bo_ex h_20
        have hJ_27 : ∀ (H : Heap) (locs : List Loc) (ls : Array Slot), PS cp_ft G s σ H locs → lv_has ls 5 [(0, .ref (G.2.2.1 (15 + 17 * b))), (1, .int a1), (2, .int a2), (4, .int w_19)] → W p l e rm_X2_unsaid s m args below meth c H locs 0 0 Q (F0 m 69 ls [.int x_25, .int w_18]) := by
          intro H locs ls hP hl
          refine lv_iadd hx hb dX2_unsaid_69 ?_
          refine lv_istore_n (lv' := [(3, .int (w_18 + x_25)), (0, .ref (G.2.2.1 (15 + 17 * b))), (1, .int a1), (2, .int a2), (4, .int w_19)]) hx hb dX2_unsaid_70 rfl hl (by decide) rfl (fun ls hl => ?_)
          refine lv_iinc (v := (w_19 + (1 : Int32))) (lv' := [(4, .int (w_19 + (1 : Int32))), (3, .int (w_18 + x_25)), (0, .ref (G.2.2.1 (15 + 17 * b))), (1, .int a1), (2, .int a2)]) hx hb dX2_unsaid_71 hl (k := 4) rfl rfl (by decide) rfl (fun ls hl => ?_)
          refine lv_goto (tgt := 5) hx hb dX2_unsaid_74 (by decide) ?_
          exact ih _ _ _ _ _ h_20 hP (lv_sub hl [2, 3, 4, 1, 0] rfl)
        refine lv_icmp_ne (tgt := 68) hx hb dX2_unsaid_32 (by decide) (fun c_28 => ?_) (fun c_28 => ?_)
        · have h_26 := it_f h_26 c_28
          refine lv_iconst (v := (0 : Int32)) hx hb dX2_unsaid_68 (by decide) ?_
          obtain rfl := Option.some.inj h_26
          exact hJ_27 _ _ _ hP (lv_sub hl [0, 1, 2, 4] rfl)
        · have h_26 := it_t h_26 c_28
          refine lv_aload_n hx hb dX2_unsaid_35 rfl (lv_at hl 0 rfl) ?_
          refine r_geta X hP (15 + 17 * b) (mg_c b hbb) lk_2 21 (Nat.le_of_ble_eq_true rfl) q230 (mg_f21 b) dX2_unsaid_36 ?_
          refine r_getaN X hP 0 cp_c0 lk_0 2 (Nat.le_of_ble_eq_true rfl) q285 cp_f2 dX2_unsaid_39 ?_
          refine lv_iload hx hb dX2_unsaid_42 (lv_at hl 4 rfl) ?_
          refine r_aald (t := 2) X hP 3 cp_c3 rfl (ck_in h_26) dX2_unsaid_44 ?_
          have h_26 := ck_k h_26
          refine lv_iload_n hx hb dX2_unsaid_45 rfl (lv_at hl 1 rfl) ?_
          obtain ⟨a_29, e_30, h_26⟩ := bo_ex h_26
          rw [rr_known (pis_ex e_30).1]
          obtain ⟨r_32, e_31, h_26⟩ := bo_ex h_26
          refine r_calli (r_runP (rest := [.int w_18]) X hP (pis_ex e_30).2 lk_6 (mt_X6_isOf l G σ a_29 a1 e_31) (cwV 1 hts (lw_V q960 q961 q962 q116 q963) rfl rfl rfl ⟨rfl, cdX6_isOf⟩ ⟨Nat.le_of_ble_eq_true rfl, Nat.le_of_ble_eq_true rfl⟩) rfl hl.1 rfl (Nat.le_of_ble_eq_true rfl) dX2_unsaid_46 ⟨Nat.le_refl _, Nat.le_refl _⟩) hP (fun H locs hP => ?_)
          refine lv_if_eq (tgt := 68) hx hb dX2_unsaid_49 (by decide) (fun c_33 => ?_) (fun c_33 => ?_)
          · have h_26 := it_t h_26 c_33
            refine lv_iconst (v := (0 : Int32)) hx hb dX2_unsaid_68 (by decide) ?_
            obtain rfl := Option.some.inj h_26
            exact hJ_27 _ _ _ hP (lv_sub hl [0, 1, 2, 4] rfl)
          · have h_26 := it_f h_26 c_33
            refine lv_aload_n hx hb dX2_unsaid_52 rfl (lv_at hl 0 rfl) ?_
            refine r_geti X hP (15 + 17 * b) (mg_c b hbb) lk_2 18 (Nat.le_of_ble_eq_true rfl) q226 (mg_f18 b) dX2_unsaid_53 ?_
            refine lv_iload hx hb dX2_unsaid_56 (lv_at hl 4 rfl) ?_
            refine lv_ishr hx hb dX2_unsaid_58 ?_
            refine lv_iconst (v := (1 : Int32)) hx hb dX2_unsaid_59 (by decide) ?_
            refine lv_iand hx hb dX2_unsaid_60 ?_
            refine lv_if_ne (tgt := 68) hx hb dX2_unsaid_61 (by decide) (fun c_34 => ?_) (fun c_34 => ?_)
            · have h_26 := it_f h_26 c_34
              refine lv_iconst (v := (0 : Int32)) hx hb dX2_unsaid_68 (by decide) ?_
              obtain rfl := Option.some.inj h_26
              exact hJ_27 _ _ _ hP (lv_sub hl [0, 1, 2, 4] rfl)
            · have h_26 := it_t h_26 c_34
              refine lv_iconst (v := (1 : Int32)) hx hb dX2_unsaid_64 (by decide) ?_
              refine lv_goto (tgt := 69) hx hb dX2_unsaid_65 (by decide) ?_
              obtain rfl := Option.some.inj h_26
              exact hJ_27 _ _ _ hP (lv_sub hl [0, 1, 2, 4] rfl)
  exact hL_14 _ _ _ _ _ _ h_16 hP (lv_sub hl [2, 3, 4, 1, 0] rfl)
def fa_clear_B2 (rc2 : Int32 → ST → Option (ST)) (w1 : Int32) (σ : ST) : Option (ST) :=
  (if (128 : Int32) ≤ w1 then some (σ) else ck w1 128 (st_ (aI σ 3 0 w1 (0 : Int32)) (fun (σ_2 : ST) => (rc2 (w1 + (1 : Int32)) σ_2))))
def fa_clear (σ : ST)  : Option ST :=
  bo (wl2 (fa_clear_B2 ) FU (0 : Int32) σ) (fun (σ_5 : ST) => some σ_5)
abbrev rm_X1_clear : Room := rmf 0 0
set_option maxHeartbeats 4000000 in
set_option maxRecDepth 100000 in
theorem mt_X1_clear (l : Launch) (G : GT) (σ : ST)  {u : ST} (h : fa_clear σ = some u) : CV l cp_ft G yX1_clear (ws_ yX1_clear cX1_clear 2 none) rm_X1_clear 0 0 [.ref (G.2.2.1 13)] σ u := by
  refine m_enterV (by decide) rfl (lv := [(0, .ref (G.2.2.1 13))]) rfl ?_
  intro p e s m args below meth c H locs ls Q X hnm hret hP hl
  have hx := X.1.1
  have hb := X.1.2.1
  have hown := X.1.2.2.2.1
  have hts := X.1.2.2.2.2
  unfold fa_clear at h
  refine lv_iconst (v := (0 : Int32)) hx hb dX1_clear_0 (by decide) ?_
  refine lv_istore_n (lv' := [(1, .int (0 : Int32)), (0, .ref (G.2.2.1 13))]) hx hb dX1_clear_1 rfl hl (by decide) rfl (fun ls hl => ?_)
  obtain ⟨σ_5, h_6, h⟩ := bo_ex h
  have hE_7 : ∀ (H : Heap) (locs : List Loc) (ls : Array Slot), PS cp_ft G s σ_5 H locs → lv_has ls 2 [] → W p l e rm_X1_clear s m args below meth c H locs 0 0 Q (F0 m 24 ls []) := by
    intro H locs ls hP hl
    exact hret _ _ _ _ _ dX1_clear_24 (Option.some.inj h) hP
  have hL_4 : ∀ (n : Nat) (w_8 : Int32) (σ_9 : ST) (H : Heap) (locs : List Loc) (ls : Array Slot), wl2 (fa_clear_B2 ) n w_8 σ_9 = some σ_5 → PS cp_ft G s σ_9 H locs → lv_has ls 2 [(0, .ref (G.2.2.1 13)), (1, .int w_8)] → W p l e rm_X1_clear s m args below meth c H locs 0 0 Q (F0 m 2 ls []) := by
    intro n
    induction n with
    | zero => intro w_8 σ_9 H locs ls h_10; cases h_10
    | succ n ih =>
      intro w_8 σ_9 H locs ls h_10 hP hl
      have h_10 : fa_clear_B2  (wl2 (fa_clear_B2 ) n) w_8 σ_9 = some _ := h_10
      generalize wl2 (fa_clear_B2 ) n = rc_11 at h_10 ih
      unfold fa_clear_B2 at h_10
      refine lv_iload_n hx hb dX1_clear_2 rfl (lv_at hl 1 rfl) ?_
      refine lv_aload_n hx hb dX1_clear_3 rfl (lv_at hl 0 rfl) ?_
      refine r_geta X hP 13 cp_c13 lk_1 0 (Nat.le_of_ble_eq_true rfl) q179 fa_f0 dX1_clear_4 ?_
      refine r_alen (v := (128 : Int32)) X hP 14 cp_c14 rfl (by decide) dX1_clear_7 ?_
      refine lv_icmp_ge (tgt := 24) hx hb dX1_clear_8 (by decide) (fun c_12 => ?_) (fun c_12 => ?_)
      · have h_10 := it_t h_10 c_12
        obtain rfl := Option.some.inj h_10
        exact hE_7 _ _ _ hP (lv_sub hl [] rfl)
      · have h_10 := it_f h_10 c_12
        refine lv_aload_n hx hb dX1_clear_11 rfl (lv_at hl 0 rfl) ?_
        refine r_geta X hP 13 cp_c13 lk_1 0 (Nat.le_of_ble_eq_true rfl) q179 fa_f0 dX1_clear_12 ?_
        refine lv_iload_n hx hb dX1_clear_15 rfl (lv_at hl 1 rfl) ?_
        refine lv_iconst (v := (0 : Int32)) hx hb dX1_clear_16 (by decide) ?_
        refine r_iast X cp_w hP 14 cp_c14 (ck_in h_10) dX1_clear_17 (fun σ_13 H locs e_14 hP => ?_)
        have h_10 := st_k (ck_k h_10) e_14
        refine lv_iinc (v := (w_8 + (1 : Int32))) (lv' := [(1, .int (w_8 + (1 : Int32))), (0, .ref (G.2.2.1 13))]) hx hb dX1_clear_18 hl (k := 1) rfl rfl (by decide) rfl (fun ls hl => ?_)
        refine lv_goto (tgt := 2) hx hb dX1_clear_21 (by decide) ?_
        exact ih _ _ _ _ _ h_10 hP (lv_sub hl [1, 0] rfl)
  exact hL_4 _ _ _ _ _ _ h_6 hP (lv_sub hl [1, 0] rfl)
def cp_gives_K30 (rc5 : Option Nat → Option Int32) (σ : ST) (k1 : Option Nat) : Option Int32 :=
  bo (pgr σ k1 8 1) (fun (v_6 : Option Nat) => bo (nv ND σ v_6) (fun (r_8 : Int32) => some r_8))
def cp_gives_B5 (σ : ST) (rc5 : Option Nat → Option Int32) (w1 : Option Nat) : Option Int32 :=
  (if w1 = none then some (0 : Int32) else bo (pgr σ w1 8 0) (fun (v_3 : Option Nat) => (if v_3 = none then (cp_gives_K30 rc5 σ w1) else bo (pgr σ w1 8 0) (fun (v_16 : Option Nat) => bo (nv ND σ v_16) (fun (r_18 : Int32) => (if r_18 = 0 then bo (pgr σ w1 8 2) (fun (v_21 : Option Nat) => (rc5 v_21)) else (cp_gives_K30 rc5 σ w1)))))))
def cp_gives (σ : ST)  : Option Int32 :=
  wl1 (cp_gives_B5 σ ) FU (gR σ 0 14)
abbrev rm_X0_gives : Room := rmf 261 7823
set_option maxHeartbeats 4000000 in
set_option maxRecDepth 100000 in
theorem mt_X0_gives (l : Launch) (G : GT) (σ : ST)  {r : Int32} (h : cp_gives σ = some r) : CI l cp_ft G yX0_gives (ws_ yX0_gives cX0_gives 2 (some .int)) rm_X0_gives 0 0 [.ref (G.2.2.1 0)] σ (r, σ) := by
  refine m_enterI (by decide) rfl (lv := [(0, .ref (G.2.2.1 0))]) rfl ?_
  intro p e s m args below meth c H locs ls Q X hret hP hl
  have hx := X.1.1
  have hb := X.1.2.1
  have hown := X.1.2.2.2.1
  have hts := X.1.2.2.2.2
  unfold cp_gives at h
  refine lv_aload_n hx hb dX0_gives_0 rfl (lv_at hl 0 rfl) ?_
  refine r_getr X hP 0 cp_c0 lk_0 14 (Nat.le_of_ble_eq_true rfl) q303 cp_f14 dX0_gives_1 ?_
  refine rr_astore_n (lv' := [(1, va_rf (gR σ 0 14)), (0, .ref (G.2.2.1 0))]) hx hb dX0_gives_4 rfl hl (by decide) rfl (fun ls hl => ?_)
  have hL_22 : ∀ (n : Nat) (w_23 : Option Nat) (H : Heap) (locs : List Loc) (ls : Array Slot), wl1 (cp_gives_B5 σ ) n w_23 = some r → PS cp_ft G s σ H locs → lv_has ls 2 [(0, .ref (G.2.2.1 0)), (1, va_rf w_23)] → W p l e rm_X0_gives s m args below meth c H locs 0 0 Q (F0 m 5 ls []) := by
    intro n
    induction n with
    | zero => intro w_23 H locs ls h; cases h
    | succ n ih =>
      intro w_23 H locs ls h hP hl
      have h : cp_gives_B5 σ  (wl1 (cp_gives_B5 σ ) n) w_23 = some _ := h
      generalize wl1 (cp_gives_B5 σ ) n = rc_24 at h ih
      unfold cp_gives_B5 at h
      refine rr_aload_n hx hb dX0_gives_5 rfl (lv_at hl 1 rfl) ?_
      refine rr_ifnull (tgt := 50) hx hb dX0_gives_6 (by decide) (fun c_25 => ?_) (fun c_25 => ?_)
      · have h := it_t h c_25
        refine lv_iconst (v := (0 : Int32)) hx hb dX0_gives_50 (by decide) ?_
        exact hret _ _ _ _ _ _ dX0_gives_51 rfl (congrArg (fun z9 => (z9, σ)) (Option.some.inj h)) hP
      · have h := it_f h c_25
        refine rr_aload_n hx hb dX0_gives_9 rfl (lv_at hl 1 rfl) ?_
        obtain ⟨v_27, e_26, h⟩ := bo_ex h
        refine r_pgrN (r := w_23) X hP lk_8 0 (Nat.le_of_ble_eq_true rfl) e_26 q718 dX0_gives_10 ?_
        have hK_28 : ∀ (k_29 : Option Nat) (H : Heap) (locs : List Loc) (ls : Array Slot), cp_gives_K30 rc_24 σ k_29 = some r → PS cp_ft G s σ H locs → lv_has ls 2 [(0, .ref (G.2.2.1 0)), (1, va_rf k_29)] → W p l e rm_X0_gives s m args below meth c H locs 0 0 Q (F0 m 30 ls []) := by
          intro k_29 H locs ls h hP hl
          unfold cp_gives_K30 at h
          refine rr_aload_n hx hb dX0_gives_30 rfl (lv_at hl 1 rfl) ?_
          obtain ⟨v_31, e_30, h⟩ := bo_ex h
          refine r_pgrN (r := k_29) X hP lk_8 1 (Nat.le_of_ble_eq_true rfl) e_30 q720 dX0_gives_31 ?_
          refine lv_aload_n hx hb dX0_gives_34 rfl (lv_at hl 0 rfl) ?_
          refine r_geta X hP 0 cp_c0 lk_0 15 (Nat.le_of_ble_eq_true rfl) q304 cp_f15 dX0_gives_35 ?_
          obtain ⟨r_33, e_32, h⟩ := bo_ex h
          refine r_callN (r := v_31) (rest := []) X hP (nv_ok l G ND σ v_31 e_32) q984 (Nat.le_of_ble_eq_true rfl) (Nat.le_of_ble_eq_true rfl) hl.1 (Nat.le_of_ble_eq_true rfl) dX0_gives_38 ⟨Nat.le_of_ble_eq_true rfl, Nat.le_of_ble_eq_true rfl⟩ (fun H locs hP => ?_)
          exact hret _ _ _ _ _ _ dX0_gives_41 rfl (congrArg (fun z9 => (z9, σ)) (Option.some.inj h)) hP
        refine rr_ifnull (tgt := 30) hx hb dX0_gives_13 (by decide) (fun c_34 => ?_) (fun c_34 => ?_)
        · have h := it_t h c_34
          exact hK_28 _ _ _ _ h hP (lv_sub hl [0, 1] rfl)
        · have h := it_f h c_34
          refine rr_aload_n hx hb dX0_gives_16 rfl (lv_at hl 1 rfl) ?_
          obtain ⟨v_36, e_35, h⟩ := bo_ex h
          refine r_pgrN (r := w_23) X hP lk_8 0 (Nat.le_of_ble_eq_true rfl) e_35 q718 dX0_gives_17 ?_
          refine lv_aload_n hx hb dX0_gives_20 rfl (lv_at hl 0 rfl) ?_
          refine r_geta X hP 0 cp_c0 lk_0 15 (Nat.le_of_ble_eq_true rfl) q304 cp_f15 dX0_gives_21 ?_
          obtain ⟨r_38, e_37, h⟩ := bo_ex h
          refine r_callN (r := v_36) (rest := []) X hP (nv_ok l G ND σ v_36 e_37) q984 (Nat.le_of_ble_eq_true rfl) (Nat.le_of_ble_eq_true rfl) hl.1 (Nat.le_of_ble_eq_true rfl) dX0_gives_24 ⟨Nat.le_of_ble_eq_true rfl, Nat.le_of_ble_eq_true rfl⟩ (fun H locs hP => ?_)
          refine lv_if_eq (tgt := 42) hx hb dX0_gives_27 (by decide) (fun c_39 => ?_) (fun c_39 => ?_)
          · have h := it_t h c_39
            refine rr_aload_n hx hb dX0_gives_42 rfl (lv_at hl 1 rfl) ?_
            obtain ⟨v_41, e_40, h⟩ := bo_ex h
            refine r_pgrN (r := w_23) X hP lk_8 2 (Nat.le_of_ble_eq_true rfl) e_40 q722 dX0_gives_43 ?_
            refine rr_astore_n (lv' := [(1, va_rf v_41), (0, .ref (G.2.2.1 0))]) hx hb dX0_gives_46 rfl hl (by decide) rfl (fun ls hl => ?_)
            refine lv_goto (tgt := 5) hx hb dX0_gives_47 (by decide) ?_
            exact ih _ _ _ _ h hP (lv_sub hl [1, 0] rfl)
          · have h := it_f h c_39
            exact hK_28 _ _ _ _ h hP (lv_sub hl [0, 1] rfl)
  exact hL_22 _ _ _ _ _ h hP (lv_sub hl [1, 0] rfl)
def cp_wishOf (σ : ST) (a1 : Int32) (a2 : Int32) (a3 : Int32) (a4 : Int32) (a5 : Int32) (a6 : Int32) : Option (Int32 × ST) :=
  ck a2 6 (bo (pgi σ (lR σ 0 1 a2) 5 1) (fun (v_2 : Int32) => (if (gR σ 0 14) = none then ck a1 10 (bo (pgi σ (lR σ 0 0 a1) 4 2) (fun (v_29 : Int32) => some ((((((10 : Int32) * a3) + v_2) + v_29) - ((5 : Int32) * a4)), σ))) else bo (fa_clear σ) (fun (σ_5 : ST) => ck a1 10 (bo (pgi σ_5 (lR σ_5 0 0 a1) 4 1) (fun (v_7 : Int32) => ck (114 : Int32) 128 (st_ (aI σ_5 3 0 (114 : Int32) v_7) (fun (σ_8 : ST) => ck a1 10 (bo (pgi σ_8 (lR σ_8 0 0 a1) 4 2) (fun (v_11 : Int32) => ck (118 : Int32) 128 (st_ (aI σ_8 3 0 (118 : Int32) v_11) (fun (σ_12 : ST) => ck (101 : Int32) 128 (st_ (aI σ_12 3 0 (101 : Int32) v_2) (fun (σ_14 : ST) => ck (110 : Int32) 128 (st_ (aI σ_14 3 0 (110 : Int32) a3) (fun (σ_16 : ST) => ck (115 : Int32) 128 (st_ (aI σ_16 3 0 (115 : Int32) a4) (fun (σ_18 : ST) => ck (116 : Int32) 128 (st_ (aI σ_18 3 0 (116 : Int32) a5) (fun (σ_20 : ST) => ck (112 : Int32) 128 (st_ (aI σ_20 3 0 (112 : Int32) a1) (fun (σ_22 : ST) => ck (108 : Int32) 128 (st_ (aI σ_22 3 0 (108 : Int32) a6) (fun (σ_24 : ST) => bo (cp_gives σ_24) (fun (r_27 : Int32) => some (r_27, σ_24))))))))))))))))))))))))))
abbrev rm_X0_wishOf : Room := rmf 262 7844
set_option maxHeartbeats 4000000 in
set_option maxRecDepth 100000 in
theorem mt_X0_wishOf (l : Launch) (G : GT) (σ : ST) (a1 : Int32) (a2 : Int32) (a3 : Int32) (a4 : Int32) (a5 : Int32) (a6 : Int32) {r : Int32} {u : ST} (h : cp_wishOf σ a1 a2 a3 a4 a5 a6 = some (r, u)) : CI l cp_ft G yX0_wishOf (ws_ yX0_wishOf cX0_wishOf 8 (some .int)) rm_X0_wishOf 0 0 [.ref (G.2.2.1 0), .int a1, .int a2, .int a3, .int a4, .int a5, .int a6] σ (r, u) := by
  refine m_enterI (by decide) rfl (lv := [(0, .ref (G.2.2.1 0)), (1, .int a1), (2, .int a2), (3, .int a3), (4, .int a4), (5, .int a5), (6, .int a6)]) rfl ?_
  intro p e s m args below meth c H locs ls Q X hret hP hl
  have hx := X.1.1
  have hb := X.1.2.1
  have hown := X.1.2.2.2.1
  have hts := X.1.2.2.2.2
  unfold cp_wishOf at h
  refine lv_aload_n hx hb dX0_wishOf_0 rfl (lv_at hl 0 rfl) ?_
  refine r_geta X hP 0 cp_c0 lk_0 1 (Nat.le_of_ble_eq_true rfl) q282 cp_f1 dX0_wishOf_1 ?_
  refine lv_iload_n hx hb dX0_wishOf_4 rfl (lv_at hl 2 rfl) ?_
  refine r_aald (t := 1) X hP 2 cp_c2 rfl (ck_in h) dX0_wishOf_5 ?_
  have h := ck_k h
  obtain ⟨v_2, e_1, h⟩ := bo_ex h
  refine r_pgiN (r := (lR σ 0 1 a2)) X hP lk_5 1 (Nat.le_of_ble_eq_true rfl) e_1 q438 dX0_wishOf_6 ?_
  refine lv_istore (lv' := [(7, .int v_2), (0, .ref (G.2.2.1 0)), (1, .int a1), (2, .int a2), (3, .int a3), (4, .int a4), (5, .int a5), (6, .int a6)]) hx hb dX0_wishOf_9 hl (by decide) rfl (fun ls hl => ?_)
  refine lv_aload_n hx hb dX0_wishOf_11 rfl (lv_at hl 1 rfl) ?_
  refine r_getr X hP 0 cp_c0 lk_0 14 (Nat.le_of_ble_eq_true rfl) q303 cp_f14 dX0_wishOf_12 ?_
  refine rr_ifnonnull (tgt := 41) hx hb dX0_wishOf_15 (by decide) (fun c_3 => ?_) (fun c_3 => ?_)
  · have h := it_f h c_3
    refine lv_aload_n hx hb dX0_wishOf_41 rfl (lv_at hl 1 rfl) ?_
    refine r_geta X hP 0 cp_c0 lk_0 15 (Nat.le_of_ble_eq_true rfl) q304 cp_f15 dX0_wishOf_42 ?_
    obtain ⟨σ_5, e_4, h⟩ := bo_ex h
    refine r_callv (r_runV (rest := []) X hP 13 cp_c13 lk_1 (mt_X1_clear l G σ e_4) (cwV 0 hts (lw_V q976 q977 q978 q111 q979) rfl rfl rfl ⟨rfl, cdX1_clear⟩ ⟨Nat.le_of_ble_eq_true rfl, Nat.le_of_ble_eq_true rfl⟩) rfl hl.1 rfl (Nat.le_of_ble_eq_true rfl) dX0_wishOf_45 ⟨Nat.le_refl _, Nat.le_refl _⟩) hP (fun H locs hP => ?_)
    refine lv_aload_n hx hb dX0_wishOf_48 rfl (lv_at hl 1 rfl) ?_
    refine r_geta X hP 0 cp_c0 lk_0 15 (Nat.le_of_ble_eq_true rfl) q304 cp_f15 dX0_wishOf_49 ?_
    refine r_getaN X hP 13 cp_c13 lk_1 0 (Nat.le_of_ble_eq_true rfl) q181 fa_f0 dX0_wishOf_52 ?_
    refine lv_bipush (v := (114 : Int32)) hx hb dX0_wishOf_55 (by decide) ?_
    refine lv_aload_n hx hb dX0_wishOf_57 rfl (lv_at hl 1 rfl) ?_
    refine r_geta X hP 0 cp_c0 lk_0 0 (Nat.le_of_ble_eq_true rfl) q280 cp_f0 dX0_wishOf_58 ?_
    refine lv_iload_n hx hb dX0_wishOf_61 rfl (lv_at hl 2 rfl) ?_
    refine r_aald (t := 0) X hP 1 cp_c1 rfl (ck_in h) dX0_wishOf_62 ?_
    have h := ck_k h
    obtain ⟨v_7, e_6, h⟩ := bo_ex h
    refine r_pgiN (r := (lR σ_5 0 0 a1)) X hP lk_4 1 (Nat.le_of_ble_eq_true rfl) e_6 q408 dX0_wishOf_63 ?_
    refine r_iast X cp_w hP 14 cp_c14 (ck_in h) dX0_wishOf_66 (fun σ_8 H locs e_9 hP => ?_)
    have h := st_k (ck_k h) e_9
    refine lv_aload_n hx hb dX0_wishOf_67 rfl (lv_at hl 1 rfl) ?_
    refine r_geta X hP 0 cp_c0 lk_0 15 (Nat.le_of_ble_eq_true rfl) q304 cp_f15 dX0_wishOf_68 ?_
    refine r_getaN X hP 13 cp_c13 lk_1 0 (Nat.le_of_ble_eq_true rfl) q181 fa_f0 dX0_wishOf_71 ?_
    refine lv_bipush (v := (118 : Int32)) hx hb dX0_wishOf_74 (by decide) ?_
    refine lv_aload_n hx hb dX0_wishOf_76 rfl (lv_at hl 1 rfl) ?_
    refine r_geta X hP 0 cp_c0 lk_0 0 (Nat.le_of_ble_eq_true rfl) q280 cp_f0 dX0_wishOf_77 ?_
    refine lv_iload_n hx hb dX0_wishOf_80 rfl (lv_at hl 2 rfl) ?_
    refine r_aald (t := 0) X hP 1 cp_c1 rfl (ck_in h) dX0_wishOf_81 ?_
    have h := ck_k h
    obtain ⟨v_11, e_10, h⟩ := bo_ex h
    refine r_pgiN (r := (lR σ_8 0 0 a1)) X hP lk_4 2 (Nat.le_of_ble_eq_true rfl) e_10 q411 dX0_wishOf_82 ?_
    refine r_iast X cp_w hP 14 cp_c14 (ck_in h) dX0_wishOf_85 (fun σ_12 H locs e_13 hP => ?_)
    have h := st_k (ck_k h) e_13
    refine lv_aload_n hx hb dX0_wishOf_86 rfl (lv_at hl 1 rfl) ?_
    refine r_geta X hP 0 cp_c0 lk_0 15 (Nat.le_of_ble_eq_true rfl) q304 cp_f15 dX0_wishOf_87 ?_
    refine r_getaN X hP 13 cp_c13 lk_1 0 (Nat.le_of_ble_eq_true rfl) q181 fa_f0 dX0_wishOf_90 ?_
    refine lv_bipush (v := (101 : Int32)) hx hb dX0_wishOf_93 (by decide) ?_
    refine lv_iload hx hb dX0_wishOf_95 (lv_at hl 0 rfl) ?_
    refine r_iast X cp_w hP 14 cp_c14 (ck_in h) dX0_wishOf_97 (fun σ_14 H locs e_15 hP => ?_)
    have h := st_k (ck_k h) e_15
    refine lv_aload_n hx hb dX0_wishOf_98 rfl (lv_at hl 1 rfl) ?_
    refine r_geta X hP 0 cp_c0 lk_0 15 (Nat.le_of_ble_eq_true rfl) q304 cp_f15 dX0_wishOf_99 ?_
    refine r_getaN X hP 13 cp_c13 lk_1 0 (Nat.le_of_ble_eq_true rfl) q181 fa_f0 dX0_wishOf_102 ?_
    refine lv_bipush (v := (110 : Int32)) hx hb dX0_wishOf_105 (by decide) ?_
    refine lv_iload_n hx hb dX0_wishOf_107 rfl (lv_at hl 4 rfl) ?_
    refine r_iast X cp_w hP 14 cp_c14 (ck_in h) dX0_wishOf_108 (fun σ_16 H locs e_17 hP => ?_)
    have h := st_k (ck_k h) e_17
    refine lv_aload_n hx hb dX0_wishOf_109 rfl (lv_at hl 1 rfl) ?_
    refine r_geta X hP 0 cp_c0 lk_0 15 (Nat.le_of_ble_eq_true rfl) q304 cp_f15 dX0_wishOf_110 ?_
    refine r_getaN X hP 13 cp_c13 lk_1 0 (Nat.le_of_ble_eq_true rfl) q181 fa_f0 dX0_wishOf_113 ?_
    refine lv_bipush (v := (115 : Int32)) hx hb dX0_wishOf_116 (by decide) ?_
    refine lv_iload hx hb dX0_wishOf_118 (lv_at hl 5 rfl) ?_
    refine r_iast X cp_w hP 14 cp_c14 (ck_in h) dX0_wishOf_120 (fun σ_18 H locs e_19 hP => ?_)
    have h := st_k (ck_k h) e_19
    refine lv_aload_n hx hb dX0_wishOf_121 rfl (lv_at hl 1 rfl) ?_
    refine r_geta X hP 0 cp_c0 lk_0 15 (Nat.le_of_ble_eq_true rfl) q304 cp_f15 dX0_wishOf_122 ?_
    refine r_getaN X hP 13 cp_c13 lk_1 0 (Nat.le_of_ble_eq_true rfl) q181 fa_f0 dX0_wishOf_125 ?_
    refine lv_bipush (v := (116 : Int32)) hx hb dX0_wishOf_128 (by decide) ?_
    refine lv_iload hx hb dX0_wishOf_130 (lv_at hl 6 rfl) ?_
    refine r_iast X cp_w hP 14 cp_c14 (ck_in h) dX0_wishOf_132 (fun σ_20 H locs e_21 hP => ?_)
    have h := st_k (ck_k h) e_21
    refine lv_aload_n hx hb dX0_wishOf_133 rfl (lv_at hl 1 rfl) ?_
    refine r_geta X hP 0 cp_c0 lk_0 15 (Nat.le_of_ble_eq_true rfl) q304 cp_f15 dX0_wishOf_134 ?_
    refine r_getaN X hP 13 cp_c13 lk_1 0 (Nat.le_of_ble_eq_true rfl) q181 fa_f0 dX0_wishOf_137 ?_
    refine lv_bipush (v := (112 : Int32)) hx hb dX0_wishOf_140 (by decide) ?_
    refine lv_iload_n hx hb dX0_wishOf_142 rfl (lv_at hl 2 rfl) ?_
    refine r_iast X cp_w hP 14 cp_c14 (ck_in h) dX0_wishOf_143 (fun σ_22 H locs e_23 hP => ?_)
    have h := st_k (ck_k h) e_23
    refine lv_aload_n hx hb dX0_wishOf_144 rfl (lv_at hl 1 rfl) ?_
    refine r_geta X hP 0 cp_c0 lk_0 15 (Nat.le_of_ble_eq_true rfl) q304 cp_f15 dX0_wishOf_145 ?_
    refine r_getaN X hP 13 cp_c13 lk_1 0 (Nat.le_of_ble_eq_true rfl) q181 fa_f0 dX0_wishOf_148 ?_
    refine lv_bipush (v := (108 : Int32)) hx hb dX0_wishOf_151 (by decide) ?_
    refine lv_iload hx hb dX0_wishOf_153 (lv_at hl 7 rfl) ?_
    refine r_iast X cp_w hP 14 cp_c14 (ck_in h) dX0_wishOf_155 (fun σ_24 H locs e_25 hP => ?_)
    have h := st_k (ck_k h) e_25
    refine lv_aload_n hx hb dX0_wishOf_156 rfl (lv_at hl 1 rfl) ?_
    obtain ⟨r_27, e_26, h⟩ := bo_ex h
    refine r_calli (r_runV (rest := []) X hP 0 cp_c0 lk_0 (mt_X0_gives l G σ_24 e_26) (cwV 0 hts (lw_V q980 q982 qs29 q110 q983) rfl rfl rfl ⟨rfl, cdX0_gives⟩ ⟨Nat.le_of_ble_eq_true rfl, Nat.le_of_ble_eq_true rfl⟩) rfl hl.1 rfl (Nat.le_of_ble_eq_true rfl) dX0_wishOf_157 ⟨Nat.le_refl _, Nat.le_refl _⟩) hP (fun H locs hP => ?_)
    exact hret _ _ _ _ _ _ dX0_wishOf_160 rfl (Option.some.inj h) hP
  · have h := it_t h c_3
    refine lv_bipush (v := (10 : Int32)) hx hb dX0_wishOf_18 (by decide) ?_
    refine lv_iload_n hx hb dX0_wishOf_20 rfl (lv_at hl 4 rfl) ?_
    refine lv_imul hx hb dX0_wishOf_21 ?_
    refine lv_iload hx hb dX0_wishOf_22 (lv_at hl 0 rfl) ?_
    refine lv_iadd hx hb dX0_wishOf_24 ?_
    refine lv_aload_n hx hb dX0_wishOf_25 rfl (lv_at hl 1 rfl) ?_
    refine r_geta X hP 0 cp_c0 lk_0 0 (Nat.le_of_ble_eq_true rfl) q280 cp_f0 dX0_wishOf_26 ?_
    refine lv_iload_n hx hb dX0_wishOf_29 rfl (lv_at hl 2 rfl) ?_
    refine r_aald (t := 0) X hP 1 cp_c1 rfl (ck_in h) dX0_wishOf_30 ?_
    have h := ck_k h
    obtain ⟨v_29, e_28, h⟩ := bo_ex h
    refine r_pgiN (r := (lR σ 0 0 a1)) X hP lk_4 2 (Nat.le_of_ble_eq_true rfl) e_28 q411 dX0_wishOf_31 ?_
    refine lv_iadd hx hb dX0_wishOf_34 ?_
    refine lv_iconst (v := (5 : Int32)) hx hb dX0_wishOf_35 (by decide) ?_
    refine lv_iload hx hb dX0_wishOf_36 (lv_at hl 5 rfl) ?_
    refine lv_imul hx hb dX0_wishOf_38 ?_
    refine lv_isub hx hb dX0_wishOf_39 ?_
    exact hret _ _ _ _ _ _ dX0_wishOf_40 rfl (Option.some.inj h) hP
def mg_findWishes_B2 (b : Nat) (l1 : Int32) (rc2 : Int32 → ST → Option (ST)) (w2 : Int32) (σ : ST) : Option (ST) :=
  (if (gI σ 0 3) ≤ w2 then some (σ) else bo (mg_isThere b σ w2) (fun (r_3 : Int32) => bo2 (if r_3 = 0 then some ((0 : Int32), σ) else bo (mg_unsaid b σ w2 l1) (fun (r_12 : Int32) => ck w2 10 (ck l1 6 (bo (if w2 = (gI σ (1 + b) 19) then some ((1 : Int32)) else some ((0 : Int32))) (fun (x_13 : Int32) => bo2 (cp_wishOf σ w2 l1 r_12 (lI σ (1 + b) 14 w2) (lI σ (1 + b) 0 l1) x_13) (fun (r_17 : Int32) (σ_18 : ST) => some (r_17, σ_18))))))) (fun (x_4 : Int32) (σ_5 : ST) => ck w2 10 (st_ (aI σ_5 (1 + b) 15 w2 x_4) (fun (σ_8 : ST) => (rc2 (w2 + (1 : Int32)) σ_8))))))
def mg_findWishes (b : Nat) (σ : ST) (a1 : Int32) : Option ST :=
  bo (wl2 (mg_findWishes_B2 b a1) FU (0 : Int32) σ) (fun (σ_21 : ST) => some σ_21)
abbrev rm_X2_findWishes : Room := rmf 263 7871
set_option maxHeartbeats 4000000 in
set_option maxRecDepth 100000 in
theorem mt_X2_findWishes (l : Launch) (G : GT) (b : Nat) (hbb : b < 2) (σ : ST) (a1 : Int32) {u : ST} (h : mg_findWishes b σ a1 = some u) : CV l cp_ft G yX2_findWishes (ws_ yX2_findWishes cX2_findWishes 3 none) rm_X2_findWishes 0 0 [.ref (G.2.2.1 (15 + 17 * b)), .int a1] σ u := by
  refine m_enterV (by decide) rfl (lv := [(0, .ref (G.2.2.1 (15 + 17 * b))), (1, .int a1)]) rfl ?_
  intro p e s m args below meth c H locs ls Q X hnm hret hP hl
  have hx := X.1.1
  have hb := X.1.2.1
  have hown := X.1.2.2.2.1
  have hts := X.1.2.2.2.2
  unfold mg_findWishes at h
  refine lv_iconst (v := (0 : Int32)) hx hb dX2_findWishes_0 (by decide) ?_
  refine lv_istore_n (lv' := [(2, .int (0 : Int32)), (0, .ref (G.2.2.1 (15 + 17 * b))), (1, .int a1)]) hx hb dX2_findWishes_1 rfl hl (by decide) rfl (fun ls hl => ?_)
  obtain ⟨σ_21, h_22, h⟩ := bo_ex h
  have hE_23 : ∀ (H : Heap) (locs : List Loc) (ls : Array Slot), PS cp_ft G s σ_21 H locs → lv_has ls 3 [] → W p l e rm_X2_findWishes s m args below meth c H locs 0 0 Q (F0 m 77 ls []) := by
    intro H locs ls hP hl
    exact hret _ _ _ _ _ dX2_findWishes_77 (Option.some.inj h) hP
  have hL_20 : ∀ (n : Nat) (w_24 : Int32) (σ_25 : ST) (H : Heap) (locs : List Loc) (ls : Array Slot), wl2 (mg_findWishes_B2 b a1) n w_24 σ_25 = some σ_21 → PS cp_ft G s σ_25 H locs → lv_has ls 3 [(0, .ref (G.2.2.1 (15 + 17 * b))), (1, .int a1), (2, .int w_24)] → W p l e rm_X2_findWishes s m args below meth c H locs 0 0 Q (F0 m 2 ls []) := by
    intro n
    induction n with
    | zero => intro w_24 σ_25 H locs ls h_26; cases h_26
    | succ n ih =>
      intro w_24 σ_25 H locs ls h_26 hP hl
      have h_26 : mg_findWishes_B2 b a1 (wl2 (mg_findWishes_B2 b a1) n) w_24 σ_25 = some _ := h_26
      generalize wl2 (mg_findWishes_B2 b a1) n = rc_27 at h_26 ih
      unfold mg_findWishes_B2 at h_26
      refine lv_iload_n hx hb dX2_findWishes_2 rfl (lv_at hl 2 rfl) ?_
      refine lv_aload_n hx hb dX2_findWishes_3 rfl (lv_at hl 0 rfl) ?_
      refine r_geta X hP (15 + 17 * b) (mg_c b hbb) lk_2 21 (Nat.le_of_ble_eq_true rfl) q230 (mg_f21 b) dX2_findWishes_4 ?_
      refine r_getiN X hP 0 cp_c0 lk_0 3 (Nat.le_of_ble_eq_true rfl) q287 cp_f3 dX2_findWishes_7 ?_
      refine lv_icmp_ge (tgt := 77) hx hb dX2_findWishes_10 (by decide) (fun c_28 => ?_) (fun c_28 => ?_)
      · have h_26 := it_t h_26 c_28
        obtain rfl := Option.some.inj h_26
        exact hE_23 _ _ _ hP (lv_sub hl [] rfl)
      · have h_26 := it_f h_26 c_28
        refine lv_aload_n hx hb dX2_findWishes_13 rfl (lv_at hl 0 rfl) ?_
        refine r_geta X hP (15 + 17 * b) (mg_c b hbb) lk_2 15 (Nat.le_of_ble_eq_true rfl) q221 (mg_f15 b) dX2_findWishes_14 ?_
        refine lv_iload_n hx hb dX2_findWishes_17 rfl (lv_at hl 2 rfl) ?_
        refine lv_aload_n hx hb dX2_findWishes_18 rfl (lv_at hl 0 rfl) ?_
        refine lv_iload_n hx hb dX2_findWishes_19 rfl (lv_at hl 2 rfl) ?_
        obtain ⟨r_30, e_29, h_26⟩ := bo_ex h_26
        refine r_calli (r_runV (rest := [.int w_24, .ref (G.2.2.1 (16 + 17 * b + 15))]) X hP (15 + 17 * b) (mg_c b hbb) lk_2 (mt_X2_isThere l G b hbb σ_25 w_24 e_29) (cwV 1 hts (lw_V q956 q957 q958 q112 q959) rfl rfl rfl ⟨rfl, cdX2_isThere⟩ ⟨Nat.le_of_ble_eq_true rfl, Nat.le_of_ble_eq_true rfl⟩) rfl hl.1 rfl (Nat.le_of_ble_eq_true rfl) dX2_findWishes_20 ⟨Nat.le_refl _, Nat.le_refl _⟩) hP (fun H locs hP => ?_)
        obtain ⟨x_31, σ_32, h_33, h_26⟩ := bo2_ex h_26
        have hJ_34 : ∀ (H : Heap) (locs : List Loc) (ls : Array Slot), PS cp_ft G s σ_32 H locs → lv_has ls 3 [(0, .ref (G.2.2.1 (15 + 17 * b))), (1, .int a1), (2, .int w_24)] → W p l e rm_X2_findWishes s m args below meth c H locs 0 0 Q (F0 m 70 ls [.int x_31, .int w_24, .ref (G.2.2.1 (16 + 17 * b + 15))]) := by
          intro H locs ls hP hl
          refine r_iast X cp_w hP (16 + 17 * b + 15) (mg_a15 b hbb) (ck_in h_26) dX2_findWishes_70 (fun σ_35 H locs e_36 hP => ?_)
          have h_26 := st_k (ck_k h_26) e_36
          refine lv_iinc (v := (w_24 + (1 : Int32))) (lv' := [(2, .int (w_24 + (1 : Int32))), (0, .ref (G.2.2.1 (15 + 17 * b))), (1, .int a1)]) hx hb dX2_findWishes_71 hl (k := 2) rfl rfl (by decide) rfl (fun ls hl => ?_)
          refine lv_goto (tgt := 2) hx hb dX2_findWishes_74 (by decide) ?_
          exact ih _ _ _ _ _ h_26 hP (lv_sub hl [1, 2, 0] rfl)
        refine lv_if_eq (tgt := 69) hx hb dX2_findWishes_23 (by decide) (fun c_37 => ?_) (fun c_37 => ?_)
        · have h_33 := it_t h_33 c_37
          refine lv_iconst (v := (0 : Int32)) hx hb dX2_findWishes_69 (by decide) ?_
          obtain ⟨rfl, rfl⟩ := so2 h_33
          exact hJ_34 _ _ _ hP (lv_sub hl [0, 1, 2] rfl)
        · have h_33 := it_f h_33 c_37
          refine lv_aload_n hx hb dX2_findWishes_26 rfl (lv_at hl 0 rfl) ?_
          refine r_geta X hP (15 + 17 * b) (mg_c b hbb) lk_2 21 (Nat.le_of_ble_eq_true rfl) q230 (mg_f21 b) dX2_findWishes_27 ?_
          refine lv_iload_n hx hb dX2_findWishes_30 rfl (lv_at hl 2 rfl) ?_
          refine lv_iload_n hx hb dX2_findWishes_31 rfl (lv_at hl 1 rfl) ?_
          refine lv_aload_n hx hb dX2_findWishes_32 rfl (lv_at hl 0 rfl) ?_
          refine lv_iload_n hx hb dX2_findWishes_33 rfl (lv_at hl 2 rfl) ?_
          refine lv_iload_n hx hb dX2_findWishes_34 rfl (lv_at hl 1 rfl) ?_
          obtain ⟨r_39, e_38, h_33⟩ := bo_ex h_33
          refine r_calli (r_runV (rest := [.int a1, .int w_24, .ref (G.2.2.1 0), .int w_24, .ref (G.2.2.1 (16 + 17 * b + 15))]) X hP (15 + 17 * b) (mg_c b hbb) lk_2 (mt_X2_unsaid l G b hbb σ_25 w_24 a1 e_38) (cwV 2 hts (lw_V q968 q970 qs27 q112 q971) rfl rfl rfl ⟨rfl, cdX2_unsaid⟩ ⟨Nat.le_of_ble_eq_true rfl, Nat.le_of_ble_eq_true rfl⟩) rfl hl.1 rfl (Nat.le_of_ble_eq_true rfl) dX2_findWishes_35 ⟨Nat.le_refl _, Nat.le_refl _⟩) hP (fun H locs hP => ?_)
          refine lv_aload_n hx hb dX2_findWishes_38 rfl (lv_at hl 0 rfl) ?_
          refine r_geta X hP (15 + 17 * b) (mg_c b hbb) lk_2 14 (Nat.le_of_ble_eq_true rfl) q220 (mg_f14 b) dX2_findWishes_39 ?_
          refine lv_iload_n hx hb dX2_findWishes_42 rfl (lv_at hl 2 rfl) ?_
          refine r_iald X hP (16 + 17 * b + 14) (mg_a14 b hbb) (ck_in h_33) dX2_findWishes_43 ?_
          have h_33 := ck_k h_33
          refine lv_aload_n hx hb dX2_findWishes_44 rfl (lv_at hl 0 rfl) ?_
          refine r_geta X hP (15 + 17 * b) (mg_c b hbb) lk_2 0 (Nat.le_of_ble_eq_true rfl) q193 (mg_f0 b) dX2_findWishes_45 ?_
          refine lv_iload_n hx hb dX2_findWishes_48 rfl (lv_at hl 1 rfl) ?_
          refine r_iald X hP (16 + 17 * b + 0) (mg_a0 b hbb) (ck_in h_33) dX2_findWishes_49 ?_
          have h_33 := ck_k h_33
          refine lv_iload_n hx hb dX2_findWishes_50 rfl (lv_at hl 2 rfl) ?_
          refine lv_aload_n hx hb dX2_findWishes_51 rfl (lv_at hl 0 rfl) ?_
          refine r_geti X hP (15 + 17 * b) (mg_c b hbb) lk_2 19 (Nat.le_of_ble_eq_true rfl) q228 (mg_f19 b) dX2_findWishes_52 ?_
          obtain ⟨x_40, h_41, h_33⟩ := bo_ex h_33
          have hJ_42 : ∀ (H : Heap) (locs : List Loc) (ls : Array Slot), PS cp_ft G s σ_25 H locs → lv_has ls 3 [(0, .ref (G.2.2.1 (15 + 17 * b))), (1, .int a1), (2, .int w_24)] → W p l e rm_X2_findWishes s m args below meth c H locs 0 0 Q (F0 m 63 ls [.int x_40, .int (lI σ_25 (1 + b) 0 a1), .int (lI σ_25 (1 + b) 14 w_24), .int r_39, .int a1, .int w_24, .ref (G.2.2.1 0), .int w_24, .ref (G.2.2.1 (16 + 17 * b + 15))]) := by
            intro H locs ls hP hl
            obtain ⟨r_44, σ_45, e_43, h_33⟩ := bo2_ex h_33
            refine r_calli (r_runVN (rest := [.int w_24, .ref (G.2.2.1 (16 + 17 * b + 15))]) X hP 0 cp_c0 lk_0 (mt_X0_wishOf l G σ_25 w_24 a1 r_39 (lI σ_25 (1 + b) 14 w_24) (lI σ_25 (1 + b) 0 a1) x_40 e_43) ⟨va_cnB 6 hts (lw_meth q975) rfl rfl rfl (X.2.2.1 _ q972 rfl) (hts _ q110) cdX0_wishOf ⟨Nat.le_of_ble_eq_true rfl, Nat.le_of_ble_eq_true rfl⟩, hts _ q974, hts _ qs28⟩ rfl hl.1 rfl (Nat.le_of_ble_eq_true rfl) dX2_findWishes_63 ⟨Nat.le_refl _, Nat.le_refl _⟩) hP (fun H locs hP => ?_)
            refine lv_goto (tgt := 70) hx hb dX2_findWishes_66 (by decide) ?_
            obtain ⟨rfl, rfl⟩ := so2 h_33
            exact hJ_34 _ _ _ hP (lv_sub hl [0, 1, 2] rfl)
          refine lv_icmp_ne (tgt := 62) hx hb dX2_findWishes_55 (by decide) (fun c_46 => ?_) (fun c_46 => ?_)
          · have h_41 := it_f h_41 c_46
            refine lv_iconst (v := (0 : Int32)) hx hb dX2_findWishes_62 (by decide) ?_
            obtain rfl := Option.some.inj h_41
            exact hJ_42 _ _ _ hP (lv_sub hl [0, 1, 2] rfl)
          · have h_41 := it_t h_41 c_46
            refine lv_iconst (v := (1 : Int32)) hx hb dX2_findWishes_58 (by decide) ?_
            refine lv_goto (tgt := 63) hx hb dX2_findWishes_59 (by decide) ?_
            obtain rfl := Option.some.inj h_41
            exact hJ_42 _ _ _ hP (lv_sub hl [0, 1, 2] rfl)
  exact hL_20 _ _ _ _ _ _ h_22 hP (lv_sub hl [1, 2, 0] rfl)
def mg_inTurn_B2 (b : Nat) (σ : ST) (rc2 : Int32 → Option Int32) (w1 : Int32) : Option Int32 :=
  (if (gI σ 0 3) < w1 then some (-1 : Int32) else nz (gI σ 0 3) (ck (((gI σ (1 + b) 19) + w1) - ((gI σ (1 + b) 19) + w1) / (gI σ 0 3) * (gI σ 0 3)) 10 ((if (lI σ (1 + b) 15 (((gI σ (1 + b) 19) + w1) - ((gI σ (1 + b) 19) + w1) / (gI σ 0 3) * (gI σ 0 3))) ≤ 0 then (rc2 (w1 + (1 : Int32))) else some (((gI σ (1 + b) 19) + w1) - ((gI σ (1 + b) 19) + w1) / (gI σ 0 3) * (gI σ 0 3))))))
def mg_inTurn (b : Nat) (σ : ST)  : Option Int32 :=
  wl1 (mg_inTurn_B2 b σ ) FU (1 : Int32)
abbrev rm_X2_inTurn : Room := rmf 0 0
set_option maxHeartbeats 4000000 in
set_option maxRecDepth 100000 in
theorem mt_X2_inTurn (l : Launch) (G : GT) (b : Nat) (hbb : b < 2) (σ : ST)  {r : Int32} (h : mg_inTurn b σ = some r) : CI l cp_ft G yX2_inTurn (ws_ yX2_inTurn cX2_inTurn 3 (some .int)) rm_X2_inTurn 0 0 [.ref (G.2.2.1 (15 + 17 * b))] σ (r, σ) := by
  refine m_enterI (by decide) rfl (lv := [(0, .ref (G.2.2.1 (15 + 17 * b)))]) rfl ?_
  intro p e s m args below meth c H locs ls Q X hret hP hl
  have hx := X.1.1
  have hb := X.1.2.1
  have hown := X.1.2.2.2.1
  have hts := X.1.2.2.2.2
  unfold mg_inTurn at h
  refine lv_iconst (v := (1 : Int32)) hx hb dX2_inTurn_0 (by decide) ?_
  refine lv_istore_n (lv' := [(1, .int (1 : Int32)), (0, .ref (G.2.2.1 (15 + 17 * b)))]) hx hb dX2_inTurn_1 rfl hl (by decide) rfl (fun ls hl => ?_)
  have hL_3 : ∀ (n : Nat) (w_4 : Int32) (H : Heap) (locs : List Loc) (ls : Array Slot), wl1 (mg_inTurn_B2 b σ ) n w_4 = some r → PS cp_ft G s σ H locs → lv_has ls 3 [(0, .ref (G.2.2.1 (15 + 17 * b))), (1, .int w_4)] → W p l e rm_X2_inTurn s m args below meth c H locs 0 0 Q (F0 m 2 ls []) := by
    intro n
    induction n with
    | zero => intro w_4 H locs ls h; cases h
    | succ n ih =>
      intro w_4 H locs ls h hP hl
      have h : mg_inTurn_B2 b σ  (wl1 (mg_inTurn_B2 b σ ) n) w_4 = some _ := h
      generalize wl1 (mg_inTurn_B2 b σ ) n = rc_5 at h ih
      unfold mg_inTurn_B2 at h
      refine lv_iload_n hx hb dX2_inTurn_2 rfl (lv_at hl 1 rfl) ?_
      refine lv_aload_n hx hb dX2_inTurn_3 rfl (lv_at hl 0 rfl) ?_
      refine r_geta X hP (15 + 17 * b) (mg_c b hbb) lk_2 21 (Nat.le_of_ble_eq_true rfl) q230 (mg_f21 b) dX2_inTurn_4 ?_
      refine r_getiN X hP 0 cp_c0 lk_0 3 (Nat.le_of_ble_eq_true rfl) q287 cp_f3 dX2_inTurn_7 ?_
      refine lv_icmp_gt (tgt := 45) hx hb dX2_inTurn_10 (by decide) (fun c_6 => ?_) (fun c_6 => ?_)
      · have h := it_t h c_6
        refine lv_iconst (v := (-1 : Int32)) hx hb dX2_inTurn_45 (by decide) ?_
        exact hret _ _ _ _ _ _ dX2_inTurn_46 rfl (congrArg (fun z9 => (z9, σ)) (Option.some.inj h)) hP
      · have h := it_f h c_6
        refine lv_aload_n hx hb dX2_inTurn_13 rfl (lv_at hl 0 rfl) ?_
        refine r_geti X hP (15 + 17 * b) (mg_c b hbb) lk_2 19 (Nat.le_of_ble_eq_true rfl) q228 (mg_f19 b) dX2_inTurn_14 ?_
        refine lv_iload_n hx hb dX2_inTurn_17 rfl (lv_at hl 1 rfl) ?_
        refine lv_iadd hx hb dX2_inTurn_18 ?_
        refine lv_aload_n hx hb dX2_inTurn_19 rfl (lv_at hl 0 rfl) ?_
        refine r_geta X hP (15 + 17 * b) (mg_c b hbb) lk_2 21 (Nat.le_of_ble_eq_true rfl) q230 (mg_f21 b) dX2_inTurn_20 ?_
        refine r_getiN X hP 0 cp_c0 lk_0 3 (Nat.le_of_ble_eq_true rfl) q287 cp_f3 dX2_inTurn_23 ?_
        refine lv_irem hx hb dX2_inTurn_26 (nz_ne h) ?_
        have h := nz_k h
        refine lv_istore_n (lv' := [(2, .int (((gI σ (1 + b) 19) + w_4) - ((gI σ (1 + b) 19) + w_4) / (gI σ 0 3) * (gI σ 0 3))), (0, .ref (G.2.2.1 (15 + 17 * b))), (1, .int w_4)]) hx hb dX2_inTurn_27 rfl hl (by decide) rfl (fun ls hl => ?_)
        refine lv_aload_n hx hb dX2_inTurn_28 rfl (lv_at hl 1 rfl) ?_
        refine r_geta X hP (15 + 17 * b) (mg_c b hbb) lk_2 15 (Nat.le_of_ble_eq_true rfl) q221 (mg_f15 b) dX2_inTurn_29 ?_
        refine lv_iload_n hx hb dX2_inTurn_32 rfl (lv_at hl 0 rfl) ?_
        refine r_iald X hP (16 + 17 * b + 15) (mg_a15 b hbb) (ck_in h) dX2_inTurn_33 ?_
        have h := ck_k h
        refine lv_if_le (tgt := 39) hx hb dX2_inTurn_34 (by decide) (fun c_7 => ?_) (fun c_7 => ?_)
        · have h := it_t h c_7
          refine lv_iinc (v := (w_4 + (1 : Int32))) (lv' := [(1, .int (w_4 + (1 : Int32))), (2, .int (((gI σ (1 + b) 19) + w_4) - ((gI σ (1 + b) 19) + w_4) / (gI σ 0 3) * (gI σ 0 3))), (0, .ref (G.2.2.1 (15 + 17 * b)))]) hx hb dX2_inTurn_39 hl (k := 2) rfl rfl (by decide) rfl (fun ls hl => ?_)
          refine lv_goto (tgt := 2) hx hb dX2_inTurn_42 (by decide) ?_
          exact ih _ _ _ _ h hP (lv_sub hl [2, 0] rfl)
        · have h := it_f h c_7
          refine lv_iload_n hx hb dX2_inTurn_37 rfl (lv_at hl 0 rfl) ?_
          exact hret _ _ _ _ _ _ dX2_inTurn_38 rfl (congrArg (fun z9 => (z9, σ)) (Option.some.inj h)) hP
  exact hL_3 _ _ _ _ _ h hP (lv_sub hl [1, 0] rfl)
def mg_leastOften_B4 (b : Nat) (σ : ST) (rc4 : Int32 → Int32 → Option (Int32)) (w1 : Int32) (w2 : Int32) : Option (Int32) :=
  (if (gI σ 0 3) ≤ w2 then some (w1) else ck w2 10 (bo (if 0 < (lI σ (1 + b) 15 w2) then (if w1 < 0 then some (w2) else ck w2 10 (ck w1 10 ((if (lI σ (1 + b) 14 w2) < (lI σ (1 + b) 14 w1) then some (w2) else ck w2 10 (ck w1 10 ((if (lI σ (1 + b) 14 w2) = (lI σ (1 + b) 14 w1) then ck w2 10 (ck w1 10 ((if (lI σ (1 + b) 15 w2) ≤ (lI σ (1 + b) 15 w1) then some (w1) else some (w2)))) else some (w1)))))))) else some (w1)) (fun (y_2 : Int32) => (rc4 y_2 (w2 + (1 : Int32))))))
def mg_leastOften (b : Nat) (σ : ST)  : Option Int32 :=
  bo (wl2 (mg_leastOften_B4 b σ ) FU (-1 : Int32) (0 : Int32)) (fun (o_11 : Int32) => some o_11)
abbrev rm_X2_leastOften : Room := rmf 0 0
set_option maxHeartbeats 4000000 in
set_option maxRecDepth 100000 in
theorem mt_X2_leastOften (l : Launch) (G : GT) (b : Nat) (hbb : b < 2) (σ : ST)  {r : Int32} (h : mg_leastOften b σ = some r) : CI l cp_ft G yX2_leastOften (ws_ yX2_leastOften cX2_leastOften 3 (some .int)) rm_X2_leastOften 0 0 [.ref (G.2.2.1 (15 + 17 * b))] σ (r, σ) := by
  refine m_enterI (by decide) rfl (lv := [(0, .ref (G.2.2.1 (15 + 17 * b)))]) rfl ?_
  intro p e s m args below meth c H locs ls Q X hret hP hl
  have hx := X.1.1
  have hb := X.1.2.1
  have hown := X.1.2.2.2.1
  have hts := X.1.2.2.2.2
  unfold mg_leastOften at h
  refine lv_iconst (v := (-1 : Int32)) hx hb dX2_leastOften_0 (by decide) ?_
  refine lv_istore_n (lv' := [(1, .int (-1 : Int32)), (0, .ref (G.2.2.1 (15 + 17 * b)))]) hx hb dX2_leastOften_1 rfl hl (by decide) rfl (fun ls hl => ?_)
  refine lv_iconst (v := (0 : Int32)) hx hb dX2_leastOften_2 (by decide) ?_
  refine lv_istore_n (lv' := [(2, .int (0 : Int32)), (1, .int (-1 : Int32)), (0, .ref (G.2.2.1 (15 + 17 * b)))]) hx hb dX2_leastOften_3 rfl hl (by decide) rfl (fun ls hl => ?_)
  obtain ⟨o_11, h_12, h⟩ := bo_ex h
  have hE_13 : ∀ (H : Heap) (locs : List Loc) (ls : Array Slot), PS cp_ft G s σ H locs → lv_has ls 3 [(1, .int o_11)] → W p l e rm_X2_leastOften s m args below meth c H locs 0 0 Q (F0 m 84 ls []) := by
    intro H locs ls hP hl
    refine lv_iload_n hx hb dX2_leastOften_84 rfl (lv_at hl 0 rfl) ?_
    exact hret _ _ _ _ _ _ dX2_leastOften_85 rfl (congrArg (fun z9 => (z9, σ)) (Option.some.inj h)) hP
  have hL_10 : ∀ (n : Nat) (w_14 : Int32) (w_15 : Int32) (H : Heap) (locs : List Loc) (ls : Array Slot), wl2 (mg_leastOften_B4 b σ ) n w_14 w_15 = some o_11 → PS cp_ft G s σ H locs → lv_has ls 3 [(0, .ref (G.2.2.1 (15 + 17 * b))), (1, .int w_14), (2, .int w_15)] → W p l e rm_X2_leastOften s m args below meth c H locs 0 0 Q (F0 m 4 ls []) := by
    intro n
    induction n with
    | zero => intro w_14 w_15 H locs ls h_16; cases h_16
    | succ n ih =>
      intro w_14 w_15 H locs ls h_16 hP hl
      have h_16 : mg_leastOften_B4 b σ  (wl2 (mg_leastOften_B4 b σ ) n) w_14 w_15 = some _ := h_16
      generalize wl2 (mg_leastOften_B4 b σ ) n = rc_17 at h_16 ih
      unfold mg_leastOften_B4 at h_16
      refine lv_iload_n hx hb dX2_leastOften_4 rfl (lv_at hl 2 rfl) ?_
      refine lv_aload_n hx hb dX2_leastOften_5 rfl (lv_at hl 0 rfl) ?_
      refine r_geta X hP (15 + 17 * b) (mg_c b hbb) lk_2 21 (Nat.le_of_ble_eq_true rfl) q230 (mg_f21 b) dX2_leastOften_6 ?_
      refine r_getiN X hP 0 cp_c0 lk_0 3 (Nat.le_of_ble_eq_true rfl) q287 cp_f3 dX2_leastOften_9 ?_
      refine lv_icmp_ge (tgt := 84) hx hb dX2_leastOften_12 (by decide) (fun c_18 => ?_) (fun c_18 => ?_)
      · have h_16 := it_t h_16 c_18
        obtain rfl := Option.some.inj h_16
        exact hE_13 _ _ _ hP (lv_sub hl [1] rfl)
      · have h_16 := it_f h_16 c_18
        refine lv_aload_n hx hb dX2_leastOften_15 rfl (lv_at hl 0 rfl) ?_
        refine r_geta X hP (15 + 17 * b) (mg_c b hbb) lk_2 15 (Nat.le_of_ble_eq_true rfl) q221 (mg_f15 b) dX2_leastOften_16 ?_
        refine lv_iload_n hx hb dX2_leastOften_19 rfl (lv_at hl 2 rfl) ?_
        refine r_iald X hP (16 + 17 * b + 15) (mg_a15 b hbb) (ck_in h_16) dX2_leastOften_20 ?_
        have h_16 := ck_k h_16
        obtain ⟨y_19, h_20, h_16⟩ := bo_ex h_16
        have hJ_21 : ∀ (H : Heap) (locs : List Loc) (ls : Array Slot), PS cp_ft G s σ H locs → lv_has ls 3 [(0, .ref (G.2.2.1 (15 + 17 * b))), (1, .int y_19), (2, .int w_15)] → W p l e rm_X2_leastOften s m args below meth c H locs 0 0 Q (F0 m 78 ls []) := by
          intro H locs ls hP hl
          refine lv_iinc (v := (w_15 + (1 : Int32))) (lv' := [(2, .int (w_15 + (1 : Int32))), (0, .ref (G.2.2.1 (15 + 17 * b))), (1, .int y_19)]) hx hb dX2_leastOften_78 hl (k := 2) rfl rfl (by decide) rfl (fun ls hl => ?_)
          refine lv_goto (tgt := 4) hx hb dX2_leastOften_81 (by decide) ?_
          exact ih _ _ _ _ _ h_16 hP (lv_sub hl [1, 2, 0] rfl)
        refine lv_if_gt (tgt := 27) hx hb dX2_leastOften_21 (by decide) (fun c_22 => ?_) (fun c_22 => ?_)
        · have h_20 := it_t h_20 c_22
          refine lv_iload_n hx hb dX2_leastOften_27 rfl (lv_at hl 1 rfl) ?_
          refine lv_if_lt (tgt := 76) hx hb dX2_leastOften_28 (by decide) (fun c_23 => ?_) (fun c_23 => ?_)
          · have h_20 := it_t h_20 c_23
            refine lv_iload_n hx hb dX2_leastOften_76 rfl (lv_at hl 2 rfl) ?_
            refine lv_istore_n (lv' := [(1, .int w_15), (0, .ref (G.2.2.1 (15 + 17 * b))), (2, .int w_15)]) hx hb dX2_leastOften_77 rfl hl (by decide) rfl (fun ls hl => ?_)
            obtain rfl := Option.some.inj h_20
            exact hJ_21 _ _ _ hP (lv_sub hl [1, 0, 2] rfl)
          · have h_20 := it_f h_20 c_23
            refine lv_aload_n hx hb dX2_leastOften_31 rfl (lv_at hl 0 rfl) ?_
            refine r_geta X hP (15 + 17 * b) (mg_c b hbb) lk_2 14 (Nat.le_of_ble_eq_true rfl) q220 (mg_f14 b) dX2_leastOften_32 ?_
            refine lv_iload_n hx hb dX2_leastOften_35 rfl (lv_at hl 2 rfl) ?_
            refine r_iald X hP (16 + 17 * b + 14) (mg_a14 b hbb) (ck_in h_20) dX2_leastOften_36 ?_
            have h_20 := ck_k h_20
            refine lv_aload_n hx hb dX2_leastOften_37 rfl (lv_at hl 0 rfl) ?_
            refine r_geta X hP (15 + 17 * b) (mg_c b hbb) lk_2 14 (Nat.le_of_ble_eq_true rfl) q220 (mg_f14 b) dX2_leastOften_38 ?_
            refine lv_iload_n hx hb dX2_leastOften_41 rfl (lv_at hl 1 rfl) ?_
            refine r_iald X hP (16 + 17 * b + 14) (mg_a14 b hbb) (ck_in h_20) dX2_leastOften_42 ?_
            have h_20 := ck_k h_20
            refine lv_icmp_lt (tgt := 76) hx hb dX2_leastOften_43 (by decide) (fun c_24 => ?_) (fun c_24 => ?_)
            · have h_20 := it_t h_20 c_24
              refine lv_iload_n hx hb dX2_leastOften_76 rfl (lv_at hl 2 rfl) ?_
              refine lv_istore_n (lv' := [(1, .int w_15), (0, .ref (G.2.2.1 (15 + 17 * b))), (2, .int w_15)]) hx hb dX2_leastOften_77 rfl hl (by decide) rfl (fun ls hl => ?_)
              obtain rfl := Option.some.inj h_20
              exact hJ_21 _ _ _ hP (lv_sub hl [1, 0, 2] rfl)
            · have h_20 := it_f h_20 c_24
              refine lv_aload_n hx hb dX2_leastOften_46 rfl (lv_at hl 0 rfl) ?_
              refine r_geta X hP (15 + 17 * b) (mg_c b hbb) lk_2 14 (Nat.le_of_ble_eq_true rfl) q220 (mg_f14 b) dX2_leastOften_47 ?_
              refine lv_iload_n hx hb dX2_leastOften_50 rfl (lv_at hl 2 rfl) ?_
              refine r_iald X hP (16 + 17 * b + 14) (mg_a14 b hbb) (ck_in h_20) dX2_leastOften_51 ?_
              have h_20 := ck_k h_20
              refine lv_aload_n hx hb dX2_leastOften_52 rfl (lv_at hl 0 rfl) ?_
              refine r_geta X hP (15 + 17 * b) (mg_c b hbb) lk_2 14 (Nat.le_of_ble_eq_true rfl) q220 (mg_f14 b) dX2_leastOften_53 ?_
              refine lv_iload_n hx hb dX2_leastOften_56 rfl (lv_at hl 1 rfl) ?_
              refine r_iald X hP (16 + 17 * b + 14) (mg_a14 b hbb) (ck_in h_20) dX2_leastOften_57 ?_
              have h_20 := ck_k h_20
              refine lv_icmp_ne (tgt := 78) hx hb dX2_leastOften_58 (by decide) (fun c_25 => ?_) (fun c_25 => ?_)
              · have h_20 := it_f h_20 c_25
                obtain rfl := Option.some.inj h_20
                exact hJ_21 _ _ _ hP (lv_sub hl [0, 1, 2] rfl)
              · have h_20 := it_t h_20 c_25
                refine lv_aload_n hx hb dX2_leastOften_61 rfl (lv_at hl 0 rfl) ?_
                refine r_geta X hP (15 + 17 * b) (mg_c b hbb) lk_2 15 (Nat.le_of_ble_eq_true rfl) q221 (mg_f15 b) dX2_leastOften_62 ?_
                refine lv_iload_n hx hb dX2_leastOften_65 rfl (lv_at hl 2 rfl) ?_
                refine r_iald X hP (16 + 17 * b + 15) (mg_a15 b hbb) (ck_in h_20) dX2_leastOften_66 ?_
                have h_20 := ck_k h_20
                refine lv_aload_n hx hb dX2_leastOften_67 rfl (lv_at hl 0 rfl) ?_
                refine r_geta X hP (15 + 17 * b) (mg_c b hbb) lk_2 15 (Nat.le_of_ble_eq_true rfl) q221 (mg_f15 b) dX2_leastOften_68 ?_
                refine lv_iload_n hx hb dX2_leastOften_71 rfl (lv_at hl 1 rfl) ?_
                refine r_iald X hP (16 + 17 * b + 15) (mg_a15 b hbb) (ck_in h_20) dX2_leastOften_72 ?_
                have h_20 := ck_k h_20
                refine lv_icmp_le (tgt := 78) hx hb dX2_leastOften_73 (by decide) (fun c_26 => ?_) (fun c_26 => ?_)
                · have h_20 := it_t h_20 c_26
                  obtain rfl := Option.some.inj h_20
                  exact hJ_21 _ _ _ hP (lv_sub hl [0, 1, 2] rfl)
                · have h_20 := it_f h_20 c_26
                  refine lv_iload_n hx hb dX2_leastOften_76 rfl (lv_at hl 2 rfl) ?_
                  refine lv_istore_n (lv' := [(1, .int w_15), (0, .ref (G.2.2.1 (15 + 17 * b))), (2, .int w_15)]) hx hb dX2_leastOften_77 rfl hl (by decide) rfl (fun ls hl => ?_)
                  obtain rfl := Option.some.inj h_20
                  exact hJ_21 _ _ _ hP (lv_sub hl [1, 0, 2] rfl)
        · have h_20 := it_f h_20 c_22
          refine lv_goto (tgt := 78) hx hb dX2_leastOften_24 (by decide) ?_
          obtain rfl := Option.some.inj h_20
          exact hJ_21 _ _ _ hP (lv_sub hl [0, 1, 2] rfl)
  exact hL_10 _ _ _ _ _ _ h_12 hP (lv_sub hl [2, 1, 0] rfl)
def mg_mostWishing_B4 (b : Nat) (σ : ST) (l1 : Int32) (rc4 : Int32 → Int32 → Option (Int32)) (w2 : Int32) (w3 : Int32) : Option (Int32) :=
  (if (gI σ 0 3) ≤ w3 then some (w2) else ck w3 10 (bo (if (lI σ (1 + b) 15 w3) ≤ 0 then some (w2) else ck w3 10 (bo (pgi σ (lR σ 0 0 w3) 4 1) (fun (v_7 : Int32) => (if v_7 = l1 then some (w2) else (if w2 < 0 then some (w3) else ck w3 10 (ck w2 10 ((if (lI σ (1 + b) 15 w3) ≤ (lI σ (1 + b) 15 w2) then some (w2) else some (w3))))))))) (fun (y_2 : Int32) => (rc4 y_2 (w3 + (1 : Int32))))))
def mg_mostWishing (b : Nat) (σ : ST) (a1 : Int32) : Option Int32 :=
  bo (wl2 (mg_mostWishing_B4 b σ a1) FU (-1 : Int32) (0 : Int32)) (fun (o_12 : Int32) => some o_12)
abbrev rm_X2_mostWishing : Room := rmf 0 0
set_option maxHeartbeats 4000000 in
set_option maxRecDepth 100000 in
theorem mt_X2_mostWishing (l : Launch) (G : GT) (b : Nat) (hbb : b < 2) (σ : ST) (a1 : Int32) {r : Int32} (h : mg_mostWishing b σ a1 = some r) : CI l cp_ft G yX2_mostWishing (ws_ yX2_mostWishing cX2_mostWishing 4 (some .int)) rm_X2_mostWishing 0 0 [.ref (G.2.2.1 (15 + 17 * b)), .int a1] σ (r, σ) := by
  refine m_enterI (by decide) rfl (lv := [(0, .ref (G.2.2.1 (15 + 17 * b))), (1, .int a1)]) rfl ?_
  intro p e s m args below meth c H locs ls Q X hret hP hl
  have hx := X.1.1
  have hb := X.1.2.1
  have hown := X.1.2.2.2.1
  have hts := X.1.2.2.2.2
  unfold mg_mostWishing at h
  refine lv_iconst (v := (-1 : Int32)) hx hb dX2_mostWishing_0 (by decide) ?_
  refine lv_istore_n (lv' := [(2, .int (-1 : Int32)), (0, .ref (G.2.2.1 (15 + 17 * b))), (1, .int a1)]) hx hb dX2_mostWishing_1 rfl hl (by decide) rfl (fun ls hl => ?_)
  refine lv_iconst (v := (0 : Int32)) hx hb dX2_mostWishing_2 (by decide) ?_
  refine lv_istore_n (lv' := [(3, .int (0 : Int32)), (2, .int (-1 : Int32)), (0, .ref (G.2.2.1 (15 + 17 * b))), (1, .int a1)]) hx hb dX2_mostWishing_3 rfl hl (by decide) rfl (fun ls hl => ?_)
  obtain ⟨o_12, h_13, h⟩ := bo_ex h
  have hE_14 : ∀ (H : Heap) (locs : List Loc) (ls : Array Slot), PS cp_ft G s σ H locs → lv_has ls 4 [(2, .int o_12)] → W p l e rm_X2_mostWishing s m args below meth c H locs 0 0 Q (F0 m 67 ls []) := by
    intro H locs ls hP hl
    refine lv_iload_n hx hb dX2_mostWishing_67 rfl (lv_at hl 0 rfl) ?_
    exact hret _ _ _ _ _ _ dX2_mostWishing_68 rfl (congrArg (fun z9 => (z9, σ)) (Option.some.inj h)) hP
  have hL_11 : ∀ (n : Nat) (w_15 : Int32) (w_16 : Int32) (H : Heap) (locs : List Loc) (ls : Array Slot), wl2 (mg_mostWishing_B4 b σ a1) n w_15 w_16 = some o_12 → PS cp_ft G s σ H locs → lv_has ls 4 [(0, .ref (G.2.2.1 (15 + 17 * b))), (1, .int a1), (2, .int w_15), (3, .int w_16)] → W p l e rm_X2_mostWishing s m args below meth c H locs 0 0 Q (F0 m 4 ls []) := by
    intro n
    induction n with
    | zero => intro w_15 w_16 H locs ls h_17; cases h_17
    | succ n ih =>
      intro w_15 w_16 H locs ls h_17 hP hl
      have h_17 : mg_mostWishing_B4 b σ a1 (wl2 (mg_mostWishing_B4 b σ a1) n) w_15 w_16 = some _ := h_17
      generalize wl2 (mg_mostWishing_B4 b σ a1) n = rc_18 at h_17 ih
      unfold mg_mostWishing_B4 at h_17
      refine lv_iload_n hx hb dX2_mostWishing_4 rfl (lv_at hl 3 rfl) ?_
      refine lv_aload_n hx hb dX2_mostWishing_5 rfl (lv_at hl 0 rfl) ?_
      refine r_geta X hP (15 + 17 * b) (mg_c b hbb) lk_2 21 (Nat.le_of_ble_eq_true rfl) q230 (mg_f21 b) dX2_mostWishing_6 ?_
      refine r_getiN X hP 0 cp_c0 lk_0 3 (Nat.le_of_ble_eq_true rfl) q287 cp_f3 dX2_mostWishing_9 ?_
      refine lv_icmp_ge (tgt := 67) hx hb dX2_mostWishing_12 (by decide) (fun c_19 => ?_) (fun c_19 => ?_)
      · have h_17 := it_t h_17 c_19
        obtain rfl := Option.some.inj h_17
        exact hE_14 _ _ _ hP (lv_sub hl [2] rfl)
      · have h_17 := it_f h_17 c_19
        refine lv_aload_n hx hb dX2_mostWishing_15 rfl (lv_at hl 0 rfl) ?_
        refine r_geta X hP (15 + 17 * b) (mg_c b hbb) lk_2 15 (Nat.le_of_ble_eq_true rfl) q221 (mg_f15 b) dX2_mostWishing_16 ?_
        refine lv_iload_n hx hb dX2_mostWishing_19 rfl (lv_at hl 3 rfl) ?_
        refine r_iald X hP (16 + 17 * b + 15) (mg_a15 b hbb) (ck_in h_17) dX2_mostWishing_20 ?_
        have h_17 := ck_k h_17
        obtain ⟨y_20, h_21, h_17⟩ := bo_ex h_17
        have hJ_22 : ∀ (H : Heap) (locs : List Loc) (ls : Array Slot), PS cp_ft G s σ H locs → lv_has ls 4 [(0, .ref (G.2.2.1 (15 + 17 * b))), (1, .int a1), (2, .int y_20), (3, .int w_16)] → W p l e rm_X2_mostWishing s m args below meth c H locs 0 0 Q (F0 m 61 ls []) := by
          intro H locs ls hP hl
          refine lv_iinc (v := (w_16 + (1 : Int32))) (lv' := [(3, .int (w_16 + (1 : Int32))), (0, .ref (G.2.2.1 (15 + 17 * b))), (1, .int a1), (2, .int y_20)]) hx hb dX2_mostWishing_61 hl (k := 3) rfl rfl (by decide) rfl (fun ls hl => ?_)
          refine lv_goto (tgt := 4) hx hb dX2_mostWishing_64 (by decide) ?_
          exact ih _ _ _ _ _ h_17 hP (lv_sub hl [1, 2, 3, 0] rfl)
        refine lv_if_le (tgt := 61) hx hb dX2_mostWishing_21 (by decide) (fun c_23 => ?_) (fun c_23 => ?_)
        · have h_21 := it_t h_21 c_23
          obtain rfl := Option.some.inj h_21
          exact hJ_22 _ _ _ hP (lv_sub hl [0, 1, 2, 3] rfl)
        · have h_21 := it_f h_21 c_23
          refine lv_aload_n hx hb dX2_mostWishing_24 rfl (lv_at hl 0 rfl) ?_
          refine r_geta X hP (15 + 17 * b) (mg_c b hbb) lk_2 21 (Nat.le_of_ble_eq_true rfl) q230 (mg_f21 b) dX2_mostWishing_25 ?_
          refine r_getaN X hP 0 cp_c0 lk_0 0 (Nat.le_of_ble_eq_true rfl) q281 cp_f0 dX2_mostWishing_28 ?_
          refine lv_iload_n hx hb dX2_mostWishing_31 rfl (lv_at hl 3 rfl) ?_
          refine r_aald (t := 0) X hP 1 cp_c1 rfl (ck_in h_21) dX2_mostWishing_32 ?_
          have h_21 := ck_k h_21
          obtain ⟨v_25, e_24, h_21⟩ := bo_ex h_21
          refine r_pgiN (r := (lR σ 0 0 w_16)) X hP lk_4 1 (Nat.le_of_ble_eq_true rfl) e_24 q409 dX2_mostWishing_33 ?_
          refine lv_iload_n hx hb dX2_mostWishing_36 rfl (lv_at hl 1 rfl) ?_
          refine lv_icmp_eq (tgt := 61) hx hb dX2_mostWishing_37 (by decide) (fun c_26 => ?_) (fun c_26 => ?_)
          · have h_21 := it_t h_21 c_26
            obtain rfl := Option.some.inj h_21
            exact hJ_22 _ _ _ hP (lv_sub hl [0, 1, 2, 3] rfl)
          · have h_21 := it_f h_21 c_26
            refine lv_iload_n hx hb dX2_mostWishing_40 rfl (lv_at hl 2 rfl) ?_
            refine lv_if_lt (tgt := 59) hx hb dX2_mostWishing_41 (by decide) (fun c_27 => ?_) (fun c_27 => ?_)
            · have h_21 := it_t h_21 c_27
              refine lv_iload_n hx hb dX2_mostWishing_59 rfl (lv_at hl 3 rfl) ?_
              refine lv_istore_n (lv' := [(2, .int w_16), (0, .ref (G.2.2.1 (15 + 17 * b))), (1, .int a1), (3, .int w_16)]) hx hb dX2_mostWishing_60 rfl hl (by decide) rfl (fun ls hl => ?_)
              obtain rfl := Option.some.inj h_21
              exact hJ_22 _ _ _ hP (lv_sub hl [1, 2, 0, 3] rfl)
            · have h_21 := it_f h_21 c_27
              refine lv_aload_n hx hb dX2_mostWishing_44 rfl (lv_at hl 0 rfl) ?_
              refine r_geta X hP (15 + 17 * b) (mg_c b hbb) lk_2 15 (Nat.le_of_ble_eq_true rfl) q221 (mg_f15 b) dX2_mostWishing_45 ?_
              refine lv_iload_n hx hb dX2_mostWishing_48 rfl (lv_at hl 3 rfl) ?_
              refine r_iald X hP (16 + 17 * b + 15) (mg_a15 b hbb) (ck_in h_21) dX2_mostWishing_49 ?_
              have h_21 := ck_k h_21
              refine lv_aload_n hx hb dX2_mostWishing_50 rfl (lv_at hl 0 rfl) ?_
              refine r_geta X hP (15 + 17 * b) (mg_c b hbb) lk_2 15 (Nat.le_of_ble_eq_true rfl) q221 (mg_f15 b) dX2_mostWishing_51 ?_
              refine lv_iload_n hx hb dX2_mostWishing_54 rfl (lv_at hl 2 rfl) ?_
              refine r_iald X hP (16 + 17 * b + 15) (mg_a15 b hbb) (ck_in h_21) dX2_mostWishing_55 ?_
              have h_21 := ck_k h_21
              refine lv_icmp_le (tgt := 61) hx hb dX2_mostWishing_56 (by decide) (fun c_28 => ?_) (fun c_28 => ?_)
              · have h_21 := it_t h_21 c_28
                obtain rfl := Option.some.inj h_21
                exact hJ_22 _ _ _ hP (lv_sub hl [0, 1, 2, 3] rfl)
              · have h_21 := it_f h_21 c_28
                refine lv_iload_n hx hb dX2_mostWishing_59 rfl (lv_at hl 3 rfl) ?_
                refine lv_istore_n (lv' := [(2, .int w_16), (0, .ref (G.2.2.1 (15 + 17 * b))), (1, .int a1), (3, .int w_16)]) hx hb dX2_mostWishing_60 rfl hl (by decide) rfl (fun ls hl => ?_)
                obtain rfl := Option.some.inj h_21
                exact hJ_22 _ _ _ hP (lv_sub hl [1, 2, 0, 3] rfl)
  exact hL_11 _ _ _ _ _ _ h_13 hP (lv_sub hl [2, 3, 1, 0] rfl)
def mg_chiefLast_B4 (b : Nat) (σ : ST) (rc4 : Int32 → Int32 → Option (Int32)) (w1 : Int32) (w2 : Int32) : Option (Int32) :=
  (if (gI σ 0 3) ≤ w2 then some (w1) else bo (mg_isThere b σ w2) (fun (r_3 : Int32) => bo (if r_3 = 0 then some (w1) else ck w2 10 (bo (pgi σ (lR σ 0 0 w2) 4 1) (fun (v_9 : Int32) => some ((if w1 < v_9 then v_9 else w1))))) (fun (y_4 : Int32) => (rc4 y_4 (w2 + (1 : Int32))))))
def mg_chiefLast (b : Nat) (σ : ST)  : Option Int32 :=
  bo (wl2 (mg_chiefLast_B4 b σ ) FU (-1 : Int32) (0 : Int32)) (fun (o_11 : Int32) => bo (mg_mostWishing b σ o_11) (fun (r_15 : Int32) => (if r_15 < 0 then bo (mg_mostWishing b σ (-1 : Int32)) (fun (r_18 : Int32) => some r_18) else some r_15)))
abbrev rm_X2_chiefLast : Room := rmf 1 23
set_option maxHeartbeats 4000000 in
set_option maxRecDepth 100000 in
theorem mt_X2_chiefLast (l : Launch) (G : GT) (b : Nat) (hbb : b < 2) (σ : ST)  {r : Int32} (h : mg_chiefLast b σ = some r) : CI l cp_ft G yX2_chiefLast (ws_ yX2_chiefLast cX2_chiefLast 3 (some .int)) rm_X2_chiefLast 0 0 [.ref (G.2.2.1 (15 + 17 * b))] σ (r, σ) := by
  refine m_enterI (by decide) rfl (lv := [(0, .ref (G.2.2.1 (15 + 17 * b)))]) rfl ?_
  intro p e s m args below meth c H locs ls Q X hret hP hl
  have hx := X.1.1
  have hb := X.1.2.1
  have hown := X.1.2.2.2.1
  have hts := X.1.2.2.2.2
  unfold mg_chiefLast at h
  refine lv_iconst (v := (-1 : Int32)) hx hb dX2_chiefLast_0 (by decide) ?_
  refine lv_istore_n (lv' := [(1, .int (-1 : Int32)), (0, .ref (G.2.2.1 (15 + 17 * b)))]) hx hb dX2_chiefLast_1 rfl hl (by decide) rfl (fun ls hl => ?_)
  refine lv_iconst (v := (0 : Int32)) hx hb dX2_chiefLast_2 (by decide) ?_
  refine lv_istore_n (lv' := [(2, .int (0 : Int32)), (1, .int (-1 : Int32)), (0, .ref (G.2.2.1 (15 + 17 * b)))]) hx hb dX2_chiefLast_3 rfl hl (by decide) rfl (fun ls hl => ?_)
  obtain ⟨o_11, h_12, h⟩ := bo_ex h
  have hE_13 : ∀ (H : Heap) (locs : List Loc) (ls : Array Slot), PS cp_ft G s σ H locs → lv_has ls 3 [(0, .ref (G.2.2.1 (15 + 17 * b))), (1, .int o_11)] → W p l e rm_X2_chiefLast s m args below meth c H locs 0 0 Q (F0 m 46 ls []) := by
    intro H locs ls hP hl
    refine lv_aload_n hx hb dX2_chiefLast_46 rfl (lv_at hl 0 rfl) ?_
    refine lv_iload_n hx hb dX2_chiefLast_47 rfl (lv_at hl 1 rfl) ?_
    obtain ⟨r_15, e_14, h⟩ := bo_ex h
    refine r_calli (r_runV (rest := []) X hP (15 + 17 * b) (mg_c b hbb) lk_2 (mt_X2_mostWishing l G b hbb σ o_11 e_14) (cwV 1 hts (lw_V q1025 q1027 qs34 q112 q1028) rfl rfl rfl ⟨rfl, cdX2_mostWishing⟩ ⟨Nat.le_of_ble_eq_true rfl, Nat.le_of_ble_eq_true rfl⟩) rfl hl.1 rfl (Nat.le_of_ble_eq_true rfl) dX2_chiefLast_48 ⟨Nat.le_refl _, Nat.le_refl _⟩) hP (fun H locs hP => ?_)
    refine lv_istore_n (lv' := [(2, .int r_15), (0, .ref (G.2.2.1 (15 + 17 * b))), (1, .int o_11)]) hx hb dX2_chiefLast_51 rfl hl (by decide) rfl (fun ls hl => ?_)
    refine lv_iload_n hx hb dX2_chiefLast_52 rfl (lv_at hl 0 rfl) ?_
    refine lv_if_lt (tgt := 60) hx hb dX2_chiefLast_53 (by decide) (fun c_16 => ?_) (fun c_16 => ?_)
    · have h := it_t h c_16
      refine lv_aload_n hx hb dX2_chiefLast_60 rfl (lv_at hl 1 rfl) ?_
      refine lv_iconst (v := (-1 : Int32)) hx hb dX2_chiefLast_61 (by decide) ?_
      obtain ⟨r_18, e_17, h⟩ := bo_ex h
      refine r_calli (r_runV (rest := []) X hP (15 + 17 * b) (mg_c b hbb) lk_2 (mt_X2_mostWishing l G b hbb σ (-1 : Int32) e_17) (cwV 1 hts (lw_V q1025 q1027 qs34 q112 q1028) rfl rfl rfl ⟨rfl, cdX2_mostWishing⟩ ⟨Nat.le_of_ble_eq_true rfl, Nat.le_of_ble_eq_true rfl⟩) rfl hl.1 rfl (Nat.le_of_ble_eq_true rfl) dX2_chiefLast_62 ⟨Nat.le_refl _, Nat.le_refl _⟩) hP (fun H locs hP => ?_)
      exact hret _ _ _ _ _ _ dX2_chiefLast_65 rfl (congrArg (fun z9 => (z9, σ)) (Option.some.inj h)) hP
    · have h := it_f h c_16
      refine lv_iload_n hx hb dX2_chiefLast_56 rfl (lv_at hl 0 rfl) ?_
      refine lv_goto (tgt := 65) hx hb dX2_chiefLast_57 (by decide) ?_
      exact hret _ _ _ _ _ _ dX2_chiefLast_65 rfl (congrArg (fun z9 => (z9, σ)) (Option.some.inj h)) hP
  have hL_10 : ∀ (n : Nat) (w_19 : Int32) (w_20 : Int32) (H : Heap) (locs : List Loc) (ls : Array Slot), wl2 (mg_chiefLast_B4 b σ ) n w_19 w_20 = some o_11 → PS cp_ft G s σ H locs → lv_has ls 3 [(0, .ref (G.2.2.1 (15 + 17 * b))), (1, .int w_19), (2, .int w_20)] → W p l e rm_X2_chiefLast s m args below meth c H locs 0 0 Q (F0 m 4 ls []) := by
    intro n
    induction n with
    | zero => intro w_19 w_20 H locs ls h_21; cases h_21
    | succ n ih =>
      intro w_19 w_20 H locs ls h_21 hP hl
      have h_21 : mg_chiefLast_B4 b σ  (wl2 (mg_chiefLast_B4 b σ ) n) w_19 w_20 = some _ := h_21
      generalize wl2 (mg_chiefLast_B4 b σ ) n = rc_22 at h_21 ih
      unfold mg_chiefLast_B4 at h_21
      refine lv_iload_n hx hb dX2_chiefLast_4 rfl (lv_at hl 2 rfl) ?_
      refine lv_aload_n hx hb dX2_chiefLast_5 rfl (lv_at hl 0 rfl) ?_
      refine r_geta X hP (15 + 17 * b) (mg_c b hbb) lk_2 21 (Nat.le_of_ble_eq_true rfl) q230 (mg_f21 b) dX2_chiefLast_6 ?_
      refine r_getiN X hP 0 cp_c0 lk_0 3 (Nat.le_of_ble_eq_true rfl) q287 cp_f3 dX2_chiefLast_9 ?_
      refine lv_icmp_ge (tgt := 46) hx hb dX2_chiefLast_12 (by decide) (fun c_23 => ?_) (fun c_23 => ?_)
      · have h_21 := it_t h_21 c_23
        obtain rfl := Option.some.inj h_21
        exact hE_13 _ _ _ hP (lv_sub hl [0, 1] rfl)
      · have h_21 := it_f h_21 c_23
        refine lv_aload_n hx hb dX2_chiefLast_15 rfl (lv_at hl 0 rfl) ?_
        refine lv_iload_n hx hb dX2_chiefLast_16 rfl (lv_at hl 2 rfl) ?_
        obtain ⟨r_25, e_24, h_21⟩ := bo_ex h_21
        refine r_calli (r_runV (rest := []) X hP (15 + 17 * b) (mg_c b hbb) lk_2 (mt_X2_isThere l G b hbb σ w_20 e_24) (cwV 1 hts (lw_V q956 q957 q958 q112 q959) rfl rfl rfl ⟨rfl, cdX2_isThere⟩ ⟨Nat.le_of_ble_eq_true rfl, Nat.le_of_ble_eq_true rfl⟩) rfl hl.1 rfl (Nat.le_of_ble_eq_true rfl) dX2_chiefLast_17 ⟨Nat.le_refl _, Nat.le_refl _⟩) hP (fun H locs hP => ?_)
        obtain ⟨y_26, h_27, h_21⟩ := bo_ex h_21
        have hJ_28 : ∀ (H : Heap) (locs : List Loc) (ls : Array Slot), PS cp_ft G s σ H locs → lv_has ls 3 [(0, .ref (G.2.2.1 (15 + 17 * b))), (1, .int y_26), (2, .int w_20)] → W p l e rm_X2_chiefLast s m args below meth c H locs 0 0 Q (F0 m 40 ls []) := by
          intro H locs ls hP hl
          refine lv_iinc (v := (w_20 + (1 : Int32))) (lv' := [(2, .int (w_20 + (1 : Int32))), (0, .ref (G.2.2.1 (15 + 17 * b))), (1, .int y_26)]) hx hb dX2_chiefLast_40 hl (k := 2) rfl rfl (by decide) rfl (fun ls hl => ?_)
          refine lv_goto (tgt := 4) hx hb dX2_chiefLast_43 (by decide) ?_
          exact ih _ _ _ _ _ h_21 hP (lv_sub hl [1, 2, 0] rfl)
        refine lv_if_eq (tgt := 40) hx hb dX2_chiefLast_20 (by decide) (fun c_29 => ?_) (fun c_29 => ?_)
        · have h_27 := it_t h_27 c_29
          obtain rfl := Option.some.inj h_27
          exact hJ_28 _ _ _ hP (lv_sub hl [0, 1, 2] rfl)
        · have h_27 := it_f h_27 c_29
          refine lv_iload_n hx hb dX2_chiefLast_23 rfl (lv_at hl 1 rfl) ?_
          refine lv_aload_n hx hb dX2_chiefLast_24 rfl (lv_at hl 0 rfl) ?_
          refine r_geta X hP (15 + 17 * b) (mg_c b hbb) lk_2 21 (Nat.le_of_ble_eq_true rfl) q230 (mg_f21 b) dX2_chiefLast_25 ?_
          refine r_getaN X hP 0 cp_c0 lk_0 0 (Nat.le_of_ble_eq_true rfl) q281 cp_f0 dX2_chiefLast_28 ?_
          refine lv_iload_n hx hb dX2_chiefLast_31 rfl (lv_at hl 2 rfl) ?_
          refine r_aald (t := 0) X hP 1 cp_c1 rfl (ck_in h_27) dX2_chiefLast_32 ?_
          have h_27 := ck_k h_27
          obtain ⟨v_31, e_30, h_27⟩ := bo_ex h_27
          refine r_pgiN (r := (lR σ 0 0 w_20)) X hP lk_4 1 (Nat.le_of_ble_eq_true rfl) e_30 q409 dX2_chiefLast_33 ?_
          refine va_mmax (rest := []) hx hb (X.1.2.2.1.trans hl.1.symm) hown (hts _ q1024) (hts _ q792) (hts _ q128) (hts _ q793) (Nat.le_of_ble_eq_true rfl) (Nat.le_of_ble_eq_true rfl) (Nat.le_of_ble_eq_true rfl) (Nat.le_of_ble_eq_true rfl) dX2_chiefLast_36 ?_
          refine lv_istore_n (lv' := [(1, .int (if w_19 < v_31 then v_31 else w_19)), (0, .ref (G.2.2.1 (15 + 17 * b))), (2, .int w_20)]) hx hb dX2_chiefLast_39 rfl hl (by decide) rfl (fun ls hl => ?_)
          obtain rfl := Option.some.inj h_27
          exact hJ_28 _ _ _ hP (lv_sub hl [1, 0, 2] rfl)
  exact hL_10 _ _ _ _ _ _ h_12 hP (lv_sub hl [2, 1, 0] rfl)
def mg_next (b : Nat) (σ : ST) (a1 : Int32) : Option Int32 :=
  (if a1 = (1 : Int32) then bo (mg_inTurn b σ) (fun (r_3 : Int32) => some r_3) else (if a1 = (2 : Int32) then bo (mg_leastOften b σ) (fun (r_6 : Int32) => some r_6) else (if a1 = (3 : Int32) then (if (gI σ (1 + b) 19) < 0 then bo (mg_inTurn b σ) (fun (r_10 : Int32) => some r_10) else ck (gI σ (1 + b) 19) 10 ((if (lI σ (1 + b) 15 (gI σ (1 + b) 19)) ≤ 0 then bo (mg_inTurn b σ) (fun (r_13 : Int32) => some r_13) else some (gI σ (1 + b) 19)))) else (if a1 = (4 : Int32) then bo (mg_chiefLast b σ) (fun (r_16 : Int32) => some r_16) else bo (mg_mostWishing b σ (-1 : Int32)) (fun (r_18 : Int32) => some r_18)))))
abbrev rm_X2_next : Room := rmf 2 45
set_option maxHeartbeats 4000000 in
set_option maxRecDepth 100000 in
theorem mt_X2_next (l : Launch) (G : GT) (b : Nat) (hbb : b < 2) (σ : ST) (a1 : Int32) {r : Int32} (h : mg_next b σ a1 = some r) : CI l cp_ft G yX2_next (ws_ yX2_next cX2_next 2 (some .int)) rm_X2_next 0 0 [.ref (G.2.2.1 (15 + 17 * b)), .int a1] σ (r, σ) := by
  refine m_enterI (by decide) rfl (lv := [(0, .ref (G.2.2.1 (15 + 17 * b))), (1, .int a1)]) rfl ?_
  intro p e s m args below meth c H locs ls Q X hret hP hl
  have hx := X.1.1
  have hb := X.1.2.1
  have hown := X.1.2.2.2.1
  have hts := X.1.2.2.2.2
  unfold mg_next at h
  refine lv_iload_n hx hb dX2_next_0 rfl (lv_at hl 1 rfl) ?_
  by_cases c_1 : a1 = (1 : Int32)
  · have h := it_t h c_1
    refine lv_tableIn (tgt := 32) hx hb dX2_next_1 (by rw [c_1]; decide) (by rw [c_1]; decide) (by rw [c_1]; rfl) (by decide) ?_
    refine lv_aload_n hx hb dX2_next_32 rfl (lv_at hl 0 rfl) ?_
    obtain ⟨r_3, e_2, h⟩ := bo_ex h
    refine r_calli (r_runV (rest := []) X hP (15 + 17 * b) (mg_c b hbb) lk_2 (mt_X2_inTurn l G b hbb σ e_2) (cwV 0 hts (lw_V q1012 q1014 qs31 q112 q1015) rfl rfl rfl ⟨rfl, cdX2_inTurn⟩ ⟨Nat.le_of_ble_eq_true rfl, Nat.le_of_ble_eq_true rfl⟩) rfl hl.1 rfl (Nat.le_of_ble_eq_true rfl) dX2_next_33 ⟨Nat.le_refl _, Nat.le_refl _⟩) hP (fun H locs hP => ?_)
    exact hret _ _ _ _ _ _ dX2_next_36 rfl (congrArg (fun z9 => (z9, σ)) (Option.some.inj h)) hP
  · have h := it_f h c_1
    by_cases c_4 : a1 = (2 : Int32)
    · have h := it_t h c_4
      refine lv_tableIn (tgt := 37) hx hb dX2_next_1 (by rw [c_4]; decide) (by rw [c_4]; decide) (by rw [c_4]; rfl) (by decide) ?_
      refine lv_aload_n hx hb dX2_next_37 rfl (lv_at hl 0 rfl) ?_
      obtain ⟨r_6, e_5, h⟩ := bo_ex h
      refine r_calli (r_runV (rest := []) X hP (15 + 17 * b) (mg_c b hbb) lk_2 (mt_X2_leastOften l G b hbb σ e_5) (cwV 0 hts (lw_V q1016 q1018 qs32 q112 q1019) rfl rfl rfl ⟨rfl, cdX2_leastOften⟩ ⟨Nat.le_of_ble_eq_true rfl, Nat.le_of_ble_eq_true rfl⟩) rfl hl.1 rfl (Nat.le_of_ble_eq_true rfl) dX2_next_38 ⟨Nat.le_refl _, Nat.le_refl _⟩) hP (fun H locs hP => ?_)
      exact hret _ _ _ _ _ _ dX2_next_41 rfl (congrArg (fun z9 => (z9, σ)) (Option.some.inj h)) hP
    · have h := it_f h c_4
      by_cases c_7 : a1 = (3 : Int32)
      · have h := it_t h c_7
        refine lv_tableIn (tgt := 42) hx hb dX2_next_1 (by rw [c_7]; decide) (by rw [c_7]; decide) (by rw [c_7]; rfl) (by decide) ?_
        refine lv_aload_n hx hb dX2_next_42 rfl (lv_at hl 0 rfl) ?_
        refine r_geti X hP (15 + 17 * b) (mg_c b hbb) lk_2 19 (Nat.le_of_ble_eq_true rfl) q228 (mg_f19 b) dX2_next_43 ?_
        refine lv_if_lt (tgt := 68) hx hb dX2_next_46 (by decide) (fun c_8 => ?_) (fun c_8 => ?_)
        · have h := it_t h c_8
          refine lv_aload_n hx hb dX2_next_68 rfl (lv_at hl 0 rfl) ?_
          obtain ⟨r_10, e_9, h⟩ := bo_ex h
          refine r_calli (r_runV (rest := []) X hP (15 + 17 * b) (mg_c b hbb) lk_2 (mt_X2_inTurn l G b hbb σ e_9) (cwV 0 hts (lw_V q1012 q1014 qs31 q112 q1015) rfl rfl rfl ⟨rfl, cdX2_inTurn⟩ ⟨Nat.le_of_ble_eq_true rfl, Nat.le_of_ble_eq_true rfl⟩) rfl hl.1 rfl (Nat.le_of_ble_eq_true rfl) dX2_next_69 ⟨Nat.le_refl _, Nat.le_refl _⟩) hP (fun H locs hP => ?_)
          exact hret _ _ _ _ _ _ dX2_next_72 rfl (congrArg (fun z9 => (z9, σ)) (Option.some.inj h)) hP
        · have h := it_f h c_8
          refine lv_aload_n hx hb dX2_next_49 rfl (lv_at hl 0 rfl) ?_
          refine r_geta X hP (15 + 17 * b) (mg_c b hbb) lk_2 15 (Nat.le_of_ble_eq_true rfl) q221 (mg_f15 b) dX2_next_50 ?_
          refine lv_aload_n hx hb dX2_next_53 rfl (lv_at hl 0 rfl) ?_
          refine r_geti X hP (15 + 17 * b) (mg_c b hbb) lk_2 19 (Nat.le_of_ble_eq_true rfl) q228 (mg_f19 b) dX2_next_54 ?_
          refine r_iald X hP (16 + 17 * b + 15) (mg_a15 b hbb) (ck_in h) dX2_next_57 ?_
          have h := ck_k h
          refine lv_if_le (tgt := 68) hx hb dX2_next_58 (by decide) (fun c_11 => ?_) (fun c_11 => ?_)
          · have h := it_t h c_11
            refine lv_aload_n hx hb dX2_next_68 rfl (lv_at hl 0 rfl) ?_
            obtain ⟨r_13, e_12, h⟩ := bo_ex h
            refine r_calli (r_runV (rest := []) X hP (15 + 17 * b) (mg_c b hbb) lk_2 (mt_X2_inTurn l G b hbb σ e_12) (cwV 0 hts (lw_V q1012 q1014 qs31 q112 q1015) rfl rfl rfl ⟨rfl, cdX2_inTurn⟩ ⟨Nat.le_of_ble_eq_true rfl, Nat.le_of_ble_eq_true rfl⟩) rfl hl.1 rfl (Nat.le_of_ble_eq_true rfl) dX2_next_69 ⟨Nat.le_refl _, Nat.le_refl _⟩) hP (fun H locs hP => ?_)
            exact hret _ _ _ _ _ _ dX2_next_72 rfl (congrArg (fun z9 => (z9, σ)) (Option.some.inj h)) hP
          · have h := it_f h c_11
            refine lv_aload_n hx hb dX2_next_61 rfl (lv_at hl 0 rfl) ?_
            refine r_geti X hP (15 + 17 * b) (mg_c b hbb) lk_2 19 (Nat.le_of_ble_eq_true rfl) q228 (mg_f19 b) dX2_next_62 ?_
            refine lv_goto (tgt := 72) hx hb dX2_next_65 (by decide) ?_
            exact hret _ _ _ _ _ _ dX2_next_72 rfl (congrArg (fun z9 => (z9, σ)) (Option.some.inj h)) hP
      · have h := it_f h c_7
        by_cases c_14 : a1 = (4 : Int32)
        · have h := it_t h c_14
          refine lv_tableIn (tgt := 73) hx hb dX2_next_1 (by rw [c_14]; decide) (by rw [c_14]; decide) (by rw [c_14]; rfl) (by decide) ?_
          refine lv_aload_n hx hb dX2_next_73 rfl (lv_at hl 0 rfl) ?_
          obtain ⟨r_16, e_15, h⟩ := bo_ex h
          refine r_calli (r_runV (rest := []) X hP (15 + 17 * b) (mg_c b hbb) lk_2 (mt_X2_chiefLast l G b hbb σ e_15) (cwV 0 hts (lw_V q1020 q1022 qs33 q112 q1023) rfl rfl rfl ⟨rfl, cdX2_chiefLast⟩ ⟨Nat.le_of_ble_eq_true rfl, Nat.le_of_ble_eq_true rfl⟩) rfl hl.1 rfl (Nat.le_of_ble_eq_true rfl) dX2_next_74 ⟨Nat.le_refl _, Nat.le_refl _⟩) hP (fun H locs hP => ?_)
          exact hret _ _ _ _ _ _ dX2_next_77 rfl (congrArg (fun z9 => (z9, σ)) (Option.some.inj h)) hP
        · have h := it_f h c_14
          refine lv_tableOut (tgt := 78) hx hb dX2_next_1 (by have n0 := lv_neT c_1 (a := 1) (by decide); have n1 := lv_neT c_4 (a := 2) (by decide); have n2 := lv_neT c_7 (a := 3) (by decide); have n3 := lv_neT c_14 (a := 4) (by decide); omega) (by decide) ?_
          refine lv_aload_n hx hb dX2_next_78 rfl (lv_at hl 0 rfl) ?_
          refine lv_iconst (v := (-1 : Int32)) hx hb dX2_next_79 (by decide) ?_
          obtain ⟨r_18, e_17, h⟩ := bo_ex h
          refine r_calli (r_runV (rest := []) X hP (15 + 17 * b) (mg_c b hbb) lk_2 (mt_X2_mostWishing l G b hbb σ (-1 : Int32) e_17) (cwV 1 hts (lw_V q1025 q1027 qs34 q112 q1028) rfl rfl rfl ⟨rfl, cdX2_mostWishing⟩ ⟨Nat.le_of_ble_eq_true rfl, Nat.le_of_ble_eq_true rfl⟩) rfl hl.1 rfl (Nat.le_of_ble_eq_true rfl) dX2_next_80 ⟨Nat.le_refl _, Nat.le_refl _⟩) hP (fun H locs hP => ?_)
          exact hret _ _ _ _ _ _ dX2_next_83 rfl (congrArg (fun z9 => (z9, σ)) (Option.some.inj h)) hP
def mg_stopperOf_B2 (b : Nat) (σ : ST) (l1 : Int32) (rc2 : Int32 → Option Int32) (w2 : Int32) : Option Int32 :=
  (if (gI σ 0 3) ≤ w2 then some (-2 : Int32) else (if w2 = l1 then (rc2 (w2 + (1 : Int32))) else ck l1 10 ((if w2 = (lI σ (1 + b) 13 l1) then (rc2 (w2 + (1 : Int32))) else bo (mg_isThere b σ w2) (fun (r_5 : Int32) => (if r_5 = 0 then (rc2 (w2 + (1 : Int32))) else ck w2 10 (bo (pgi σ (lR σ 0 0 w2) 4 2) (fun (v_8 : Int32) => ck l1 10 (bo (pgi σ (lR σ 0 0 l1) 4 2) (fun (v_10 : Int32) => (if v_8 < (v_10 + (3 : Int32)) then (rc2 (w2 + (1 : Int32))) else ck w2 10 (ck l1 10 ((if (lI σ (1 + b) 15 w2) ≤ (lI σ (1 + b) 15 l1) then (rc2 (w2 + (1 : Int32))) else some w2))))))))))))))
def mg_stopperOf (b : Nat) (σ : ST) (a1 : Int32) : Option Int32 :=
  wl1 (mg_stopperOf_B2 b σ a1) FU (0 : Int32)
abbrev rm_X2_stopperOf : Room := rmf 1 21
set_option maxHeartbeats 4000000 in
set_option maxRecDepth 100000 in
theorem mt_X2_stopperOf (l : Launch) (G : GT) (b : Nat) (hbb : b < 2) (σ : ST) (a1 : Int32) {r : Int32} (h : mg_stopperOf b σ a1 = some r) : CI l cp_ft G yX2_stopperOf (ws_ yX2_stopperOf cX2_stopperOf 3 (some .int)) rm_X2_stopperOf 0 0 [.ref (G.2.2.1 (15 + 17 * b)), .int a1] σ (r, σ) := by
  refine m_enterI (by decide) rfl (lv := [(0, .ref (G.2.2.1 (15 + 17 * b))), (1, .int a1)]) rfl ?_
  intro p e s m args below meth c H locs ls Q X hret hP hl
  have hx := X.1.1
  have hb := X.1.2.1
  have hown := X.1.2.2.2.1
  have hts := X.1.2.2.2.2
  unfold mg_stopperOf at h
  refine lv_iconst (v := (0 : Int32)) hx hb dX2_stopperOf_0 (by decide) ?_
  refine lv_istore_n (lv' := [(2, .int (0 : Int32)), (0, .ref (G.2.2.1 (15 + 17 * b))), (1, .int a1)]) hx hb dX2_stopperOf_1 rfl hl (by decide) rfl (fun ls hl => ?_)
  have hL_13 : ∀ (n : Nat) (w_14 : Int32) (H : Heap) (locs : List Loc) (ls : Array Slot), wl1 (mg_stopperOf_B2 b σ a1) n w_14 = some r → PS cp_ft G s σ H locs → lv_has ls 3 [(0, .ref (G.2.2.1 (15 + 17 * b))), (1, .int a1), (2, .int w_14)] → W p l e rm_X2_stopperOf s m args below meth c H locs 0 0 Q (F0 m 2 ls []) := by
    intro n
    induction n with
    | zero => intro w_14 H locs ls h; cases h
    | succ n ih =>
      intro w_14 H locs ls h hP hl
      have h : mg_stopperOf_B2 b σ a1 (wl1 (mg_stopperOf_B2 b σ a1) n) w_14 = some _ := h
      generalize wl1 (mg_stopperOf_B2 b σ a1) n = rc_15 at h ih
      unfold mg_stopperOf_B2 at h
      refine lv_iload_n hx hb dX2_stopperOf_2 rfl (lv_at hl 2 rfl) ?_
      refine lv_aload_n hx hb dX2_stopperOf_3 rfl (lv_at hl 0 rfl) ?_
      refine r_geta X hP (15 + 17 * b) (mg_c b hbb) lk_2 21 (Nat.le_of_ble_eq_true rfl) q230 (mg_f21 b) dX2_stopperOf_4 ?_
      refine r_getiN X hP 0 cp_c0 lk_0 3 (Nat.le_of_ble_eq_true rfl) q287 cp_f3 dX2_stopperOf_7 ?_
      refine lv_icmp_ge (tgt := 88) hx hb dX2_stopperOf_10 (by decide) (fun c_16 => ?_) (fun c_16 => ?_)
      · have h := it_t h c_16
        refine lv_bipush (v := (-2 : Int32)) hx hb dX2_stopperOf_88 (by decide) ?_
        exact hret _ _ _ _ _ _ dX2_stopperOf_90 rfl (congrArg (fun z9 => (z9, σ)) (Option.some.inj h)) hP
      · have h := it_f h c_16
        refine lv_iload_n hx hb dX2_stopperOf_13 rfl (lv_at hl 2 rfl) ?_
        refine lv_iload_n hx hb dX2_stopperOf_14 rfl (lv_at hl 1 rfl) ?_
        refine lv_icmp_eq (tgt := 82) hx hb dX2_stopperOf_15 (by decide) (fun c_17 => ?_) (fun c_17 => ?_)
        · have h := it_t h c_17
          refine lv_iinc (v := (w_14 + (1 : Int32))) (lv' := [(2, .int (w_14 + (1 : Int32))), (0, .ref (G.2.2.1 (15 + 17 * b))), (1, .int a1)]) hx hb dX2_stopperOf_82 hl (k := 2) rfl rfl (by decide) rfl (fun ls hl => ?_)
          refine lv_goto (tgt := 2) hx hb dX2_stopperOf_85 (by decide) ?_
          exact ih _ _ _ _ h hP (lv_sub hl [1, 2, 0] rfl)
        · have h := it_f h c_17
          refine lv_iload_n hx hb dX2_stopperOf_18 rfl (lv_at hl 2 rfl) ?_
          refine lv_aload_n hx hb dX2_stopperOf_19 rfl (lv_at hl 0 rfl) ?_
          refine r_geta X hP (15 + 17 * b) (mg_c b hbb) lk_2 13 (Nat.le_of_ble_eq_true rfl) q219 (mg_f13 b) dX2_stopperOf_20 ?_
          refine lv_iload_n hx hb dX2_stopperOf_23 rfl (lv_at hl 1 rfl) ?_
          refine r_iald X hP (16 + 17 * b + 13) (mg_a13 b hbb) (ck_in h) dX2_stopperOf_24 ?_
          have h := ck_k h
          refine lv_icmp_eq (tgt := 82) hx hb dX2_stopperOf_25 (by decide) (fun c_18 => ?_) (fun c_18 => ?_)
          · have h := it_t h c_18
            refine lv_iinc (v := (w_14 + (1 : Int32))) (lv' := [(2, .int (w_14 + (1 : Int32))), (0, .ref (G.2.2.1 (15 + 17 * b))), (1, .int a1)]) hx hb dX2_stopperOf_82 hl (k := 2) rfl rfl (by decide) rfl (fun ls hl => ?_)
            refine lv_goto (tgt := 2) hx hb dX2_stopperOf_85 (by decide) ?_
            exact ih _ _ _ _ h hP (lv_sub hl [1, 2, 0] rfl)
          · have h := it_f h c_18
            refine lv_aload_n hx hb dX2_stopperOf_28 rfl (lv_at hl 0 rfl) ?_
            refine lv_iload_n hx hb dX2_stopperOf_29 rfl (lv_at hl 2 rfl) ?_
            obtain ⟨r_20, e_19, h⟩ := bo_ex h
            refine r_calli (r_runV (rest := []) X hP (15 + 17 * b) (mg_c b hbb) lk_2 (mt_X2_isThere l G b hbb σ w_14 e_19) (cwV 1 hts (lw_V q956 q957 q958 q112 q959) rfl rfl rfl ⟨rfl, cdX2_isThere⟩ ⟨Nat.le_of_ble_eq_true rfl, Nat.le_of_ble_eq_true rfl⟩) rfl hl.1 rfl (Nat.le_of_ble_eq_true rfl) dX2_stopperOf_30 ⟨Nat.le_refl _, Nat.le_refl _⟩) hP (fun H locs hP => ?_)
            refine lv_if_eq (tgt := 82) hx hb dX2_stopperOf_33 (by decide) (fun c_21 => ?_) (fun c_21 => ?_)
            · have h := it_t h c_21
              refine lv_iinc (v := (w_14 + (1 : Int32))) (lv' := [(2, .int (w_14 + (1 : Int32))), (0, .ref (G.2.2.1 (15 + 17 * b))), (1, .int a1)]) hx hb dX2_stopperOf_82 hl (k := 2) rfl rfl (by decide) rfl (fun ls hl => ?_)
              refine lv_goto (tgt := 2) hx hb dX2_stopperOf_85 (by decide) ?_
              exact ih _ _ _ _ h hP (lv_sub hl [1, 2, 0] rfl)
            · have h := it_f h c_21
              refine lv_aload_n hx hb dX2_stopperOf_36 rfl (lv_at hl 0 rfl) ?_
              refine r_geta X hP (15 + 17 * b) (mg_c b hbb) lk_2 21 (Nat.le_of_ble_eq_true rfl) q230 (mg_f21 b) dX2_stopperOf_37 ?_
              refine r_getaN X hP 0 cp_c0 lk_0 0 (Nat.le_of_ble_eq_true rfl) q281 cp_f0 dX2_stopperOf_40 ?_
              refine lv_iload_n hx hb dX2_stopperOf_43 rfl (lv_at hl 2 rfl) ?_
              refine r_aald (t := 0) X hP 1 cp_c1 rfl (ck_in h) dX2_stopperOf_44 ?_
              have h := ck_k h
              obtain ⟨v_23, e_22, h⟩ := bo_ex h
              refine r_pgiN (r := (lR σ 0 0 w_14)) X hP lk_4 2 (Nat.le_of_ble_eq_true rfl) e_22 q412 dX2_stopperOf_45 ?_
              refine lv_aload_n hx hb dX2_stopperOf_48 rfl (lv_at hl 0 rfl) ?_
              refine r_geta X hP (15 + 17 * b) (mg_c b hbb) lk_2 21 (Nat.le_of_ble_eq_true rfl) q230 (mg_f21 b) dX2_stopperOf_49 ?_
              refine r_getaN X hP 0 cp_c0 lk_0 0 (Nat.le_of_ble_eq_true rfl) q281 cp_f0 dX2_stopperOf_52 ?_
              refine lv_iload_n hx hb dX2_stopperOf_55 rfl (lv_at hl 1 rfl) ?_
              refine r_aald (t := 0) X hP 1 cp_c1 rfl (ck_in h) dX2_stopperOf_56 ?_
              have h := ck_k h
              obtain ⟨v_25, e_24, h⟩ := bo_ex h
              refine r_pgiN (r := (lR σ 0 0 a1)) X hP lk_4 2 (Nat.le_of_ble_eq_true rfl) e_24 q412 dX2_stopperOf_57 ?_
              refine lv_iconst (v := (3 : Int32)) hx hb dX2_stopperOf_60 (by decide) ?_
              refine lv_iadd hx hb dX2_stopperOf_61 ?_
              refine lv_icmp_lt (tgt := 82) hx hb dX2_stopperOf_62 (by decide) (fun c_26 => ?_) (fun c_26 => ?_)
              · have h := it_t h c_26
                refine lv_iinc (v := (w_14 + (1 : Int32))) (lv' := [(2, .int (w_14 + (1 : Int32))), (0, .ref (G.2.2.1 (15 + 17 * b))), (1, .int a1)]) hx hb dX2_stopperOf_82 hl (k := 2) rfl rfl (by decide) rfl (fun ls hl => ?_)
                refine lv_goto (tgt := 2) hx hb dX2_stopperOf_85 (by decide) ?_
                exact ih _ _ _ _ h hP (lv_sub hl [1, 2, 0] rfl)
              · have h := it_f h c_26
                refine lv_aload_n hx hb dX2_stopperOf_65 rfl (lv_at hl 0 rfl) ?_
                refine r_geta X hP (15 + 17 * b) (mg_c b hbb) lk_2 15 (Nat.le_of_ble_eq_true rfl) q221 (mg_f15 b) dX2_stopperOf_66 ?_
                refine lv_iload_n hx hb dX2_stopperOf_69 rfl (lv_at hl 2 rfl) ?_
                refine r_iald X hP (16 + 17 * b + 15) (mg_a15 b hbb) (ck_in h) dX2_stopperOf_70 ?_
                have h := ck_k h
                refine lv_aload_n hx hb dX2_stopperOf_71 rfl (lv_at hl 0 rfl) ?_
                refine r_geta X hP (15 + 17 * b) (mg_c b hbb) lk_2 15 (Nat.le_of_ble_eq_true rfl) q221 (mg_f15 b) dX2_stopperOf_72 ?_
                refine lv_iload_n hx hb dX2_stopperOf_75 rfl (lv_at hl 1 rfl) ?_
                refine r_iald X hP (16 + 17 * b + 15) (mg_a15 b hbb) (ck_in h) dX2_stopperOf_76 ?_
                have h := ck_k h
                refine lv_icmp_le (tgt := 82) hx hb dX2_stopperOf_77 (by decide) (fun c_27 => ?_) (fun c_27 => ?_)
                · have h := it_t h c_27
                  refine lv_iinc (v := (w_14 + (1 : Int32))) (lv' := [(2, .int (w_14 + (1 : Int32))), (0, .ref (G.2.2.1 (15 + 17 * b))), (1, .int a1)]) hx hb dX2_stopperOf_82 hl (k := 2) rfl rfl (by decide) rfl (fun ls hl => ?_)
                  refine lv_goto (tgt := 2) hx hb dX2_stopperOf_85 (by decide) ?_
                  exact ih _ _ _ _ h hP (lv_sub hl [1, 2, 0] rfl)
                · have h := it_f h c_27
                  refine lv_iload_n hx hb dX2_stopperOf_80 rfl (lv_at hl 2 rfl) ?_
                  exact hret _ _ _ _ _ _ dX2_stopperOf_81 rfl (congrArg (fun z9 => (z9, σ)) (Option.some.inj h)) hP
  exact hL_13 _ _ _ _ _ h hP (lv_sub hl [1, 2, 0] rfl)
def mg_againOf_B2 (b : Nat) (σ : ST) (l1 : Int32) (l2 : Int32) (rc2 : Int32 → Option Int32) (w3 : Int32) : Option Int32 :=
  (if (gI σ 0 5) ≤ w3 then some (-2 : Int32) else ck w3 20 (bo (pgi σ (lR σ 0 2 w3) 6 0) (fun (v_3 : Int32) => (if v_3 = l2 then ck w3 20 (bo (pis σ (lR σ 0 2 w3) 6) (fun (a_5 : Nat) => bo (cd_isOf σ a_5 l1) (fun (r_8 : Int32) => (if r_8 = 0 then (rc2 (w3 + (1 : Int32))) else (if (((gI σ (1 + b) 18) >>> (w3 &&& 31)) &&& (1 : Int32)) = (1 : Int32) then some w3 else (rc2 (w3 + (1 : Int32)))))))) else (rc2 (w3 + (1 : Int32)))))))
def mg_againOf (b : Nat) (σ : ST) (a1 : Int32) (a2 : Int32) : Option Int32 :=
  wl1 (mg_againOf_B2 b σ a1 a2) FU (0 : Int32)
abbrev rm_X2_againOf : Room := rmf 1 21
set_option maxHeartbeats 4000000 in
set_option maxRecDepth 100000 in
theorem mt_X2_againOf (l : Launch) (G : GT) (b : Nat) (hbb : b < 2) (σ : ST) (a1 : Int32) (a2 : Int32) {r : Int32} (h : mg_againOf b σ a1 a2 = some r) : CI l cp_ft G yX2_againOf (ws_ yX2_againOf cX2_againOf 4 (some .int)) rm_X2_againOf 0 0 [.ref (G.2.2.1 (15 + 17 * b)), .int a1, .int a2] σ (r, σ) := by
  refine m_enterI (by decide) rfl (lv := [(0, .ref (G.2.2.1 (15 + 17 * b))), (1, .int a1), (2, .int a2)]) rfl ?_
  intro p e s m args below meth c H locs ls Q X hret hP hl
  have hx := X.1.1
  have hb := X.1.2.1
  have hown := X.1.2.2.2.1
  have hts := X.1.2.2.2.2
  unfold mg_againOf at h
  refine lv_iconst (v := (0 : Int32)) hx hb dX2_againOf_0 (by decide) ?_
  refine lv_istore_n (lv' := [(3, .int (0 : Int32)), (0, .ref (G.2.2.1 (15 + 17 * b))), (1, .int a1), (2, .int a2)]) hx hb dX2_againOf_1 rfl hl (by decide) rfl (fun ls hl => ?_)
  have hL_11 : ∀ (n : Nat) (w_12 : Int32) (H : Heap) (locs : List Loc) (ls : Array Slot), wl1 (mg_againOf_B2 b σ a1 a2) n w_12 = some r → PS cp_ft G s σ H locs → lv_has ls 4 [(0, .ref (G.2.2.1 (15 + 17 * b))), (1, .int a1), (2, .int a2), (3, .int w_12)] → W p l e rm_X2_againOf s m args below meth c H locs 0 0 Q (F0 m 2 ls []) := by
    intro n
    induction n with
    | zero => intro w_12 H locs ls h; cases h
    | succ n ih =>
      intro w_12 H locs ls h hP hl
      have h : mg_againOf_B2 b σ a1 a2 (wl1 (mg_againOf_B2 b σ a1 a2) n) w_12 = some _ := h
      generalize wl1 (mg_againOf_B2 b σ a1 a2) n = rc_13 at h ih
      unfold mg_againOf_B2 at h
      refine lv_iload_n hx hb dX2_againOf_2 rfl (lv_at hl 3 rfl) ?_
      refine lv_aload_n hx hb dX2_againOf_3 rfl (lv_at hl 0 rfl) ?_
      refine r_geta X hP (15 + 17 * b) (mg_c b hbb) lk_2 21 (Nat.le_of_ble_eq_true rfl) q230 (mg_f21 b) dX2_againOf_4 ?_
      refine r_getiN X hP 0 cp_c0 lk_0 5 (Nat.le_of_ble_eq_true rfl) q290 cp_f5 dX2_againOf_7 ?_
      refine lv_icmp_ge (tgt := 65) hx hb dX2_againOf_10 (by decide) (fun c_14 => ?_) (fun c_14 => ?_)
      · have h := it_t h c_14
        refine lv_bipush (v := (-2 : Int32)) hx hb dX2_againOf_65 (by decide) ?_
        exact hret _ _ _ _ _ _ dX2_againOf_67 rfl (congrArg (fun z9 => (z9, σ)) (Option.some.inj h)) hP
      · have h := it_f h c_14
        refine lv_aload_n hx hb dX2_againOf_13 rfl (lv_at hl 0 rfl) ?_
        refine r_geta X hP (15 + 17 * b) (mg_c b hbb) lk_2 21 (Nat.le_of_ble_eq_true rfl) q230 (mg_f21 b) dX2_againOf_14 ?_
        refine r_getaN X hP 0 cp_c0 lk_0 2 (Nat.le_of_ble_eq_true rfl) q285 cp_f2 dX2_againOf_17 ?_
        refine lv_iload_n hx hb dX2_againOf_20 rfl (lv_at hl 3 rfl) ?_
        refine r_aald (t := 2) X hP 3 cp_c3 rfl (ck_in h) dX2_againOf_21 ?_
        have h := ck_k h
        obtain ⟨v_16, e_15, h⟩ := bo_ex h
        refine r_pgiN (r := (lR σ 0 2 w_12)) X hP lk_6 0 (Nat.le_of_ble_eq_true rfl) e_15 q466 dX2_againOf_22 ?_
        refine lv_iload_n hx hb dX2_againOf_25 rfl (lv_at hl 2 rfl) ?_
        refine lv_icmp_ne (tgt := 59) hx hb dX2_againOf_26 (by decide) (fun c_17 => ?_) (fun c_17 => ?_)
        · have h := it_f h c_17
          refine lv_iinc (v := (w_12 + (1 : Int32))) (lv' := [(3, .int (w_12 + (1 : Int32))), (0, .ref (G.2.2.1 (15 + 17 * b))), (1, .int a1), (2, .int a2)]) hx hb dX2_againOf_59 hl (k := 3) rfl rfl (by decide) rfl (fun ls hl => ?_)
          refine lv_goto (tgt := 2) hx hb dX2_againOf_62 (by decide) ?_
          exact ih _ _ _ _ h hP (lv_sub hl [1, 2, 3, 0] rfl)
        · have h := it_t h c_17
          refine lv_aload_n hx hb dX2_againOf_29 rfl (lv_at hl 0 rfl) ?_
          refine r_geta X hP (15 + 17 * b) (mg_c b hbb) lk_2 21 (Nat.le_of_ble_eq_true rfl) q230 (mg_f21 b) dX2_againOf_30 ?_
          refine r_getaN X hP 0 cp_c0 lk_0 2 (Nat.le_of_ble_eq_true rfl) q285 cp_f2 dX2_againOf_33 ?_
          refine lv_iload_n hx hb dX2_againOf_36 rfl (lv_at hl 3 rfl) ?_
          refine r_aald (t := 2) X hP 3 cp_c3 rfl (ck_in h) dX2_againOf_37 ?_
          have h := ck_k h
          refine lv_iload_n hx hb dX2_againOf_38 rfl (lv_at hl 1 rfl) ?_
          obtain ⟨a_18, e_19, h⟩ := bo_ex h
          rw [rr_known (pis_ex e_19).1]
          obtain ⟨r_21, e_20, h⟩ := bo_ex h
          refine r_calli (r_runP (rest := []) X hP (pis_ex e_19).2 lk_6 (mt_X6_isOf l G σ a_18 a1 e_20) (cwV 1 hts (lw_V q960 q961 q962 q116 q963) rfl rfl rfl ⟨rfl, cdX6_isOf⟩ ⟨Nat.le_of_ble_eq_true rfl, Nat.le_of_ble_eq_true rfl⟩) rfl hl.1 rfl (Nat.le_of_ble_eq_true rfl) dX2_againOf_39 ⟨Nat.le_refl _, Nat.le_refl _⟩) hP (fun H locs hP => ?_)
          refine lv_if_eq (tgt := 59) hx hb dX2_againOf_42 (by decide) (fun c_22 => ?_) (fun c_22 => ?_)
          · have h := it_t h c_22
            refine lv_iinc (v := (w_12 + (1 : Int32))) (lv' := [(3, .int (w_12 + (1 : Int32))), (0, .ref (G.2.2.1 (15 + 17 * b))), (1, .int a1), (2, .int a2)]) hx hb dX2_againOf_59 hl (k := 3) rfl rfl (by decide) rfl (fun ls hl => ?_)
            refine lv_goto (tgt := 2) hx hb dX2_againOf_62 (by decide) ?_
            exact ih _ _ _ _ h hP (lv_sub hl [1, 2, 3, 0] rfl)
          · have h := it_f h c_22
            refine lv_aload_n hx hb dX2_againOf_45 rfl (lv_at hl 0 rfl) ?_
            refine r_geti X hP (15 + 17 * b) (mg_c b hbb) lk_2 18 (Nat.le_of_ble_eq_true rfl) q226 (mg_f18 b) dX2_againOf_46 ?_
            refine lv_iload_n hx hb dX2_againOf_49 rfl (lv_at hl 3 rfl) ?_
            refine lv_ishr hx hb dX2_againOf_50 ?_
            refine lv_iconst (v := (1 : Int32)) hx hb dX2_againOf_51 (by decide) ?_
            refine lv_iand hx hb dX2_againOf_52 ?_
            refine lv_iconst (v := (1 : Int32)) hx hb dX2_againOf_53 (by decide) ?_
            refine lv_icmp_ne (tgt := 59) hx hb dX2_againOf_54 (by decide) (fun c_23 => ?_) (fun c_23 => ?_)
            · have h := it_f h c_23
              refine lv_iinc (v := (w_12 + (1 : Int32))) (lv' := [(3, .int (w_12 + (1 : Int32))), (0, .ref (G.2.2.1 (15 + 17 * b))), (1, .int a1), (2, .int a2)]) hx hb dX2_againOf_59 hl (k := 3) rfl rfl (by decide) rfl (fun ls hl => ?_)
              refine lv_goto (tgt := 2) hx hb dX2_againOf_62 (by decide) ?_
              exact ih _ _ _ _ h hP (lv_sub hl [1, 2, 3, 0] rfl)
            · have h := it_t h c_23
              refine lv_iload_n hx hb dX2_againOf_57 rfl (lv_at hl 3 rfl) ?_
              exact hret _ _ _ _ _ _ dX2_againOf_58 rfl (congrArg (fun z9 => (z9, σ)) (Option.some.inj h)) hP
  exact hL_11 _ _ _ _ _ h hP (lv_sub hl [1, 2, 3, 0] rfl)
def mg_speak_B159 (b : Nat) (l1 : Int32) (l2 : Int32) (l7 : Int32) (rc159 : Int32 → Int32 → ST → Option (ST)) (w6 : Int32) (w8 : Int32) (σ : ST) : Option (ST) :=
  (if (gI σ 0 5) ≤ w8 then some (σ) else (if w6 ≤ 0 then some (σ) else ck w8 20 (bo (pgi σ (lR σ 0 2 w8) 6 0) (fun (v_30 : Int32) => bo2 (if v_30 = l2 then ck w8 20 (bo (pis σ (lR σ 0 2 w8) 6) (fun (a_36 : Nat) => bo (cd_isOf σ a_36 l1) (fun (r_39 : Int32) => (if r_39 = 0 then some (w6, σ) else (if (((gI σ (1 + b) 18) >>> (w8 &&& 31)) &&& (1 : Int32)) = (1 : Int32) then some (w6, σ) else ck w8 20 (st_ (aI σ (1 + b) 8 w8 l1) (fun (σ_42 : ST) => ck w8 20 (st_ (aI σ_42 (1 + b) 9 w8 (gI σ_42 (1 + b) 17)) (fun (σ_44 : ST) => ck (gI σ_44 (1 + b) 17) 200 (ck (gI σ_44 (1 + b) 17) 200 (st_ (aI σ_44 (1 + b) 5 (gI σ_44 (1 + b) 17) ((lI σ_44 (1 + b) 5 (gI σ_44 (1 + b) 17)) ||| ((1 : Int32) <<< (w8 &&& 31)))) (fun (σ_46 : ST) => some ((w6 + (-1 : Int32)), σ_46))))))))))))) else some (w6, σ)) (fun (y_31 : Int32) (σ_32 : ST) => (rc159 y_31 (w8 + (1 : Int32)) σ_32))))))
def mg_speak (b : Nat) (σ : ST) (a1 : Int32) (a2 : Int32) (a3 : Int32) : Option ST :=
  bo (mg_stopperOf b σ a1) (fun (r_2 : Int32) => bo (mg_unsaid b σ a1 a2) (fun (r_4 : Int32) => bo (if (gI σ 0 7) = (1 : Int32) then nz (3 : Int32) (some (((((2 : Int32) * (if ((1 : Int32) + r_4) < a3 then ((1 : Int32) + r_4) else a3)) + (2 : Int32)) / (3 : Int32)))) else some ((if ((1 : Int32) + r_4) < a3 then ((1 : Int32) + r_4) else a3))) (fun (y_5 : Int32) => bo3 (if r_2 < 0 then some ((if (a3 - (1 : Int32)) < r_4 then (a3 - (1 : Int32)) else r_4), y_5, σ) else ck r_2 10 (ck r_2 10 (st_ (aI σ (1 + b) 11 r_2 ((lI σ (1 + b) 11 r_2) + (1 : Int32))) (fun (σ_109 : ST) => some ((if (1 : Int32) < (if (a3 - (1 : Int32)) < r_4 then (a3 - (1 : Int32)) else r_4) then (1 : Int32) else (if (a3 - (1 : Int32)) < r_4 then (a3 - (1 : Int32)) else r_4)), (1 : Int32), σ_109))))) (fun (y_8 : Int32) (y_9 : Int32) (σ_10 : ST) => ck a1 10 (st_ (aI σ_10 (1 + b) 13 a1 r_2) (fun (σ_13 : ST) => ck (gI σ_13 (1 + b) 17) 200 (st_ (aI σ_13 (1 + b) 2 (gI σ_13 (1 + b) 17) a1) (fun (σ_15 : ST) => ck (gI σ_15 (1 + b) 17) 200 (st_ (aI σ_15 (1 + b) 3 (gI σ_15 (1 + b) 17) a2) (fun (σ_17 : ST) => ck (gI σ_17 (1 + b) 17) 200 (st_ (aI σ_17 (1 + b) 1 (gI σ_17 (1 + b) 17) (gI σ_17 (1 + b) 16)) (fun (σ_19 : ST) => ck (gI σ_19 (1 + b) 17) 200 (st_ (aI σ_19 (1 + b) 4 (gI σ_19 (1 + b) 17) y_9) (fun (σ_21 : ST) => ck (gI σ_21 (1 + b) 17) 200 (st_ (aI σ_21 (1 + b) 5 (gI σ_21 (1 + b) 17) (0 : Int32)) (fun (σ_23 : ST) => ck (gI σ_23 (1 + b) 17) 200 (st_ (aI σ_23 (1 + b) 7 (gI σ_23 (1 + b) 17) r_2) (fun (σ_25 : ST) => bo (wl3 (mg_speak_B159 b a1 a2 y_9) FU y_8 (0 : Int32) σ_25) (fun (σ_49 : ST) => ck (gI σ_49 (1 + b) 17) 200 (bo (if (lI σ_49 (1 + b) 5 (gI σ_49 (1 + b) 17)) = 0 then bo (mg_againOf b σ_49 a1 a2) (fun (r_81 : Int32) => some (r_81)) else some ((-2 : Int32))) (fun (x_52 : Int32) => ck (gI σ_49 (1 + b) 17) 200 (st_ (aI σ_49 (1 + b) 6 (gI σ_49 (1 + b) 17) x_52) (fun (σ_55 : ST) => ck (gI σ_55 (1 + b) 17) 200 (bo (if (lI σ_55 (1 + b) 6 (gI σ_55 (1 + b) 17)) < 0 then some (σ_55) else ck (gI σ_55 (1 + b) 17) 200 (ck (lI σ_55 (1 + b) 6 (gI σ_55 (1 + b) 17)) 20 ((if (lI σ_55 (1 + b) 8 (lI σ_55 (1 + b) 6 (gI σ_55 (1 + b) 17))) < 0 then some (σ_55) else ck (gI σ_55 (1 + b) 17) 200 (ck (lI σ_55 (1 + b) 6 (gI σ_55 (1 + b) 17)) 20 ((if (lI σ_55 (1 + b) 8 (lI σ_55 (1 + b) 6 (gI σ_55 (1 + b) 17))) = a1 then some (σ_55) else ck a1 10 (ck a1 10 (st_ (aI σ_55 (1 + b) 12 a1 ((lI σ_55 (1 + b) 12 a1) + (1 : Int32))) (fun (σ_77 : ST) => some (σ_77))))))))))) (fun (σ_57 : ST) => ck (gI σ_57 (1 + b) 17) 200 (st_ (pI σ_57 (1 + b) 18 ((gI σ_57 (1 + b) 18) ||| (lI σ_57 (1 + b) 5 (gI σ_57 (1 + b) 17)))) (fun (σ_60 : ST) => st_ (pI σ_60 (1 + b) 16 ((gI σ_60 (1 + b) 16) + y_9)) (fun (σ_62 : ST) => ck a2 6 (ck a2 6 (st_ (aI σ_62 (1 + b) 0 a2 ((lI σ_62 (1 + b) 0 a2) + y_9)) (fun (σ_64 : ST) => ck a1 10 (ck a1 10 (st_ (aI σ_64 (1 + b) 10 a1 ((lI σ_64 (1 + b) 10 a1) + y_9)) (fun (σ_66 : ST) => ck a1 10 (ck a1 10 (st_ (aI σ_66 (1 + b) 14 a1 ((lI σ_66 (1 + b) 14 a1) + (1 : Int32))) (fun (σ_68 : ST) => st_ (pI σ_68 (1 + b) 19 a1) (fun (σ_70 : ST) => st_ (pI σ_70 (1 + b) 17 ((gI σ_70 (1 + b) 17) + (1 : Int32))) (fun (σ_72 : ST) => some σ_72)))))))))))))))))))))))))))))))))))))))
abbrev rm_X2_speak : Room := rmf 2 45
set_option maxHeartbeats 4000000 in
set_option maxRecDepth 100000 in
theorem mt_X2_speak (l : Launch) (G : GT) (b : Nat) (hbb : b < 2) (σ : ST) (a1 : Int32) (a2 : Int32) (a3 : Int32) {u : ST} (h : mg_speak b σ a1 a2 a3 = some u) : CV l cp_ft G yX2_speak (ws_ yX2_speak cX2_speak 9 none) rm_X2_speak 0 0 [.ref (G.2.2.1 (15 + 17 * b)), .int a1, .int a2, .int a3] σ u := by
  refine m_enterV (by decide) rfl (lv := [(0, .ref (G.2.2.1 (15 + 17 * b))), (1, .int a1), (2, .int a2), (3, .int a3)]) rfl ?_
  intro p e s m args below meth c H locs ls Q X hnm hret hP hl
  have hx := X.1.1
  have hb := X.1.2.1
  have hown := X.1.2.2.2.1
  have hts := X.1.2.2.2.2
  unfold mg_speak at h
  refine lv_aload_n hx hb dX2_speak_0 rfl (lv_at hl 0 rfl) ?_
  refine lv_iload_n hx hb dX2_speak_1 rfl (lv_at hl 1 rfl) ?_
  obtain ⟨r_2, e_1, h⟩ := bo_ex h
  refine r_calli (r_runV (rest := []) X hP (15 + 17 * b) (mg_c b hbb) lk_2 (mt_X2_stopperOf l G b hbb σ a1 e_1) (cwV 1 hts (lw_V q1033 q1035 qs36 q112 q1036) rfl rfl rfl ⟨rfl, cdX2_stopperOf⟩ ⟨Nat.le_of_ble_eq_true rfl, Nat.le_of_ble_eq_true rfl⟩) rfl hl.1 rfl (Nat.le_of_ble_eq_true rfl) dX2_speak_2 ⟨Nat.le_refl _, Nat.le_refl _⟩) hP (fun H locs hP => ?_)
  refine lv_istore (lv' := [(4, .int r_2), (0, .ref (G.2.2.1 (15 + 17 * b))), (1, .int a1), (2, .int a2), (3, .int a3)]) hx hb dX2_speak_5 hl (by decide) rfl (fun ls hl => ?_)
  refine lv_aload_n hx hb dX2_speak_7 rfl (lv_at hl 1 rfl) ?_
  refine lv_iload_n hx hb dX2_speak_8 rfl (lv_at hl 2 rfl) ?_
  refine lv_iload_n hx hb dX2_speak_9 rfl (lv_at hl 3 rfl) ?_
  obtain ⟨r_4, e_3, h⟩ := bo_ex h
  refine r_calli (r_runV (rest := []) X hP (15 + 17 * b) (mg_c b hbb) lk_2 (mt_X2_unsaid l G b hbb σ a1 a2 e_3) (cwV 2 hts (lw_V q968 q970 qs27 q112 q971) rfl rfl rfl ⟨rfl, cdX2_unsaid⟩ ⟨Nat.le_of_ble_eq_true rfl, Nat.le_of_ble_eq_true rfl⟩) rfl hl.1 rfl (Nat.le_of_ble_eq_true rfl) dX2_speak_10 ⟨Nat.le_refl _, Nat.le_refl _⟩) hP (fun H locs hP => ?_)
  refine lv_istore (lv' := [(5, .int r_4), (4, .int r_2), (0, .ref (G.2.2.1 (15 + 17 * b))), (1, .int a1), (2, .int a2), (3, .int a3)]) hx hb dX2_speak_13 hl (by decide) rfl (fun ls hl => ?_)
  refine lv_iload hx hb dX2_speak_15 (lv_at hl 0 rfl) ?_
  refine lv_iload_n hx hb dX2_speak_17 rfl (lv_at hl 5 rfl) ?_
  refine lv_iconst (v := (1 : Int32)) hx hb dX2_speak_18 (by decide) ?_
  refine lv_isub hx hb dX2_speak_19 ?_
  refine va_mmin (rest := []) hx hb (X.1.2.2.1.trans hl.1.symm) hown (hts _ q1037) (hts _ q795) (hts _ q128) (hts _ q796) (Nat.le_of_ble_eq_true rfl) (Nat.le_of_ble_eq_true rfl) (Nat.le_of_ble_eq_true rfl) (Nat.le_of_ble_eq_true rfl) dX2_speak_20 ?_
  refine lv_istore (lv' := [(6, .int (if (a3 - (1 : Int32)) < r_4 then (a3 - (1 : Int32)) else r_4)), (5, .int r_4), (4, .int r_2), (0, .ref (G.2.2.1 (15 + 17 * b))), (1, .int a1), (2, .int a2), (3, .int a3)]) hx hb dX2_speak_23 hl (by decide) rfl (fun ls hl => ?_)
  refine lv_iload_n hx hb dX2_speak_25 rfl (lv_at hl 6 rfl) ?_
  refine lv_iconst (v := (1 : Int32)) hx hb dX2_speak_26 (by decide) ?_
  refine lv_iload hx hb dX2_speak_27 (lv_at hl 1 rfl) ?_
  refine lv_iadd hx hb dX2_speak_29 ?_
  refine va_mmin (rest := []) hx hb (X.1.2.2.1.trans hl.1.symm) hown (hts _ q1037) (hts _ q795) (hts _ q128) (hts _ q796) (Nat.le_of_ble_eq_true rfl) (Nat.le_of_ble_eq_true rfl) (Nat.le_of_ble_eq_true rfl) (Nat.le_of_ble_eq_true rfl) dX2_speak_30 ?_
  refine lv_istore (lv' := [(7, .int (if ((1 : Int32) + r_4) < a3 then ((1 : Int32) + r_4) else a3)), (6, .int (if (a3 - (1 : Int32)) < r_4 then (a3 - (1 : Int32)) else r_4)), (5, .int r_4), (4, .int r_2), (0, .ref (G.2.2.1 (15 + 17 * b))), (1, .int a1), (2, .int a2), (3, .int a3)]) hx hb dX2_speak_33 hl (by decide) rfl (fun ls hl => ?_)
  refine lv_aload_n hx hb dX2_speak_35 rfl (lv_at hl 4 rfl) ?_
  refine r_geta X hP (15 + 17 * b) (mg_c b hbb) lk_2 21 (Nat.le_of_ble_eq_true rfl) q230 (mg_f21 b) dX2_speak_36 ?_
  refine r_getiN X hP 0 cp_c0 lk_0 7 (Nat.le_of_ble_eq_true rfl) q294 cp_f7 dX2_speak_39 ?_
  refine lv_iconst (v := (1 : Int32)) hx hb dX2_speak_42 (by decide) ?_
  obtain ⟨y_5, h_6, h⟩ := bo_ex h
  have hJ_7 : ∀ (H : Heap) (locs : List Loc) (ls : Array Slot), PS cp_ft G s σ H locs → lv_has ls 9 [(0, .ref (G.2.2.1 (15 + 17 * b))), (1, .int a1), (2, .int a2), (4, .int r_2), (6, .int (if (a3 - (1 : Int32)) < r_4 then (a3 - (1 : Int32)) else r_4)), (7, .int y_5)] → W p l e rm_X2_speak s m args below meth c H locs 0 0 Q (F0 m 56 ls []) := by
    intro H locs ls hP hl
    refine lv_iload hx hb dX2_speak_56 (lv_at hl 3 rfl) ?_
    obtain ⟨y_8, y_9, σ_10, h_11, h⟩ := bo3_ex h
    have hJ_12 : ∀ (H : Heap) (locs : List Loc) (ls : Array Slot), PS cp_ft G s σ_10 H locs → lv_has ls 9 [(0, .ref (G.2.2.1 (15 + 17 * b))), (1, .int a1), (2, .int a2), (4, .int r_2), (6, .int y_8), (7, .int y_9)] → W p l e rm_X2_speak s m args below meth c H locs 0 0 Q (F0 m 83 ls []) := by
      intro H locs ls hP hl
      refine lv_aload_n hx hb dX2_speak_83 rfl (lv_at hl 0 rfl) ?_
      refine r_geta X hP (15 + 17 * b) (mg_c b hbb) lk_2 13 (Nat.le_of_ble_eq_true rfl) q219 (mg_f13 b) dX2_speak_84 ?_
      refine lv_iload_n hx hb dX2_speak_87 rfl (lv_at hl 1 rfl) ?_
      refine lv_iload hx hb dX2_speak_88 (lv_at hl 3 rfl) ?_
      refine r_iast X cp_w hP (16 + 17 * b + 13) (mg_a13 b hbb) (ck_in h) dX2_speak_90 (fun σ_13 H locs e_14 hP => ?_)
      have h := st_k (ck_k h) e_14
      refine lv_aload_n hx hb dX2_speak_91 rfl (lv_at hl 0 rfl) ?_
      refine r_geta X hP (15 + 17 * b) (mg_c b hbb) lk_2 2 (Nat.le_of_ble_eq_true rfl) q197 (mg_f2 b) dX2_speak_92 ?_
      refine lv_aload_n hx hb dX2_speak_95 rfl (lv_at hl 0 rfl) ?_
      refine r_geti X hP (15 + 17 * b) (mg_c b hbb) lk_2 17 (Nat.le_of_ble_eq_true rfl) q224 (mg_f17 b) dX2_speak_96 ?_
      refine lv_iload_n hx hb dX2_speak_99 rfl (lv_at hl 1 rfl) ?_
      refine r_iast X cp_w hP (16 + 17 * b + 2) (mg_a2 b hbb) (ck_in h) dX2_speak_100 (fun σ_15 H locs e_16 hP => ?_)
      have h := st_k (ck_k h) e_16
      refine lv_aload_n hx hb dX2_speak_101 rfl (lv_at hl 0 rfl) ?_
      refine r_geta X hP (15 + 17 * b) (mg_c b hbb) lk_2 3 (Nat.le_of_ble_eq_true rfl) q199 (mg_f3 b) dX2_speak_102 ?_
      refine lv_aload_n hx hb dX2_speak_105 rfl (lv_at hl 0 rfl) ?_
      refine r_geti X hP (15 + 17 * b) (mg_c b hbb) lk_2 17 (Nat.le_of_ble_eq_true rfl) q224 (mg_f17 b) dX2_speak_106 ?_
      refine lv_iload_n hx hb dX2_speak_109 rfl (lv_at hl 2 rfl) ?_
      refine r_iast X cp_w hP (16 + 17 * b + 3) (mg_a3 b hbb) (ck_in h) dX2_speak_110 (fun σ_17 H locs e_18 hP => ?_)
      have h := st_k (ck_k h) e_18
      refine lv_aload_n hx hb dX2_speak_111 rfl (lv_at hl 0 rfl) ?_
      refine r_geta X hP (15 + 17 * b) (mg_c b hbb) lk_2 1 (Nat.le_of_ble_eq_true rfl) q195 (mg_f1 b) dX2_speak_112 ?_
      refine lv_aload_n hx hb dX2_speak_115 rfl (lv_at hl 0 rfl) ?_
      refine r_geti X hP (15 + 17 * b) (mg_c b hbb) lk_2 17 (Nat.le_of_ble_eq_true rfl) q224 (mg_f17 b) dX2_speak_116 ?_
      refine lv_aload_n hx hb dX2_speak_119 rfl (lv_at hl 0 rfl) ?_
      refine r_geti X hP (15 + 17 * b) (mg_c b hbb) lk_2 16 (Nat.le_of_ble_eq_true rfl) q222 (mg_f16 b) dX2_speak_120 ?_
      refine r_iast X cp_w hP (16 + 17 * b + 1) (mg_a1 b hbb) (ck_in h) dX2_speak_123 (fun σ_19 H locs e_20 hP => ?_)
      have h := st_k (ck_k h) e_20
      refine lv_aload_n hx hb dX2_speak_124 rfl (lv_at hl 0 rfl) ?_
      refine r_geta X hP (15 + 17 * b) (mg_c b hbb) lk_2 4 (Nat.le_of_ble_eq_true rfl) q201 (mg_f4 b) dX2_speak_125 ?_
      refine lv_aload_n hx hb dX2_speak_128 rfl (lv_at hl 0 rfl) ?_
      refine r_geti X hP (15 + 17 * b) (mg_c b hbb) lk_2 17 (Nat.le_of_ble_eq_true rfl) q224 (mg_f17 b) dX2_speak_129 ?_
      refine lv_iload hx hb dX2_speak_132 (lv_at hl 5 rfl) ?_
      refine r_iast X cp_w hP (16 + 17 * b + 4) (mg_a4 b hbb) (ck_in h) dX2_speak_134 (fun σ_21 H locs e_22 hP => ?_)
      have h := st_k (ck_k h) e_22
      refine lv_aload_n hx hb dX2_speak_135 rfl (lv_at hl 0 rfl) ?_
      refine r_geta X hP (15 + 17 * b) (mg_c b hbb) lk_2 5 (Nat.le_of_ble_eq_true rfl) q203 (mg_f5 b) dX2_speak_136 ?_
      refine lv_aload_n hx hb dX2_speak_139 rfl (lv_at hl 0 rfl) ?_
      refine r_geti X hP (15 + 17 * b) (mg_c b hbb) lk_2 17 (Nat.le_of_ble_eq_true rfl) q224 (mg_f17 b) dX2_speak_140 ?_
      refine lv_iconst (v := (0 : Int32)) hx hb dX2_speak_143 (by decide) ?_
      refine r_iast X cp_w hP (16 + 17 * b + 5) (mg_a5 b hbb) (ck_in h) dX2_speak_144 (fun σ_23 H locs e_24 hP => ?_)
      have h := st_k (ck_k h) e_24
      refine lv_aload_n hx hb dX2_speak_145 rfl (lv_at hl 0 rfl) ?_
      refine r_geta X hP (15 + 17 * b) (mg_c b hbb) lk_2 7 (Nat.le_of_ble_eq_true rfl) q207 (mg_f7 b) dX2_speak_146 ?_
      refine lv_aload_n hx hb dX2_speak_149 rfl (lv_at hl 0 rfl) ?_
      refine r_geti X hP (15 + 17 * b) (mg_c b hbb) lk_2 17 (Nat.le_of_ble_eq_true rfl) q224 (mg_f17 b) dX2_speak_150 ?_
      refine lv_iload hx hb dX2_speak_153 (lv_at hl 3 rfl) ?_
      refine r_iast X cp_w hP (16 + 17 * b + 7) (mg_a7 b hbb) (ck_in h) dX2_speak_155 (fun σ_25 H locs e_26 hP => ?_)
      have h := st_k (ck_k h) e_26
      refine lv_iconst (v := (0 : Int32)) hx hb dX2_speak_156 (by decide) ?_
      refine lv_istore (lv' := [(8, .int (0 : Int32)), (0, .ref (G.2.2.1 (15 + 17 * b))), (1, .int a1), (2, .int a2), (4, .int r_2), (6, .int y_8), (7, .int y_9)]) hx hb dX2_speak_157 hl (by decide) rfl (fun ls hl => ?_)
      obtain ⟨σ_49, h_50, h⟩ := bo_ex h
      have hE_51 : ∀ (H : Heap) (locs : List Loc) (ls : Array Slot), PS cp_ft G s σ_49 H locs → lv_has ls 9 [(0, .ref (G.2.2.1 (15 + 17 * b))), (1, .int a1), (2, .int a2), (7, .int y_9)] → W p l e rm_X2_speak s m args below meth c H locs 0 0 Q (F0 m 270 ls []) := by
        intro H locs ls hP hl
        refine lv_aload_n hx hb dX2_speak_270 rfl (lv_at hl 0 rfl) ?_
        refine r_geta X hP (15 + 17 * b) (mg_c b hbb) lk_2 6 (Nat.le_of_ble_eq_true rfl) q205 (mg_f6 b) dX2_speak_271 ?_
        refine lv_aload_n hx hb dX2_speak_274 rfl (lv_at hl 0 rfl) ?_
        refine r_geti X hP (15 + 17 * b) (mg_c b hbb) lk_2 17 (Nat.le_of_ble_eq_true rfl) q224 (mg_f17 b) dX2_speak_275 ?_
        refine lv_aload_n hx hb dX2_speak_278 rfl (lv_at hl 0 rfl) ?_
        refine r_geta X hP (15 + 17 * b) (mg_c b hbb) lk_2 5 (Nat.le_of_ble_eq_true rfl) q203 (mg_f5 b) dX2_speak_279 ?_
        refine lv_aload_n hx hb dX2_speak_282 rfl (lv_at hl 0 rfl) ?_
        refine r_geti X hP (15 + 17 * b) (mg_c b hbb) lk_2 17 (Nat.le_of_ble_eq_true rfl) q224 (mg_f17 b) dX2_speak_283 ?_
        refine r_iald X hP (16 + 17 * b + 5) (mg_a5 b hbb) (ck_in h) dX2_speak_286 ?_
        have h := ck_k h
        obtain ⟨x_52, h_53, h⟩ := bo_ex h
        have hJ_54 : ∀ (H : Heap) (locs : List Loc) (ls : Array Slot), PS cp_ft G s σ_49 H locs → lv_has ls 9 [(0, .ref (G.2.2.1 (15 + 17 * b))), (1, .int a1), (2, .int a2), (7, .int y_9)] → W p l e rm_X2_speak s m args below meth c H locs 0 0 Q (F0 m 301 ls [.int x_52, .int (gI σ_49 (1 + b) 17), .ref (G.2.2.1 (16 + 17 * b + 6))]) := by
          intro H locs ls hP hl
          refine r_iast X cp_w hP (16 + 17 * b + 6) (mg_a6 b hbb) (ck_in h) dX2_speak_301 (fun σ_55 H locs e_56 hP => ?_)
          have h := st_k (ck_k h) e_56
          refine lv_aload_n hx hb dX2_speak_302 rfl (lv_at hl 0 rfl) ?_
          refine r_geta X hP (15 + 17 * b) (mg_c b hbb) lk_2 6 (Nat.le_of_ble_eq_true rfl) q205 (mg_f6 b) dX2_speak_303 ?_
          refine lv_aload_n hx hb dX2_speak_306 rfl (lv_at hl 0 rfl) ?_
          refine r_geti X hP (15 + 17 * b) (mg_c b hbb) lk_2 17 (Nat.le_of_ble_eq_true rfl) q224 (mg_f17 b) dX2_speak_307 ?_
          refine r_iald X hP (16 + 17 * b + 6) (mg_a6 b hbb) (ck_in h) dX2_speak_310 ?_
          have h := ck_k h
          obtain ⟨σ_57, h_58, h⟩ := bo_ex h
          have hJ_59 : ∀ (H : Heap) (locs : List Loc) (ls : Array Slot), PS cp_ft G s σ_57 H locs → lv_has ls 9 [(0, .ref (G.2.2.1 (15 + 17 * b))), (1, .int a1), (2, .int a2), (7, .int y_9)] → W p l e rm_X2_speak s m args below meth c H locs 0 0 Q (F0 m 359 ls []) := by
            intro H locs ls hP hl
            refine lv_aload_n hx hb dX2_speak_359 rfl (lv_at hl 0 rfl) ?_
            refine lv_dup hx hb dX2_speak_360 rfl ?_
            refine r_geti X hP (15 + 17 * b) (mg_c b hbb) lk_2 18 (Nat.le_of_ble_eq_true rfl) q226 (mg_f18 b) dX2_speak_361 ?_
            refine lv_aload_n hx hb dX2_speak_364 rfl (lv_at hl 0 rfl) ?_
            refine r_geta X hP (15 + 17 * b) (mg_c b hbb) lk_2 5 (Nat.le_of_ble_eq_true rfl) q203 (mg_f5 b) dX2_speak_365 ?_
            refine lv_aload_n hx hb dX2_speak_368 rfl (lv_at hl 0 rfl) ?_
            refine r_geti X hP (15 + 17 * b) (mg_c b hbb) lk_2 17 (Nat.le_of_ble_eq_true rfl) q224 (mg_f17 b) dX2_speak_369 ?_
            refine r_iald X hP (16 + 17 * b + 5) (mg_a5 b hbb) (ck_in h) dX2_speak_372 ?_
            have h := ck_k h
            refine lv_ior hx hb dX2_speak_373 ?_
            refine r_puti X cp_w hP (15 + 17 * b) (mg_c b hbb) lk_2 18 (Nat.le_of_ble_eq_true rfl) q226 (mg_f18 b) rfl (tyX2_ok 18 (by decide)) rfl rfl dX2_speak_374 (fun σ_60 H locs e_61 hP => ?_)
            have h := st_k h e_61
            refine lv_aload_n hx hb dX2_speak_377 rfl (lv_at hl 0 rfl) ?_
            refine lv_dup hx hb dX2_speak_378 rfl ?_
            refine r_geti X hP (15 + 17 * b) (mg_c b hbb) lk_2 16 (Nat.le_of_ble_eq_true rfl) q222 (mg_f16 b) dX2_speak_379 ?_
            refine lv_iload hx hb dX2_speak_382 (lv_at hl 3 rfl) ?_
            refine lv_iadd hx hb dX2_speak_384 ?_
            refine r_puti X cp_w hP (15 + 17 * b) (mg_c b hbb) lk_2 16 (Nat.le_of_ble_eq_true rfl) q222 (mg_f16 b) rfl (tyX2_ok 16 (by decide)) rfl rfl dX2_speak_385 (fun σ_62 H locs e_63 hP => ?_)
            have h := st_k h e_63
            refine lv_aload_n hx hb dX2_speak_388 rfl (lv_at hl 0 rfl) ?_
            refine r_geta X hP (15 + 17 * b) (mg_c b hbb) lk_2 0 (Nat.le_of_ble_eq_true rfl) q193 (mg_f0 b) dX2_speak_389 ?_
            refine lv_iload_n hx hb dX2_speak_392 rfl (lv_at hl 2 rfl) ?_
            refine lv_dup2_11 hx hb dX2_speak_393 rfl rfl ?_
            refine r_iald X hP (16 + 17 * b + 0) (mg_a0 b hbb) (ck_in h) dX2_speak_394 ?_
            have h := ck_k h
            refine lv_iload hx hb dX2_speak_395 (lv_at hl 3 rfl) ?_
            refine lv_iadd hx hb dX2_speak_397 ?_
            refine r_iast X cp_w hP (16 + 17 * b + 0) (mg_a0 b hbb) (ck_in h) dX2_speak_398 (fun σ_64 H locs e_65 hP => ?_)
            have h := st_k (ck_k h) e_65
            refine lv_aload_n hx hb dX2_speak_399 rfl (lv_at hl 0 rfl) ?_
            refine r_geta X hP (15 + 17 * b) (mg_c b hbb) lk_2 10 (Nat.le_of_ble_eq_true rfl) q213 (mg_f10 b) dX2_speak_400 ?_
            refine lv_iload_n hx hb dX2_speak_403 rfl (lv_at hl 1 rfl) ?_
            refine lv_dup2_11 hx hb dX2_speak_404 rfl rfl ?_
            refine r_iald X hP (16 + 17 * b + 10) (mg_a10 b hbb) (ck_in h) dX2_speak_405 ?_
            have h := ck_k h
            refine lv_iload hx hb dX2_speak_406 (lv_at hl 3 rfl) ?_
            refine lv_iadd hx hb dX2_speak_408 ?_
            refine r_iast X cp_w hP (16 + 17 * b + 10) (mg_a10 b hbb) (ck_in h) dX2_speak_409 (fun σ_66 H locs e_67 hP => ?_)
            have h := st_k (ck_k h) e_67
            refine lv_aload_n hx hb dX2_speak_410 rfl (lv_at hl 0 rfl) ?_
            refine r_geta X hP (15 + 17 * b) (mg_c b hbb) lk_2 14 (Nat.le_of_ble_eq_true rfl) q220 (mg_f14 b) dX2_speak_411 ?_
            refine lv_iload_n hx hb dX2_speak_414 rfl (lv_at hl 1 rfl) ?_
            refine lv_dup2_11 hx hb dX2_speak_415 rfl rfl ?_
            refine r_iald X hP (16 + 17 * b + 14) (mg_a14 b hbb) (ck_in h) dX2_speak_416 ?_
            have h := ck_k h
            refine lv_iconst (v := (1 : Int32)) hx hb dX2_speak_417 (by decide) ?_
            refine lv_iadd hx hb dX2_speak_418 ?_
            refine r_iast X cp_w hP (16 + 17 * b + 14) (mg_a14 b hbb) (ck_in h) dX2_speak_419 (fun σ_68 H locs e_69 hP => ?_)
            have h := st_k (ck_k h) e_69
            refine lv_aload_n hx hb dX2_speak_420 rfl (lv_at hl 0 rfl) ?_
            refine lv_iload_n hx hb dX2_speak_421 rfl (lv_at hl 1 rfl) ?_
            refine r_puti X cp_w hP (15 + 17 * b) (mg_c b hbb) lk_2 19 (Nat.le_of_ble_eq_true rfl) q228 (mg_f19 b) rfl (tyX2_ok 19 (by decide)) rfl rfl dX2_speak_422 (fun σ_70 H locs e_71 hP => ?_)
            have h := st_k h e_71
            refine lv_aload_n hx hb dX2_speak_425 rfl (lv_at hl 0 rfl) ?_
            refine lv_dup hx hb dX2_speak_426 rfl ?_
            refine r_geti X hP (15 + 17 * b) (mg_c b hbb) lk_2 17 (Nat.le_of_ble_eq_true rfl) q224 (mg_f17 b) dX2_speak_427 ?_
            refine lv_iconst (v := (1 : Int32)) hx hb dX2_speak_430 (by decide) ?_
            refine lv_iadd hx hb dX2_speak_431 ?_
            refine r_puti X cp_w hP (15 + 17 * b) (mg_c b hbb) lk_2 17 (Nat.le_of_ble_eq_true rfl) q224 (mg_f17 b) rfl (tyX2_ok 17 (by decide)) rfl rfl dX2_speak_432 (fun σ_72 H locs e_73 hP => ?_)
            have h := st_k h e_73
            exact hret _ _ _ _ _ dX2_speak_435 (Option.some.inj h) hP
          refine lv_if_lt (tgt := 359) hx hb dX2_speak_311 (by decide) (fun c_74 => ?_) (fun c_74 => ?_)
          · have h_58 := it_t h_58 c_74
            obtain rfl := Option.some.inj h_58
            exact hJ_59 _ _ _ hP (lv_sub hl [0, 1, 2, 3] rfl)
          · have h_58 := it_f h_58 c_74
            refine lv_aload_n hx hb dX2_speak_314 rfl (lv_at hl 0 rfl) ?_
            refine r_geta X hP (15 + 17 * b) (mg_c b hbb) lk_2 8 (Nat.le_of_ble_eq_true rfl) q209 (mg_f8 b) dX2_speak_315 ?_
            refine lv_aload_n hx hb dX2_speak_318 rfl (lv_at hl 0 rfl) ?_
            refine r_geta X hP (15 + 17 * b) (mg_c b hbb) lk_2 6 (Nat.le_of_ble_eq_true rfl) q205 (mg_f6 b) dX2_speak_319 ?_
            refine lv_aload_n hx hb dX2_speak_322 rfl (lv_at hl 0 rfl) ?_
            refine r_geti X hP (15 + 17 * b) (mg_c b hbb) lk_2 17 (Nat.le_of_ble_eq_true rfl) q224 (mg_f17 b) dX2_speak_323 ?_
            refine r_iald X hP (16 + 17 * b + 6) (mg_a6 b hbb) (ck_in h_58) dX2_speak_326 ?_
            have h_58 := ck_k h_58
            refine r_iald X hP (16 + 17 * b + 8) (mg_a8 b hbb) (ck_in h_58) dX2_speak_327 ?_
            have h_58 := ck_k h_58
            refine lv_if_lt (tgt := 359) hx hb dX2_speak_328 (by decide) (fun c_75 => ?_) (fun c_75 => ?_)
            · have h_58 := it_t h_58 c_75
              obtain rfl := Option.some.inj h_58
              exact hJ_59 _ _ _ hP (lv_sub hl [0, 1, 2, 3] rfl)
            · have h_58 := it_f h_58 c_75
              refine lv_aload_n hx hb dX2_speak_331 rfl (lv_at hl 0 rfl) ?_
              refine r_geta X hP (15 + 17 * b) (mg_c b hbb) lk_2 8 (Nat.le_of_ble_eq_true rfl) q209 (mg_f8 b) dX2_speak_332 ?_
              refine lv_aload_n hx hb dX2_speak_335 rfl (lv_at hl 0 rfl) ?_
              refine r_geta X hP (15 + 17 * b) (mg_c b hbb) lk_2 6 (Nat.le_of_ble_eq_true rfl) q205 (mg_f6 b) dX2_speak_336 ?_
              refine lv_aload_n hx hb dX2_speak_339 rfl (lv_at hl 0 rfl) ?_
              refine r_geti X hP (15 + 17 * b) (mg_c b hbb) lk_2 17 (Nat.le_of_ble_eq_true rfl) q224 (mg_f17 b) dX2_speak_340 ?_
              refine r_iald X hP (16 + 17 * b + 6) (mg_a6 b hbb) (ck_in h_58) dX2_speak_343 ?_
              have h_58 := ck_k h_58
              refine r_iald X hP (16 + 17 * b + 8) (mg_a8 b hbb) (ck_in h_58) dX2_speak_344 ?_
              have h_58 := ck_k h_58
              refine lv_iload_n hx hb dX2_speak_345 rfl (lv_at hl 1 rfl) ?_
              refine lv_icmp_eq (tgt := 359) hx hb dX2_speak_346 (by decide) (fun c_76 => ?_) (fun c_76 => ?_)
              · have h_58 := it_t h_58 c_76
                obtain rfl := Option.some.inj h_58
                exact hJ_59 _ _ _ hP (lv_sub hl [0, 1, 2, 3] rfl)
              · have h_58 := it_f h_58 c_76
                refine lv_aload_n hx hb dX2_speak_349 rfl (lv_at hl 0 rfl) ?_
                refine r_geta X hP (15 + 17 * b) (mg_c b hbb) lk_2 12 (Nat.le_of_ble_eq_true rfl) q217 (mg_f12 b) dX2_speak_350 ?_
                refine lv_iload_n hx hb dX2_speak_353 rfl (lv_at hl 1 rfl) ?_
                refine lv_dup2_11 hx hb dX2_speak_354 rfl rfl ?_
                refine r_iald X hP (16 + 17 * b + 12) (mg_a12 b hbb) (ck_in h_58) dX2_speak_355 ?_
                have h_58 := ck_k h_58
                refine lv_iconst (v := (1 : Int32)) hx hb dX2_speak_356 (by decide) ?_
                refine lv_iadd hx hb dX2_speak_357 ?_
                refine r_iast X cp_w hP (16 + 17 * b + 12) (mg_a12 b hbb) (ck_in h_58) dX2_speak_358 (fun σ_77 H locs e_78 hP => ?_)
                have h_58 := st_k (ck_k h_58) e_78
                obtain rfl := Option.some.inj h_58
                exact hJ_59 _ _ _ hP (lv_sub hl [0, 1, 2, 3] rfl)
        refine lv_if_ne (tgt := 299) hx hb dX2_speak_287 (by decide) (fun c_79 => ?_) (fun c_79 => ?_)
        · have h_53 := it_f h_53 c_79
          refine lv_bipush (v := (-2 : Int32)) hx hb dX2_speak_299 (by decide) ?_
          obtain rfl := Option.some.inj h_53
          exact hJ_54 _ _ _ hP (lv_sub hl [0, 1, 2, 3] rfl)
        · have h_53 := it_t h_53 c_79
          refine lv_aload_n hx hb dX2_speak_290 rfl (lv_at hl 0 rfl) ?_
          refine lv_iload_n hx hb dX2_speak_291 rfl (lv_at hl 1 rfl) ?_
          refine lv_iload_n hx hb dX2_speak_292 rfl (lv_at hl 2 rfl) ?_
          obtain ⟨r_81, e_80, h_53⟩ := bo_ex h_53
          refine r_calli (r_runV (rest := [.int (gI σ_49 (1 + b) 17), .ref (G.2.2.1 (16 + 17 * b + 6))]) X hP (15 + 17 * b) (mg_c b hbb) lk_2 (mt_X2_againOf l G b hbb σ_49 a1 a2 e_80) (cwV 2 hts (lw_V q1038 q1040 qs37 q112 q1041) rfl rfl rfl ⟨rfl, cdX2_againOf⟩ ⟨Nat.le_of_ble_eq_true rfl, Nat.le_of_ble_eq_true rfl⟩) rfl hl.1 rfl (Nat.le_of_ble_eq_true rfl) dX2_speak_293 ⟨Nat.le_refl _, Nat.le_refl _⟩) hP (fun H locs hP => ?_)
          refine lv_goto (tgt := 301) hx hb dX2_speak_296 (by decide) ?_
          obtain rfl := Option.some.inj h_53
          exact hJ_54 _ _ _ hP (lv_sub hl [0, 1, 2, 3] rfl)
      have hL_48 : ∀ (n : Nat) (w_82 : Int32) (w_83 : Int32) (σ_84 : ST) (H : Heap) (locs : List Loc) (ls : Array Slot), wl3 (mg_speak_B159 b a1 a2 y_9) n w_82 w_83 σ_84 = some σ_49 → PS cp_ft G s σ_84 H locs → lv_has ls 9 [(0, .ref (G.2.2.1 (15 + 17 * b))), (1, .int a1), (2, .int a2), (6, .int w_82), (7, .int y_9), (8, .int w_83)] → W p l e rm_X2_speak s m args below meth c H locs 0 0 Q (F0 m 159 ls []) := by
        intro n
        induction n with
        | zero => intro w_82 w_83 σ_84 H locs ls h_85; cases h_85
        | succ n ih =>
          intro w_82 w_83 σ_84 H locs ls h_85 hP hl
          have h_85 : mg_speak_B159 b a1 a2 y_9 (wl3 (mg_speak_B159 b a1 a2 y_9) n) w_82 w_83 σ_84 = some _ := h_85
          generalize wl3 (mg_speak_B159 b a1 a2 y_9) n = rc_86 at h_85 ih
          unfold mg_speak_B159 at h_85
          refine lv_iload hx hb dX2_speak_159 (lv_at hl 5 rfl) ?_
          refine lv_aload_n hx hb dX2_speak_161 rfl (lv_at hl 0 rfl) ?_
          refine r_geta X hP (15 + 17 * b) (mg_c b hbb) lk_2 21 (Nat.le_of_ble_eq_true rfl) q230 (mg_f21 b) dX2_speak_162 ?_
          refine r_getiN X hP 0 cp_c0 lk_0 5 (Nat.le_of_ble_eq_true rfl) q290 cp_f5 dX2_speak_165 ?_
          refine lv_icmp_ge (tgt := 270) hx hb dX2_speak_168 (by decide) (fun c_87 => ?_) (fun c_87 => ?_)
          · have h_85 := it_t h_85 c_87
            obtain rfl := Option.some.inj h_85
            exact hE_51 _ _ _ hP (lv_sub hl [0, 1, 2, 4] rfl)
          · have h_85 := it_f h_85 c_87
            refine lv_iload hx hb dX2_speak_171 (lv_at hl 3 rfl) ?_
            refine lv_if_le (tgt := 270) hx hb dX2_speak_173 (by decide) (fun c_88 => ?_) (fun c_88 => ?_)
            · have h_85 := it_t h_85 c_88
              obtain rfl := Option.some.inj h_85
              exact hE_51 _ _ _ hP (lv_sub hl [0, 1, 2, 4] rfl)
            · have h_85 := it_f h_85 c_88
              refine lv_aload_n hx hb dX2_speak_176 rfl (lv_at hl 0 rfl) ?_
              refine r_geta X hP (15 + 17 * b) (mg_c b hbb) lk_2 21 (Nat.le_of_ble_eq_true rfl) q230 (mg_f21 b) dX2_speak_177 ?_
              refine r_getaN X hP 0 cp_c0 lk_0 2 (Nat.le_of_ble_eq_true rfl) q285 cp_f2 dX2_speak_180 ?_
              refine lv_iload hx hb dX2_speak_183 (lv_at hl 5 rfl) ?_
              refine r_aald (t := 2) X hP 3 cp_c3 rfl (ck_in h_85) dX2_speak_185 ?_
              have h_85 := ck_k h_85
              obtain ⟨v_90, e_89, h_85⟩ := bo_ex h_85
              refine r_pgiN (r := (lR σ_84 0 2 w_83)) X hP lk_6 0 (Nat.le_of_ble_eq_true rfl) e_89 q466 dX2_speak_186 ?_
              refine lv_iload_n hx hb dX2_speak_189 rfl (lv_at hl 2 rfl) ?_
              obtain ⟨y_91, σ_92, h_93, h_85⟩ := bo2_ex h_85
              have hJ_94 : ∀ (H : Heap) (locs : List Loc) (ls : Array Slot), PS cp_ft G s σ_92 H locs → lv_has ls 9 [(0, .ref (G.2.2.1 (15 + 17 * b))), (1, .int a1), (2, .int a2), (6, .int y_91), (7, .int y_9), (8, .int w_83)] → W p l e rm_X2_speak s m args below meth c H locs 0 0 Q (F0 m 264 ls []) := by
                intro H locs ls hP hl
                refine lv_iinc (v := (w_83 + (1 : Int32))) (lv' := [(8, .int (w_83 + (1 : Int32))), (0, .ref (G.2.2.1 (15 + 17 * b))), (1, .int a1), (2, .int a2), (6, .int y_91), (7, .int y_9)]) hx hb dX2_speak_264 hl (k := 5) rfl rfl (by decide) rfl (fun ls hl => ?_)
                refine lv_goto (tgt := 159) hx hb dX2_speak_267 (by decide) ?_
                exact ih _ _ _ _ _ _ h_85 hP (lv_sub hl [1, 2, 3, 4, 5, 0] rfl)
              refine lv_icmp_ne (tgt := 264) hx hb dX2_speak_190 (by decide) (fun c_95 => ?_) (fun c_95 => ?_)
              · have h_93 := it_f h_93 c_95
                obtain ⟨rfl, rfl⟩ := so2 h_93
                exact hJ_94 _ _ _ hP (lv_sub hl [0, 1, 2, 3, 4, 5] rfl)
              · have h_93 := it_t h_93 c_95
                refine lv_aload_n hx hb dX2_speak_193 rfl (lv_at hl 0 rfl) ?_
                refine r_geta X hP (15 + 17 * b) (mg_c b hbb) lk_2 21 (Nat.le_of_ble_eq_true rfl) q230 (mg_f21 b) dX2_speak_194 ?_
                refine r_getaN X hP 0 cp_c0 lk_0 2 (Nat.le_of_ble_eq_true rfl) q285 cp_f2 dX2_speak_197 ?_
                refine lv_iload hx hb dX2_speak_200 (lv_at hl 5 rfl) ?_
                refine r_aald (t := 2) X hP 3 cp_c3 rfl (ck_in h_93) dX2_speak_202 ?_
                have h_93 := ck_k h_93
                refine lv_iload_n hx hb dX2_speak_203 rfl (lv_at hl 1 rfl) ?_
                obtain ⟨a_96, e_97, h_93⟩ := bo_ex h_93
                rw [rr_known (pis_ex e_97).1]
                obtain ⟨r_99, e_98, h_93⟩ := bo_ex h_93
                refine r_calli (r_runP (rest := []) X hP (pis_ex e_97).2 lk_6 (mt_X6_isOf l G σ_84 a_96 a1 e_98) (cwV 1 hts (lw_V q960 q961 q962 q116 q963) rfl rfl rfl ⟨rfl, cdX6_isOf⟩ ⟨Nat.le_of_ble_eq_true rfl, Nat.le_of_ble_eq_true rfl⟩) rfl hl.1 rfl (Nat.le_of_ble_eq_true rfl) dX2_speak_204 ⟨Nat.le_refl _, Nat.le_refl _⟩) hP (fun H locs hP => ?_)
                refine lv_if_eq (tgt := 264) hx hb dX2_speak_207 (by decide) (fun c_100 => ?_) (fun c_100 => ?_)
                · have h_93 := it_t h_93 c_100
                  obtain ⟨rfl, rfl⟩ := so2 h_93
                  exact hJ_94 _ _ _ hP (lv_sub hl [0, 1, 2, 3, 4, 5] rfl)
                · have h_93 := it_f h_93 c_100
                  refine lv_aload_n hx hb dX2_speak_210 rfl (lv_at hl 0 rfl) ?_
                  refine r_geti X hP (15 + 17 * b) (mg_c b hbb) lk_2 18 (Nat.le_of_ble_eq_true rfl) q226 (mg_f18 b) dX2_speak_211 ?_
                  refine lv_iload hx hb dX2_speak_214 (lv_at hl 5 rfl) ?_
                  refine lv_ishr hx hb dX2_speak_216 ?_
                  refine lv_iconst (v := (1 : Int32)) hx hb dX2_speak_217 (by decide) ?_
                  refine lv_iand hx hb dX2_speak_218 ?_
                  refine lv_iconst (v := (1 : Int32)) hx hb dX2_speak_219 (by decide) ?_
                  refine lv_icmp_ne (tgt := 226) hx hb dX2_speak_220 (by decide) (fun c_101 => ?_) (fun c_101 => ?_)
                  · have h_93 := it_f h_93 c_101
                    refine lv_aload_n hx hb dX2_speak_226 rfl (lv_at hl 0 rfl) ?_
                    refine r_geta X hP (15 + 17 * b) (mg_c b hbb) lk_2 8 (Nat.le_of_ble_eq_true rfl) q209 (mg_f8 b) dX2_speak_227 ?_
                    refine lv_iload hx hb dX2_speak_230 (lv_at hl 5 rfl) ?_
                    refine lv_iload_n hx hb dX2_speak_232 rfl (lv_at hl 1 rfl) ?_
                    refine r_iast X cp_w hP (16 + 17 * b + 8) (mg_a8 b hbb) (ck_in h_93) dX2_speak_233 (fun σ_102 H locs e_103 hP => ?_)
                    have h_93 := st_k (ck_k h_93) e_103
                    refine lv_aload_n hx hb dX2_speak_234 rfl (lv_at hl 0 rfl) ?_
                    refine r_geta X hP (15 + 17 * b) (mg_c b hbb) lk_2 9 (Nat.le_of_ble_eq_true rfl) q211 (mg_f9 b) dX2_speak_235 ?_
                    refine lv_iload hx hb dX2_speak_238 (lv_at hl 5 rfl) ?_
                    refine lv_aload_n hx hb dX2_speak_240 rfl (lv_at hl 0 rfl) ?_
                    refine r_geti X hP (15 + 17 * b) (mg_c b hbb) lk_2 17 (Nat.le_of_ble_eq_true rfl) q224 (mg_f17 b) dX2_speak_241 ?_
                    refine r_iast X cp_w hP (16 + 17 * b + 9) (mg_a9 b hbb) (ck_in h_93) dX2_speak_244 (fun σ_104 H locs e_105 hP => ?_)
                    have h_93 := st_k (ck_k h_93) e_105
                    refine lv_aload_n hx hb dX2_speak_245 rfl (lv_at hl 0 rfl) ?_
                    refine r_geta X hP (15 + 17 * b) (mg_c b hbb) lk_2 5 (Nat.le_of_ble_eq_true rfl) q203 (mg_f5 b) dX2_speak_246 ?_
                    refine lv_aload_n hx hb dX2_speak_249 rfl (lv_at hl 0 rfl) ?_
                    refine r_geti X hP (15 + 17 * b) (mg_c b hbb) lk_2 17 (Nat.le_of_ble_eq_true rfl) q224 (mg_f17 b) dX2_speak_250 ?_
                    refine lv_dup2_11 hx hb dX2_speak_253 rfl rfl ?_
                    refine r_iald X hP (16 + 17 * b + 5) (mg_a5 b hbb) (ck_in h_93) dX2_speak_254 ?_
                    have h_93 := ck_k h_93
                    refine lv_iconst (v := (1 : Int32)) hx hb dX2_speak_255 (by decide) ?_
                    refine lv_iload hx hb dX2_speak_256 (lv_at hl 5 rfl) ?_
                    refine lv_ishl hx hb dX2_speak_258 ?_
                    refine lv_ior hx hb dX2_speak_259 ?_
                    refine r_iast X cp_w hP (16 + 17 * b + 5) (mg_a5 b hbb) (ck_in h_93) dX2_speak_260 (fun σ_106 H locs e_107 hP => ?_)
                    have h_93 := st_k (ck_k h_93) e_107
                    refine lv_iinc (v := (w_82 + (-1 : Int32))) (lv' := [(6, .int (w_82 + (-1 : Int32))), (0, .ref (G.2.2.1 (15 + 17 * b))), (1, .int a1), (2, .int a2), (7, .int y_9), (8, .int w_83)]) hx hb dX2_speak_261 hl (k := 3) rfl rfl (by decide) rfl (fun ls hl => ?_)
                    obtain ⟨rfl, rfl⟩ := so2 h_93
                    exact hJ_94 _ _ _ hP (lv_sub hl [1, 2, 3, 0, 4, 5] rfl)
                  · have h_93 := it_t h_93 c_101
                    refine lv_goto (tgt := 264) hx hb dX2_speak_223 (by decide) ?_
                    obtain ⟨rfl, rfl⟩ := so2 h_93
                    exact hJ_94 _ _ _ hP (lv_sub hl [0, 1, 2, 3, 4, 5] rfl)
      exact hL_48 _ _ _ _ _ _ _ h_50 hP (lv_sub hl [1, 2, 3, 5, 6, 0] rfl)
    refine lv_if_lt (tgt := 83) hx hb dX2_speak_58 (by decide) (fun c_108 => ?_) (fun c_108 => ?_)
    · have h_11 := it_t h_11 c_108
      obtain ⟨rfl, rfl, rfl⟩ := so3 h_11
      exact hJ_12 _ _ _ hP (lv_sub hl [0, 1, 2, 3, 4, 5] rfl)
    · have h_11 := it_f h_11 c_108
      refine lv_iload hx hb dX2_speak_61 (lv_at hl 4 rfl) ?_
      refine lv_iconst (v := (1 : Int32)) hx hb dX2_speak_63 (by decide) ?_
      refine va_mmin (rest := []) hx hb (X.1.2.2.1.trans hl.1.symm) hown (hts _ q1037) (hts _ q795) (hts _ q128) (hts _ q796) (Nat.le_of_ble_eq_true rfl) (Nat.le_of_ble_eq_true rfl) (Nat.le_of_ble_eq_true rfl) (Nat.le_of_ble_eq_true rfl) dX2_speak_64 ?_
      refine lv_istore (lv' := [(6, .int (if (1 : Int32) < (if (a3 - (1 : Int32)) < r_4 then (a3 - (1 : Int32)) else r_4) then (1 : Int32) else (if (a3 - (1 : Int32)) < r_4 then (a3 - (1 : Int32)) else r_4))), (0, .ref (G.2.2.1 (15 + 17 * b))), (1, .int a1), (2, .int a2), (4, .int r_2), (7, .int y_5)]) hx hb dX2_speak_67 hl (by decide) rfl (fun ls hl => ?_)
      refine lv_iconst (v := (1 : Int32)) hx hb dX2_speak_69 (by decide) ?_
      refine lv_istore (lv' := [(7, .int (1 : Int32)), (6, .int (if (1 : Int32) < (if (a3 - (1 : Int32)) < r_4 then (a3 - (1 : Int32)) else r_4) then (1 : Int32) else (if (a3 - (1 : Int32)) < r_4 then (a3 - (1 : Int32)) else r_4))), (0, .ref (G.2.2.1 (15 + 17 * b))), (1, .int a1), (2, .int a2), (4, .int r_2)]) hx hb dX2_speak_70 hl (by decide) rfl (fun ls hl => ?_)
      refine lv_aload_n hx hb dX2_speak_72 rfl (lv_at hl 2 rfl) ?_
      refine r_geta X hP (15 + 17 * b) (mg_c b hbb) lk_2 11 (Nat.le_of_ble_eq_true rfl) q215 (mg_f11 b) dX2_speak_73 ?_
      refine lv_iload hx hb dX2_speak_76 (lv_at hl 5 rfl) ?_
      refine lv_dup2_11 hx hb dX2_speak_78 rfl rfl ?_
      refine r_iald X hP (16 + 17 * b + 11) (mg_a11 b hbb) (ck_in h_11) dX2_speak_79 ?_
      have h_11 := ck_k h_11
      refine lv_iconst (v := (1 : Int32)) hx hb dX2_speak_80 (by decide) ?_
      refine lv_iadd hx hb dX2_speak_81 ?_
      refine r_iast X cp_w hP (16 + 17 * b + 11) (mg_a11 b hbb) (ck_in h_11) dX2_speak_82 (fun σ_109 H locs e_110 hP => ?_)
      have h_11 := st_k (ck_k h_11) e_110
      obtain ⟨rfl, rfl, rfl⟩ := so3 h_11
      exact hJ_12 _ _ _ hP (lv_sub hl [2, 3, 4, 5, 1, 0] rfl)
  refine lv_icmp_ne (tgt := 56) hx hb dX2_speak_43 (by decide) (fun c_111 => ?_) (fun c_111 => ?_)
  · have h_6 := it_f h_6 c_111
    obtain rfl := Option.some.inj h_6
    exact hJ_7 _ _ _ hP (lv_sub hl [4, 5, 6, 3, 1, 0] rfl)
  · have h_6 := it_t h_6 c_111
    refine lv_iconst (v := (2 : Int32)) hx hb dX2_speak_46 (by decide) ?_
    refine lv_iload hx hb dX2_speak_47 (lv_at hl 0 rfl) ?_
    refine lv_imul hx hb dX2_speak_49 ?_
    refine lv_iconst (v := (2 : Int32)) hx hb dX2_speak_50 (by decide) ?_
    refine lv_iadd hx hb dX2_speak_51 ?_
    refine lv_iconst (v := (3 : Int32)) hx hb dX2_speak_52 (by decide) ?_
    refine lv_idiv hx hb dX2_speak_53 (nz_ne h_6) ?_
    have h_6 := nz_k h_6
    refine lv_istore (lv' := [(7, .int ((((2 : Int32) * (if ((1 : Int32) + r_4) < a3 then ((1 : Int32) + r_4) else a3)) + (2 : Int32)) / (3 : Int32))), (6, .int (if (a3 - (1 : Int32)) < r_4 then (a3 - (1 : Int32)) else r_4)), (5, .int r_4), (4, .int r_2), (0, .ref (G.2.2.1 (15 + 17 * b))), (1, .int a1), (2, .int a2), (3, .int a3)]) hx hb dX2_speak_54 hl (by decide) rfl (fun ls hl => ?_)
    obtain rfl := Option.some.inj h_6
    exact hJ_7 _ _ _ hP (lv_sub hl [4, 5, 6, 3, 1, 0] rfl)
