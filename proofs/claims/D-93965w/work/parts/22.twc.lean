set_option maxRecDepth 100000
def tw_heldBack_B14 (σ : ST) (l2 : Int32) (rc14 : Int32 → Int32 → Option (Int32)) (w1 : Int32) (w3 : Int32) : Option (Int32) :=
  (if (gI σ 0 6) ≤ w3 then some (w1) else bo (tw_isSaid σ l2) (fun (r_4 : Int32) => bo (if r_4 = 0 then bo (tw_knows σ w3 l2) (fun (r_10 : Int32) => (if r_10 = 0 then some ((0 : Int32)) else bo (tw_isThere σ w3) (fun (r_13 : Int32) => (if r_13 = 0 then some ((0 : Int32)) else some (((1 : Int32) <<< (l2 &&& 31))))))) else some ((0 : Int32))) (fun (x_5 : Int32) => (rc14 (w1 ||| x_5) (w3 + (1 : Int32))))))
def tw_heldBack_B4 (σ : ST) (rc4 : Int32 → Int32 → Option (Int32)) (w1 : Int32) (w2 : Int32) : Option (Int32) :=
  (if (gI σ 0 9) ≤ w2 then some (w1) else bo (wl2 (tw_heldBack_B14 σ w2) FU w1 (0 : Int32)) (fun (o_16 : Int32) => (rc4 o_16 (w2 + (1 : Int32)))))
def tw_heldBack (σ : ST)  : Option Int32 :=
  bo (wl2 (tw_heldBack_B4 σ ) FU (0 : Int32) (0 : Int32)) (fun (o_37 : Int32) => some o_37)
abbrev rm_X3_heldBack : Room := rmf 1 22
set_option maxHeartbeats 4000000 in
set_option maxRecDepth 100000 in
theorem mt_X3_heldBack (l : Launch) (G : GT) (σ : ST)  {r : Int32} (h : tw_heldBack σ = some r) : CI l tw_ft G yX3_heldBack (ws_ yX3_heldBack cX3_heldBack 4 (some .int)) rm_X3_heldBack 0 0 [.ref (G.2.2.1 0)] σ (r, σ) := by
  refine m_enterI (by decide) rfl (lv := [(0, .ref (G.2.2.1 0))]) rfl ?_
  intro p e s m args below meth c H locs ls Q X hret hP hl
  have hx := X.1.1
  have hb := X.1.2.1
  have hown := X.1.2.2.2.1
  have hts := X.1.2.2.2.2
  unfold tw_heldBack at h
  refine lv_iconst (v := (0 : Int32)) hx hb dX3_heldBack_0 (by decide) ?_
  refine lv_istore_n (lv' := [(1, .int (0 : Int32)), (0, .ref (G.2.2.1 0))]) hx hb dX3_heldBack_1 rfl hl (by decide) rfl (fun ls hl => ?_)
  refine lv_iconst (v := (0 : Int32)) hx hb dX3_heldBack_2 (by decide) ?_
  refine lv_istore_n (lv' := [(2, .int (0 : Int32)), (1, .int (0 : Int32)), (0, .ref (G.2.2.1 0))]) hx hb dX3_heldBack_3 rfl hl (by decide) rfl (fun ls hl => ?_)
  obtain ⟨o_37, h_38, h⟩ := bo_ex h
  have hE_39 : ∀ (H : Heap) (locs : List Loc) (ls : Array Slot), PS tw_ft G s σ H locs → lv_has ls 4 [(1, .int o_37)] → W p l e rm_X3_heldBack s m args below meth c H locs 0 0 Q (F0 m 69 ls []) := by
    intro H locs ls hP hl
    refine lv_iload_n hx hb dX3_heldBack_69 rfl (lv_at hl 0 rfl) ?_
    exact hret _ _ _ _ _ _ dX3_heldBack_70 rfl (congrArg (fun z9 => (z9, σ)) (Option.some.inj h)) hP
  have hL_36 : ∀ (n : Nat) (w_40 : Int32) (w_41 : Int32) (H : Heap) (locs : List Loc) (ls : Array Slot), wl2 (tw_heldBack_B4 σ ) n w_40 w_41 = some o_37 → PS tw_ft G s σ H locs → lv_has ls 4 [(0, .ref (G.2.2.1 0)), (1, .int w_40), (2, .int w_41)] → W p l e rm_X3_heldBack s m args below meth c H locs 0 0 Q (F0 m 4 ls []) := by
    intro n
    induction n with
    | zero => intro w_40 w_41 H locs ls h_42; cases h_42
    | succ n ih =>
      intro w_40 w_41 H locs ls h_42 hP hl
      have h_42 : tw_heldBack_B4 σ  (wl2 (tw_heldBack_B4 σ ) n) w_40 w_41 = some _ := h_42
      generalize wl2 (tw_heldBack_B4 σ ) n = rc_43 at h_42 ih
      unfold tw_heldBack_B4 at h_42
      refine lv_iload_n hx hb dX3_heldBack_4 rfl (lv_at hl 2 rfl) ?_
      refine lv_aload_n hx hb dX3_heldBack_5 rfl (lv_at hl 0 rfl) ?_
      refine r_geti X hP 0 tw_c0 lk_3 9 (Nat.le_of_ble_eq_true rfl) q1647 tw_f9 dX3_heldBack_6 ?_
      refine lv_icmp_ge (tgt := 69) hx hb dX3_heldBack_9 (by decide) (fun c_44 => ?_) (fun c_44 => ?_)
      · have h_42 := it_t h_42 c_44
        obtain rfl := Option.some.inj h_42
        exact hE_39 _ _ _ hP (lv_sub hl [1] rfl)
      · have h_42 := it_f h_42 c_44
        refine lv_iconst (v := (0 : Int32)) hx hb dX3_heldBack_12 (by decide) ?_
        refine lv_istore_n (lv' := [(3, .int (0 : Int32)), (0, .ref (G.2.2.1 0)), (1, .int w_40), (2, .int w_41)]) hx hb dX3_heldBack_13 rfl hl (by decide) rfl (fun ls hl => ?_)
        obtain ⟨o_46, h_47, h_42⟩ := bo_ex h_42
        have hE_48 : ∀ (H : Heap) (locs : List Loc) (ls : Array Slot), PS tw_ft G s σ H locs → lv_has ls 4 [(0, .ref (G.2.2.1 0)), (1, .int o_46), (2, .int w_41)] → W p l e rm_X3_heldBack s m args below meth c H locs 0 0 Q (F0 m 63 ls []) := by
          intro H locs ls hP hl
          refine lv_iinc (v := (w_41 + (1 : Int32))) (lv' := [(2, .int (w_41 + (1 : Int32))), (0, .ref (G.2.2.1 0)), (1, .int o_46)]) hx hb dX3_heldBack_63 hl (k := 2) rfl rfl (by decide) rfl (fun ls hl => ?_)
          refine lv_goto (tgt := 4) hx hb dX3_heldBack_66 (by decide) ?_
          exact ih _ _ _ _ _ h_42 hP (lv_sub hl [1, 2, 0] rfl)
        have hL_45 : ∀ (n : Nat) (w_49 : Int32) (w_50 : Int32) (H : Heap) (locs : List Loc) (ls : Array Slot), wl2 (tw_heldBack_B14 σ w_41) n w_49 w_50 = some o_46 → PS tw_ft G s σ H locs → lv_has ls 4 [(0, .ref (G.2.2.1 0)), (1, .int w_49), (2, .int w_41), (3, .int w_50)] → W p l e rm_X3_heldBack s m args below meth c H locs 0 0 Q (F0 m 14 ls []) := by
          intro n
          induction n with
          | zero => intro w_49 w_50 H locs ls h_51; cases h_51
          | succ n ih =>
            intro w_49 w_50 H locs ls h_51 hP hl
            have h_51 : tw_heldBack_B14 σ w_41 (wl2 (tw_heldBack_B14 σ w_41) n) w_49 w_50 = some _ := h_51
            generalize wl2 (tw_heldBack_B14 σ w_41) n = rc_52 at h_51 ih
            unfold tw_heldBack_B14 at h_51
            refine lv_iload_n hx hb dX3_heldBack_14 rfl (lv_at hl 3 rfl) ?_
            refine lv_aload_n hx hb dX3_heldBack_15 rfl (lv_at hl 0 rfl) ?_
            refine r_geti X hP 0 tw_c0 lk_3 6 (Nat.le_of_ble_eq_true rfl) q1644 tw_f6 dX3_heldBack_16 ?_
            refine lv_icmp_ge (tgt := 63) hx hb dX3_heldBack_19 (by decide) (fun c_53 => ?_) (fun c_53 => ?_)
            · have h_51 := it_t h_51 c_53
              obtain rfl := Option.some.inj h_51
              exact hE_48 _ _ _ hP (lv_sub hl [0, 1, 2] rfl)
            · have h_51 := it_f h_51 c_53
              refine lv_iload_n hx hb dX3_heldBack_22 rfl (lv_at hl 1 rfl) ?_
              refine lv_aload_n hx hb dX3_heldBack_23 rfl (lv_at hl 0 rfl) ?_
              refine lv_iload_n hx hb dX3_heldBack_24 rfl (lv_at hl 2 rfl) ?_
              obtain ⟨r_55, e_54, h_51⟩ := bo_ex h_51
              refine r_calli (r_runV (rest := [.int w_49]) X hP 0 tw_c0 lk_3 (mt_X3_isSaid l G σ w_41 e_54) (cwV 1 hts (lw_V q2028 q2030 qs71 q113 q2031) rfl rfl rfl ⟨rfl, cdX3_isSaid⟩ ⟨Nat.le_of_ble_eq_true rfl, Nat.le_of_ble_eq_true rfl⟩) rfl hl.1 rfl (Nat.le_of_ble_eq_true rfl) dX3_heldBack_25 ⟨Nat.le_refl _, Nat.le_refl _⟩) hP (fun H locs hP => ?_)
              obtain ⟨x_56, h_57, h_51⟩ := bo_ex h_51
              have hJ_58 : ∀ (H : Heap) (locs : List Loc) (ls : Array Slot), PS tw_ft G s σ H locs → lv_has ls 4 [(0, .ref (G.2.2.1 0)), (2, .int w_41), (3, .int w_50)] → W p l e rm_X3_heldBack s m args below meth c H locs 0 0 Q (F0 m 55 ls [.int x_56, .int w_49]) := by
                intro H locs ls hP hl
                refine lv_ior hx hb dX3_heldBack_55 ?_
                refine lv_istore_n (lv' := [(1, .int (w_49 ||| x_56)), (0, .ref (G.2.2.1 0)), (2, .int w_41), (3, .int w_50)]) hx hb dX3_heldBack_56 rfl hl (by decide) rfl (fun ls hl => ?_)
                refine lv_iinc (v := (w_50 + (1 : Int32))) (lv' := [(3, .int (w_50 + (1 : Int32))), (1, .int (w_49 ||| x_56)), (0, .ref (G.2.2.1 0)), (2, .int w_41)]) hx hb dX3_heldBack_57 hl (k := 3) rfl rfl (by decide) rfl (fun ls hl => ?_)
                refine lv_goto (tgt := 14) hx hb dX3_heldBack_60 (by decide) ?_
                exact ih _ _ _ _ _ h_51 hP (lv_sub hl [2, 1, 3, 0] rfl)
              refine lv_if_ne (tgt := 54) hx hb dX3_heldBack_28 (by decide) (fun c_59 => ?_) (fun c_59 => ?_)
              · have h_57 := it_f h_57 c_59
                refine lv_iconst (v := (0 : Int32)) hx hb dX3_heldBack_54 (by decide) ?_
                obtain rfl := Option.some.inj h_57
                exact hJ_58 _ _ _ hP (lv_sub hl [0, 2, 3] rfl)
              · have h_57 := it_t h_57 c_59
                refine lv_aload_n hx hb dX3_heldBack_31 rfl (lv_at hl 0 rfl) ?_
                refine lv_iload_n hx hb dX3_heldBack_32 rfl (lv_at hl 3 rfl) ?_
                refine lv_iload_n hx hb dX3_heldBack_33 rfl (lv_at hl 2 rfl) ?_
                obtain ⟨r_61, e_60, h_57⟩ := bo_ex h_57
                refine r_calli (r_runV (rest := [.int w_49]) X hP 0 tw_c0 lk_3 (mt_X3_knows l G σ w_50 w_41 e_60) (cwV 2 hts (lw_V q2036 q2038 qs73 q113 q2039) rfl rfl rfl ⟨rfl, cdX3_knows⟩ ⟨Nat.le_of_ble_eq_true rfl, Nat.le_of_ble_eq_true rfl⟩) rfl hl.1 rfl (Nat.le_of_ble_eq_true rfl) dX3_heldBack_34 ⟨Nat.le_refl _, Nat.le_refl _⟩) hP (fun H locs hP => ?_)
                refine lv_if_eq (tgt := 54) hx hb dX3_heldBack_37 (by decide) (fun c_62 => ?_) (fun c_62 => ?_)
                · have h_57 := it_t h_57 c_62
                  refine lv_iconst (v := (0 : Int32)) hx hb dX3_heldBack_54 (by decide) ?_
                  obtain rfl := Option.some.inj h_57
                  exact hJ_58 _ _ _ hP (lv_sub hl [0, 2, 3] rfl)
                · have h_57 := it_f h_57 c_62
                  refine lv_aload_n hx hb dX3_heldBack_40 rfl (lv_at hl 0 rfl) ?_
                  refine lv_iload_n hx hb dX3_heldBack_41 rfl (lv_at hl 3 rfl) ?_
                  obtain ⟨r_64, e_63, h_57⟩ := bo_ex h_57
                  refine r_calli (r_runV (rest := [.int w_49]) X hP 0 tw_c0 lk_3 (mt_X3_isThere l G σ w_50 e_63) (cwV 1 hts (lw_V q2032 q2034 qs72 q113 q2035) rfl rfl rfl ⟨rfl, cdX3_isThere⟩ ⟨Nat.le_of_ble_eq_true rfl, Nat.le_of_ble_eq_true rfl⟩) rfl hl.1 rfl (Nat.le_of_ble_eq_true rfl) dX3_heldBack_42 ⟨Nat.le_refl _, Nat.le_refl _⟩) hP (fun H locs hP => ?_)
                  refine lv_if_eq (tgt := 54) hx hb dX3_heldBack_45 (by decide) (fun c_65 => ?_) (fun c_65 => ?_)
                  · have h_57 := it_t h_57 c_65
                    refine lv_iconst (v := (0 : Int32)) hx hb dX3_heldBack_54 (by decide) ?_
                    obtain rfl := Option.some.inj h_57
                    exact hJ_58 _ _ _ hP (lv_sub hl [0, 2, 3] rfl)
                  · have h_57 := it_f h_57 c_65
                    refine lv_iconst (v := (1 : Int32)) hx hb dX3_heldBack_48 (by decide) ?_
                    refine lv_iload_n hx hb dX3_heldBack_49 rfl (lv_at hl 2 rfl) ?_
                    refine lv_ishl hx hb dX3_heldBack_50 ?_
                    refine lv_goto (tgt := 55) hx hb dX3_heldBack_51 (by decide) ?_
                    obtain rfl := Option.some.inj h_57
                    exact hJ_58 _ _ _ hP (lv_sub hl [0, 2, 3] rfl)
        exact hL_45 _ _ _ _ _ _ h_47 hP (lv_sub hl [1, 2, 3, 0] rfl)
  exact hL_36 _ _ _ _ _ _ h_38 hP (lv_sub hl [2, 1, 0] rfl)
def tw_isOrder_B12 (rc12 : Int32 → Int32 → Int32 → ST → Option (Int32 × ST)) (w2 : Int32) (w3 : Int32) (w4 : Int32) (σ : ST) : Option (Int32 × ST) :=
  (if w4 < 0 then (if w3 = 0 then some ((1 : Int32), σ) else some ((0 : Int32), σ)) else nz (10 : Int32) ((if w3 ≤ 0 then some ((0 : Int32), σ) else bo (tw_isThing σ ((w3 - w3 / (10 : Int32) * (10 : Int32)) - (1 : Int32))) (fun (r_5 : Int32) => (if r_5 = 0 then some ((0 : Int32), σ) else (if ((w2 >>> (((w3 - w3 / (10 : Int32) * (10 : Int32)) - (1 : Int32)) &&& 31)) &&& (1 : Int32)) = (1 : Int32) then some ((0 : Int32), σ) else ck w4 6 (st_ (aI σ 0 38 w4 ((w3 - w3 / (10 : Int32) * (10 : Int32)) - (1 : Int32))) (fun (σ_8 : ST) => nz (10 : Int32) ((rc12 (w2 ||| ((1 : Int32) <<< (((w3 - w3 / (10 : Int32) * (10 : Int32)) - (1 : Int32)) &&& 31))) (w3 / (10 : Int32)) (w4 + (-1 : Int32)) σ_8))))))))))
def tw_isOrder (σ : ST) (a1 : Int32) : Option (Int32 × ST) :=
  wl4 (tw_isOrder_B12 ) FU (0 : Int32) a1 ((gI σ 0 8) - (1 : Int32)) σ
abbrev rm_X3_isOrder : Room := rmf 2 46
set_option maxHeartbeats 4000000 in
set_option maxRecDepth 100000 in
theorem mt_X3_isOrder (l : Launch) (G : GT) (σ : ST) (a1 : Int32) {r : Int32} {u : ST} (h : tw_isOrder σ a1 = some (r, u)) : CI l tw_ft G yX3_isOrder (ws_ yX3_isOrder cX3_isOrder 6 (some .boolean)) rm_X3_isOrder 0 0 [.ref (G.2.2.1 0), .int a1] σ (r, u) := by
  refine m_enterI (by decide) rfl (lv := [(0, .ref (G.2.2.1 0)), (1, .int a1)]) rfl ?_
  intro p e s m args below meth c H locs ls Q X hret hP hl
  have hx := X.1.1
  have hb := X.1.2.1
  have hown := X.1.2.2.2.1
  have hts := X.1.2.2.2.2
  unfold tw_isOrder at h
  refine lv_iconst (v := (0 : Int32)) hx hb dX3_isOrder_0 (by decide) ?_
  refine lv_istore_n (lv' := [(2, .int (0 : Int32)), (0, .ref (G.2.2.1 0)), (1, .int a1)]) hx hb dX3_isOrder_1 rfl hl (by decide) rfl (fun ls hl => ?_)
  refine lv_iload_n hx hb dX3_isOrder_2 rfl (lv_at hl 2 rfl) ?_
  refine lv_istore_n (lv' := [(3, .int a1), (2, .int (0 : Int32)), (0, .ref (G.2.2.1 0)), (1, .int a1)]) hx hb dX3_isOrder_3 rfl hl (by decide) rfl (fun ls hl => ?_)
  refine lv_aload_n hx hb dX3_isOrder_4 rfl (lv_at hl 2 rfl) ?_
  refine r_geti X hP 0 tw_c0 lk_3 8 (Nat.le_of_ble_eq_true rfl) q1646 tw_f8 dX3_isOrder_5 ?_
  refine lv_iconst (v := (1 : Int32)) hx hb dX3_isOrder_8 (by decide) ?_
  refine lv_isub hx hb dX3_isOrder_9 ?_
  refine lv_istore (lv' := [(4, .int ((gI σ 0 8) - (1 : Int32))), (3, .int a1), (2, .int (0 : Int32)), (0, .ref (G.2.2.1 0)), (1, .int a1)]) hx hb dX3_isOrder_10 hl (by decide) rfl (fun ls hl => ?_)
  have hL_10 : ∀ (n : Nat) (w_11 : Int32) (w_12 : Int32) (w_13 : Int32) (σ_14 : ST) (H : Heap) (locs : List Loc) (ls : Array Slot), wl4 (tw_isOrder_B12 ) n w_11 w_12 w_13 σ_14 = some (r, u) → PS tw_ft G s σ_14 H locs → lv_has ls 6 [(0, .ref (G.2.2.1 0)), (2, .int w_11), (3, .int w_12), (4, .int w_13)] → W p l e rm_X3_isOrder s m args below meth c H locs 0 0 Q (F0 m 12 ls []) := by
    intro n
    induction n with
    | zero => intro w_11 w_12 w_13 σ_14 H locs ls h; cases h
    | succ n ih =>
      intro w_11 w_12 w_13 σ_14 H locs ls h hP hl
      have h : tw_isOrder_B12  (wl4 (tw_isOrder_B12 ) n) w_11 w_12 w_13 σ_14 = some _ := h
      generalize wl4 (tw_isOrder_B12 ) n = rc_15 at h ih
      unfold tw_isOrder_B12 at h
      refine lv_iload hx hb dX3_isOrder_12 (lv_at hl 3 rfl) ?_
      refine lv_if_lt (tgt := 77) hx hb dX3_isOrder_14 (by decide) (fun c_16 => ?_) (fun c_16 => ?_)
      · have h := it_t h c_16
        refine lv_iload_n hx hb dX3_isOrder_77 rfl (lv_at hl 2 rfl) ?_
        refine lv_if_ne (tgt := 85) hx hb dX3_isOrder_78 (by decide) (fun c_17 => ?_) (fun c_17 => ?_)
        · have h := it_f h c_17
          refine lv_iconst (v := (0 : Int32)) hx hb dX3_isOrder_85 (by decide) ?_
          exact hret _ _ _ _ _ _ dX3_isOrder_86 rfl (Option.some.inj h) hP
        · have h := it_t h c_17
          refine lv_iconst (v := (1 : Int32)) hx hb dX3_isOrder_81 (by decide) ?_
          refine lv_goto (tgt := 86) hx hb dX3_isOrder_82 (by decide) ?_
          exact hret _ _ _ _ _ _ dX3_isOrder_86 rfl (Option.some.inj h) hP
      · have h := it_f h c_16
        refine lv_iload_n hx hb dX3_isOrder_17 rfl (lv_at hl 2 rfl) ?_
        refine lv_bipush (v := (10 : Int32)) hx hb dX3_isOrder_18 (by decide) ?_
        refine lv_irem hx hb dX3_isOrder_20 (nz_ne h) ?_
        have h := nz_k h
        refine lv_iconst (v := (1 : Int32)) hx hb dX3_isOrder_21 (by decide) ?_
        refine lv_isub hx hb dX3_isOrder_22 ?_
        refine lv_istore (lv' := [(5, .int ((w_12 - w_12 / (10 : Int32) * (10 : Int32)) - (1 : Int32))), (0, .ref (G.2.2.1 0)), (2, .int w_11), (3, .int w_12), (4, .int w_13)]) hx hb dX3_isOrder_23 hl (by decide) rfl (fun ls hl => ?_)
        refine lv_iload_n hx hb dX3_isOrder_25 rfl (lv_at hl 3 rfl) ?_
        refine lv_if_le (tgt := 48) hx hb dX3_isOrder_26 (by decide) (fun c_18 => ?_) (fun c_18 => ?_)
        · have h := it_t h c_18
          refine lv_iconst (v := (0 : Int32)) hx hb dX3_isOrder_48 (by decide) ?_
          exact hret _ _ _ _ _ _ dX3_isOrder_49 rfl (Option.some.inj h) hP
        · have h := it_f h c_18
          refine lv_aload_n hx hb dX3_isOrder_29 rfl (lv_at hl 1 rfl) ?_
          refine lv_iload hx hb dX3_isOrder_30 (lv_at hl 0 rfl) ?_
          obtain ⟨r_20, e_19, h⟩ := bo_ex h
          refine r_calli (r_runV (rest := []) X hP 0 tw_c0 lk_3 (mt_X3_isThing l G σ_14 ((w_12 - w_12 / (10 : Int32) * (10 : Int32)) - (1 : Int32)) e_19) (cwV 1 hts (lw_V q1936 q1938 qs53 q113 q1939) rfl rfl rfl ⟨rfl, cdX3_isThing⟩ ⟨Nat.le_of_ble_eq_true rfl, Nat.le_of_ble_eq_true rfl⟩) rfl hl.1 rfl (Nat.le_of_ble_eq_true rfl) dX3_isOrder_32 ⟨Nat.le_refl _, Nat.le_refl _⟩) hP (fun H locs hP => ?_)
          refine lv_if_eq (tgt := 48) hx hb dX3_isOrder_35 (by decide) (fun c_21 => ?_) (fun c_21 => ?_)
          · have h := it_t h c_21
            refine lv_iconst (v := (0 : Int32)) hx hb dX3_isOrder_48 (by decide) ?_
            exact hret _ _ _ _ _ _ dX3_isOrder_49 rfl (Option.some.inj h) hP
          · have h := it_f h c_21
            refine lv_iload_n hx hb dX3_isOrder_38 rfl (lv_at hl 2 rfl) ?_
            refine lv_iload hx hb dX3_isOrder_39 (lv_at hl 0 rfl) ?_
            refine lv_ishr hx hb dX3_isOrder_41 ?_
            refine lv_iconst (v := (1 : Int32)) hx hb dX3_isOrder_42 (by decide) ?_
            refine lv_iand hx hb dX3_isOrder_43 ?_
            refine lv_iconst (v := (1 : Int32)) hx hb dX3_isOrder_44 (by decide) ?_
            refine lv_icmp_ne (tgt := 50) hx hb dX3_isOrder_45 (by decide) (fun c_22 => ?_) (fun c_22 => ?_)
            · have h := it_f h c_22
              refine lv_iload_n hx hb dX3_isOrder_50 rfl (lv_at hl 2 rfl) ?_
              refine lv_iconst (v := (1 : Int32)) hx hb dX3_isOrder_51 (by decide) ?_
              refine lv_iload hx hb dX3_isOrder_52 (lv_at hl 0 rfl) ?_
              refine lv_ishl hx hb dX3_isOrder_54 ?_
              refine lv_ior hx hb dX3_isOrder_55 ?_
              refine lv_istore_n (lv' := [(2, .int (w_11 ||| ((1 : Int32) <<< (((w_12 - w_12 / (10 : Int32) * (10 : Int32)) - (1 : Int32)) &&& 31)))), (5, .int ((w_12 - w_12 / (10 : Int32) * (10 : Int32)) - (1 : Int32))), (0, .ref (G.2.2.1 0)), (3, .int w_12), (4, .int w_13)]) hx hb dX3_isOrder_56 rfl hl (by decide) rfl (fun ls hl => ?_)
              refine lv_aload_n hx hb dX3_isOrder_57 rfl (lv_at hl 2 rfl) ?_
              refine r_geta X hP 0 tw_c0 lk_3 38 (Nat.le_of_ble_eq_true rfl) q1676 tw_f38 dX3_isOrder_58 ?_
              refine lv_iload hx hb dX3_isOrder_61 (lv_at hl 4 rfl) ?_
              refine lv_iload hx hb dX3_isOrder_63 (lv_at hl 1 rfl) ?_
              refine r_iast X tw_w hP 18 tw_c18 (ck_in h) dX3_isOrder_65 (fun σ_23 H locs e_24 hP => ?_)
              have h := st_k (ck_k h) e_24
              refine lv_iload_n hx hb dX3_isOrder_66 rfl (lv_at hl 3 rfl) ?_
              refine lv_bipush (v := (10 : Int32)) hx hb dX3_isOrder_67 (by decide) ?_
              refine lv_idiv hx hb dX3_isOrder_69 (nz_ne h) ?_
              have h := nz_k h
              refine lv_istore_n (lv' := [(3, .int (w_12 / (10 : Int32))), (2, .int (w_11 ||| ((1 : Int32) <<< (((w_12 - w_12 / (10 : Int32) * (10 : Int32)) - (1 : Int32)) &&& 31)))), (5, .int ((w_12 - w_12 / (10 : Int32) * (10 : Int32)) - (1 : Int32))), (0, .ref (G.2.2.1 0)), (4, .int w_13)]) hx hb dX3_isOrder_70 rfl hl (by decide) rfl (fun ls hl => ?_)
              refine lv_iinc (v := (w_13 + (-1 : Int32))) (lv' := [(4, .int (w_13 + (-1 : Int32))), (3, .int (w_12 / (10 : Int32))), (2, .int (w_11 ||| ((1 : Int32) <<< (((w_12 - w_12 / (10 : Int32) * (10 : Int32)) - (1 : Int32)) &&& 31)))), (5, .int ((w_12 - w_12 / (10 : Int32) * (10 : Int32)) - (1 : Int32))), (0, .ref (G.2.2.1 0))]) hx hb dX3_isOrder_71 hl (k := 4) rfl rfl (by decide) rfl (fun ls hl => ?_)
              refine lv_goto (tgt := 12) hx hb dX3_isOrder_74 (by decide) ?_
              exact ih _ _ _ _ _ _ _ h hP (lv_sub hl [4, 2, 1, 0] rfl)
            · have h := it_t h c_22
              refine lv_iconst (v := (0 : Int32)) hx hb dX3_isOrder_48 (by decide) ?_
              exact hret _ _ _ _ _ _ dX3_isOrder_49 rfl (Option.some.inj h) hP
  exact hL_10 _ _ _ _ _ _ _ _ h hP (lv_sub hl [3, 2, 1, 0] rfl)
def tw_isTable (σ : ST)  : Option Int32 :=
  (if (gI σ 0 6) ≤ 0 then some (0 : Int32) else (if (gI σ 0 8) ≤ 0 then some (0 : Int32) else some (1 : Int32)))
abbrev rm_X3_isTable : Room := rmf 0 0
set_option maxHeartbeats 4000000 in
set_option maxRecDepth 100000 in
theorem mt_X3_isTable (l : Launch) (G : GT) (σ : ST)  {r : Int32} (h : tw_isTable σ = some r) : CI l tw_ft G yX3_isTable (ws_ yX3_isTable cX3_isTable 1 (some .boolean)) rm_X3_isTable 0 0 [.ref (G.2.2.1 0)] σ (r, σ) := by
  refine m_enterI (by decide) rfl (lv := [(0, .ref (G.2.2.1 0))]) rfl ?_
  intro p e s m args below meth c H locs ls Q X hret hP hl
  have hx := X.1.1
  have hb := X.1.2.1
  have hown := X.1.2.2.2.1
  have hts := X.1.2.2.2.2
  unfold tw_isTable at h
  refine lv_aload_n hx hb dX3_isTable_0 rfl (lv_at hl 0 rfl) ?_
  refine r_geti X hP 0 tw_c0 lk_3 6 (Nat.le_of_ble_eq_true rfl) q1644 tw_f6 dX3_isTable_1 ?_
  refine lv_if_le (tgt := 18) hx hb dX3_isTable_4 (by decide) (fun c_1 => ?_) (fun c_1 => ?_)
  · have h := it_t h c_1
    refine lv_iconst (v := (0 : Int32)) hx hb dX3_isTable_18 (by decide) ?_
    exact hret _ _ _ _ _ _ dX3_isTable_19 rfl (congrArg (fun z9 => (z9, σ)) (Option.some.inj h)) hP
  · have h := it_f h c_1
    refine lv_aload_n hx hb dX3_isTable_7 rfl (lv_at hl 0 rfl) ?_
    refine r_geti X hP 0 tw_c0 lk_3 8 (Nat.le_of_ble_eq_true rfl) q1646 tw_f8 dX3_isTable_8 ?_
    refine lv_if_le (tgt := 18) hx hb dX3_isTable_11 (by decide) (fun c_2 => ?_) (fun c_2 => ?_)
    · have h := it_t h c_2
      refine lv_iconst (v := (0 : Int32)) hx hb dX3_isTable_18 (by decide) ?_
      exact hret _ _ _ _ _ _ dX3_isTable_19 rfl (congrArg (fun z9 => (z9, σ)) (Option.some.inj h)) hP
    · have h := it_f h c_2
      refine lv_iconst (v := (1 : Int32)) hx hb dX3_isTable_14 (by decide) ?_
      refine lv_goto (tgt := 19) hx hb dX3_isTable_15 (by decide) ?_
      exact hret _ _ _ _ _ _ dX3_isTable_19 rfl (congrArg (fun z9 => (z9, σ)) (Option.some.inj h)) hP
def tw_keepsRows_B34 (rc34 : Int32 → ST → Option (ST)) (w1 : Int32) (σ : ST) : Option (ST) :=
  (if (gI σ 0 30) ≤ w1 then some (σ) else ck w1 200 (ck w1 200 (st_ (aI σ 0 51 w1 (lI σ 0 39 w1)) (fun (σ_10 : ST) => ck w1 200 (ck w1 200 (st_ (aI σ_10 0 52 w1 (lI σ_10 0 40 w1)) (fun (σ_12 : ST) => ck w1 200 (ck w1 200 (st_ (aI σ_12 0 53 w1 (lI σ_12 0 41 w1)) (fun (σ_14 : ST) => ck w1 200 (ck w1 200 (st_ (aI σ_14 0 54 w1 (lI σ_14 0 42 w1)) (fun (σ_16 : ST) => ck w1 200 (ck w1 200 (st_ (aI σ_16 0 55 w1 (lI σ_16 0 43 w1)) (fun (σ_18 : ST) => ck w1 200 (ck w1 200 (st_ (aI σ_18 0 56 w1 (lI σ_18 0 44 w1)) (fun (σ_20 : ST) => ck w1 200 (ck w1 200 (st_ (aI σ_20 0 57 w1 (lI σ_20 0 45 w1)) (fun (σ_22 : ST) => (rc34 (w1 + (1 : Int32)) σ_22)))))))))))))))))))))))
def tw_keepsRows_B134 (rc134 : Int32 → ST → Option (ST)) (w1 : Int32) (σ : ST) : Option (ST) :=
  (if (gI σ 0 8) ≤ w1 then some (σ) else ck w1 6 (ck w1 6 (st_ (aI σ 0 58 w1 (lI σ 0 37 w1)) (fun (σ_29 : ST) => bo (tw_comesTo σ_29 w1) (fun (r_32 : Int32) => ck w1 6 (st_ (aI σ_29 0 59 w1 r_32) (fun (σ_33 : ST) => (rc134 (w1 + (1 : Int32)) σ_33))))))))
def tw_keepsRows_B173 (rc173 : Int32 → ST → Option (ST)) (w1 : Int32) (σ : ST) : Option (ST) :=
  (if (gI σ 0 9) ≤ w1 then some (σ) else ck w1 20 (ck w1 20 (st_ (aI σ 0 60 w1 (lI σ 0 35 w1)) (fun (σ_40 : ST) => ck w1 20 (ck w1 20 (st_ (aI σ_40 0 61 w1 (lI σ_40 0 36 w1)) (fun (σ_42 : ST) => (rc173 (w1 + (1 : Int32)) σ_42))))))))
def tw_keepsRows_B213 (rc213 : Int32 → ST → Option (ST)) (w1 : Int32) (σ : ST) : Option (ST) :=
  (if (gI σ 0 6) ≤ w1 then some (σ) else bo (tw_thereFor σ w1) (fun (r_50 : Int32) => ck w1 10 (st_ (aI σ 0 62 w1 r_50) (fun (σ_51 : ST) => (rc213 (w1 + (1 : Int32)) σ_51)))))
def tw_keepsRows (σ : ST)  : Option ST :=
  st_ (pI σ 0 46 (gI σ 0 30)) (fun (σ_1 : ST) => st_ (pI σ_1 0 47 (gI σ_1 0 6)) (fun (σ_3 : ST) => st_ (pI σ_3 0 48 (gI σ_3 0 8)) (fun (σ_5 : ST) => st_ (pI σ_5 0 49 (gI σ_5 0 9)) (fun (σ_7 : ST) => bo (wl2 (tw_keepsRows_B34 ) FU (0 : Int32) σ_7) (fun (σ_25 : ST) => bo (wl2 (tw_keepsRows_B134 ) FU (0 : Int32) σ_25) (fun (σ_36 : ST) => bo (wl2 (tw_keepsRows_B173 ) FU (0 : Int32) σ_36) (fun (σ_45 : ST) => bo (wl2 (tw_keepsRows_B213 ) FU (0 : Int32) σ_45) (fun (σ_54 : ST) => some σ_54))))))))
abbrev rm_X3_keepsRows : Room := rmf 2 44
set_option maxHeartbeats 4000000 in
set_option maxRecDepth 100000 in
theorem mt_X3_keepsRows (l : Launch) (G : GT) (σ : ST)  {u : ST} (h : tw_keepsRows σ = some u) : CV l tw_ft G yX3_keepsRows (ws_ yX3_keepsRows cX3_keepsRows 2 none) rm_X3_keepsRows 0 0 [.ref (G.2.2.1 0)] σ u := by
  refine m_enterV (by decide) rfl (lv := [(0, .ref (G.2.2.1 0))]) rfl ?_
  intro p e s m args below meth c H locs ls Q X hnm hret hP hl
  have hx := X.1.1
  have hb := X.1.2.1
  have hown := X.1.2.2.2.1
  have hts := X.1.2.2.2.2
  unfold tw_keepsRows at h
  refine lv_aload_n hx hb dX3_keepsRows_0 rfl (lv_at hl 0 rfl) ?_
  refine lv_aload_n hx hb dX3_keepsRows_1 rfl (lv_at hl 0 rfl) ?_
  refine r_geti X hP 0 tw_c0 lk_3 30 (Nat.le_of_ble_eq_true rfl) q1668 tw_f30 dX3_keepsRows_2 ?_
  refine r_puti X tw_w hP 0 tw_c0 lk_3 46 (Nat.le_of_ble_eq_true rfl) q1684 tw_f46 rfl (tyX3_ok 46 (by decide)) rfl rfl dX3_keepsRows_5 (fun σ_1 H locs e_2 hP => ?_)
  have h := st_k h e_2
  refine lv_aload_n hx hb dX3_keepsRows_8 rfl (lv_at hl 0 rfl) ?_
  refine lv_aload_n hx hb dX3_keepsRows_9 rfl (lv_at hl 0 rfl) ?_
  refine r_geti X hP 0 tw_c0 lk_3 6 (Nat.le_of_ble_eq_true rfl) q1644 tw_f6 dX3_keepsRows_10 ?_
  refine r_puti X tw_w hP 0 tw_c0 lk_3 47 (Nat.le_of_ble_eq_true rfl) q1685 tw_f47 rfl (tyX3_ok 47 (by decide)) rfl rfl dX3_keepsRows_13 (fun σ_3 H locs e_4 hP => ?_)
  have h := st_k h e_4
  refine lv_aload_n hx hb dX3_keepsRows_16 rfl (lv_at hl 0 rfl) ?_
  refine lv_aload_n hx hb dX3_keepsRows_17 rfl (lv_at hl 0 rfl) ?_
  refine r_geti X hP 0 tw_c0 lk_3 8 (Nat.le_of_ble_eq_true rfl) q1646 tw_f8 dX3_keepsRows_18 ?_
  refine r_puti X tw_w hP 0 tw_c0 lk_3 48 (Nat.le_of_ble_eq_true rfl) q1686 tw_f48 rfl (tyX3_ok 48 (by decide)) rfl rfl dX3_keepsRows_21 (fun σ_5 H locs e_6 hP => ?_)
  have h := st_k h e_6
  refine lv_aload_n hx hb dX3_keepsRows_24 rfl (lv_at hl 0 rfl) ?_
  refine lv_aload_n hx hb dX3_keepsRows_25 rfl (lv_at hl 0 rfl) ?_
  refine r_geti X hP 0 tw_c0 lk_3 9 (Nat.le_of_ble_eq_true rfl) q1647 tw_f9 dX3_keepsRows_26 ?_
  refine r_puti X tw_w hP 0 tw_c0 lk_3 49 (Nat.le_of_ble_eq_true rfl) q1687 tw_f49 rfl (tyX3_ok 49 (by decide)) rfl rfl dX3_keepsRows_29 (fun σ_7 H locs e_8 hP => ?_)
  have h := st_k h e_8
  refine lv_iconst (v := (0 : Int32)) hx hb dX3_keepsRows_32 (by decide) ?_
  refine lv_istore_n (lv' := [(1, .int (0 : Int32)), (0, .ref (G.2.2.1 0))]) hx hb dX3_keepsRows_33 rfl hl (by decide) rfl (fun ls hl => ?_)
  obtain ⟨σ_25, h_26, h⟩ := bo_ex h
  have hE_27 : ∀ (H : Heap) (locs : List Loc) (ls : Array Slot), PS tw_ft G s σ_25 H locs → lv_has ls 2 [(0, .ref (G.2.2.1 0))] → W p l e rm_X3_keepsRows s m args below meth c H locs 0 0 Q (F0 m 132 ls []) := by
    intro H locs ls hP hl
    refine lv_iconst (v := (0 : Int32)) hx hb dX3_keepsRows_132 (by decide) ?_
    refine lv_istore_n (lv' := [(1, .int (0 : Int32)), (0, .ref (G.2.2.1 0))]) hx hb dX3_keepsRows_133 rfl hl (by decide) rfl (fun ls hl => ?_)
    obtain ⟨σ_36, h_37, h⟩ := bo_ex h
    have hE_38 : ∀ (H : Heap) (locs : List Loc) (ls : Array Slot), PS tw_ft G s σ_36 H locs → lv_has ls 2 [(0, .ref (G.2.2.1 0))] → W p l e rm_X3_keepsRows s m args below meth c H locs 0 0 Q (F0 m 171 ls []) := by
      intro H locs ls hP hl
      refine lv_iconst (v := (0 : Int32)) hx hb dX3_keepsRows_171 (by decide) ?_
      refine lv_istore_n (lv' := [(1, .int (0 : Int32)), (0, .ref (G.2.2.1 0))]) hx hb dX3_keepsRows_172 rfl hl (by decide) rfl (fun ls hl => ?_)
      obtain ⟨σ_45, h_46, h⟩ := bo_ex h
      have hE_47 : ∀ (H : Heap) (locs : List Loc) (ls : Array Slot), PS tw_ft G s σ_45 H locs → lv_has ls 2 [(0, .ref (G.2.2.1 0))] → W p l e rm_X3_keepsRows s m args below meth c H locs 0 0 Q (F0 m 211 ls []) := by
        intro H locs ls hP hl
        refine lv_iconst (v := (0 : Int32)) hx hb dX3_keepsRows_211 (by decide) ?_
        refine lv_istore_n (lv' := [(1, .int (0 : Int32)), (0, .ref (G.2.2.1 0))]) hx hb dX3_keepsRows_212 rfl hl (by decide) rfl (fun ls hl => ?_)
        obtain ⟨σ_54, h_55, h⟩ := bo_ex h
        have hE_56 : ∀ (H : Heap) (locs : List Loc) (ls : Array Slot), PS tw_ft G s σ_54 H locs → lv_has ls 2 [] → W p l e rm_X3_keepsRows s m args below meth c H locs 0 0 Q (F0 m 238 ls []) := by
          intro H locs ls hP hl
          exact hret _ _ _ _ _ dX3_keepsRows_238 (Option.some.inj h) hP
        have hL_53 : ∀ (n : Nat) (w_57 : Int32) (σ_58 : ST) (H : Heap) (locs : List Loc) (ls : Array Slot), wl2 (tw_keepsRows_B213 ) n w_57 σ_58 = some σ_54 → PS tw_ft G s σ_58 H locs → lv_has ls 2 [(0, .ref (G.2.2.1 0)), (1, .int w_57)] → W p l e rm_X3_keepsRows s m args below meth c H locs 0 0 Q (F0 m 213 ls []) := by
          intro n
          induction n with
          | zero => intro w_57 σ_58 H locs ls h_59; cases h_59
          | succ n ih =>
            intro w_57 σ_58 H locs ls h_59 hP hl
            have h_59 : tw_keepsRows_B213  (wl2 (tw_keepsRows_B213 ) n) w_57 σ_58 = some _ := h_59
            generalize wl2 (tw_keepsRows_B213 ) n = rc_60 at h_59 ih
            unfold tw_keepsRows_B213 at h_59
            refine lv_iload_n hx hb dX3_keepsRows_213 rfl (lv_at hl 1 rfl) ?_
            refine lv_aload_n hx hb dX3_keepsRows_214 rfl (lv_at hl 0 rfl) ?_
            refine r_geti X hP 0 tw_c0 lk_3 6 (Nat.le_of_ble_eq_true rfl) q1644 tw_f6 dX3_keepsRows_215 ?_
            refine lv_icmp_ge (tgt := 238) hx hb dX3_keepsRows_218 (by decide) (fun c_61 => ?_) (fun c_61 => ?_)
            · have h_59 := it_t h_59 c_61
              obtain rfl := Option.some.inj h_59
              exact hE_56 _ _ _ hP (lv_sub hl [] rfl)
            · have h_59 := it_f h_59 c_61
              refine lv_aload_n hx hb dX3_keepsRows_221 rfl (lv_at hl 0 rfl) ?_
              refine r_geta X hP 0 tw_c0 lk_3 62 (Nat.le_of_ble_eq_true rfl) q1700 tw_f62 dX3_keepsRows_222 ?_
              refine lv_iload_n hx hb dX3_keepsRows_225 rfl (lv_at hl 1 rfl) ?_
              refine lv_aload_n hx hb dX3_keepsRows_226 rfl (lv_at hl 0 rfl) ?_
              refine lv_iload_n hx hb dX3_keepsRows_227 rfl (lv_at hl 1 rfl) ?_
              obtain ⟨r_63, e_62, h_59⟩ := bo_ex h_59
              refine r_calli (r_runV (rest := [.int w_57, .ref (G.2.2.1 38)]) X hP 0 tw_c0 lk_3 (mt_X3_thereFor l G σ_58 w_57 e_62) (cwV 1 hts (lw_V q2096 q2098 qs88 q113 q2099) rfl rfl rfl ⟨rfl, cdX3_thereFor⟩ ⟨Nat.le_of_ble_eq_true rfl, Nat.le_of_ble_eq_true rfl⟩) rfl hl.1 rfl (Nat.le_of_ble_eq_true rfl) dX3_keepsRows_228 ⟨Nat.le_refl _, Nat.le_refl _⟩) hP (fun H locs hP => ?_)
              refine r_iast X tw_w hP 38 tw_c38 (ck_in h_59) dX3_keepsRows_231 (fun σ_64 H locs e_65 hP => ?_)
              have h_59 := st_k (ck_k h_59) e_65
              refine lv_iinc (v := (w_57 + (1 : Int32))) (lv' := [(1, .int (w_57 + (1 : Int32))), (0, .ref (G.2.2.1 0))]) hx hb dX3_keepsRows_232 hl (k := 1) rfl rfl (by decide) rfl (fun ls hl => ?_)
              refine lv_goto (tgt := 213) hx hb dX3_keepsRows_235 (by decide) ?_
              exact ih _ _ _ _ _ h_59 hP (lv_sub hl [1, 0] rfl)
        exact hL_53 _ _ _ _ _ _ h_55 hP (lv_sub hl [1, 0] rfl)
      have hL_44 : ∀ (n : Nat) (w_66 : Int32) (σ_67 : ST) (H : Heap) (locs : List Loc) (ls : Array Slot), wl2 (tw_keepsRows_B173 ) n w_66 σ_67 = some σ_45 → PS tw_ft G s σ_67 H locs → lv_has ls 2 [(0, .ref (G.2.2.1 0)), (1, .int w_66)] → W p l e rm_X3_keepsRows s m args below meth c H locs 0 0 Q (F0 m 173 ls []) := by
        intro n
        induction n with
        | zero => intro w_66 σ_67 H locs ls h_68; cases h_68
        | succ n ih =>
          intro w_66 σ_67 H locs ls h_68 hP hl
          have h_68 : tw_keepsRows_B173  (wl2 (tw_keepsRows_B173 ) n) w_66 σ_67 = some _ := h_68
          generalize wl2 (tw_keepsRows_B173 ) n = rc_69 at h_68 ih
          unfold tw_keepsRows_B173 at h_68
          refine lv_iload_n hx hb dX3_keepsRows_173 rfl (lv_at hl 1 rfl) ?_
          refine lv_aload_n hx hb dX3_keepsRows_174 rfl (lv_at hl 0 rfl) ?_
          refine r_geti X hP 0 tw_c0 lk_3 9 (Nat.le_of_ble_eq_true rfl) q1647 tw_f9 dX3_keepsRows_175 ?_
          refine lv_icmp_ge (tgt := 211) hx hb dX3_keepsRows_178 (by decide) (fun c_70 => ?_) (fun c_70 => ?_)
          · have h_68 := it_t h_68 c_70
            obtain rfl := Option.some.inj h_68
            exact hE_47 _ _ _ hP (lv_sub hl [0] rfl)
          · have h_68 := it_f h_68 c_70
            refine lv_aload_n hx hb dX3_keepsRows_181 rfl (lv_at hl 0 rfl) ?_
            refine r_geta X hP 0 tw_c0 lk_3 60 (Nat.le_of_ble_eq_true rfl) q1698 tw_f60 dX3_keepsRows_182 ?_
            refine lv_iload_n hx hb dX3_keepsRows_185 rfl (lv_at hl 1 rfl) ?_
            refine lv_aload_n hx hb dX3_keepsRows_186 rfl (lv_at hl 0 rfl) ?_
            refine r_geta X hP 0 tw_c0 lk_3 35 (Nat.le_of_ble_eq_true rfl) q1673 tw_f35 dX3_keepsRows_187 ?_
            refine lv_iload_n hx hb dX3_keepsRows_190 rfl (lv_at hl 1 rfl) ?_
            refine r_iald X hP 15 tw_c15 (ck_in h_68) dX3_keepsRows_191 ?_
            have h_68 := ck_k h_68
            refine r_iast X tw_w hP 36 tw_c36 (ck_in h_68) dX3_keepsRows_192 (fun σ_71 H locs e_72 hP => ?_)
            have h_68 := st_k (ck_k h_68) e_72
            refine lv_aload_n hx hb dX3_keepsRows_193 rfl (lv_at hl 0 rfl) ?_
            refine r_geta X hP 0 tw_c0 lk_3 61 (Nat.le_of_ble_eq_true rfl) q1699 tw_f61 dX3_keepsRows_194 ?_
            refine lv_iload_n hx hb dX3_keepsRows_197 rfl (lv_at hl 1 rfl) ?_
            refine lv_aload_n hx hb dX3_keepsRows_198 rfl (lv_at hl 0 rfl) ?_
            refine r_geta X hP 0 tw_c0 lk_3 36 (Nat.le_of_ble_eq_true rfl) q1674 tw_f36 dX3_keepsRows_199 ?_
            refine lv_iload_n hx hb dX3_keepsRows_202 rfl (lv_at hl 1 rfl) ?_
            refine r_iald X hP 16 tw_c16 (ck_in h_68) dX3_keepsRows_203 ?_
            have h_68 := ck_k h_68
            refine r_iast X tw_w hP 37 tw_c37 (ck_in h_68) dX3_keepsRows_204 (fun σ_73 H locs e_74 hP => ?_)
            have h_68 := st_k (ck_k h_68) e_74
            refine lv_iinc (v := (w_66 + (1 : Int32))) (lv' := [(1, .int (w_66 + (1 : Int32))), (0, .ref (G.2.2.1 0))]) hx hb dX3_keepsRows_205 hl (k := 1) rfl rfl (by decide) rfl (fun ls hl => ?_)
            refine lv_goto (tgt := 173) hx hb dX3_keepsRows_208 (by decide) ?_
            exact ih _ _ _ _ _ h_68 hP (lv_sub hl [1, 0] rfl)
      exact hL_44 _ _ _ _ _ _ h_46 hP (lv_sub hl [1, 0] rfl)
    have hL_35 : ∀ (n : Nat) (w_75 : Int32) (σ_76 : ST) (H : Heap) (locs : List Loc) (ls : Array Slot), wl2 (tw_keepsRows_B134 ) n w_75 σ_76 = some σ_36 → PS tw_ft G s σ_76 H locs → lv_has ls 2 [(0, .ref (G.2.2.1 0)), (1, .int w_75)] → W p l e rm_X3_keepsRows s m args below meth c H locs 0 0 Q (F0 m 134 ls []) := by
      intro n
      induction n with
      | zero => intro w_75 σ_76 H locs ls h_77; cases h_77
      | succ n ih =>
        intro w_75 σ_76 H locs ls h_77 hP hl
        have h_77 : tw_keepsRows_B134  (wl2 (tw_keepsRows_B134 ) n) w_75 σ_76 = some _ := h_77
        generalize wl2 (tw_keepsRows_B134 ) n = rc_78 at h_77 ih
        unfold tw_keepsRows_B134 at h_77
        refine lv_iload_n hx hb dX3_keepsRows_134 rfl (lv_at hl 1 rfl) ?_
        refine lv_aload_n hx hb dX3_keepsRows_135 rfl (lv_at hl 0 rfl) ?_
        refine r_geti X hP 0 tw_c0 lk_3 8 (Nat.le_of_ble_eq_true rfl) q1646 tw_f8 dX3_keepsRows_136 ?_
        refine lv_icmp_ge (tgt := 171) hx hb dX3_keepsRows_139 (by decide) (fun c_79 => ?_) (fun c_79 => ?_)
        · have h_77 := it_t h_77 c_79
          obtain rfl := Option.some.inj h_77
          exact hE_38 _ _ _ hP (lv_sub hl [0] rfl)
        · have h_77 := it_f h_77 c_79
          refine lv_aload_n hx hb dX3_keepsRows_142 rfl (lv_at hl 0 rfl) ?_
          refine r_geta X hP 0 tw_c0 lk_3 58 (Nat.le_of_ble_eq_true rfl) q1696 tw_f58 dX3_keepsRows_143 ?_
          refine lv_iload_n hx hb dX3_keepsRows_146 rfl (lv_at hl 1 rfl) ?_
          refine lv_aload_n hx hb dX3_keepsRows_147 rfl (lv_at hl 0 rfl) ?_
          refine r_geta X hP 0 tw_c0 lk_3 37 (Nat.le_of_ble_eq_true rfl) q1675 tw_f37 dX3_keepsRows_148 ?_
          refine lv_iload_n hx hb dX3_keepsRows_151 rfl (lv_at hl 1 rfl) ?_
          refine r_iald X hP 17 tw_c17 (ck_in h_77) dX3_keepsRows_152 ?_
          have h_77 := ck_k h_77
          refine r_iast X tw_w hP 34 tw_c34 (ck_in h_77) dX3_keepsRows_153 (fun σ_80 H locs e_81 hP => ?_)
          have h_77 := st_k (ck_k h_77) e_81
          refine lv_aload_n hx hb dX3_keepsRows_154 rfl (lv_at hl 0 rfl) ?_
          refine r_geta X hP 0 tw_c0 lk_3 59 (Nat.le_of_ble_eq_true rfl) q1697 tw_f59 dX3_keepsRows_155 ?_
          refine lv_iload_n hx hb dX3_keepsRows_158 rfl (lv_at hl 1 rfl) ?_
          refine lv_aload_n hx hb dX3_keepsRows_159 rfl (lv_at hl 0 rfl) ?_
          refine lv_iload_n hx hb dX3_keepsRows_160 rfl (lv_at hl 1 rfl) ?_
          obtain ⟨r_83, e_82, h_77⟩ := bo_ex h_77
          refine r_calli (r_runV (rest := [.int w_75, .ref (G.2.2.1 35)]) X hP 0 tw_c0 lk_3 (mt_X3_comesTo l G σ_80 w_75 e_82) (cwV 1 hts (lw_V q2092 q2094 qs87 q113 q2095) rfl rfl rfl ⟨rfl, cdX3_comesTo⟩ ⟨Nat.le_of_ble_eq_true rfl, Nat.le_of_ble_eq_true rfl⟩) rfl hl.1 rfl (Nat.le_of_ble_eq_true rfl) dX3_keepsRows_161 ⟨Nat.le_refl _, Nat.le_refl _⟩) hP (fun H locs hP => ?_)
          refine r_iast X tw_w hP 35 tw_c35 (ck_in h_77) dX3_keepsRows_164 (fun σ_84 H locs e_85 hP => ?_)
          have h_77 := st_k (ck_k h_77) e_85
          refine lv_iinc (v := (w_75 + (1 : Int32))) (lv' := [(1, .int (w_75 + (1 : Int32))), (0, .ref (G.2.2.1 0))]) hx hb dX3_keepsRows_165 hl (k := 1) rfl rfl (by decide) rfl (fun ls hl => ?_)
          refine lv_goto (tgt := 134) hx hb dX3_keepsRows_168 (by decide) ?_
          exact ih _ _ _ _ _ h_77 hP (lv_sub hl [1, 0] rfl)
    exact hL_35 _ _ _ _ _ _ h_37 hP (lv_sub hl [1, 0] rfl)
  have hL_24 : ∀ (n : Nat) (w_86 : Int32) (σ_87 : ST) (H : Heap) (locs : List Loc) (ls : Array Slot), wl2 (tw_keepsRows_B34 ) n w_86 σ_87 = some σ_25 → PS tw_ft G s σ_87 H locs → lv_has ls 2 [(0, .ref (G.2.2.1 0)), (1, .int w_86)] → W p l e rm_X3_keepsRows s m args below meth c H locs 0 0 Q (F0 m 34 ls []) := by
    intro n
    induction n with
    | zero => intro w_86 σ_87 H locs ls h_88; cases h_88
    | succ n ih =>
      intro w_86 σ_87 H locs ls h_88 hP hl
      have h_88 : tw_keepsRows_B34  (wl2 (tw_keepsRows_B34 ) n) w_86 σ_87 = some _ := h_88
      generalize wl2 (tw_keepsRows_B34 ) n = rc_89 at h_88 ih
      unfold tw_keepsRows_B34 at h_88
      refine lv_iload_n hx hb dX3_keepsRows_34 rfl (lv_at hl 1 rfl) ?_
      refine lv_aload_n hx hb dX3_keepsRows_35 rfl (lv_at hl 0 rfl) ?_
      refine r_geti X hP 0 tw_c0 lk_3 30 (Nat.le_of_ble_eq_true rfl) q1668 tw_f30 dX3_keepsRows_36 ?_
      refine lv_icmp_ge (tgt := 132) hx hb dX3_keepsRows_39 (by decide) (fun c_90 => ?_) (fun c_90 => ?_)
      · have h_88 := it_t h_88 c_90
        obtain rfl := Option.some.inj h_88
        exact hE_27 _ _ _ hP (lv_sub hl [0] rfl)
      · have h_88 := it_f h_88 c_90
        refine lv_aload_n hx hb dX3_keepsRows_42 rfl (lv_at hl 0 rfl) ?_
        refine r_geta X hP 0 tw_c0 lk_3 51 (Nat.le_of_ble_eq_true rfl) q1689 tw_f51 dX3_keepsRows_43 ?_
        refine lv_iload_n hx hb dX3_keepsRows_46 rfl (lv_at hl 1 rfl) ?_
        refine lv_aload_n hx hb dX3_keepsRows_47 rfl (lv_at hl 0 rfl) ?_
        refine r_geta X hP 0 tw_c0 lk_3 39 (Nat.le_of_ble_eq_true rfl) q1677 tw_f39 dX3_keepsRows_48 ?_
        refine lv_iload_n hx hb dX3_keepsRows_51 rfl (lv_at hl 1 rfl) ?_
        refine r_iald X hP 19 tw_c19 (ck_in h_88) dX3_keepsRows_52 ?_
        have h_88 := ck_k h_88
        refine r_iast X tw_w hP 27 tw_c27 (ck_in h_88) dX3_keepsRows_53 (fun σ_91 H locs e_92 hP => ?_)
        have h_88 := st_k (ck_k h_88) e_92
        refine lv_aload_n hx hb dX3_keepsRows_54 rfl (lv_at hl 0 rfl) ?_
        refine r_geta X hP 0 tw_c0 lk_3 52 (Nat.le_of_ble_eq_true rfl) q1690 tw_f52 dX3_keepsRows_55 ?_
        refine lv_iload_n hx hb dX3_keepsRows_58 rfl (lv_at hl 1 rfl) ?_
        refine lv_aload_n hx hb dX3_keepsRows_59 rfl (lv_at hl 0 rfl) ?_
        refine r_geta X hP 0 tw_c0 lk_3 40 (Nat.le_of_ble_eq_true rfl) q1678 tw_f40 dX3_keepsRows_60 ?_
        refine lv_iload_n hx hb dX3_keepsRows_63 rfl (lv_at hl 1 rfl) ?_
        refine r_iald X hP 20 tw_c20 (ck_in h_88) dX3_keepsRows_64 ?_
        have h_88 := ck_k h_88
        refine r_iast X tw_w hP 28 tw_c28 (ck_in h_88) dX3_keepsRows_65 (fun σ_93 H locs e_94 hP => ?_)
        have h_88 := st_k (ck_k h_88) e_94
        refine lv_aload_n hx hb dX3_keepsRows_66 rfl (lv_at hl 0 rfl) ?_
        refine r_geta X hP 0 tw_c0 lk_3 53 (Nat.le_of_ble_eq_true rfl) q1691 tw_f53 dX3_keepsRows_67 ?_
        refine lv_iload_n hx hb dX3_keepsRows_70 rfl (lv_at hl 1 rfl) ?_
        refine lv_aload_n hx hb dX3_keepsRows_71 rfl (lv_at hl 0 rfl) ?_
        refine r_geta X hP 0 tw_c0 lk_3 41 (Nat.le_of_ble_eq_true rfl) q1679 tw_f41 dX3_keepsRows_72 ?_
        refine lv_iload_n hx hb dX3_keepsRows_75 rfl (lv_at hl 1 rfl) ?_
        refine r_iald X hP 21 tw_c21 (ck_in h_88) dX3_keepsRows_76 ?_
        have h_88 := ck_k h_88
        refine r_iast X tw_w hP 29 tw_c29 (ck_in h_88) dX3_keepsRows_77 (fun σ_95 H locs e_96 hP => ?_)
        have h_88 := st_k (ck_k h_88) e_96
        refine lv_aload_n hx hb dX3_keepsRows_78 rfl (lv_at hl 0 rfl) ?_
        refine r_geta X hP 0 tw_c0 lk_3 54 (Nat.le_of_ble_eq_true rfl) q1692 tw_f54 dX3_keepsRows_79 ?_
        refine lv_iload_n hx hb dX3_keepsRows_82 rfl (lv_at hl 1 rfl) ?_
        refine lv_aload_n hx hb dX3_keepsRows_83 rfl (lv_at hl 0 rfl) ?_
        refine r_geta X hP 0 tw_c0 lk_3 42 (Nat.le_of_ble_eq_true rfl) q1680 tw_f42 dX3_keepsRows_84 ?_
        refine lv_iload_n hx hb dX3_keepsRows_87 rfl (lv_at hl 1 rfl) ?_
        refine r_iald X hP 22 tw_c22 (ck_in h_88) dX3_keepsRows_88 ?_
        have h_88 := ck_k h_88
        refine r_iast X tw_w hP 30 tw_c30 (ck_in h_88) dX3_keepsRows_89 (fun σ_97 H locs e_98 hP => ?_)
        have h_88 := st_k (ck_k h_88) e_98
        refine lv_aload_n hx hb dX3_keepsRows_90 rfl (lv_at hl 0 rfl) ?_
        refine r_geta X hP 0 tw_c0 lk_3 55 (Nat.le_of_ble_eq_true rfl) q1693 tw_f55 dX3_keepsRows_91 ?_
        refine lv_iload_n hx hb dX3_keepsRows_94 rfl (lv_at hl 1 rfl) ?_
        refine lv_aload_n hx hb dX3_keepsRows_95 rfl (lv_at hl 0 rfl) ?_
        refine r_geta X hP 0 tw_c0 lk_3 43 (Nat.le_of_ble_eq_true rfl) q1681 tw_f43 dX3_keepsRows_96 ?_
        refine lv_iload_n hx hb dX3_keepsRows_99 rfl (lv_at hl 1 rfl) ?_
        refine r_iald X hP 23 tw_c23 (ck_in h_88) dX3_keepsRows_100 ?_
        have h_88 := ck_k h_88
        refine r_iast X tw_w hP 31 tw_c31 (ck_in h_88) dX3_keepsRows_101 (fun σ_99 H locs e_100 hP => ?_)
        have h_88 := st_k (ck_k h_88) e_100
        refine lv_aload_n hx hb dX3_keepsRows_102 rfl (lv_at hl 0 rfl) ?_
        refine r_geta X hP 0 tw_c0 lk_3 56 (Nat.le_of_ble_eq_true rfl) q1694 tw_f56 dX3_keepsRows_103 ?_
        refine lv_iload_n hx hb dX3_keepsRows_106 rfl (lv_at hl 1 rfl) ?_
        refine lv_aload_n hx hb dX3_keepsRows_107 rfl (lv_at hl 0 rfl) ?_
        refine r_geta X hP 0 tw_c0 lk_3 44 (Nat.le_of_ble_eq_true rfl) q1682 tw_f44 dX3_keepsRows_108 ?_
        refine lv_iload_n hx hb dX3_keepsRows_111 rfl (lv_at hl 1 rfl) ?_
        refine r_iald X hP 24 tw_c24 (ck_in h_88) dX3_keepsRows_112 ?_
        have h_88 := ck_k h_88
        refine r_iast X tw_w hP 32 tw_c32 (ck_in h_88) dX3_keepsRows_113 (fun σ_101 H locs e_102 hP => ?_)
        have h_88 := st_k (ck_k h_88) e_102
        refine lv_aload_n hx hb dX3_keepsRows_114 rfl (lv_at hl 0 rfl) ?_
        refine r_geta X hP 0 tw_c0 lk_3 57 (Nat.le_of_ble_eq_true rfl) q1695 tw_f57 dX3_keepsRows_115 ?_
        refine lv_iload_n hx hb dX3_keepsRows_118 rfl (lv_at hl 1 rfl) ?_
        refine lv_aload_n hx hb dX3_keepsRows_119 rfl (lv_at hl 0 rfl) ?_
        refine r_geta X hP 0 tw_c0 lk_3 45 (Nat.le_of_ble_eq_true rfl) q1683 tw_f45 dX3_keepsRows_120 ?_
        refine lv_iload_n hx hb dX3_keepsRows_123 rfl (lv_at hl 1 rfl) ?_
        refine r_iald X hP 25 tw_c25 (ck_in h_88) dX3_keepsRows_124 ?_
        have h_88 := ck_k h_88
        refine r_iast X tw_w hP 33 tw_c33 (ck_in h_88) dX3_keepsRows_125 (fun σ_103 H locs e_104 hP => ?_)
        have h_88 := st_k (ck_k h_88) e_104
        refine lv_iinc (v := (w_86 + (1 : Int32))) (lv' := [(1, .int (w_86 + (1 : Int32))), (0, .ref (G.2.2.1 0))]) hx hb dX3_keepsRows_126 hl (k := 1) rfl rfl (by decide) rfl (fun ls hl => ?_)
        refine lv_goto (tgt := 34) hx hb dX3_keepsRows_129 (by decide) ?_
        exact ih _ _ _ _ _ h_88 hP (lv_sub hl [1, 0] rfl)
  exact hL_24 _ _ _ _ _ _ h_26 hP (lv_sub hl [1, 0] rfl)
def tw_wishes (σ : ST) (a1 : Int32) : Option Int32 :=
  bo (tw_isThere σ a1) (fun (r_2 : Int32) => (if r_2 = 0 then some (0 : Int32) else ck a1 10 ((if (lI σ 0 33 a1) ≤ 0 then some (0 : Int32) else some (1 : Int32)))))
abbrev rm_X3_wishes : Room := rmf 1 21
set_option maxHeartbeats 4000000 in
set_option maxRecDepth 100000 in
theorem mt_X3_wishes (l : Launch) (G : GT) (σ : ST) (a1 : Int32) {r : Int32} (h : tw_wishes σ a1 = some r) : CI l tw_ft G yX3_wishes (ws_ yX3_wishes cX3_wishes 2 (some .boolean)) rm_X3_wishes 0 0 [.ref (G.2.2.1 0), .int a1] σ (r, σ) := by
  refine m_enterI (by decide) rfl (lv := [(0, .ref (G.2.2.1 0)), (1, .int a1)]) rfl ?_
  intro p e s m args below meth c H locs ls Q X hret hP hl
  have hx := X.1.1
  have hb := X.1.2.1
  have hown := X.1.2.2.2.1
  have hts := X.1.2.2.2.2
  unfold tw_wishes at h
  refine lv_aload_n hx hb dX3_wishes_0 rfl (lv_at hl 0 rfl) ?_
  refine lv_iload_n hx hb dX3_wishes_1 rfl (lv_at hl 1 rfl) ?_
  obtain ⟨r_2, e_1, h⟩ := bo_ex h
  refine r_calli (r_runV (rest := []) X hP 0 tw_c0 lk_3 (mt_X3_isThere l G σ a1 e_1) (cwV 1 hts (lw_V q2032 q2034 qs72 q113 q2035) rfl rfl rfl ⟨rfl, cdX3_isThere⟩ ⟨Nat.le_of_ble_eq_true rfl, Nat.le_of_ble_eq_true rfl⟩) rfl hl.1 rfl (Nat.le_of_ble_eq_true rfl) dX3_wishes_2 ⟨Nat.le_refl _, Nat.le_refl _⟩) hP (fun H locs hP => ?_)
  refine lv_if_eq (tgt := 21) hx hb dX3_wishes_5 (by decide) (fun c_3 => ?_) (fun c_3 => ?_)
  · have h := it_t h c_3
    refine lv_iconst (v := (0 : Int32)) hx hb dX3_wishes_21 (by decide) ?_
    exact hret _ _ _ _ _ _ dX3_wishes_22 rfl (congrArg (fun z9 => (z9, σ)) (Option.some.inj h)) hP
  · have h := it_f h c_3
    refine lv_aload_n hx hb dX3_wishes_8 rfl (lv_at hl 0 rfl) ?_
    refine r_geta X hP 0 tw_c0 lk_3 33 (Nat.le_of_ble_eq_true rfl) q1671 tw_f33 dX3_wishes_9 ?_
    refine lv_iload_n hx hb dX3_wishes_12 rfl (lv_at hl 1 rfl) ?_
    refine r_iald X hP 13 tw_c13 (ck_in h) dX3_wishes_13 ?_
    have h := ck_k h
    refine lv_if_le (tgt := 21) hx hb dX3_wishes_14 (by decide) (fun c_4 => ?_) (fun c_4 => ?_)
    · have h := it_t h c_4
      refine lv_iconst (v := (0 : Int32)) hx hb dX3_wishes_21 (by decide) ?_
      exact hret _ _ _ _ _ _ dX3_wishes_22 rfl (congrArg (fun z9 => (z9, σ)) (Option.some.inj h)) hP
    · have h := it_f h c_4
      refine lv_iconst (v := (1 : Int32)) hx hb dX3_wishes_17 (by decide) ?_
      refine lv_goto (tgt := 22) hx hb dX3_wishes_18 (by decide) ?_
      exact hret _ _ _ _ _ _ dX3_wishes_22 rfl (congrArg (fun z9 => (z9, σ)) (Option.some.inj h)) hP
def tw_byTurns_B2 (σ : ST) (rc2 : Int32 → Option Int32) (w1 : Int32) : Option Int32 :=
  (if (gI σ 0 6) < w1 then some (-1 : Int32) else nz (gI σ 0 6) (bo (tw_wishes σ (((gI σ 0 31) + w1) - ((gI σ 0 31) + w1) / (gI σ 0 6) * (gI σ 0 6))) (fun (r_3 : Int32) => (if r_3 = 0 then (rc2 (w1 + (1 : Int32))) else some (((gI σ 0 31) + w1) - ((gI σ 0 31) + w1) / (gI σ 0 6) * (gI σ 0 6))))))
def tw_byTurns (σ : ST)  : Option Int32 :=
  wl1 (tw_byTurns_B2 σ ) FU (1 : Int32)
abbrev rm_X3_byTurns : Room := rmf 2 42
set_option maxHeartbeats 4000000 in
set_option maxRecDepth 100000 in
theorem mt_X3_byTurns (l : Launch) (G : GT) (σ : ST)  {r : Int32} (h : tw_byTurns σ = some r) : CI l tw_ft G yX3_byTurns (ws_ yX3_byTurns cX3_byTurns 3 (some .int)) rm_X3_byTurns 0 0 [.ref (G.2.2.1 0)] σ (r, σ) := by
  refine m_enterI (by decide) rfl (lv := [(0, .ref (G.2.2.1 0))]) rfl ?_
  intro p e s m args below meth c H locs ls Q X hret hP hl
  have hx := X.1.1
  have hb := X.1.2.1
  have hown := X.1.2.2.2.1
  have hts := X.1.2.2.2.2
  unfold tw_byTurns at h
  refine lv_iconst (v := (1 : Int32)) hx hb dX3_byTurns_0 (by decide) ?_
  refine lv_istore_n (lv' := [(1, .int (1 : Int32)), (0, .ref (G.2.2.1 0))]) hx hb dX3_byTurns_1 rfl hl (by decide) rfl (fun ls hl => ?_)
  have hL_5 : ∀ (n : Nat) (w_6 : Int32) (H : Heap) (locs : List Loc) (ls : Array Slot), wl1 (tw_byTurns_B2 σ ) n w_6 = some r → PS tw_ft G s σ H locs → lv_has ls 3 [(0, .ref (G.2.2.1 0)), (1, .int w_6)] → W p l e rm_X3_byTurns s m args below meth c H locs 0 0 Q (F0 m 2 ls []) := by
    intro n
    induction n with
    | zero => intro w_6 H locs ls h; cases h
    | succ n ih =>
      intro w_6 H locs ls h hP hl
      have h : tw_byTurns_B2 σ  (wl1 (tw_byTurns_B2 σ ) n) w_6 = some _ := h
      generalize wl1 (tw_byTurns_B2 σ ) n = rc_7 at h ih
      unfold tw_byTurns_B2 at h
      refine lv_iload_n hx hb dX3_byTurns_2 rfl (lv_at hl 1 rfl) ?_
      refine lv_aload_n hx hb dX3_byTurns_3 rfl (lv_at hl 0 rfl) ?_
      refine r_geti X hP 0 tw_c0 lk_3 6 (Nat.le_of_ble_eq_true rfl) q1644 tw_f6 dX3_byTurns_4 ?_
      refine lv_icmp_gt (tgt := 38) hx hb dX3_byTurns_7 (by decide) (fun c_8 => ?_) (fun c_8 => ?_)
      · have h := it_t h c_8
        refine lv_iconst (v := (-1 : Int32)) hx hb dX3_byTurns_38 (by decide) ?_
        exact hret _ _ _ _ _ _ dX3_byTurns_39 rfl (congrArg (fun z9 => (z9, σ)) (Option.some.inj h)) hP
      · have h := it_f h c_8
        refine lv_aload_n hx hb dX3_byTurns_10 rfl (lv_at hl 0 rfl) ?_
        refine r_geti X hP 0 tw_c0 lk_3 31 (Nat.le_of_ble_eq_true rfl) q1669 tw_f31 dX3_byTurns_11 ?_
        refine lv_iload_n hx hb dX3_byTurns_14 rfl (lv_at hl 1 rfl) ?_
        refine lv_iadd hx hb dX3_byTurns_15 ?_
        refine lv_aload_n hx hb dX3_byTurns_16 rfl (lv_at hl 0 rfl) ?_
        refine r_geti X hP 0 tw_c0 lk_3 6 (Nat.le_of_ble_eq_true rfl) q1644 tw_f6 dX3_byTurns_17 ?_
        refine lv_irem hx hb dX3_byTurns_20 (nz_ne h) ?_
        have h := nz_k h
        refine lv_istore_n (lv' := [(2, .int (((gI σ 0 31) + w_6) - ((gI σ 0 31) + w_6) / (gI σ 0 6) * (gI σ 0 6))), (0, .ref (G.2.2.1 0)), (1, .int w_6)]) hx hb dX3_byTurns_21 rfl hl (by decide) rfl (fun ls hl => ?_)
        refine lv_aload_n hx hb dX3_byTurns_22 rfl (lv_at hl 1 rfl) ?_
        refine lv_iload_n hx hb dX3_byTurns_23 rfl (lv_at hl 0 rfl) ?_
        obtain ⟨r_10, e_9, h⟩ := bo_ex h
        refine r_calli (r_runV (rest := []) X hP 0 tw_c0 lk_3 (mt_X3_wishes l G σ (((gI σ 0 31) + w_6) - ((gI σ 0 31) + w_6) / (gI σ 0 6) * (gI σ 0 6)) e_9) (cwV 1 hts (lw_V q2056 q2058 qs78 q113 q2059) rfl rfl rfl ⟨rfl, cdX3_wishes⟩ ⟨Nat.le_of_ble_eq_true rfl, Nat.le_of_ble_eq_true rfl⟩) rfl hl.1 rfl (Nat.le_of_ble_eq_true rfl) dX3_byTurns_24 ⟨Nat.le_refl _, Nat.le_refl _⟩) hP (fun H locs hP => ?_)
        refine lv_if_eq (tgt := 32) hx hb dX3_byTurns_27 (by decide) (fun c_11 => ?_) (fun c_11 => ?_)
        · have h := it_t h c_11
          refine lv_iinc (v := (w_6 + (1 : Int32))) (lv' := [(1, .int (w_6 + (1 : Int32))), (2, .int (((gI σ 0 31) + w_6) - ((gI σ 0 31) + w_6) / (gI σ 0 6) * (gI σ 0 6))), (0, .ref (G.2.2.1 0))]) hx hb dX3_byTurns_32 hl (k := 2) rfl rfl (by decide) rfl (fun ls hl => ?_)
          refine lv_goto (tgt := 2) hx hb dX3_byTurns_35 (by decide) ?_
          exact ih _ _ _ _ h hP (lv_sub hl [2, 0] rfl)
        · have h := it_f h c_11
          refine lv_iload_n hx hb dX3_byTurns_30 rfl (lv_at hl 0 rfl) ?_
          exact hret _ _ _ _ _ _ dX3_byTurns_31 rfl (congrArg (fun z9 => (z9, σ)) (Option.some.inj h)) hP
  exact hL_5 _ _ _ _ _ h hP (lv_sub hl [1, 0] rfl)
def tw_mostWishing_K38 (σ : ST) (k1 : Int32) (k2 : Int32) (k3 : Int32) (k4 : Int32) : Option (Int32) :=
  (if k3 < 0 then some (k4) else ck k4 10 (ck k3 10 ((if (lI σ 0 33 k4) ≤ (lI σ 0 33 k3) then some (k3) else some (k4)))))
def tw_mostWishing_B5 (σ : ST) (l1 : Int32) (l2 : Int32) (rc5 : Int32 → Int32 → Option (Int32)) (w3 : Int32) (w4 : Int32) : Option (Int32) :=
  (if (gI σ 0 6) ≤ w4 then some (w3) else bo (tw_wishes σ w4) (fun (r_3 : Int32) => bo (if r_3 = 0 then some (w3) else (if l1 = 0 then ck w4 42 ((if l2 ≤ (lI σ 0 0 w4) then some (w3) else (tw_mostWishing_K38 σ l1 l2 w3 w4))) else (tw_mostWishing_K38 σ l1 l2 w3 w4))) (fun (y_4 : Int32) => (rc5 y_4 (w4 + (1 : Int32))))))
def tw_mostWishing (σ : ST) (a1 : Int32) (a2 : Int32) : Option Int32 :=
  bo (wl2 (tw_mostWishing_B5 σ a1 a2) FU (-1 : Int32) (0 : Int32)) (fun (o_16 : Int32) => some o_16)
abbrev rm_X3_mostWishing : Room := rmf 2 42
set_option maxHeartbeats 4000000 in
set_option maxRecDepth 100000 in
theorem mt_X3_mostWishing (l : Launch) (G : GT) (σ : ST) (a1 : Int32) (a2 : Int32) {r : Int32} (h : tw_mostWishing σ a1 a2 = some r) : CI l tw_ft G yX3_mostWishing (ws_ yX3_mostWishing cX3_mostWishing 5 (some .int)) rm_X3_mostWishing 0 0 [.ref (G.2.2.1 0), .int a1, .int a2] σ (r, σ) := by
  refine m_enterI (by decide) rfl (lv := [(0, .ref (G.2.2.1 0)), (1, .int a1), (2, .int a2)]) rfl ?_
  intro p e s m args below meth c H locs ls Q X hret hP hl
  have hx := X.1.1
  have hb := X.1.2.1
  have hown := X.1.2.2.2.1
  have hts := X.1.2.2.2.2
  unfold tw_mostWishing at h
  refine lv_iconst (v := (-1 : Int32)) hx hb dX3_mostWishing_0 (by decide) ?_
  refine lv_istore_n (lv' := [(3, .int (-1 : Int32)), (0, .ref (G.2.2.1 0)), (1, .int a1), (2, .int a2)]) hx hb dX3_mostWishing_1 rfl hl (by decide) rfl (fun ls hl => ?_)
  refine lv_iconst (v := (0 : Int32)) hx hb dX3_mostWishing_2 (by decide) ?_
  refine lv_istore (lv' := [(4, .int (0 : Int32)), (3, .int (-1 : Int32)), (0, .ref (G.2.2.1 0)), (1, .int a1), (2, .int a2)]) hx hb dX3_mostWishing_3 hl (by decide) rfl (fun ls hl => ?_)
  obtain ⟨o_16, h_17, h⟩ := bo_ex h
  have hE_18 : ∀ (H : Heap) (locs : List Loc) (ls : Array Slot), PS tw_ft G s σ H locs → lv_has ls 5 [(3, .int o_16)] → W p l e rm_X3_mostWishing s m args below meth c H locs 0 0 Q (F0 m 67 ls []) := by
    intro H locs ls hP hl
    refine lv_iload_n hx hb dX3_mostWishing_67 rfl (lv_at hl 0 rfl) ?_
    exact hret _ _ _ _ _ _ dX3_mostWishing_68 rfl (congrArg (fun z9 => (z9, σ)) (Option.some.inj h)) hP
  have hL_15 : ∀ (n : Nat) (w_19 : Int32) (w_20 : Int32) (H : Heap) (locs : List Loc) (ls : Array Slot), wl2 (tw_mostWishing_B5 σ a1 a2) n w_19 w_20 = some o_16 → PS tw_ft G s σ H locs → lv_has ls 5 [(0, .ref (G.2.2.1 0)), (1, .int a1), (2, .int a2), (3, .int w_19), (4, .int w_20)] → W p l e rm_X3_mostWishing s m args below meth c H locs 0 0 Q (F0 m 5 ls []) := by
    intro n
    induction n with
    | zero => intro w_19 w_20 H locs ls h_21; cases h_21
    | succ n ih =>
      intro w_19 w_20 H locs ls h_21 hP hl
      have h_21 : tw_mostWishing_B5 σ a1 a2 (wl2 (tw_mostWishing_B5 σ a1 a2) n) w_19 w_20 = some _ := h_21
      generalize wl2 (tw_mostWishing_B5 σ a1 a2) n = rc_22 at h_21 ih
      unfold tw_mostWishing_B5 at h_21
      refine lv_iload hx hb dX3_mostWishing_5 (lv_at hl 4 rfl) ?_
      refine lv_aload_n hx hb dX3_mostWishing_7 rfl (lv_at hl 0 rfl) ?_
      refine r_geti X hP 0 tw_c0 lk_3 6 (Nat.le_of_ble_eq_true rfl) q1644 tw_f6 dX3_mostWishing_8 ?_
      refine lv_icmp_ge (tgt := 67) hx hb dX3_mostWishing_11 (by decide) (fun c_23 => ?_) (fun c_23 => ?_)
      · have h_21 := it_t h_21 c_23
        obtain rfl := Option.some.inj h_21
        exact hE_18 _ _ _ hP (lv_sub hl [3] rfl)
      · have h_21 := it_f h_21 c_23
        refine lv_aload_n hx hb dX3_mostWishing_14 rfl (lv_at hl 0 rfl) ?_
        refine lv_iload hx hb dX3_mostWishing_15 (lv_at hl 4 rfl) ?_
        obtain ⟨r_25, e_24, h_21⟩ := bo_ex h_21
        refine r_calli (r_runV (rest := []) X hP 0 tw_c0 lk_3 (mt_X3_wishes l G σ w_20 e_24) (cwV 1 hts (lw_V q2056 q2058 qs78 q113 q2059) rfl rfl rfl ⟨rfl, cdX3_wishes⟩ ⟨Nat.le_of_ble_eq_true rfl, Nat.le_of_ble_eq_true rfl⟩) rfl hl.1 rfl (Nat.le_of_ble_eq_true rfl) dX3_mostWishing_17 ⟨Nat.le_refl _, Nat.le_refl _⟩) hP (fun H locs hP => ?_)
        obtain ⟨y_26, h_27, h_21⟩ := bo_ex h_21
        have hJ_28 : ∀ (H : Heap) (locs : List Loc) (ls : Array Slot), PS tw_ft G s σ H locs → lv_has ls 5 [(0, .ref (G.2.2.1 0)), (1, .int a1), (2, .int a2), (3, .int y_26), (4, .int w_20)] → W p l e rm_X3_mostWishing s m args below meth c H locs 0 0 Q (F0 m 61 ls []) := by
          intro H locs ls hP hl
          refine lv_iinc (v := (w_20 + (1 : Int32))) (lv' := [(4, .int (w_20 + (1 : Int32))), (0, .ref (G.2.2.1 0)), (1, .int a1), (2, .int a2), (3, .int y_26)]) hx hb dX3_mostWishing_61 hl (k := 4) rfl rfl (by decide) rfl (fun ls hl => ?_)
          refine lv_goto (tgt := 5) hx hb dX3_mostWishing_64 (by decide) ?_
          exact ih _ _ _ _ _ h_21 hP (lv_sub hl [1, 2, 3, 4, 0] rfl)
        refine lv_if_eq (tgt := 61) hx hb dX3_mostWishing_20 (by decide) (fun c_29 => ?_) (fun c_29 => ?_)
        · have h_27 := it_t h_27 c_29
          obtain rfl := Option.some.inj h_27
          exact hJ_28 _ _ _ hP (lv_sub hl [0, 1, 2, 3, 4] rfl)
        · have h_27 := it_f h_27 c_29
          refine lv_iload_n hx hb dX3_mostWishing_23 rfl (lv_at hl 1 rfl) ?_
          have hK_30 : ∀ (H : Heap) (locs : List Loc) (ls : Array Slot), tw_mostWishing_K38 σ a1 a2 w_19 w_20 = some (y_26) → PS tw_ft G s σ H locs → lv_has ls 5 [(0, .ref (G.2.2.1 0)), (1, .int a1), (2, .int a2), (3, .int w_19), (4, .int w_20)] → W p l e rm_X3_mostWishing s m args below meth c H locs 0 0 Q (F0 m 38 ls []) := by
            intro  H locs ls h_27 hP hl
            unfold tw_mostWishing_K38 at h_27
            refine lv_iload_n hx hb dX3_mostWishing_38 rfl (lv_at hl 3 rfl) ?_
            refine lv_if_lt (tgt := 58) hx hb dX3_mostWishing_39 (by decide) (fun c_31 => ?_) (fun c_31 => ?_)
            · have h_27 := it_t h_27 c_31
              refine lv_iload hx hb dX3_mostWishing_58 (lv_at hl 4 rfl) ?_
              refine lv_istore_n (lv' := [(3, .int w_20), (0, .ref (G.2.2.1 0)), (1, .int a1), (2, .int a2), (4, .int w_20)]) hx hb dX3_mostWishing_60 rfl hl (by decide) rfl (fun ls hl => ?_)
              obtain rfl := Option.some.inj h_27
              exact hJ_28 _ _ _ hP (lv_sub hl [1, 2, 3, 0, 4] rfl)
            · have h_27 := it_f h_27 c_31
              refine lv_aload_n hx hb dX3_mostWishing_42 rfl (lv_at hl 0 rfl) ?_
              refine r_geta X hP 0 tw_c0 lk_3 33 (Nat.le_of_ble_eq_true rfl) q1671 tw_f33 dX3_mostWishing_43 ?_
              refine lv_iload hx hb dX3_mostWishing_46 (lv_at hl 4 rfl) ?_
              refine r_iald X hP 13 tw_c13 (ck_in h_27) dX3_mostWishing_48 ?_
              have h_27 := ck_k h_27
              refine lv_aload_n hx hb dX3_mostWishing_49 rfl (lv_at hl 0 rfl) ?_
              refine r_geta X hP 0 tw_c0 lk_3 33 (Nat.le_of_ble_eq_true rfl) q1671 tw_f33 dX3_mostWishing_50 ?_
              refine lv_iload_n hx hb dX3_mostWishing_53 rfl (lv_at hl 3 rfl) ?_
              refine r_iald X hP 13 tw_c13 (ck_in h_27) dX3_mostWishing_54 ?_
              have h_27 := ck_k h_27
              refine lv_icmp_le (tgt := 61) hx hb dX3_mostWishing_55 (by decide) (fun c_32 => ?_) (fun c_32 => ?_)
              · have h_27 := it_t h_27 c_32
                obtain rfl := Option.some.inj h_27
                exact hJ_28 _ _ _ hP (lv_sub hl [0, 1, 2, 3, 4] rfl)
              · have h_27 := it_f h_27 c_32
                refine lv_iload hx hb dX3_mostWishing_58 (lv_at hl 4 rfl) ?_
                refine lv_istore_n (lv' := [(3, .int w_20), (0, .ref (G.2.2.1 0)), (1, .int a1), (2, .int a2), (4, .int w_20)]) hx hb dX3_mostWishing_60 rfl hl (by decide) rfl (fun ls hl => ?_)
                obtain rfl := Option.some.inj h_27
                exact hJ_28 _ _ _ hP (lv_sub hl [1, 2, 3, 0, 4] rfl)
          refine lv_if_ne (tgt := 38) hx hb dX3_mostWishing_24 (by decide) (fun c_33 => ?_) (fun c_33 => ?_)
          · have h_27 := it_f h_27 c_33
            exact hK_30  _ _ _ h_27 hP (lv_sub hl [0, 1, 2, 3, 4] rfl)
          · have h_27 := it_t h_27 c_33
            refine lv_aload_n hx hb dX3_mostWishing_27 rfl (lv_at hl 0 rfl) ?_
            refine r_geta X hP 0 tw_c0 lk_3 0 (Nat.le_of_ble_eq_true rfl) q1638 tw_f0 dX3_mostWishing_28 ?_
            refine lv_iload hx hb dX3_mostWishing_31 (lv_at hl 4 rfl) ?_
            refine r_iald X hP 1 tw_c1 (ck_in h_27) dX3_mostWishing_33 ?_
            have h_27 := ck_k h_27
            refine lv_iload_n hx hb dX3_mostWishing_34 rfl (lv_at hl 2 rfl) ?_
            refine lv_icmp_ge (tgt := 61) hx hb dX3_mostWishing_35 (by decide) (fun c_34 => ?_) (fun c_34 => ?_)
            · have h_27 := it_t h_27 c_34
              obtain rfl := Option.some.inj h_27
              exact hJ_28 _ _ _ hP (lv_sub hl [0, 1, 2, 3, 4] rfl)
            · have h_27 := it_f h_27 c_34
              exact hK_30  _ _ _ h_27 hP (lv_sub hl [0, 1, 2, 3, 4] rfl)
  exact hL_15 _ _ _ _ _ _ h_17 hP (lv_sub hl [2, 3, 4, 1, 0] rfl)
def tw_chiefLast_B4 (σ : ST) (rc4 : Int32 → Int32 → Option (Int32)) (w1 : Int32) (w2 : Int32) : Option (Int32) :=
  (if (gI σ 0 6) ≤ w2 then some (w1) else bo (tw_isThere σ w2) (fun (r_3 : Int32) => bo (if r_3 = 0 then some (w1) else ck w2 42 ((if (lI σ 0 0 w2) ≤ w1 then some (w1) else ck w2 42 (some ((lI σ 0 0 w2)))))) (fun (x_4 : Int32) => (rc4 x_4 (w2 + (1 : Int32))))))
def tw_chiefLast (σ : ST)  : Option Int32 :=
  bo (wl2 (tw_chiefLast_B4 σ ) FU (-1 : Int32) (0 : Int32)) (fun (o_10 : Int32) => bo (tw_mostWishing σ (0 : Int32) o_10) (fun (r_14 : Int32) => (if 0 ≤ r_14 then some r_14 else bo (tw_mostWishing σ (1 : Int32) o_10) (fun (r_17 : Int32) => some r_17))))
abbrev rm_X3_chiefLast : Room := rmf 3 66
set_option maxHeartbeats 4000000 in
set_option maxRecDepth 100000 in
theorem mt_X3_chiefLast (l : Launch) (G : GT) (σ : ST)  {r : Int32} (h : tw_chiefLast σ = some r) : CI l tw_ft G yX3_chiefLast (ws_ yX3_chiefLast cX3_chiefLast 3 (some .int)) rm_X3_chiefLast 0 0 [.ref (G.2.2.1 0)] σ (r, σ) := by
  refine m_enterI (by decide) rfl (lv := [(0, .ref (G.2.2.1 0))]) rfl ?_
  intro p e s m args below meth c H locs ls Q X hret hP hl
  have hx := X.1.1
  have hb := X.1.2.1
  have hown := X.1.2.2.2.1
  have hts := X.1.2.2.2.2
  unfold tw_chiefLast at h
  refine lv_iconst (v := (-1 : Int32)) hx hb dX3_chiefLast_0 (by decide) ?_
  refine lv_istore_n (lv' := [(1, .int (-1 : Int32)), (0, .ref (G.2.2.1 0))]) hx hb dX3_chiefLast_1 rfl hl (by decide) rfl (fun ls hl => ?_)
  refine lv_iconst (v := (0 : Int32)) hx hb dX3_chiefLast_2 (by decide) ?_
  refine lv_istore_n (lv' := [(2, .int (0 : Int32)), (1, .int (-1 : Int32)), (0, .ref (G.2.2.1 0))]) hx hb dX3_chiefLast_3 rfl hl (by decide) rfl (fun ls hl => ?_)
  obtain ⟨o_10, h_11, h⟩ := bo_ex h
  have hE_12 : ∀ (H : Heap) (locs : List Loc) (ls : Array Slot), PS tw_ft G s σ H locs → lv_has ls 3 [(0, .ref (G.2.2.1 0)), (1, .int o_10)] → W p l e rm_X3_chiefLast s m args below meth c H locs 0 0 Q (F0 m 47 ls []) := by
    intro H locs ls hP hl
    refine lv_aload_n hx hb dX3_chiefLast_47 rfl (lv_at hl 0 rfl) ?_
    refine lv_iconst (v := (0 : Int32)) hx hb dX3_chiefLast_48 (by decide) ?_
    refine lv_iload_n hx hb dX3_chiefLast_49 rfl (lv_at hl 1 rfl) ?_
    obtain ⟨r_14, e_13, h⟩ := bo_ex h
    refine r_calli (r_runV (rest := []) X hP 0 tw_c0 lk_3 (mt_X3_mostWishing l G σ (0 : Int32) o_10 e_13) (cwV 2 hts (lw_V q2068 q2070 qs81 q113 q2071) rfl rfl rfl ⟨rfl, cdX3_mostWishing⟩ ⟨Nat.le_of_ble_eq_true rfl, Nat.le_of_ble_eq_true rfl⟩) rfl hl.1 rfl (Nat.le_of_ble_eq_true rfl) dX3_chiefLast_50 ⟨Nat.le_refl _, Nat.le_refl _⟩) hP (fun H locs hP => ?_)
    refine lv_istore_n (lv' := [(2, .int r_14), (0, .ref (G.2.2.1 0)), (1, .int o_10)]) hx hb dX3_chiefLast_53 rfl hl (by decide) rfl (fun ls hl => ?_)
    refine lv_iload_n hx hb dX3_chiefLast_54 rfl (lv_at hl 0 rfl) ?_
    refine lv_if_ge (tgt := 67) hx hb dX3_chiefLast_55 (by decide) (fun c_15 => ?_) (fun c_15 => ?_)
    · have h := it_t h c_15
      refine lv_iload_n hx hb dX3_chiefLast_67 rfl (lv_at hl 0 rfl) ?_
      exact hret _ _ _ _ _ _ dX3_chiefLast_68 rfl (congrArg (fun z9 => (z9, σ)) (Option.some.inj h)) hP
    · have h := it_f h c_15
      refine lv_aload_n hx hb dX3_chiefLast_58 rfl (lv_at hl 1 rfl) ?_
      refine lv_iconst (v := (1 : Int32)) hx hb dX3_chiefLast_59 (by decide) ?_
      refine lv_iload_n hx hb dX3_chiefLast_60 rfl (lv_at hl 2 rfl) ?_
      obtain ⟨r_17, e_16, h⟩ := bo_ex h
      refine r_calli (r_runV (rest := []) X hP 0 tw_c0 lk_3 (mt_X3_mostWishing l G σ (1 : Int32) o_10 e_16) (cwV 2 hts (lw_V q2068 q2070 qs81 q113 q2071) rfl rfl rfl ⟨rfl, cdX3_mostWishing⟩ ⟨Nat.le_of_ble_eq_true rfl, Nat.le_of_ble_eq_true rfl⟩) rfl hl.1 rfl (Nat.le_of_ble_eq_true rfl) dX3_chiefLast_61 ⟨Nat.le_refl _, Nat.le_refl _⟩) hP (fun H locs hP => ?_)
      refine lv_goto (tgt := 68) hx hb dX3_chiefLast_64 (by decide) ?_
      exact hret _ _ _ _ _ _ dX3_chiefLast_68 rfl (congrArg (fun z9 => (z9, σ)) (Option.some.inj h)) hP
  have hL_9 : ∀ (n : Nat) (w_18 : Int32) (w_19 : Int32) (H : Heap) (locs : List Loc) (ls : Array Slot), wl2 (tw_chiefLast_B4 σ ) n w_18 w_19 = some o_10 → PS tw_ft G s σ H locs → lv_has ls 3 [(0, .ref (G.2.2.1 0)), (1, .int w_18), (2, .int w_19)] → W p l e rm_X3_chiefLast s m args below meth c H locs 0 0 Q (F0 m 4 ls []) := by
    intro n
    induction n with
    | zero => intro w_18 w_19 H locs ls h_20; cases h_20
    | succ n ih =>
      intro w_18 w_19 H locs ls h_20 hP hl
      have h_20 : tw_chiefLast_B4 σ  (wl2 (tw_chiefLast_B4 σ ) n) w_18 w_19 = some _ := h_20
      generalize wl2 (tw_chiefLast_B4 σ ) n = rc_21 at h_20 ih
      unfold tw_chiefLast_B4 at h_20
      refine lv_iload_n hx hb dX3_chiefLast_4 rfl (lv_at hl 2 rfl) ?_
      refine lv_aload_n hx hb dX3_chiefLast_5 rfl (lv_at hl 0 rfl) ?_
      refine r_geti X hP 0 tw_c0 lk_3 6 (Nat.le_of_ble_eq_true rfl) q1644 tw_f6 dX3_chiefLast_6 ?_
      refine lv_icmp_ge (tgt := 47) hx hb dX3_chiefLast_9 (by decide) (fun c_22 => ?_) (fun c_22 => ?_)
      · have h_20 := it_t h_20 c_22
        obtain rfl := Option.some.inj h_20
        exact hE_12 _ _ _ hP (lv_sub hl [0, 1] rfl)
      · have h_20 := it_f h_20 c_22
        refine lv_aload_n hx hb dX3_chiefLast_12 rfl (lv_at hl 0 rfl) ?_
        refine lv_iload_n hx hb dX3_chiefLast_13 rfl (lv_at hl 2 rfl) ?_
        obtain ⟨r_24, e_23, h_20⟩ := bo_ex h_20
        refine r_calli (r_runV (rest := []) X hP 0 tw_c0 lk_3 (mt_X3_isThere l G σ w_19 e_23) (cwV 1 hts (lw_V q2032 q2034 qs72 q113 q2035) rfl rfl rfl ⟨rfl, cdX3_isThere⟩ ⟨Nat.le_of_ble_eq_true rfl, Nat.le_of_ble_eq_true rfl⟩) rfl hl.1 rfl (Nat.le_of_ble_eq_true rfl) dX3_chiefLast_14 ⟨Nat.le_refl _, Nat.le_refl _⟩) hP (fun H locs hP => ?_)
        obtain ⟨x_25, h_26, h_20⟩ := bo_ex h_20
        have hJ_27 : ∀ (H : Heap) (locs : List Loc) (ls : Array Slot), PS tw_ft G s σ H locs → lv_has ls 3 [(0, .ref (G.2.2.1 0)), (2, .int w_19)] → W p l e rm_X3_chiefLast s m args below meth c H locs 0 0 Q (F0 m 40 ls [.int x_25]) := by
          intro H locs ls hP hl
          refine lv_istore_n (lv' := [(1, .int x_25), (0, .ref (G.2.2.1 0)), (2, .int w_19)]) hx hb dX3_chiefLast_40 rfl hl (by decide) rfl (fun ls hl => ?_)
          refine lv_iinc (v := (w_19 + (1 : Int32))) (lv' := [(2, .int (w_19 + (1 : Int32))), (1, .int x_25), (0, .ref (G.2.2.1 0))]) hx hb dX3_chiefLast_41 hl (k := 2) rfl rfl (by decide) rfl (fun ls hl => ?_)
          refine lv_goto (tgt := 4) hx hb dX3_chiefLast_44 (by decide) ?_
          exact ih _ _ _ _ _ h_20 hP (lv_sub hl [2, 1, 0] rfl)
        refine lv_if_eq (tgt := 39) hx hb dX3_chiefLast_17 (by decide) (fun c_28 => ?_) (fun c_28 => ?_)
        · have h_26 := it_t h_26 c_28
          refine lv_iload_n hx hb dX3_chiefLast_39 rfl (lv_at hl 1 rfl) ?_
          obtain rfl := Option.some.inj h_26
          exact hJ_27 _ _ _ hP (lv_sub hl [0, 2] rfl)
        · have h_26 := it_f h_26 c_28
          refine lv_aload_n hx hb dX3_chiefLast_20 rfl (lv_at hl 0 rfl) ?_
          refine r_geta X hP 0 tw_c0 lk_3 0 (Nat.le_of_ble_eq_true rfl) q1638 tw_f0 dX3_chiefLast_21 ?_
          refine lv_iload_n hx hb dX3_chiefLast_24 rfl (lv_at hl 2 rfl) ?_
          refine r_iald X hP 1 tw_c1 (ck_in h_26) dX3_chiefLast_25 ?_
          have h_26 := ck_k h_26
          refine lv_iload_n hx hb dX3_chiefLast_26 rfl (lv_at hl 1 rfl) ?_
          refine lv_icmp_le (tgt := 39) hx hb dX3_chiefLast_27 (by decide) (fun c_29 => ?_) (fun c_29 => ?_)
          · have h_26 := it_t h_26 c_29
            refine lv_iload_n hx hb dX3_chiefLast_39 rfl (lv_at hl 1 rfl) ?_
            obtain rfl := Option.some.inj h_26
            exact hJ_27 _ _ _ hP (lv_sub hl [0, 2] rfl)
          · have h_26 := it_f h_26 c_29
            refine lv_aload_n hx hb dX3_chiefLast_30 rfl (lv_at hl 0 rfl) ?_
            refine r_geta X hP 0 tw_c0 lk_3 0 (Nat.le_of_ble_eq_true rfl) q1638 tw_f0 dX3_chiefLast_31 ?_
            refine lv_iload_n hx hb dX3_chiefLast_34 rfl (lv_at hl 2 rfl) ?_
            refine r_iald X hP 1 tw_c1 (ck_in h_26) dX3_chiefLast_35 ?_
            have h_26 := ck_k h_26
            refine lv_goto (tgt := 40) hx hb dX3_chiefLast_36 (by decide) ?_
            obtain rfl := Option.some.inj h_26
            exact hJ_27 _ _ _ hP (lv_sub hl [0, 2] rfl)
  exact hL_9 _ _ _ _ _ _ h_11 hP (lv_sub hl [2, 1, 0] rfl)
def tw_leastSpoken_B4 (σ : ST) (rc4 : Int32 → Int32 → Option (Int32)) (w1 : Int32) (w2 : Int32) : Option (Int32) :=
  (if (gI σ 0 6) ≤ w2 then some (w1) else bo (if w1 < 0 then some ((0 : Int32)) else ck w2 10 (ck w1 10 ((if (lI σ 0 32 w2) = (lI σ 0 32 w1) then some ((1 : Int32)) else some ((0 : Int32)))))) (fun (x_2 : Int32) => bo (tw_wishes σ w2) (fun (r_6 : Int32) => bo (if r_6 = 0 then some (w1) else (if w1 < 0 then some (w2) else ck w2 10 (ck w1 10 ((if (lI σ 0 32 w2) < (lI σ 0 32 w1) then some (w2) else (if x_2 = 0 then some (w1) else ck w2 10 (ck w1 10 ((if (lI σ 0 33 w2) ≤ (lI σ 0 33 w1) then some (w1) else some (w2)))))))))) (fun (y_7 : Int32) => (rc4 y_7 (w2 + (1 : Int32)))))))
def tw_leastSpoken (σ : ST)  : Option Int32 :=
  bo (wl2 (tw_leastSpoken_B4 σ ) FU (-1 : Int32) (0 : Int32)) (fun (o_18 : Int32) => some o_18)
abbrev rm_X3_leastSpoken : Room := rmf 2 42
set_option maxHeartbeats 4000000 in
set_option maxRecDepth 100000 in
theorem mt_X3_leastSpoken (l : Launch) (G : GT) (σ : ST)  {r : Int32} (h : tw_leastSpoken σ = some r) : CI l tw_ft G yX3_leastSpoken (ws_ yX3_leastSpoken cX3_leastSpoken 4 (some .int)) rm_X3_leastSpoken 0 0 [.ref (G.2.2.1 0)] σ (r, σ) := by
  refine m_enterI (by decide) rfl (lv := [(0, .ref (G.2.2.1 0))]) rfl ?_
  intro p e s m args below meth c H locs ls Q X hret hP hl
  have hx := X.1.1
  have hb := X.1.2.1
  have hown := X.1.2.2.2.1
  have hts := X.1.2.2.2.2
  unfold tw_leastSpoken at h
  refine lv_iconst (v := (-1 : Int32)) hx hb dX3_leastSpoken_0 (by decide) ?_
  refine lv_istore_n (lv' := [(1, .int (-1 : Int32)), (0, .ref (G.2.2.1 0))]) hx hb dX3_leastSpoken_1 rfl hl (by decide) rfl (fun ls hl => ?_)
  refine lv_iconst (v := (0 : Int32)) hx hb dX3_leastSpoken_2 (by decide) ?_
  refine lv_istore_n (lv' := [(2, .int (0 : Int32)), (1, .int (-1 : Int32)), (0, .ref (G.2.2.1 0))]) hx hb dX3_leastSpoken_3 rfl hl (by decide) rfl (fun ls hl => ?_)
  obtain ⟨o_18, h_19, h⟩ := bo_ex h
  have hE_20 : ∀ (H : Heap) (locs : List Loc) (ls : Array Slot), PS tw_ft G s σ H locs → lv_has ls 4 [(1, .int o_18)] → W p l e rm_X3_leastSpoken s m args below meth c H locs 0 0 Q (F0 m 91 ls []) := by
    intro H locs ls hP hl
    refine lv_iload_n hx hb dX3_leastSpoken_91 rfl (lv_at hl 0 rfl) ?_
    exact hret _ _ _ _ _ _ dX3_leastSpoken_92 rfl (congrArg (fun z9 => (z9, σ)) (Option.some.inj h)) hP
  have hL_17 : ∀ (n : Nat) (w_21 : Int32) (w_22 : Int32) (H : Heap) (locs : List Loc) (ls : Array Slot), wl2 (tw_leastSpoken_B4 σ ) n w_21 w_22 = some o_18 → PS tw_ft G s σ H locs → lv_has ls 4 [(0, .ref (G.2.2.1 0)), (1, .int w_21), (2, .int w_22)] → W p l e rm_X3_leastSpoken s m args below meth c H locs 0 0 Q (F0 m 4 ls []) := by
    intro n
    induction n with
    | zero => intro w_21 w_22 H locs ls h_23; cases h_23
    | succ n ih =>
      intro w_21 w_22 H locs ls h_23 hP hl
      have h_23 : tw_leastSpoken_B4 σ  (wl2 (tw_leastSpoken_B4 σ ) n) w_21 w_22 = some _ := h_23
      generalize wl2 (tw_leastSpoken_B4 σ ) n = rc_24 at h_23 ih
      unfold tw_leastSpoken_B4 at h_23
      refine lv_iload_n hx hb dX3_leastSpoken_4 rfl (lv_at hl 2 rfl) ?_
      refine lv_aload_n hx hb dX3_leastSpoken_5 rfl (lv_at hl 0 rfl) ?_
      refine r_geti X hP 0 tw_c0 lk_3 6 (Nat.le_of_ble_eq_true rfl) q1644 tw_f6 dX3_leastSpoken_6 ?_
      refine lv_icmp_ge (tgt := 91) hx hb dX3_leastSpoken_9 (by decide) (fun c_25 => ?_) (fun c_25 => ?_)
      · have h_23 := it_t h_23 c_25
        obtain rfl := Option.some.inj h_23
        exact hE_20 _ _ _ hP (lv_sub hl [1] rfl)
      · have h_23 := it_f h_23 c_25
        refine lv_iload_n hx hb dX3_leastSpoken_12 rfl (lv_at hl 1 rfl) ?_
        obtain ⟨x_26, h_27, h_23⟩ := bo_ex h_23
        have hJ_28 : ∀ (H : Heap) (locs : List Loc) (ls : Array Slot), PS tw_ft G s σ H locs → lv_has ls 4 [(0, .ref (G.2.2.1 0)), (1, .int w_21), (2, .int w_22)] → W p l e rm_X3_leastSpoken s m args below meth c H locs 0 0 Q (F0 m 36 ls [.int x_26]) := by
          intro H locs ls hP hl
          refine lv_istore_n (lv' := [(3, .int x_26), (0, .ref (G.2.2.1 0)), (1, .int w_21), (2, .int w_22)]) hx hb dX3_leastSpoken_36 rfl hl (by decide) rfl (fun ls hl => ?_)
          refine lv_aload_n hx hb dX3_leastSpoken_37 rfl (lv_at hl 1 rfl) ?_
          refine lv_iload_n hx hb dX3_leastSpoken_38 rfl (lv_at hl 3 rfl) ?_
          obtain ⟨r_30, e_29, h_23⟩ := bo_ex h_23
          refine r_calli (r_runV (rest := []) X hP 0 tw_c0 lk_3 (mt_X3_wishes l G σ w_22 e_29) (cwV 1 hts (lw_V q2056 q2058 qs78 q113 q2059) rfl rfl rfl ⟨rfl, cdX3_wishes⟩ ⟨Nat.le_of_ble_eq_true rfl, Nat.le_of_ble_eq_true rfl⟩) rfl hl.1 rfl (Nat.le_of_ble_eq_true rfl) dX3_leastSpoken_39 ⟨Nat.le_refl _, Nat.le_refl _⟩) hP (fun H locs hP => ?_)
          obtain ⟨y_31, h_32, h_23⟩ := bo_ex h_23
          have hJ_33 : ∀ (H : Heap) (locs : List Loc) (ls : Array Slot), PS tw_ft G s σ H locs → lv_has ls 4 [(0, .ref (G.2.2.1 0)), (1, .int y_31), (2, .int w_22)] → W p l e rm_X3_leastSpoken s m args below meth c H locs 0 0 Q (F0 m 85 ls []) := by
            intro H locs ls hP hl
            refine lv_iinc (v := (w_22 + (1 : Int32))) (lv' := [(2, .int (w_22 + (1 : Int32))), (0, .ref (G.2.2.1 0)), (1, .int y_31)]) hx hb dX3_leastSpoken_85 hl (k := 2) rfl rfl (by decide) rfl (fun ls hl => ?_)
            refine lv_goto (tgt := 4) hx hb dX3_leastSpoken_88 (by decide) ?_
            exact ih _ _ _ _ _ h_23 hP (lv_sub hl [1, 2, 0] rfl)
          refine lv_if_eq (tgt := 85) hx hb dX3_leastSpoken_42 (by decide) (fun c_34 => ?_) (fun c_34 => ?_)
          · have h_32 := it_t h_32 c_34
            obtain rfl := Option.some.inj h_32
            exact hJ_33 _ _ _ hP (lv_sub hl [1, 2, 3] rfl)
          · have h_32 := it_f h_32 c_34
            refine lv_iload_n hx hb dX3_leastSpoken_45 rfl (lv_at hl 2 rfl) ?_
            refine lv_if_lt (tgt := 83) hx hb dX3_leastSpoken_46 (by decide) (fun c_35 => ?_) (fun c_35 => ?_)
            · have h_32 := it_t h_32 c_35
              refine lv_iload_n hx hb dX3_leastSpoken_83 rfl (lv_at hl 3 rfl) ?_
              refine lv_istore_n (lv' := [(1, .int w_22), (3, .int x_26), (0, .ref (G.2.2.1 0)), (2, .int w_22)]) hx hb dX3_leastSpoken_84 rfl hl (by decide) rfl (fun ls hl => ?_)
              obtain rfl := Option.some.inj h_32
              exact hJ_33 _ _ _ hP (lv_sub hl [2, 0, 3] rfl)
            · have h_32 := it_f h_32 c_35
              refine lv_aload_n hx hb dX3_leastSpoken_49 rfl (lv_at hl 1 rfl) ?_
              refine r_geta X hP 0 tw_c0 lk_3 32 (Nat.le_of_ble_eq_true rfl) q1670 tw_f32 dX3_leastSpoken_50 ?_
              refine lv_iload_n hx hb dX3_leastSpoken_53 rfl (lv_at hl 3 rfl) ?_
              refine r_iald X hP 12 tw_c12 (ck_in h_32) dX3_leastSpoken_54 ?_
              have h_32 := ck_k h_32
              refine lv_aload_n hx hb dX3_leastSpoken_55 rfl (lv_at hl 1 rfl) ?_
              refine r_geta X hP 0 tw_c0 lk_3 32 (Nat.le_of_ble_eq_true rfl) q1670 tw_f32 dX3_leastSpoken_56 ?_
              refine lv_iload_n hx hb dX3_leastSpoken_59 rfl (lv_at hl 2 rfl) ?_
              refine r_iald X hP 12 tw_c12 (ck_in h_32) dX3_leastSpoken_60 ?_
              have h_32 := ck_k h_32
              refine lv_icmp_lt (tgt := 83) hx hb dX3_leastSpoken_61 (by decide) (fun c_36 => ?_) (fun c_36 => ?_)
              · have h_32 := it_t h_32 c_36
                refine lv_iload_n hx hb dX3_leastSpoken_83 rfl (lv_at hl 3 rfl) ?_
                refine lv_istore_n (lv' := [(1, .int w_22), (3, .int x_26), (0, .ref (G.2.2.1 0)), (2, .int w_22)]) hx hb dX3_leastSpoken_84 rfl hl (by decide) rfl (fun ls hl => ?_)
                obtain rfl := Option.some.inj h_32
                exact hJ_33 _ _ _ hP (lv_sub hl [2, 0, 3] rfl)
              · have h_32 := it_f h_32 c_36
                refine lv_iload_n hx hb dX3_leastSpoken_64 rfl (lv_at hl 0 rfl) ?_
                refine lv_if_eq (tgt := 85) hx hb dX3_leastSpoken_65 (by decide) (fun c_37 => ?_) (fun c_37 => ?_)
                · have h_32 := it_t h_32 c_37
                  obtain rfl := Option.some.inj h_32
                  exact hJ_33 _ _ _ hP (lv_sub hl [1, 2, 3] rfl)
                · have h_32 := it_f h_32 c_37
                  refine lv_aload_n hx hb dX3_leastSpoken_68 rfl (lv_at hl 1 rfl) ?_
                  refine r_geta X hP 0 tw_c0 lk_3 33 (Nat.le_of_ble_eq_true rfl) q1671 tw_f33 dX3_leastSpoken_69 ?_
                  refine lv_iload_n hx hb dX3_leastSpoken_72 rfl (lv_at hl 3 rfl) ?_
                  refine r_iald X hP 13 tw_c13 (ck_in h_32) dX3_leastSpoken_73 ?_
                  have h_32 := ck_k h_32
                  refine lv_aload_n hx hb dX3_leastSpoken_74 rfl (lv_at hl 1 rfl) ?_
                  refine r_geta X hP 0 tw_c0 lk_3 33 (Nat.le_of_ble_eq_true rfl) q1671 tw_f33 dX3_leastSpoken_75 ?_
                  refine lv_iload_n hx hb dX3_leastSpoken_78 rfl (lv_at hl 2 rfl) ?_
                  refine r_iald X hP 13 tw_c13 (ck_in h_32) dX3_leastSpoken_79 ?_
                  have h_32 := ck_k h_32
                  refine lv_icmp_le (tgt := 85) hx hb dX3_leastSpoken_80 (by decide) (fun c_38 => ?_) (fun c_38 => ?_)
                  · have h_32 := it_t h_32 c_38
                    obtain rfl := Option.some.inj h_32
                    exact hJ_33 _ _ _ hP (lv_sub hl [1, 2, 3] rfl)
                  · have h_32 := it_f h_32 c_38
                    refine lv_iload_n hx hb dX3_leastSpoken_83 rfl (lv_at hl 3 rfl) ?_
                    refine lv_istore_n (lv' := [(1, .int w_22), (3, .int x_26), (0, .ref (G.2.2.1 0)), (2, .int w_22)]) hx hb dX3_leastSpoken_84 rfl hl (by decide) rfl (fun ls hl => ?_)
                    obtain rfl := Option.some.inj h_32
                    exact hJ_33 _ _ _ hP (lv_sub hl [2, 0, 3] rfl)
        refine lv_if_lt (tgt := 35) hx hb dX3_leastSpoken_13 (by decide) (fun c_39 => ?_) (fun c_39 => ?_)
        · have h_27 := it_t h_27 c_39
          refine lv_iconst (v := (0 : Int32)) hx hb dX3_leastSpoken_35 (by decide) ?_
          obtain rfl := Option.some.inj h_27
          exact hJ_28 _ _ _ hP (lv_sub hl [0, 1, 2] rfl)
        · have h_27 := it_f h_27 c_39
          refine lv_aload_n hx hb dX3_leastSpoken_16 rfl (lv_at hl 0 rfl) ?_
          refine r_geta X hP 0 tw_c0 lk_3 32 (Nat.le_of_ble_eq_true rfl) q1670 tw_f32 dX3_leastSpoken_17 ?_
          refine lv_iload_n hx hb dX3_leastSpoken_20 rfl (lv_at hl 2 rfl) ?_
          refine r_iald X hP 12 tw_c12 (ck_in h_27) dX3_leastSpoken_21 ?_
          have h_27 := ck_k h_27
          refine lv_aload_n hx hb dX3_leastSpoken_22 rfl (lv_at hl 0 rfl) ?_
          refine r_geta X hP 0 tw_c0 lk_3 32 (Nat.le_of_ble_eq_true rfl) q1670 tw_f32 dX3_leastSpoken_23 ?_
          refine lv_iload_n hx hb dX3_leastSpoken_26 rfl (lv_at hl 1 rfl) ?_
          refine r_iald X hP 12 tw_c12 (ck_in h_27) dX3_leastSpoken_27 ?_
          have h_27 := ck_k h_27
          refine lv_icmp_ne (tgt := 35) hx hb dX3_leastSpoken_28 (by decide) (fun c_40 => ?_) (fun c_40 => ?_)
          · have h_27 := it_f h_27 c_40
            refine lv_iconst (v := (0 : Int32)) hx hb dX3_leastSpoken_35 (by decide) ?_
            obtain rfl := Option.some.inj h_27
            exact hJ_28 _ _ _ hP (lv_sub hl [0, 1, 2] rfl)
          · have h_27 := it_t h_27 c_40
            refine lv_iconst (v := (1 : Int32)) hx hb dX3_leastSpoken_31 (by decide) ?_
            refine lv_goto (tgt := 36) hx hb dX3_leastSpoken_32 (by decide) ?_
            obtain rfl := Option.some.inj h_27
            exact hJ_28 _ _ _ hP (lv_sub hl [0, 1, 2] rfl)
  exact hL_17 _ _ _ _ _ _ h_19 hP (lv_sub hl [2, 1, 0] rfl)
def tw_nextSpeaker (σ : ST)  : Option Int32 :=
  (if (gI σ 0 26) = (1 : Int32) then bo (tw_byTurns σ) (fun (r_3 : Int32) => some r_3) else (if (gI σ 0 26) = (2 : Int32) then bo (tw_leastSpoken σ) (fun (r_6 : Int32) => some r_6) else (if (gI σ 0 26) = (3 : Int32) then (if (gI σ 0 31) < 0 then bo (tw_byTurns σ) (fun (r_10 : Int32) => some r_10) else bo (tw_wishes σ (gI σ 0 31)) (fun (r_12 : Int32) => (if r_12 = 0 then bo (tw_byTurns σ) (fun (r_15 : Int32) => some r_15) else some (gI σ 0 31)))) else (if (gI σ 0 26) = (4 : Int32) then bo (tw_chiefLast σ) (fun (r_18 : Int32) => some r_18) else bo (tw_mostWishing σ (1 : Int32) (0 : Int32)) (fun (r_20 : Int32) => some r_20)))))
abbrev rm_X3_nextSpeaker : Room := rmf 4 88
set_option maxHeartbeats 4000000 in
set_option maxRecDepth 100000 in
theorem mt_X3_nextSpeaker (l : Launch) (G : GT) (σ : ST)  {r : Int32} (h : tw_nextSpeaker σ = some r) : CI l tw_ft G yX3_nextSpeaker (ws_ yX3_nextSpeaker cX3_nextSpeaker 1 (some .int)) rm_X3_nextSpeaker 0 0 [.ref (G.2.2.1 0)] σ (r, σ) := by
  refine m_enterI (by decide) rfl (lv := [(0, .ref (G.2.2.1 0))]) rfl ?_
  intro p e s m args below meth c H locs ls Q X hret hP hl
  have hx := X.1.1
  have hb := X.1.2.1
  have hown := X.1.2.2.2.1
  have hts := X.1.2.2.2.2
  unfold tw_nextSpeaker at h
  refine lv_aload_n hx hb dX3_nextSpeaker_0 rfl (lv_at hl 0 rfl) ?_
  refine r_geti X hP 0 tw_c0 lk_3 26 (Nat.le_of_ble_eq_true rfl) q1664 tw_f26 dX3_nextSpeaker_1 ?_
  by_cases c_1 : (gI σ 0 26) = (1 : Int32)
  · have h := it_t h c_1
    refine lv_tableIn (tgt := 36) hx hb dX3_nextSpeaker_4 (by rw [c_1]; decide) (by rw [c_1]; decide) (by rw [c_1]; rfl) (by decide) ?_
    refine lv_aload_n hx hb dX3_nextSpeaker_36 rfl (lv_at hl 0 rfl) ?_
    obtain ⟨r_3, e_2, h⟩ := bo_ex h
    refine r_calli (r_runV (rest := []) X hP 0 tw_c0 lk_3 (mt_X3_byTurns l G σ e_2) (cwV 0 hts (lw_V q2052 q2054 qs77 q113 q2055) rfl rfl rfl ⟨rfl, cdX3_byTurns⟩ ⟨Nat.le_of_ble_eq_true rfl, Nat.le_of_ble_eq_true rfl⟩) rfl hl.1 rfl (Nat.le_of_ble_eq_true rfl) dX3_nextSpeaker_37 ⟨Nat.le_refl _, Nat.le_refl _⟩) hP (fun H locs hP => ?_)
    exact hret _ _ _ _ _ _ dX3_nextSpeaker_40 rfl (congrArg (fun z9 => (z9, σ)) (Option.some.inj h)) hP
  · have h := it_f h c_1
    by_cases c_4 : (gI σ 0 26) = (2 : Int32)
    · have h := it_t h c_4
      refine lv_tableIn (tgt := 41) hx hb dX3_nextSpeaker_4 (by rw [c_4]; decide) (by rw [c_4]; decide) (by rw [c_4]; rfl) (by decide) ?_
      refine lv_aload_n hx hb dX3_nextSpeaker_41 rfl (lv_at hl 0 rfl) ?_
      obtain ⟨r_6, e_5, h⟩ := bo_ex h
      refine r_calli (r_runV (rest := []) X hP 0 tw_c0 lk_3 (mt_X3_leastSpoken l G σ e_5) (cwV 0 hts (lw_V q2060 q2062 qs79 q113 q2063) rfl rfl rfl ⟨rfl, cdX3_leastSpoken⟩ ⟨Nat.le_of_ble_eq_true rfl, Nat.le_of_ble_eq_true rfl⟩) rfl hl.1 rfl (Nat.le_of_ble_eq_true rfl) dX3_nextSpeaker_42 ⟨Nat.le_refl _, Nat.le_refl _⟩) hP (fun H locs hP => ?_)
      exact hret _ _ _ _ _ _ dX3_nextSpeaker_45 rfl (congrArg (fun z9 => (z9, σ)) (Option.some.inj h)) hP
    · have h := it_f h c_4
      by_cases c_7 : (gI σ 0 26) = (3 : Int32)
      · have h := it_t h c_7
        refine lv_tableIn (tgt := 46) hx hb dX3_nextSpeaker_4 (by rw [c_7]; decide) (by rw [c_7]; decide) (by rw [c_7]; rfl) (by decide) ?_
        refine lv_aload_n hx hb dX3_nextSpeaker_46 rfl (lv_at hl 0 rfl) ?_
        refine r_geti X hP 0 tw_c0 lk_3 31 (Nat.le_of_ble_eq_true rfl) q1669 tw_f31 dX3_nextSpeaker_47 ?_
        refine lv_if_lt (tgt := 71) hx hb dX3_nextSpeaker_50 (by decide) (fun c_8 => ?_) (fun c_8 => ?_)
        · have h := it_t h c_8
          refine lv_aload_n hx hb dX3_nextSpeaker_71 rfl (lv_at hl 0 rfl) ?_
          obtain ⟨r_10, e_9, h⟩ := bo_ex h
          refine r_calli (r_runV (rest := []) X hP 0 tw_c0 lk_3 (mt_X3_byTurns l G σ e_9) (cwV 0 hts (lw_V q2052 q2054 qs77 q113 q2055) rfl rfl rfl ⟨rfl, cdX3_byTurns⟩ ⟨Nat.le_of_ble_eq_true rfl, Nat.le_of_ble_eq_true rfl⟩) rfl hl.1 rfl (Nat.le_of_ble_eq_true rfl) dX3_nextSpeaker_72 ⟨Nat.le_refl _, Nat.le_refl _⟩) hP (fun H locs hP => ?_)
          exact hret _ _ _ _ _ _ dX3_nextSpeaker_75 rfl (congrArg (fun z9 => (z9, σ)) (Option.some.inj h)) hP
        · have h := it_f h c_8
          refine lv_aload_n hx hb dX3_nextSpeaker_53 rfl (lv_at hl 0 rfl) ?_
          refine lv_aload_n hx hb dX3_nextSpeaker_54 rfl (lv_at hl 0 rfl) ?_
          refine r_geti X hP 0 tw_c0 lk_3 31 (Nat.le_of_ble_eq_true rfl) q1669 tw_f31 dX3_nextSpeaker_55 ?_
          obtain ⟨r_12, e_11, h⟩ := bo_ex h
          refine r_calli (r_runV (rest := []) X hP 0 tw_c0 lk_3 (mt_X3_wishes l G σ (gI σ 0 31) e_11) (cwV 1 hts (lw_V q2056 q2058 qs78 q113 q2059) rfl rfl rfl ⟨rfl, cdX3_wishes⟩ ⟨Nat.le_of_ble_eq_true rfl, Nat.le_of_ble_eq_true rfl⟩) rfl hl.1 rfl (Nat.le_of_ble_eq_true rfl) dX3_nextSpeaker_58 ⟨Nat.le_refl _, Nat.le_refl _⟩) hP (fun H locs hP => ?_)
          refine lv_if_eq (tgt := 71) hx hb dX3_nextSpeaker_61 (by decide) (fun c_13 => ?_) (fun c_13 => ?_)
          · have h := it_t h c_13
            refine lv_aload_n hx hb dX3_nextSpeaker_71 rfl (lv_at hl 0 rfl) ?_
            obtain ⟨r_15, e_14, h⟩ := bo_ex h
            refine r_calli (r_runV (rest := []) X hP 0 tw_c0 lk_3 (mt_X3_byTurns l G σ e_14) (cwV 0 hts (lw_V q2052 q2054 qs77 q113 q2055) rfl rfl rfl ⟨rfl, cdX3_byTurns⟩ ⟨Nat.le_of_ble_eq_true rfl, Nat.le_of_ble_eq_true rfl⟩) rfl hl.1 rfl (Nat.le_of_ble_eq_true rfl) dX3_nextSpeaker_72 ⟨Nat.le_refl _, Nat.le_refl _⟩) hP (fun H locs hP => ?_)
            exact hret _ _ _ _ _ _ dX3_nextSpeaker_75 rfl (congrArg (fun z9 => (z9, σ)) (Option.some.inj h)) hP
          · have h := it_f h c_13
            refine lv_aload_n hx hb dX3_nextSpeaker_64 rfl (lv_at hl 0 rfl) ?_
            refine r_geti X hP 0 tw_c0 lk_3 31 (Nat.le_of_ble_eq_true rfl) q1669 tw_f31 dX3_nextSpeaker_65 ?_
            refine lv_goto (tgt := 75) hx hb dX3_nextSpeaker_68 (by decide) ?_
            exact hret _ _ _ _ _ _ dX3_nextSpeaker_75 rfl (congrArg (fun z9 => (z9, σ)) (Option.some.inj h)) hP
      · have h := it_f h c_7
        by_cases c_16 : (gI σ 0 26) = (4 : Int32)
        · have h := it_t h c_16
          refine lv_tableIn (tgt := 76) hx hb dX3_nextSpeaker_4 (by rw [c_16]; decide) (by rw [c_16]; decide) (by rw [c_16]; rfl) (by decide) ?_
          refine lv_aload_n hx hb dX3_nextSpeaker_76 rfl (lv_at hl 0 rfl) ?_
          obtain ⟨r_18, e_17, h⟩ := bo_ex h
          refine r_calli (r_runV (rest := []) X hP 0 tw_c0 lk_3 (mt_X3_chiefLast l G σ e_17) (cwV 0 hts (lw_V q2064 q2066 qs80 q113 q2067) rfl rfl rfl ⟨rfl, cdX3_chiefLast⟩ ⟨Nat.le_of_ble_eq_true rfl, Nat.le_of_ble_eq_true rfl⟩) rfl hl.1 rfl (Nat.le_of_ble_eq_true rfl) dX3_nextSpeaker_77 ⟨Nat.le_refl _, Nat.le_refl _⟩) hP (fun H locs hP => ?_)
          exact hret _ _ _ _ _ _ dX3_nextSpeaker_80 rfl (congrArg (fun z9 => (z9, σ)) (Option.some.inj h)) hP
        · have h := it_f h c_16
          refine lv_tableOut (tgt := 81) hx hb dX3_nextSpeaker_4 (by have n0 := lv_neT c_1 (a := 1) (by decide); have n1 := lv_neT c_4 (a := 2) (by decide); have n2 := lv_neT c_7 (a := 3) (by decide); have n3 := lv_neT c_16 (a := 4) (by decide); omega) (by decide) ?_
          refine lv_aload_n hx hb dX3_nextSpeaker_81 rfl (lv_at hl 0 rfl) ?_
          refine lv_iconst (v := (1 : Int32)) hx hb dX3_nextSpeaker_82 (by decide) ?_
          refine lv_iconst (v := (0 : Int32)) hx hb dX3_nextSpeaker_83 (by decide) ?_
          obtain ⟨r_20, e_19, h⟩ := bo_ex h
          refine r_calli (r_runV (rest := []) X hP 0 tw_c0 lk_3 (mt_X3_mostWishing l G σ (1 : Int32) (0 : Int32) e_19) (cwV 2 hts (lw_V q2068 q2070 qs81 q113 q2071) rfl rfl rfl ⟨rfl, cdX3_mostWishing⟩ ⟨Nat.le_of_ble_eq_true rfl, Nat.le_of_ble_eq_true rfl⟩) rfl hl.1 rfl (Nat.le_of_ble_eq_true rfl) dX3_nextSpeaker_84 ⟨Nat.le_refl _, Nat.le_refl _⟩) hP (fun H locs hP => ?_)
          exact hret _ _ _ _ _ _ dX3_nextSpeaker_87 rfl (congrArg (fun z9 => (z9, σ)) (Option.some.inj h)) hP
def tw_putsPaper_B12 (l1 : Int32) (l2 : Int32) (rc12 : Int32 → ST → Option (ST)) (w3 : Int32) (σ : ST) : Option (ST) :=
  (if (gI σ 0 6) ≤ w3 then some (σ) else ck l2 20 (bo (if (lI σ 0 10 l2) = l1 then bo (tw_isSaid σ l2) (fun (r_8 : Int32) => (if r_8 = 0 then bo (tw_isThere σ w3) (fun (r_11 : Int32) => (if r_11 = 0 then some (σ) else bo (tw_knows σ w3 l2) (fun (r_14 : Int32) => (if r_14 = 0 then some (σ) else ck l2 20 (st_ (aI σ 0 35 l2 (-1 : Int32)) (fun (σ_16 : ST) => ck l2 20 (st_ (aI σ_16 0 36 l2 (-1 : Int32)) (fun (σ_18 : ST) => some (σ_18))))))))) else some (σ))) else some (σ)) (fun (σ_3 : ST) => (rc12 (w3 + (1 : Int32)) σ_3))))
def tw_putsPaper_B2 (l1 : Int32) (rc2 : Int32 → ST → Option (ST)) (w2 : Int32) (σ : ST) : Option (ST) :=
  (if (gI σ 0 9) ≤ w2 then some (σ) else bo (wl2 (tw_putsPaper_B12 l1 w2) FU (0 : Int32) σ) (fun (σ_21 : ST) => (rc2 (w2 + (1 : Int32)) σ_21)))
def tw_putsPaper (σ : ST) (a1 : Int32) : Option ST :=
  bo (wl2 (tw_putsPaper_B2 a1) FU (0 : Int32) σ) (fun (σ_47 : ST) => some σ_47)
abbrev rm_X3_putsPaper : Room := rmf 1 22
set_option maxHeartbeats 4000000 in
set_option maxRecDepth 100000 in
theorem mt_X3_putsPaper (l : Launch) (G : GT) (σ : ST) (a1 : Int32) {u : ST} (h : tw_putsPaper σ a1 = some u) : CV l tw_ft G yX3_putsPaper (ws_ yX3_putsPaper cX3_putsPaper 4 none) rm_X3_putsPaper 0 0 [.ref (G.2.2.1 0), .int a1] σ u := by
  refine m_enterV (by decide) rfl (lv := [(0, .ref (G.2.2.1 0)), (1, .int a1)]) rfl ?_
  intro p e s m args below meth c H locs ls Q X hnm hret hP hl
  have hx := X.1.1
  have hb := X.1.2.1
  have hown := X.1.2.2.2.1
  have hts := X.1.2.2.2.2
  unfold tw_putsPaper at h
  refine lv_iconst (v := (0 : Int32)) hx hb dX3_putsPaper_0 (by decide) ?_
  refine lv_istore_n (lv' := [(2, .int (0 : Int32)), (0, .ref (G.2.2.1 0)), (1, .int a1)]) hx hb dX3_putsPaper_1 rfl hl (by decide) rfl (fun ls hl => ?_)
  obtain ⟨σ_47, h_48, h⟩ := bo_ex h
  have hE_49 : ∀ (H : Heap) (locs : List Loc) (ls : Array Slot), PS tw_ft G s σ_47 H locs → lv_has ls 4 [] → W p l e rm_X3_putsPaper s m args below meth c H locs 0 0 Q (F0 m 81 ls []) := by
    intro H locs ls hP hl
    exact hret _ _ _ _ _ dX3_putsPaper_81 (Option.some.inj h) hP
  have hL_46 : ∀ (n : Nat) (w_50 : Int32) (σ_51 : ST) (H : Heap) (locs : List Loc) (ls : Array Slot), wl2 (tw_putsPaper_B2 a1) n w_50 σ_51 = some σ_47 → PS tw_ft G s σ_51 H locs → lv_has ls 4 [(0, .ref (G.2.2.1 0)), (1, .int a1), (2, .int w_50)] → W p l e rm_X3_putsPaper s m args below meth c H locs 0 0 Q (F0 m 2 ls []) := by
    intro n
    induction n with
    | zero => intro w_50 σ_51 H locs ls h_52; cases h_52
    | succ n ih =>
      intro w_50 σ_51 H locs ls h_52 hP hl
      have h_52 : tw_putsPaper_B2 a1 (wl2 (tw_putsPaper_B2 a1) n) w_50 σ_51 = some _ := h_52
      generalize wl2 (tw_putsPaper_B2 a1) n = rc_53 at h_52 ih
      unfold tw_putsPaper_B2 at h_52
      refine lv_iload_n hx hb dX3_putsPaper_2 rfl (lv_at hl 2 rfl) ?_
      refine lv_aload_n hx hb dX3_putsPaper_3 rfl (lv_at hl 0 rfl) ?_
      refine r_geti X hP 0 tw_c0 lk_3 9 (Nat.le_of_ble_eq_true rfl) q1647 tw_f9 dX3_putsPaper_4 ?_
      refine lv_icmp_ge (tgt := 81) hx hb dX3_putsPaper_7 (by decide) (fun c_54 => ?_) (fun c_54 => ?_)
      · have h_52 := it_t h_52 c_54
        obtain rfl := Option.some.inj h_52
        exact hE_49 _ _ _ hP (lv_sub hl [] rfl)
      · have h_52 := it_f h_52 c_54
        refine lv_iconst (v := (0 : Int32)) hx hb dX3_putsPaper_10 (by decide) ?_
        refine lv_istore_n (lv' := [(3, .int (0 : Int32)), (0, .ref (G.2.2.1 0)), (1, .int a1), (2, .int w_50)]) hx hb dX3_putsPaper_11 rfl hl (by decide) rfl (fun ls hl => ?_)
        obtain ⟨σ_56, h_57, h_52⟩ := bo_ex h_52
        have hE_58 : ∀ (H : Heap) (locs : List Loc) (ls : Array Slot), PS tw_ft G s σ_56 H locs → lv_has ls 4 [(0, .ref (G.2.2.1 0)), (1, .int a1), (2, .int w_50)] → W p l e rm_X3_putsPaper s m args below meth c H locs 0 0 Q (F0 m 75 ls []) := by
          intro H locs ls hP hl
          refine lv_iinc (v := (w_50 + (1 : Int32))) (lv' := [(2, .int (w_50 + (1 : Int32))), (0, .ref (G.2.2.1 0)), (1, .int a1)]) hx hb dX3_putsPaper_75 hl (k := 2) rfl rfl (by decide) rfl (fun ls hl => ?_)
          refine lv_goto (tgt := 2) hx hb dX3_putsPaper_78 (by decide) ?_
          exact ih _ _ _ _ _ h_52 hP (lv_sub hl [1, 2, 0] rfl)
        have hL_55 : ∀ (n : Nat) (w_59 : Int32) (σ_60 : ST) (H : Heap) (locs : List Loc) (ls : Array Slot), wl2 (tw_putsPaper_B12 a1 w_50) n w_59 σ_60 = some σ_56 → PS tw_ft G s σ_60 H locs → lv_has ls 4 [(0, .ref (G.2.2.1 0)), (1, .int a1), (2, .int w_50), (3, .int w_59)] → W p l e rm_X3_putsPaper s m args below meth c H locs 0 0 Q (F0 m 12 ls []) := by
          intro n
          induction n with
          | zero => intro w_59 σ_60 H locs ls h_61; cases h_61
          | succ n ih =>
            intro w_59 σ_60 H locs ls h_61 hP hl
            have h_61 : tw_putsPaper_B12 a1 w_50 (wl2 (tw_putsPaper_B12 a1 w_50) n) w_59 σ_60 = some _ := h_61
            generalize wl2 (tw_putsPaper_B12 a1 w_50) n = rc_62 at h_61 ih
            unfold tw_putsPaper_B12 at h_61
            refine lv_iload_n hx hb dX3_putsPaper_12 rfl (lv_at hl 3 rfl) ?_
            refine lv_aload_n hx hb dX3_putsPaper_13 rfl (lv_at hl 0 rfl) ?_
            refine r_geti X hP 0 tw_c0 lk_3 6 (Nat.le_of_ble_eq_true rfl) q1644 tw_f6 dX3_putsPaper_14 ?_
            refine lv_icmp_ge (tgt := 75) hx hb dX3_putsPaper_17 (by decide) (fun c_63 => ?_) (fun c_63 => ?_)
            · have h_61 := it_t h_61 c_63
              obtain rfl := Option.some.inj h_61
              exact hE_58 _ _ _ hP (lv_sub hl [0, 1, 2] rfl)
            · have h_61 := it_f h_61 c_63
              refine lv_aload_n hx hb dX3_putsPaper_20 rfl (lv_at hl 0 rfl) ?_
              refine r_geta X hP 0 tw_c0 lk_3 10 (Nat.le_of_ble_eq_true rfl) q1648 tw_f10 dX3_putsPaper_21 ?_
              refine lv_iload_n hx hb dX3_putsPaper_24 rfl (lv_at hl 2 rfl) ?_
              refine r_iald X hP 6 tw_c6 (ck_in h_61) dX3_putsPaper_25 ?_
              have h_61 := ck_k h_61
              refine lv_iload_n hx hb dX3_putsPaper_26 rfl (lv_at hl 1 rfl) ?_
              obtain ⟨σ_64, h_65, h_61⟩ := bo_ex h_61
              have hJ_66 : ∀ (H : Heap) (locs : List Loc) (ls : Array Slot), PS tw_ft G s σ_64 H locs → lv_has ls 4 [(0, .ref (G.2.2.1 0)), (1, .int a1), (2, .int w_50), (3, .int w_59)] → W p l e rm_X3_putsPaper s m args below meth c H locs 0 0 Q (F0 m 69 ls []) := by
                intro H locs ls hP hl
                refine lv_iinc (v := (w_59 + (1 : Int32))) (lv' := [(3, .int (w_59 + (1 : Int32))), (0, .ref (G.2.2.1 0)), (1, .int a1), (2, .int w_50)]) hx hb dX3_putsPaper_69 hl (k := 3) rfl rfl (by decide) rfl (fun ls hl => ?_)
                refine lv_goto (tgt := 12) hx hb dX3_putsPaper_72 (by decide) ?_
                exact ih _ _ _ _ _ h_61 hP (lv_sub hl [1, 2, 3, 0] rfl)
              refine lv_icmp_ne (tgt := 69) hx hb dX3_putsPaper_27 (by decide) (fun c_67 => ?_) (fun c_67 => ?_)
              · have h_65 := it_f h_65 c_67
                obtain rfl := Option.some.inj h_65
                exact hJ_66 _ _ _ hP (lv_sub hl [0, 1, 2, 3] rfl)
              · have h_65 := it_t h_65 c_67
                refine lv_aload_n hx hb dX3_putsPaper_30 rfl (lv_at hl 0 rfl) ?_
                refine lv_iload_n hx hb dX3_putsPaper_31 rfl (lv_at hl 2 rfl) ?_
                obtain ⟨r_69, e_68, h_65⟩ := bo_ex h_65
                refine r_calli (r_runV (rest := []) X hP 0 tw_c0 lk_3 (mt_X3_isSaid l G σ_60 w_50 e_68) (cwV 1 hts (lw_V q2028 q2030 qs71 q113 q2031) rfl rfl rfl ⟨rfl, cdX3_isSaid⟩ ⟨Nat.le_of_ble_eq_true rfl, Nat.le_of_ble_eq_true rfl⟩) rfl hl.1 rfl (Nat.le_of_ble_eq_true rfl) dX3_putsPaper_32 ⟨Nat.le_refl _, Nat.le_refl _⟩) hP (fun H locs hP => ?_)
                refine lv_if_ne (tgt := 69) hx hb dX3_putsPaper_35 (by decide) (fun c_70 => ?_) (fun c_70 => ?_)
                · have h_65 := it_f h_65 c_70
                  obtain rfl := Option.some.inj h_65
                  exact hJ_66 _ _ _ hP (lv_sub hl [0, 1, 2, 3] rfl)
                · have h_65 := it_t h_65 c_70
                  refine lv_aload_n hx hb dX3_putsPaper_38 rfl (lv_at hl 0 rfl) ?_
                  refine lv_iload_n hx hb dX3_putsPaper_39 rfl (lv_at hl 3 rfl) ?_
                  obtain ⟨r_72, e_71, h_65⟩ := bo_ex h_65
                  refine r_calli (r_runV (rest := []) X hP 0 tw_c0 lk_3 (mt_X3_isThere l G σ_60 w_59 e_71) (cwV 1 hts (lw_V q2032 q2034 qs72 q113 q2035) rfl rfl rfl ⟨rfl, cdX3_isThere⟩ ⟨Nat.le_of_ble_eq_true rfl, Nat.le_of_ble_eq_true rfl⟩) rfl hl.1 rfl (Nat.le_of_ble_eq_true rfl) dX3_putsPaper_40 ⟨Nat.le_refl _, Nat.le_refl _⟩) hP (fun H locs hP => ?_)
                  refine lv_if_eq (tgt := 69) hx hb dX3_putsPaper_43 (by decide) (fun c_73 => ?_) (fun c_73 => ?_)
                  · have h_65 := it_t h_65 c_73
                    obtain rfl := Option.some.inj h_65
                    exact hJ_66 _ _ _ hP (lv_sub hl [0, 1, 2, 3] rfl)
                  · have h_65 := it_f h_65 c_73
                    refine lv_aload_n hx hb dX3_putsPaper_46 rfl (lv_at hl 0 rfl) ?_
                    refine lv_iload_n hx hb dX3_putsPaper_47 rfl (lv_at hl 3 rfl) ?_
                    refine lv_iload_n hx hb dX3_putsPaper_48 rfl (lv_at hl 2 rfl) ?_
                    obtain ⟨r_75, e_74, h_65⟩ := bo_ex h_65
                    refine r_calli (r_runV (rest := []) X hP 0 tw_c0 lk_3 (mt_X3_knows l G σ_60 w_59 w_50 e_74) (cwV 2 hts (lw_V q2036 q2038 qs73 q113 q2039) rfl rfl rfl ⟨rfl, cdX3_knows⟩ ⟨Nat.le_of_ble_eq_true rfl, Nat.le_of_ble_eq_true rfl⟩) rfl hl.1 rfl (Nat.le_of_ble_eq_true rfl) dX3_putsPaper_49 ⟨Nat.le_refl _, Nat.le_refl _⟩) hP (fun H locs hP => ?_)
                    refine lv_if_eq (tgt := 69) hx hb dX3_putsPaper_52 (by decide) (fun c_76 => ?_) (fun c_76 => ?_)
                    · have h_65 := it_t h_65 c_76
                      obtain rfl := Option.some.inj h_65
                      exact hJ_66 _ _ _ hP (lv_sub hl [0, 1, 2, 3] rfl)
                    · have h_65 := it_f h_65 c_76
                      refine lv_aload_n hx hb dX3_putsPaper_55 rfl (lv_at hl 0 rfl) ?_
                      refine r_geta X hP 0 tw_c0 lk_3 35 (Nat.le_of_ble_eq_true rfl) q1673 tw_f35 dX3_putsPaper_56 ?_
                      refine lv_iload_n hx hb dX3_putsPaper_59 rfl (lv_at hl 2 rfl) ?_
                      refine lv_iconst (v := (-1 : Int32)) hx hb dX3_putsPaper_60 (by decide) ?_
                      refine r_iast X tw_w hP 15 tw_c15 (ck_in h_65) dX3_putsPaper_61 (fun σ_77 H locs e_78 hP => ?_)
                      have h_65 := st_k (ck_k h_65) e_78
                      refine lv_aload_n hx hb dX3_putsPaper_62 rfl (lv_at hl 0 rfl) ?_
                      refine r_geta X hP 0 tw_c0 lk_3 36 (Nat.le_of_ble_eq_true rfl) q1674 tw_f36 dX3_putsPaper_63 ?_
                      refine lv_iload_n hx hb dX3_putsPaper_66 rfl (lv_at hl 2 rfl) ?_
                      refine lv_iconst (v := (-1 : Int32)) hx hb dX3_putsPaper_67 (by decide) ?_
                      refine r_iast X tw_w hP 16 tw_c16 (ck_in h_65) dX3_putsPaper_68 (fun σ_79 H locs e_80 hP => ?_)
                      have h_65 := st_k (ck_k h_65) e_80
                      obtain rfl := Option.some.inj h_65
                      exact hJ_66 _ _ _ hP (lv_sub hl [0, 1, 2, 3] rfl)
        exact hL_55 _ _ _ _ _ _ h_57 hP (lv_sub hl [1, 2, 3, 0] rfl)
  exact hL_46 _ _ _ _ _ _ h_48 hP (lv_sub hl [1, 2, 0] rfl)
def tw_saysAgain_B2 (σ : ST) (l1 : Int32) (l2 : Int32) (rc2 : Int32 → Option Int32) (w3 : Int32) : Option Int32 :=
  (if (gI σ 0 9) ≤ w3 then some (-2 : Int32) else ck w3 20 ((if (lI σ 0 10 w3) = l2 then bo (tw_knows σ l1 w3) (fun (r_4 : Int32) => (if r_4 = 0 then (rc2 (w3 + (1 : Int32))) else bo (tw_isSaid σ w3) (fun (r_7 : Int32) => (if r_7 = 0 then (rc2 (w3 + (1 : Int32))) else some w3)))) else (rc2 (w3 + (1 : Int32))))))
def tw_saysAgain (σ : ST) (a1 : Int32) (a2 : Int32) : Option Int32 :=
  wl1 (tw_saysAgain_B2 σ a1 a2) FU (0 : Int32)
abbrev rm_X3_saysAgain : Room := rmf 1 22
set_option maxHeartbeats 4000000 in
set_option maxRecDepth 100000 in
theorem mt_X3_saysAgain (l : Launch) (G : GT) (σ : ST) (a1 : Int32) (a2 : Int32) {r : Int32} (h : tw_saysAgain σ a1 a2 = some r) : CI l tw_ft G yX3_saysAgain (ws_ yX3_saysAgain cX3_saysAgain 4 (some .int)) rm_X3_saysAgain 0 0 [.ref (G.2.2.1 0), .int a1, .int a2] σ (r, σ) := by
  refine m_enterI (by decide) rfl (lv := [(0, .ref (G.2.2.1 0)), (1, .int a1), (2, .int a2)]) rfl ?_
  intro p e s m args below meth c H locs ls Q X hret hP hl
  have hx := X.1.1
  have hb := X.1.2.1
  have hown := X.1.2.2.2.1
  have hts := X.1.2.2.2.2
  unfold tw_saysAgain at h
  refine lv_iconst (v := (0 : Int32)) hx hb dX3_saysAgain_0 (by decide) ?_
  refine lv_istore_n (lv' := [(3, .int (0 : Int32)), (0, .ref (G.2.2.1 0)), (1, .int a1), (2, .int a2)]) hx hb dX3_saysAgain_1 rfl hl (by decide) rfl (fun ls hl => ?_)
  have hL_9 : ∀ (n : Nat) (w_10 : Int32) (H : Heap) (locs : List Loc) (ls : Array Slot), wl1 (tw_saysAgain_B2 σ a1 a2) n w_10 = some r → PS tw_ft G s σ H locs → lv_has ls 4 [(0, .ref (G.2.2.1 0)), (1, .int a1), (2, .int a2), (3, .int w_10)] → W p l e rm_X3_saysAgain s m args below meth c H locs 0 0 Q (F0 m 2 ls []) := by
    intro n
    induction n with
    | zero => intro w_10 H locs ls h; cases h
    | succ n ih =>
      intro w_10 H locs ls h hP hl
      have h : tw_saysAgain_B2 σ a1 a2 (wl1 (tw_saysAgain_B2 σ a1 a2) n) w_10 = some _ := h
      generalize wl1 (tw_saysAgain_B2 σ a1 a2) n = rc_11 at h ih
      unfold tw_saysAgain_B2 at h
      refine lv_iload_n hx hb dX3_saysAgain_2 rfl (lv_at hl 3 rfl) ?_
      refine lv_aload_n hx hb dX3_saysAgain_3 rfl (lv_at hl 0 rfl) ?_
      refine r_geti X hP 0 tw_c0 lk_3 9 (Nat.le_of_ble_eq_true rfl) q1647 tw_f9 dX3_saysAgain_4 ?_
      refine lv_icmp_ge (tgt := 45) hx hb dX3_saysAgain_7 (by decide) (fun c_12 => ?_) (fun c_12 => ?_)
      · have h := it_t h c_12
        refine lv_bipush (v := (-2 : Int32)) hx hb dX3_saysAgain_45 (by decide) ?_
        exact hret _ _ _ _ _ _ dX3_saysAgain_47 rfl (congrArg (fun z9 => (z9, σ)) (Option.some.inj h)) hP
      · have h := it_f h c_12
        refine lv_aload_n hx hb dX3_saysAgain_10 rfl (lv_at hl 0 rfl) ?_
        refine r_geta X hP 0 tw_c0 lk_3 10 (Nat.le_of_ble_eq_true rfl) q1648 tw_f10 dX3_saysAgain_11 ?_
        refine lv_iload_n hx hb dX3_saysAgain_14 rfl (lv_at hl 3 rfl) ?_
        refine r_iald X hP 6 tw_c6 (ck_in h) dX3_saysAgain_15 ?_
        have h := ck_k h
        refine lv_iload_n hx hb dX3_saysAgain_16 rfl (lv_at hl 2 rfl) ?_
        refine lv_icmp_ne (tgt := 39) hx hb dX3_saysAgain_17 (by decide) (fun c_13 => ?_) (fun c_13 => ?_)
        · have h := it_f h c_13
          refine lv_iinc (v := (w_10 + (1 : Int32))) (lv' := [(3, .int (w_10 + (1 : Int32))), (0, .ref (G.2.2.1 0)), (1, .int a1), (2, .int a2)]) hx hb dX3_saysAgain_39 hl (k := 3) rfl rfl (by decide) rfl (fun ls hl => ?_)
          refine lv_goto (tgt := 2) hx hb dX3_saysAgain_42 (by decide) ?_
          exact ih _ _ _ _ h hP (lv_sub hl [1, 2, 3, 0] rfl)
        · have h := it_t h c_13
          refine lv_aload_n hx hb dX3_saysAgain_20 rfl (lv_at hl 0 rfl) ?_
          refine lv_iload_n hx hb dX3_saysAgain_21 rfl (lv_at hl 1 rfl) ?_
          refine lv_iload_n hx hb dX3_saysAgain_22 rfl (lv_at hl 3 rfl) ?_
          obtain ⟨r_15, e_14, h⟩ := bo_ex h
          refine r_calli (r_runV (rest := []) X hP 0 tw_c0 lk_3 (mt_X3_knows l G σ a1 w_10 e_14) (cwV 2 hts (lw_V q2036 q2038 qs73 q113 q2039) rfl rfl rfl ⟨rfl, cdX3_knows⟩ ⟨Nat.le_of_ble_eq_true rfl, Nat.le_of_ble_eq_true rfl⟩) rfl hl.1 rfl (Nat.le_of_ble_eq_true rfl) dX3_saysAgain_23 ⟨Nat.le_refl _, Nat.le_refl _⟩) hP (fun H locs hP => ?_)
          refine lv_if_eq (tgt := 39) hx hb dX3_saysAgain_26 (by decide) (fun c_16 => ?_) (fun c_16 => ?_)
          · have h := it_t h c_16
            refine lv_iinc (v := (w_10 + (1 : Int32))) (lv' := [(3, .int (w_10 + (1 : Int32))), (0, .ref (G.2.2.1 0)), (1, .int a1), (2, .int a2)]) hx hb dX3_saysAgain_39 hl (k := 3) rfl rfl (by decide) rfl (fun ls hl => ?_)
            refine lv_goto (tgt := 2) hx hb dX3_saysAgain_42 (by decide) ?_
            exact ih _ _ _ _ h hP (lv_sub hl [1, 2, 3, 0] rfl)
          · have h := it_f h c_16
            refine lv_aload_n hx hb dX3_saysAgain_29 rfl (lv_at hl 0 rfl) ?_
            refine lv_iload_n hx hb dX3_saysAgain_30 rfl (lv_at hl 3 rfl) ?_
            obtain ⟨r_18, e_17, h⟩ := bo_ex h
            refine r_calli (r_runV (rest := []) X hP 0 tw_c0 lk_3 (mt_X3_isSaid l G σ w_10 e_17) (cwV 1 hts (lw_V q2028 q2030 qs71 q113 q2031) rfl rfl rfl ⟨rfl, cdX3_isSaid⟩ ⟨Nat.le_of_ble_eq_true rfl, Nat.le_of_ble_eq_true rfl⟩) rfl hl.1 rfl (Nat.le_of_ble_eq_true rfl) dX3_saysAgain_31 ⟨Nat.le_refl _, Nat.le_refl _⟩) hP (fun H locs hP => ?_)
            refine lv_if_eq (tgt := 39) hx hb dX3_saysAgain_34 (by decide) (fun c_19 => ?_) (fun c_19 => ?_)
            · have h := it_t h c_19
              refine lv_iinc (v := (w_10 + (1 : Int32))) (lv' := [(3, .int (w_10 + (1 : Int32))), (0, .ref (G.2.2.1 0)), (1, .int a1), (2, .int a2)]) hx hb dX3_saysAgain_39 hl (k := 3) rfl rfl (by decide) rfl (fun ls hl => ?_)
              refine lv_goto (tgt := 2) hx hb dX3_saysAgain_42 (by decide) ?_
              exact ih _ _ _ _ h hP (lv_sub hl [1, 2, 3, 0] rfl)
            · have h := it_f h c_19
              refine lv_iload_n hx hb dX3_saysAgain_37 rfl (lv_at hl 3 rfl) ?_
              exact hret _ _ _ _ _ _ dX3_saysAgain_38 rfl (congrArg (fun z9 => (z9, σ)) (Option.some.inj h)) hP
  exact hL_9 _ _ _ _ _ h hP (lv_sub hl [1, 2, 3, 0] rfl)
def tw_saysNew_B9 (l1 : Int32) (l2 : Int32) (l3 : Int32) (rc9 : Int32 → Int32 → Int32 → ST → Option (Int32 × ST)) (w4 : Int32) (w5 : Int32) (w6 : Int32) (σ : ST) : Option (Int32 × ST) :=
  (if (gI σ 0 9) ≤ w6 then some (w4, σ) else bo3 (if l3 ≤ w5 then some (w4, w5, σ) else ck w6 20 ((if (lI σ 0 10 w6) = l2 then bo (tw_knows σ l1 w6) (fun (r_10 : Int32) => (if r_10 = 0 then some (w4, w5, σ) else bo (tw_isSaid σ w6) (fun (r_13 : Int32) => (if r_13 = 0 then ck w6 20 (st_ (aI σ 0 35 w6 l1) (fun (σ_15 : ST) => ck w6 20 (st_ (aI σ_15 0 36 w6 (gI σ_15 0 30)) (fun (σ_17 : ST) => some ((w4 ||| ((1 : Int32) <<< (w6 &&& 31))), (w5 + (1 : Int32)), σ_17))))) else some (w4, w5, σ))))) else some (w4, w5, σ)))) (fun (y_2 : Int32) (y_3 : Int32) (σ_4 : ST) => (rc9 y_2 y_3 (w6 + (1 : Int32)) σ_4)))
def tw_saysNew (σ : ST) (a1 : Int32) (a2 : Int32) (a3 : Int32) : Option (Int32 × ST) :=
  bo2 (wl4 (tw_saysNew_B9 a1 a2 a3) FU (0 : Int32) (0 : Int32) (0 : Int32) σ) (fun (o_20 : Int32) (σ_21 : ST) => some (o_20, σ_21))
abbrev rm_X3_saysNew : Room := rmf 1 22
set_option maxHeartbeats 4000000 in
set_option maxRecDepth 100000 in
theorem mt_X3_saysNew (l : Launch) (G : GT) (σ : ST) (a1 : Int32) (a2 : Int32) (a3 : Int32) {r : Int32} {u : ST} (h : tw_saysNew σ a1 a2 a3 = some (r, u)) : CI l tw_ft G yX3_saysNew (ws_ yX3_saysNew cX3_saysNew 7 (some .int)) rm_X3_saysNew 0 0 [.ref (G.2.2.1 0), .int a1, .int a2, .int a3] σ (r, u) := by
  refine m_enterI (by decide) rfl (lv := [(0, .ref (G.2.2.1 0)), (1, .int a1), (2, .int a2), (3, .int a3)]) rfl ?_
  intro p e s m args below meth c H locs ls Q X hret hP hl
  have hx := X.1.1
  have hb := X.1.2.1
  have hown := X.1.2.2.2.1
  have hts := X.1.2.2.2.2
  unfold tw_saysNew at h
  refine lv_iconst (v := (0 : Int32)) hx hb dX3_saysNew_0 (by decide) ?_
  refine lv_istore (lv' := [(4, .int (0 : Int32)), (0, .ref (G.2.2.1 0)), (1, .int a1), (2, .int a2), (3, .int a3)]) hx hb dX3_saysNew_1 hl (by decide) rfl (fun ls hl => ?_)
  refine lv_iconst (v := (0 : Int32)) hx hb dX3_saysNew_3 (by decide) ?_
  refine lv_istore (lv' := [(5, .int (0 : Int32)), (4, .int (0 : Int32)), (0, .ref (G.2.2.1 0)), (1, .int a1), (2, .int a2), (3, .int a3)]) hx hb dX3_saysNew_4 hl (by decide) rfl (fun ls hl => ?_)
  refine lv_iconst (v := (0 : Int32)) hx hb dX3_saysNew_6 (by decide) ?_
  refine lv_istore (lv' := [(6, .int (0 : Int32)), (5, .int (0 : Int32)), (4, .int (0 : Int32)), (0, .ref (G.2.2.1 0)), (1, .int a1), (2, .int a2), (3, .int a3)]) hx hb dX3_saysNew_7 hl (by decide) rfl (fun ls hl => ?_)
  obtain ⟨o_20, σ_21, h_22, h⟩ := bo2_ex h
  have hE_23 : ∀ (H : Heap) (locs : List Loc) (ls : Array Slot), PS tw_ft G s σ_21 H locs → lv_has ls 7 [(4, .int o_20)] → W p l e rm_X3_saysNew s m args below meth c H locs 0 0 Q (F0 m 91 ls []) := by
    intro H locs ls hP hl
    refine lv_iload hx hb dX3_saysNew_91 (lv_at hl 0 rfl) ?_
    exact hret _ _ _ _ _ _ dX3_saysNew_93 rfl (Option.some.inj h) hP
  have hL_19 : ∀ (n : Nat) (w_24 : Int32) (w_25 : Int32) (w_26 : Int32) (σ_27 : ST) (H : Heap) (locs : List Loc) (ls : Array Slot), wl4 (tw_saysNew_B9 a1 a2 a3) n w_24 w_25 w_26 σ_27 = some (o_20, σ_21) → PS tw_ft G s σ_27 H locs → lv_has ls 7 [(0, .ref (G.2.2.1 0)), (1, .int a1), (2, .int a2), (3, .int a3), (4, .int w_24), (5, .int w_25), (6, .int w_26)] → W p l e rm_X3_saysNew s m args below meth c H locs 0 0 Q (F0 m 9 ls []) := by
    intro n
    induction n with
    | zero => intro w_24 w_25 w_26 σ_27 H locs ls h_28; cases h_28
    | succ n ih =>
      intro w_24 w_25 w_26 σ_27 H locs ls h_28 hP hl
      have h_28 : tw_saysNew_B9 a1 a2 a3 (wl4 (tw_saysNew_B9 a1 a2 a3) n) w_24 w_25 w_26 σ_27 = some _ := h_28
      generalize wl4 (tw_saysNew_B9 a1 a2 a3) n = rc_29 at h_28 ih
      unfold tw_saysNew_B9 at h_28
      refine lv_iload hx hb dX3_saysNew_9 (lv_at hl 6 rfl) ?_
      refine lv_aload_n hx hb dX3_saysNew_11 rfl (lv_at hl 0 rfl) ?_
      refine r_geti X hP 0 tw_c0 lk_3 9 (Nat.le_of_ble_eq_true rfl) q1647 tw_f9 dX3_saysNew_12 ?_
      refine lv_icmp_ge (tgt := 91) hx hb dX3_saysNew_15 (by decide) (fun c_30 => ?_) (fun c_30 => ?_)
      · have h_28 := it_t h_28 c_30
        obtain ⟨rfl, rfl⟩ := so2 h_28
        exact hE_23 _ _ _ hP (lv_sub hl [4] rfl)
      · have h_28 := it_f h_28 c_30
        refine lv_iload hx hb dX3_saysNew_18 (lv_at hl 5 rfl) ?_
        refine lv_iload_n hx hb dX3_saysNew_20 rfl (lv_at hl 3 rfl) ?_
        obtain ⟨y_31, y_32, σ_33, h_34, h_28⟩ := bo3_ex h_28
        have hJ_35 : ∀ (H : Heap) (locs : List Loc) (ls : Array Slot), PS tw_ft G s σ_33 H locs → lv_has ls 7 [(0, .ref (G.2.2.1 0)), (1, .int a1), (2, .int a2), (3, .int a3), (4, .int y_31), (5, .int y_32), (6, .int w_26)] → W p l e rm_X3_saysNew s m args below meth c H locs 0 0 Q (F0 m 85 ls []) := by
          intro H locs ls hP hl
          refine lv_iinc (v := (w_26 + (1 : Int32))) (lv' := [(6, .int (w_26 + (1 : Int32))), (0, .ref (G.2.2.1 0)), (1, .int a1), (2, .int a2), (3, .int a3), (4, .int y_31), (5, .int y_32)]) hx hb dX3_saysNew_85 hl (k := 6) rfl rfl (by decide) rfl (fun ls hl => ?_)
          refine lv_goto (tgt := 9) hx hb dX3_saysNew_88 (by decide) ?_
          exact ih _ _ _ _ _ _ _ h_28 hP (lv_sub hl [1, 2, 3, 4, 5, 6, 0] rfl)
        refine lv_icmp_ge (tgt := 85) hx hb dX3_saysNew_21 (by decide) (fun c_36 => ?_) (fun c_36 => ?_)
        · have h_34 := it_t h_34 c_36
          obtain ⟨rfl, rfl, rfl⟩ := so3 h_34
          exact hJ_35 _ _ _ hP (lv_sub hl [0, 1, 2, 3, 4, 5, 6] rfl)
        · have h_34 := it_f h_34 c_36
          refine lv_aload_n hx hb dX3_saysNew_24 rfl (lv_at hl 0 rfl) ?_
          refine r_geta X hP 0 tw_c0 lk_3 10 (Nat.le_of_ble_eq_true rfl) q1648 tw_f10 dX3_saysNew_25 ?_
          refine lv_iload hx hb dX3_saysNew_28 (lv_at hl 6 rfl) ?_
          refine r_iald X hP 6 tw_c6 (ck_in h_34) dX3_saysNew_30 ?_
          have h_34 := ck_k h_34
          refine lv_iload_n hx hb dX3_saysNew_31 rfl (lv_at hl 2 rfl) ?_
          refine lv_icmp_ne (tgt := 85) hx hb dX3_saysNew_32 (by decide) (fun c_37 => ?_) (fun c_37 => ?_)
          · have h_34 := it_f h_34 c_37
            obtain ⟨rfl, rfl, rfl⟩ := so3 h_34
            exact hJ_35 _ _ _ hP (lv_sub hl [0, 1, 2, 3, 4, 5, 6] rfl)
          · have h_34 := it_t h_34 c_37
            refine lv_aload_n hx hb dX3_saysNew_35 rfl (lv_at hl 0 rfl) ?_
            refine lv_iload_n hx hb dX3_saysNew_36 rfl (lv_at hl 1 rfl) ?_
            refine lv_iload hx hb dX3_saysNew_37 (lv_at hl 6 rfl) ?_
            obtain ⟨r_39, e_38, h_34⟩ := bo_ex h_34
            refine r_calli (r_runV (rest := []) X hP 0 tw_c0 lk_3 (mt_X3_knows l G σ_27 a1 w_26 e_38) (cwV 2 hts (lw_V q2036 q2038 qs73 q113 q2039) rfl rfl rfl ⟨rfl, cdX3_knows⟩ ⟨Nat.le_of_ble_eq_true rfl, Nat.le_of_ble_eq_true rfl⟩) rfl hl.1 rfl (Nat.le_of_ble_eq_true rfl) dX3_saysNew_39 ⟨Nat.le_refl _, Nat.le_refl _⟩) hP (fun H locs hP => ?_)
            refine lv_if_eq (tgt := 85) hx hb dX3_saysNew_42 (by decide) (fun c_40 => ?_) (fun c_40 => ?_)
            · have h_34 := it_t h_34 c_40
              obtain ⟨rfl, rfl, rfl⟩ := so3 h_34
              exact hJ_35 _ _ _ hP (lv_sub hl [0, 1, 2, 3, 4, 5, 6] rfl)
            · have h_34 := it_f h_34 c_40
              refine lv_aload_n hx hb dX3_saysNew_45 rfl (lv_at hl 0 rfl) ?_
              refine lv_iload hx hb dX3_saysNew_46 (lv_at hl 6 rfl) ?_
              obtain ⟨r_42, e_41, h_34⟩ := bo_ex h_34
              refine r_calli (r_runV (rest := []) X hP 0 tw_c0 lk_3 (mt_X3_isSaid l G σ_27 w_26 e_41) (cwV 1 hts (lw_V q2028 q2030 qs71 q113 q2031) rfl rfl rfl ⟨rfl, cdX3_isSaid⟩ ⟨Nat.le_of_ble_eq_true rfl, Nat.le_of_ble_eq_true rfl⟩) rfl hl.1 rfl (Nat.le_of_ble_eq_true rfl) dX3_saysNew_48 ⟨Nat.le_refl _, Nat.le_refl _⟩) hP (fun H locs hP => ?_)
              refine lv_if_ne (tgt := 85) hx hb dX3_saysNew_51 (by decide) (fun c_43 => ?_) (fun c_43 => ?_)
              · have h_34 := it_f h_34 c_43
                obtain ⟨rfl, rfl, rfl⟩ := so3 h_34
                exact hJ_35 _ _ _ hP (lv_sub hl [0, 1, 2, 3, 4, 5, 6] rfl)
              · have h_34 := it_t h_34 c_43
                refine lv_aload_n hx hb dX3_saysNew_54 rfl (lv_at hl 0 rfl) ?_
                refine r_geta X hP 0 tw_c0 lk_3 35 (Nat.le_of_ble_eq_true rfl) q1673 tw_f35 dX3_saysNew_55 ?_
                refine lv_iload hx hb dX3_saysNew_58 (lv_at hl 6 rfl) ?_
                refine lv_iload_n hx hb dX3_saysNew_60 rfl (lv_at hl 1 rfl) ?_
                refine r_iast X tw_w hP 15 tw_c15 (ck_in h_34) dX3_saysNew_61 (fun σ_44 H locs e_45 hP => ?_)
                have h_34 := st_k (ck_k h_34) e_45
                refine lv_aload_n hx hb dX3_saysNew_62 rfl (lv_at hl 0 rfl) ?_
                refine r_geta X hP 0 tw_c0 lk_3 36 (Nat.le_of_ble_eq_true rfl) q1674 tw_f36 dX3_saysNew_63 ?_
                refine lv_iload hx hb dX3_saysNew_66 (lv_at hl 6 rfl) ?_
                refine lv_aload_n hx hb dX3_saysNew_68 rfl (lv_at hl 0 rfl) ?_
                refine r_geti X hP 0 tw_c0 lk_3 30 (Nat.le_of_ble_eq_true rfl) q1668 tw_f30 dX3_saysNew_69 ?_
                refine r_iast X tw_w hP 16 tw_c16 (ck_in h_34) dX3_saysNew_72 (fun σ_46 H locs e_47 hP => ?_)
                have h_34 := st_k (ck_k h_34) e_47
                refine lv_iload hx hb dX3_saysNew_73 (lv_at hl 4 rfl) ?_
                refine lv_iconst (v := (1 : Int32)) hx hb dX3_saysNew_75 (by decide) ?_
                refine lv_iload hx hb dX3_saysNew_76 (lv_at hl 6 rfl) ?_
                refine lv_ishl hx hb dX3_saysNew_78 ?_
                refine lv_ior hx hb dX3_saysNew_79 ?_
                refine lv_istore (lv' := [(4, .int (w_24 ||| ((1 : Int32) <<< (w_26 &&& 31)))), (0, .ref (G.2.2.1 0)), (1, .int a1), (2, .int a2), (3, .int a3), (5, .int w_25), (6, .int w_26)]) hx hb dX3_saysNew_80 hl (by decide) rfl (fun ls hl => ?_)
                refine lv_iinc (v := (w_25 + (1 : Int32))) (lv' := [(5, .int (w_25 + (1 : Int32))), (4, .int (w_24 ||| ((1 : Int32) <<< (w_26 &&& 31)))), (0, .ref (G.2.2.1 0)), (1, .int a1), (2, .int a2), (3, .int a3), (6, .int w_26)]) hx hb dX3_saysNew_82 hl (k := 5) rfl rfl (by decide) rfl (fun ls hl => ?_)
                obtain ⟨rfl, rfl, rfl⟩ := so3 h_34
                exact hJ_35 _ _ _ hP (lv_sub hl [2, 3, 4, 5, 1, 0, 6] rfl)
  exact hL_19 _ _ _ _ _ _ _ _ h_22 hP (lv_sub hl [3, 4, 5, 6, 2, 1, 0] rfl)
def tw_stopper_B2 (σ : ST) (l1 : Int32) (rc2 : Int32 → Option Int32) (w2 : Int32) : Option Int32 :=
  (if (gI σ 0 6) ≤ w2 then some (-2 : Int32) else bo (if w2 = l1 then some ((0 : Int32)) else bo (tw_isThere σ w2) (fun (r_9 : Int32) => (if r_9 = 0 then some ((0 : Int32)) else ck ((10 : Int32) + w2) 42 (ck ((10 : Int32) + l1) 42 ((if (lI σ 0 0 ((10 : Int32) + w2)) < ((lI σ 0 0 ((10 : Int32) + l1)) + (3 : Int32)) then some ((0 : Int32)) else ck w2 10 (ck l1 10 ((if (lI σ 0 33 w2) ≤ (lI σ 0 33 l1) then some ((0 : Int32)) else some ((1 : Int32))))))))))) (fun (x_2 : Int32) => (if x_2 = 0 then (rc2 (w2 + (1 : Int32))) else ck l1 10 ((if (lI σ 0 34 l1) = w2 then (rc2 (w2 + (1 : Int32))) else some w2)))))
def tw_stopper (σ : ST) (a1 : Int32) : Option Int32 :=
  wl1 (tw_stopper_B2 σ a1) FU (0 : Int32)
abbrev rm_X3_stopper : Room := rmf 1 21
set_option maxHeartbeats 4000000 in
set_option maxRecDepth 100000 in
theorem mt_X3_stopper (l : Launch) (G : GT) (σ : ST) (a1 : Int32) {r : Int32} (h : tw_stopper σ a1 = some r) : CI l tw_ft G yX3_stopper (ws_ yX3_stopper cX3_stopper 4 (some .int)) rm_X3_stopper 0 0 [.ref (G.2.2.1 0), .int a1] σ (r, σ) := by
  refine m_enterI (by decide) rfl (lv := [(0, .ref (G.2.2.1 0)), (1, .int a1)]) rfl ?_
  intro p e s m args below meth c H locs ls Q X hret hP hl
  have hx := X.1.1
  have hb := X.1.2.1
  have hown := X.1.2.2.2.1
  have hts := X.1.2.2.2.2
  unfold tw_stopper at h
  refine lv_iconst (v := (0 : Int32)) hx hb dX3_stopper_0 (by decide) ?_
  refine lv_istore_n (lv' := [(2, .int (0 : Int32)), (0, .ref (G.2.2.1 0)), (1, .int a1)]) hx hb dX3_stopper_1 rfl hl (by decide) rfl (fun ls hl => ?_)
  have hL_13 : ∀ (n : Nat) (w_14 : Int32) (H : Heap) (locs : List Loc) (ls : Array Slot), wl1 (tw_stopper_B2 σ a1) n w_14 = some r → PS tw_ft G s σ H locs → lv_has ls 4 [(0, .ref (G.2.2.1 0)), (1, .int a1), (2, .int w_14)] → W p l e rm_X3_stopper s m args below meth c H locs 0 0 Q (F0 m 2 ls []) := by
    intro n
    induction n with
    | zero => intro w_14 H locs ls h; cases h
    | succ n ih =>
      intro w_14 H locs ls h hP hl
      have h : tw_stopper_B2 σ a1 (wl1 (tw_stopper_B2 σ a1) n) w_14 = some _ := h
      generalize wl1 (tw_stopper_B2 σ a1) n = rc_15 at h ih
      unfold tw_stopper_B2 at h
      refine lv_iload_n hx hb dX3_stopper_2 rfl (lv_at hl 2 rfl) ?_
      refine lv_aload_n hx hb dX3_stopper_3 rfl (lv_at hl 0 rfl) ?_
      refine r_geti X hP 0 tw_c0 lk_3 6 (Nat.le_of_ble_eq_true rfl) q1644 tw_f6 dX3_stopper_4 ?_
      refine lv_icmp_ge (tgt := 89) hx hb dX3_stopper_7 (by decide) (fun c_16 => ?_) (fun c_16 => ?_)
      · have h := it_t h c_16
        refine lv_bipush (v := (-2 : Int32)) hx hb dX3_stopper_89 (by decide) ?_
        exact hret _ _ _ _ _ _ dX3_stopper_91 rfl (congrArg (fun z9 => (z9, σ)) (Option.some.inj h)) hP
      · have h := it_f h c_16
        refine lv_iload_n hx hb dX3_stopper_10 rfl (lv_at hl 2 rfl) ?_
        refine lv_iload_n hx hb dX3_stopper_11 rfl (lv_at hl 1 rfl) ?_
        obtain ⟨x_17, h_18, h⟩ := bo_ex h
        have hJ_19 : ∀ (H : Heap) (locs : List Loc) (ls : Array Slot), PS tw_ft G s σ H locs → lv_has ls 4 [(0, .ref (G.2.2.1 0)), (1, .int a1), (2, .int w_14)] → W p l e rm_X3_stopper s m args below meth c H locs 0 0 Q (F0 m 66 ls [.int x_17]) := by
          intro H locs ls hP hl
          refine lv_istore_n (lv' := [(3, .int x_17), (0, .ref (G.2.2.1 0)), (1, .int a1), (2, .int w_14)]) hx hb dX3_stopper_66 rfl hl (by decide) rfl (fun ls hl => ?_)
          refine lv_iload_n hx hb dX3_stopper_67 rfl (lv_at hl 0 rfl) ?_
          refine lv_if_eq (tgt := 83) hx hb dX3_stopper_68 (by decide) (fun c_20 => ?_) (fun c_20 => ?_)
          · have h := it_t h c_20
            refine lv_iinc (v := (w_14 + (1 : Int32))) (lv' := [(2, .int (w_14 + (1 : Int32))), (3, .int x_17), (0, .ref (G.2.2.1 0)), (1, .int a1)]) hx hb dX3_stopper_83 hl (k := 3) rfl rfl (by decide) rfl (fun ls hl => ?_)
            refine lv_goto (tgt := 2) hx hb dX3_stopper_86 (by decide) ?_
            exact ih _ _ _ _ h hP (lv_sub hl [2, 3, 0] rfl)
          · have h := it_f h c_20
            refine lv_aload_n hx hb dX3_stopper_71 rfl (lv_at hl 1 rfl) ?_
            refine r_geta X hP 0 tw_c0 lk_3 34 (Nat.le_of_ble_eq_true rfl) q1672 tw_f34 dX3_stopper_72 ?_
            refine lv_iload_n hx hb dX3_stopper_75 rfl (lv_at hl 2 rfl) ?_
            refine r_iald X hP 14 tw_c14 (ck_in h) dX3_stopper_76 ?_
            have h := ck_k h
            refine lv_iload_n hx hb dX3_stopper_77 rfl (lv_at hl 3 rfl) ?_
            refine lv_icmp_eq (tgt := 83) hx hb dX3_stopper_78 (by decide) (fun c_21 => ?_) (fun c_21 => ?_)
            · have h := it_t h c_21
              refine lv_iinc (v := (w_14 + (1 : Int32))) (lv' := [(2, .int (w_14 + (1 : Int32))), (3, .int x_17), (0, .ref (G.2.2.1 0)), (1, .int a1)]) hx hb dX3_stopper_83 hl (k := 3) rfl rfl (by decide) rfl (fun ls hl => ?_)
              refine lv_goto (tgt := 2) hx hb dX3_stopper_86 (by decide) ?_
              exact ih _ _ _ _ h hP (lv_sub hl [2, 3, 0] rfl)
            · have h := it_f h c_21
              refine lv_iload_n hx hb dX3_stopper_81 rfl (lv_at hl 3 rfl) ?_
              exact hret _ _ _ _ _ _ dX3_stopper_82 rfl (congrArg (fun z9 => (z9, σ)) (Option.some.inj h)) hP
        refine lv_icmp_eq (tgt := 65) hx hb dX3_stopper_12 (by decide) (fun c_22 => ?_) (fun c_22 => ?_)
        · have h_18 := it_t h_18 c_22
          refine lv_iconst (v := (0 : Int32)) hx hb dX3_stopper_65 (by decide) ?_
          obtain rfl := Option.some.inj h_18
          exact hJ_19 _ _ _ hP (lv_sub hl [0, 1, 2] rfl)
        · have h_18 := it_f h_18 c_22
          refine lv_aload_n hx hb dX3_stopper_15 rfl (lv_at hl 0 rfl) ?_
          refine lv_iload_n hx hb dX3_stopper_16 rfl (lv_at hl 2 rfl) ?_
          obtain ⟨r_24, e_23, h_18⟩ := bo_ex h_18
          refine r_calli (r_runV (rest := []) X hP 0 tw_c0 lk_3 (mt_X3_isThere l G σ w_14 e_23) (cwV 1 hts (lw_V q2032 q2034 qs72 q113 q2035) rfl rfl rfl ⟨rfl, cdX3_isThere⟩ ⟨Nat.le_of_ble_eq_true rfl, Nat.le_of_ble_eq_true rfl⟩) rfl hl.1 rfl (Nat.le_of_ble_eq_true rfl) dX3_stopper_17 ⟨Nat.le_refl _, Nat.le_refl _⟩) hP (fun H locs hP => ?_)
          refine lv_if_eq (tgt := 65) hx hb dX3_stopper_20 (by decide) (fun c_25 => ?_) (fun c_25 => ?_)
          · have h_18 := it_t h_18 c_25
            refine lv_iconst (v := (0 : Int32)) hx hb dX3_stopper_65 (by decide) ?_
            obtain rfl := Option.some.inj h_18
            exact hJ_19 _ _ _ hP (lv_sub hl [0, 1, 2] rfl)
          · have h_18 := it_f h_18 c_25
            refine lv_aload_n hx hb dX3_stopper_23 rfl (lv_at hl 0 rfl) ?_
            refine r_geta X hP 0 tw_c0 lk_3 0 (Nat.le_of_ble_eq_true rfl) q1638 tw_f0 dX3_stopper_24 ?_
            refine lv_bipush (v := (10 : Int32)) hx hb dX3_stopper_27 (by decide) ?_
            refine lv_iload_n hx hb dX3_stopper_29 rfl (lv_at hl 2 rfl) ?_
            refine lv_iadd hx hb dX3_stopper_30 ?_
            refine r_iald X hP 1 tw_c1 (ck_in h_18) dX3_stopper_31 ?_
            have h_18 := ck_k h_18
            refine lv_aload_n hx hb dX3_stopper_32 rfl (lv_at hl 0 rfl) ?_
            refine r_geta X hP 0 tw_c0 lk_3 0 (Nat.le_of_ble_eq_true rfl) q1638 tw_f0 dX3_stopper_33 ?_
            refine lv_bipush (v := (10 : Int32)) hx hb dX3_stopper_36 (by decide) ?_
            refine lv_iload_n hx hb dX3_stopper_38 rfl (lv_at hl 1 rfl) ?_
            refine lv_iadd hx hb dX3_stopper_39 ?_
            refine r_iald X hP 1 tw_c1 (ck_in h_18) dX3_stopper_40 ?_
            have h_18 := ck_k h_18
            refine lv_iconst (v := (3 : Int32)) hx hb dX3_stopper_41 (by decide) ?_
            refine lv_iadd hx hb dX3_stopper_42 ?_
            refine lv_icmp_lt (tgt := 65) hx hb dX3_stopper_43 (by decide) (fun c_26 => ?_) (fun c_26 => ?_)
            · have h_18 := it_t h_18 c_26
              refine lv_iconst (v := (0 : Int32)) hx hb dX3_stopper_65 (by decide) ?_
              obtain rfl := Option.some.inj h_18
              exact hJ_19 _ _ _ hP (lv_sub hl [0, 1, 2] rfl)
            · have h_18 := it_f h_18 c_26
              refine lv_aload_n hx hb dX3_stopper_46 rfl (lv_at hl 0 rfl) ?_
              refine r_geta X hP 0 tw_c0 lk_3 33 (Nat.le_of_ble_eq_true rfl) q1671 tw_f33 dX3_stopper_47 ?_
              refine lv_iload_n hx hb dX3_stopper_50 rfl (lv_at hl 2 rfl) ?_
              refine r_iald X hP 13 tw_c13 (ck_in h_18) dX3_stopper_51 ?_
              have h_18 := ck_k h_18
              refine lv_aload_n hx hb dX3_stopper_52 rfl (lv_at hl 0 rfl) ?_
              refine r_geta X hP 0 tw_c0 lk_3 33 (Nat.le_of_ble_eq_true rfl) q1671 tw_f33 dX3_stopper_53 ?_
              refine lv_iload_n hx hb dX3_stopper_56 rfl (lv_at hl 1 rfl) ?_
              refine r_iald X hP 13 tw_c13 (ck_in h_18) dX3_stopper_57 ?_
              have h_18 := ck_k h_18
              refine lv_icmp_le (tgt := 65) hx hb dX3_stopper_58 (by decide) (fun c_27 => ?_) (fun c_27 => ?_)
              · have h_18 := it_t h_18 c_27
                refine lv_iconst (v := (0 : Int32)) hx hb dX3_stopper_65 (by decide) ?_
                obtain rfl := Option.some.inj h_18
                exact hJ_19 _ _ _ hP (lv_sub hl [0, 1, 2] rfl)
              · have h_18 := it_f h_18 c_27
                refine lv_iconst (v := (1 : Int32)) hx hb dX3_stopper_61 (by decide) ?_
                refine lv_goto (tgt := 66) hx hb dX3_stopper_62 (by decide) ?_
                obtain rfl := Option.some.inj h_18
                exact hJ_19 _ _ _ hP (lv_sub hl [0, 1, 2] rfl)
  exact hL_13 _ _ _ _ _ h hP (lv_sub hl [1, 2, 0] rfl)
def tw_unsaid_B5 (σ : ST) (l1 : Int32) (l2 : Int32) (rc5 : Int32 → Int32 → Option (Int32)) (w3 : Int32) (w4 : Int32) : Option (Int32) :=
  (if (gI σ 0 9) ≤ w4 then some (w3) else ck w4 20 (bo (if (lI σ 0 10 w4) = l2 then bo (tw_knows σ l1 w4) (fun (r_7 : Int32) => (if r_7 = 0 then some ((0 : Int32)) else bo (tw_isSaid σ w4) (fun (r_10 : Int32) => (if r_10 = 0 then some ((1 : Int32)) else some ((0 : Int32)))))) else some ((0 : Int32))) (fun (x_2 : Int32) => (rc5 (w3 + x_2) (w4 + (1 : Int32))))))
def tw_unsaid (σ : ST) (a1 : Int32) (a2 : Int32) : Option Int32 :=
  bo (wl2 (tw_unsaid_B5 σ a1 a2) FU (0 : Int32) (0 : Int32)) (fun (o_13 : Int32) => some o_13)
abbrev rm_X3_unsaid : Room := rmf 1 22
set_option maxHeartbeats 4000000 in
set_option maxRecDepth 100000 in
theorem mt_X3_unsaid (l : Launch) (G : GT) (σ : ST) (a1 : Int32) (a2 : Int32) {r : Int32} (h : tw_unsaid σ a1 a2 = some r) : CI l tw_ft G yX3_unsaid (ws_ yX3_unsaid cX3_unsaid 5 (some .int)) rm_X3_unsaid 0 0 [.ref (G.2.2.1 0), .int a1, .int a2] σ (r, σ) := by
  refine m_enterI (by decide) rfl (lv := [(0, .ref (G.2.2.1 0)), (1, .int a1), (2, .int a2)]) rfl ?_
  intro p e s m args below meth c H locs ls Q X hret hP hl
  have hx := X.1.1
  have hb := X.1.2.1
  have hown := X.1.2.2.2.1
  have hts := X.1.2.2.2.2
  unfold tw_unsaid at h
  refine lv_iconst (v := (0 : Int32)) hx hb dX3_unsaid_0 (by decide) ?_
  refine lv_istore_n (lv' := [(3, .int (0 : Int32)), (0, .ref (G.2.2.1 0)), (1, .int a1), (2, .int a2)]) hx hb dX3_unsaid_1 rfl hl (by decide) rfl (fun ls hl => ?_)
  refine lv_iconst (v := (0 : Int32)) hx hb dX3_unsaid_2 (by decide) ?_
  refine lv_istore (lv' := [(4, .int (0 : Int32)), (3, .int (0 : Int32)), (0, .ref (G.2.2.1 0)), (1, .int a1), (2, .int a2)]) hx hb dX3_unsaid_3 hl (by decide) rfl (fun ls hl => ?_)
  obtain ⟨o_13, h_14, h⟩ := bo_ex h
  have hE_15 : ∀ (H : Heap) (locs : List Loc) (ls : Array Slot), PS tw_ft G s σ H locs → lv_has ls 5 [(3, .int o_13)] → W p l e rm_X3_unsaid s m args below meth c H locs 0 0 Q (F0 m 58 ls []) := by
    intro H locs ls hP hl
    refine lv_iload_n hx hb dX3_unsaid_58 rfl (lv_at hl 0 rfl) ?_
    exact hret _ _ _ _ _ _ dX3_unsaid_59 rfl (congrArg (fun z9 => (z9, σ)) (Option.some.inj h)) hP
  have hL_12 : ∀ (n : Nat) (w_16 : Int32) (w_17 : Int32) (H : Heap) (locs : List Loc) (ls : Array Slot), wl2 (tw_unsaid_B5 σ a1 a2) n w_16 w_17 = some o_13 → PS tw_ft G s σ H locs → lv_has ls 5 [(0, .ref (G.2.2.1 0)), (1, .int a1), (2, .int a2), (3, .int w_16), (4, .int w_17)] → W p l e rm_X3_unsaid s m args below meth c H locs 0 0 Q (F0 m 5 ls []) := by
    intro n
    induction n with
    | zero => intro w_16 w_17 H locs ls h_18; cases h_18
    | succ n ih =>
      intro w_16 w_17 H locs ls h_18 hP hl
      have h_18 : tw_unsaid_B5 σ a1 a2 (wl2 (tw_unsaid_B5 σ a1 a2) n) w_16 w_17 = some _ := h_18
      generalize wl2 (tw_unsaid_B5 σ a1 a2) n = rc_19 at h_18 ih
      unfold tw_unsaid_B5 at h_18
      refine lv_iload hx hb dX3_unsaid_5 (lv_at hl 4 rfl) ?_
      refine lv_aload_n hx hb dX3_unsaid_7 rfl (lv_at hl 0 rfl) ?_
      refine r_geti X hP 0 tw_c0 lk_3 9 (Nat.le_of_ble_eq_true rfl) q1647 tw_f9 dX3_unsaid_8 ?_
      refine lv_icmp_ge (tgt := 58) hx hb dX3_unsaid_11 (by decide) (fun c_20 => ?_) (fun c_20 => ?_)
      · have h_18 := it_t h_18 c_20
        obtain rfl := Option.some.inj h_18
        exact hE_15 _ _ _ hP (lv_sub hl [3] rfl)
      · have h_18 := it_f h_18 c_20
        refine lv_iload_n hx hb dX3_unsaid_14 rfl (lv_at hl 3 rfl) ?_
        refine lv_aload_n hx hb dX3_unsaid_15 rfl (lv_at hl 0 rfl) ?_
        refine r_geta X hP 0 tw_c0 lk_3 10 (Nat.le_of_ble_eq_true rfl) q1648 tw_f10 dX3_unsaid_16 ?_
        refine lv_iload hx hb dX3_unsaid_19 (lv_at hl 4 rfl) ?_
        refine r_iald X hP 6 tw_c6 (ck_in h_18) dX3_unsaid_21 ?_
        have h_18 := ck_k h_18
        refine lv_iload_n hx hb dX3_unsaid_22 rfl (lv_at hl 2 rfl) ?_
        obtain ⟨x_21, h_22, h_18⟩ := bo_ex h_18
        have hJ_23 : ∀ (H : Heap) (locs : List Loc) (ls : Array Slot), PS tw_ft G s σ H locs → lv_has ls 5 [(0, .ref (G.2.2.1 0)), (1, .int a1), (2, .int a2), (4, .int w_17)] → W p l e rm_X3_unsaid s m args below meth c H locs 0 0 Q (F0 m 50 ls [.int x_21, .int w_16]) := by
          intro H locs ls hP hl
          refine lv_iadd hx hb dX3_unsaid_50 ?_
          refine lv_istore_n (lv' := [(3, .int (w_16 + x_21)), (0, .ref (G.2.2.1 0)), (1, .int a1), (2, .int a2), (4, .int w_17)]) hx hb dX3_unsaid_51 rfl hl (by decide) rfl (fun ls hl => ?_)
          refine lv_iinc (v := (w_17 + (1 : Int32))) (lv' := [(4, .int (w_17 + (1 : Int32))), (3, .int (w_16 + x_21)), (0, .ref (G.2.2.1 0)), (1, .int a1), (2, .int a2)]) hx hb dX3_unsaid_52 hl (k := 4) rfl rfl (by decide) rfl (fun ls hl => ?_)
          refine lv_goto (tgt := 5) hx hb dX3_unsaid_55 (by decide) ?_
          exact ih _ _ _ _ _ h_18 hP (lv_sub hl [2, 3, 4, 1, 0] rfl)
        refine lv_icmp_ne (tgt := 49) hx hb dX3_unsaid_23 (by decide) (fun c_24 => ?_) (fun c_24 => ?_)
        · have h_22 := it_f h_22 c_24
          refine lv_iconst (v := (0 : Int32)) hx hb dX3_unsaid_49 (by decide) ?_
          obtain rfl := Option.some.inj h_22
          exact hJ_23 _ _ _ hP (lv_sub hl [0, 1, 2, 4] rfl)
        · have h_22 := it_t h_22 c_24
          refine lv_aload_n hx hb dX3_unsaid_26 rfl (lv_at hl 0 rfl) ?_
          refine lv_iload_n hx hb dX3_unsaid_27 rfl (lv_at hl 1 rfl) ?_
          refine lv_iload hx hb dX3_unsaid_28 (lv_at hl 4 rfl) ?_
          obtain ⟨r_26, e_25, h_22⟩ := bo_ex h_22
          refine r_calli (r_runV (rest := [.int w_16]) X hP 0 tw_c0 lk_3 (mt_X3_knows l G σ a1 w_17 e_25) (cwV 2 hts (lw_V q2036 q2038 qs73 q113 q2039) rfl rfl rfl ⟨rfl, cdX3_knows⟩ ⟨Nat.le_of_ble_eq_true rfl, Nat.le_of_ble_eq_true rfl⟩) rfl hl.1 rfl (Nat.le_of_ble_eq_true rfl) dX3_unsaid_30 ⟨Nat.le_refl _, Nat.le_refl _⟩) hP (fun H locs hP => ?_)
          refine lv_if_eq (tgt := 49) hx hb dX3_unsaid_33 (by decide) (fun c_27 => ?_) (fun c_27 => ?_)
          · have h_22 := it_t h_22 c_27
            refine lv_iconst (v := (0 : Int32)) hx hb dX3_unsaid_49 (by decide) ?_
            obtain rfl := Option.some.inj h_22
            exact hJ_23 _ _ _ hP (lv_sub hl [0, 1, 2, 4] rfl)
          · have h_22 := it_f h_22 c_27
            refine lv_aload_n hx hb dX3_unsaid_36 rfl (lv_at hl 0 rfl) ?_
            refine lv_iload hx hb dX3_unsaid_37 (lv_at hl 4 rfl) ?_
            obtain ⟨r_29, e_28, h_22⟩ := bo_ex h_22
            refine r_calli (r_runV (rest := [.int w_16]) X hP 0 tw_c0 lk_3 (mt_X3_isSaid l G σ w_17 e_28) (cwV 1 hts (lw_V q2028 q2030 qs71 q113 q2031) rfl rfl rfl ⟨rfl, cdX3_isSaid⟩ ⟨Nat.le_of_ble_eq_true rfl, Nat.le_of_ble_eq_true rfl⟩) rfl hl.1 rfl (Nat.le_of_ble_eq_true rfl) dX3_unsaid_39 ⟨Nat.le_refl _, Nat.le_refl _⟩) hP (fun H locs hP => ?_)
            refine lv_if_ne (tgt := 49) hx hb dX3_unsaid_42 (by decide) (fun c_30 => ?_) (fun c_30 => ?_)
            · have h_22 := it_f h_22 c_30
              refine lv_iconst (v := (0 : Int32)) hx hb dX3_unsaid_49 (by decide) ?_
              obtain rfl := Option.some.inj h_22
              exact hJ_23 _ _ _ hP (lv_sub hl [0, 1, 2, 4] rfl)
            · have h_22 := it_t h_22 c_30
              refine lv_iconst (v := (1 : Int32)) hx hb dX3_unsaid_45 (by decide) ?_
              refine lv_goto (tgt := 50) hx hb dX3_unsaid_46 (by decide) ?_
              obtain rfl := Option.some.inj h_22
              exact hJ_23 _ _ _ hP (lv_sub hl [0, 1, 2, 4] rfl)
  exact hL_12 _ _ _ _ _ _ h_14 hP (lv_sub hl [2, 3, 4, 1, 0] rfl)
def tw_speaks (σ : ST) (a1 : Int32) (a2 : Int32) : Option ST :=
  bo (tw_unsaid σ a1 a2) (fun (r_2 : Int32) => bo (if ((1 : Int32) + r_2) ≤ (gI σ 0 27) then some (((1 : Int32) + r_2)) else some ((gI σ 0 27))) (fun (x_3 : Int32) => bo (if (gI σ 0 14) = (1 : Int32) then nz (3 : Int32) (some (((((2 : Int32) * x_3) + (2 : Int32)) / (3 : Int32)))) else some (x_3)) (fun (x_6 : Int32) => bo (if ((gI σ 0 27) - (1 : Int32)) ≤ r_2 then some (((gI σ 0 27) - (1 : Int32))) else some (r_2)) (fun (x_9 : Int32) => bo (tw_stopper σ a1) (fun (r_13 : Int32) => bo2 (if r_13 < 0 then some (x_6, x_9) else bo (if x_9 ≤ (1 : Int32) then some (x_9) else some ((1 : Int32))) (fun (x_54 : Int32) => some ((1 : Int32), x_54))) (fun (y_14 : Int32) (y_15 : Int32) => ck a1 10 (st_ (aI σ 0 34 a1 r_13) (fun (σ_18 : ST) => ck (gI σ_18 0 30) 200 (st_ (aI σ_18 0 39 (gI σ_18 0 30) a1) (fun (σ_20 : ST) => ck (gI σ_20 0 30) 200 (st_ (aI σ_20 0 40 (gI σ_20 0 30) a2) (fun (σ_22 : ST) => ck (gI σ_22 0 30) 200 (st_ (aI σ_22 0 41 (gI σ_22 0 30) (gI σ_22 0 29)) (fun (σ_24 : ST) => ck (gI σ_24 0 30) 200 (st_ (aI σ_24 0 42 (gI σ_24 0 30) y_14) (fun (σ_26 : ST) => bo2 (tw_saysNew σ_26 a1 a2 y_15) (fun (r_29 : Int32) (σ_30 : ST) => ck (gI σ_26 0 30) 200 (st_ (aI σ_30 0 43 (gI σ_26 0 30) r_29) (fun (σ_31 : ST) => ck (gI σ_31 0 30) 200 (bo (if (lI σ_31 0 43 (gI σ_31 0 30)) = 0 then bo (tw_saysAgain σ_31 a1 a2) (fun (r_52 : Int32) => some (r_52)) else some ((-2 : Int32))) (fun (x_33 : Int32) => ck (gI σ_31 0 30) 200 (st_ (aI σ_31 0 44 (gI σ_31 0 30) x_33) (fun (σ_36 : ST) => ck (gI σ_36 0 30) 200 (st_ (aI σ_36 0 45 (gI σ_36 0 30) r_13) (fun (σ_38 : ST) => st_ (pI σ_38 0 30 ((gI σ_38 0 30) + (1 : Int32))) (fun (σ_40 : ST) => ck a1 10 (ck a1 10 (st_ (aI σ_40 0 32 a1 ((lI σ_40 0 32 a1) + (1 : Int32))) (fun (σ_42 : ST) => st_ (pI σ_42 0 31 a1) (fun (σ_44 : ST) => st_ (pI σ_44 0 29 ((gI σ_44 0 29) + y_14)) (fun (σ_46 : ST) => ck a2 6 (ck a2 6 (st_ (aI σ_46 0 37 a2 ((lI σ_46 0 37 a2) + y_14)) (fun (σ_48 : ST) => some σ_48))))))))))))))))))))))))))))))))))
abbrev rm_X3_speaks : Room := rmf 2 48
set_option maxHeartbeats 4000000 in
set_option maxRecDepth 100000 in
theorem mt_X3_speaks (l : Launch) (G : GT) (σ : ST) (a1 : Int32) (a2 : Int32) {u : ST} (h : tw_speaks σ a1 a2 = some u) : CV l tw_ft G yX3_speaks (ws_ yX3_speaks cX3_speaks 7 none) rm_X3_speaks 0 0 [.ref (G.2.2.1 0), .int a1, .int a2] σ u := by
  refine m_enterV (by decide) rfl (lv := [(0, .ref (G.2.2.1 0)), (1, .int a1), (2, .int a2)]) rfl ?_
  intro p e s m args below meth c H locs ls Q X hnm hret hP hl
  have hx := X.1.1
  have hb := X.1.2.1
  have hown := X.1.2.2.2.1
  have hts := X.1.2.2.2.2
  unfold tw_speaks at h
  refine lv_aload_n hx hb dX3_speaks_0 rfl (lv_at hl 0 rfl) ?_
  refine lv_iload_n hx hb dX3_speaks_1 rfl (lv_at hl 1 rfl) ?_
  refine lv_iload_n hx hb dX3_speaks_2 rfl (lv_at hl 2 rfl) ?_
  obtain ⟨r_2, e_1, h⟩ := bo_ex h
  refine r_calli (r_runV (rest := []) X hP 0 tw_c0 lk_3 (mt_X3_unsaid l G σ a1 a2 e_1) (cwV 2 hts (lw_V q2040 q2042 qs74 q113 q2043) rfl rfl rfl ⟨rfl, cdX3_unsaid⟩ ⟨Nat.le_of_ble_eq_true rfl, Nat.le_of_ble_eq_true rfl⟩) rfl hl.1 rfl (Nat.le_of_ble_eq_true rfl) dX3_speaks_3 ⟨Nat.le_refl _, Nat.le_refl _⟩) hP (fun H locs hP => ?_)
  refine lv_istore_n (lv' := [(3, .int r_2), (0, .ref (G.2.2.1 0)), (1, .int a1), (2, .int a2)]) hx hb dX3_speaks_6 rfl hl (by decide) rfl (fun ls hl => ?_)
  refine lv_iconst (v := (1 : Int32)) hx hb dX3_speaks_7 (by decide) ?_
  refine lv_iload_n hx hb dX3_speaks_8 rfl (lv_at hl 0 rfl) ?_
  refine lv_iadd hx hb dX3_speaks_9 ?_
  refine lv_aload_n hx hb dX3_speaks_10 rfl (lv_at hl 1 rfl) ?_
  refine r_geti X hP 0 tw_c0 lk_3 27 (Nat.le_of_ble_eq_true rfl) q1665 tw_f27 dX3_speaks_11 ?_
  obtain ⟨x_3, h_4, h⟩ := bo_ex h
  have hJ_5 : ∀ (H : Heap) (locs : List Loc) (ls : Array Slot), PS tw_ft G s σ H locs → lv_has ls 7 [(0, .ref (G.2.2.1 0)), (1, .int a1), (2, .int a2), (3, .int r_2)] → W p l e rm_X3_speaks s m args below meth c H locs 0 0 Q (F0 m 27 ls [.int x_3]) := by
    intro H locs ls hP hl
    refine lv_istore (lv' := [(4, .int x_3), (0, .ref (G.2.2.1 0)), (1, .int a1), (2, .int a2), (3, .int r_2)]) hx hb dX3_speaks_27 hl (by decide) rfl (fun ls hl => ?_)
    refine lv_aload_n hx hb dX3_speaks_29 rfl (lv_at hl 1 rfl) ?_
    refine r_geti X hP 0 tw_c0 lk_3 14 (Nat.le_of_ble_eq_true rfl) q1652 tw_f14 dX3_speaks_30 ?_
    refine lv_iconst (v := (1 : Int32)) hx hb dX3_speaks_33 (by decide) ?_
    obtain ⟨x_6, h_7, h⟩ := bo_ex h
    have hJ_8 : ∀ (H : Heap) (locs : List Loc) (ls : Array Slot), PS tw_ft G s σ H locs → lv_has ls 7 [(0, .ref (G.2.2.1 0)), (1, .int a1), (2, .int a2), (3, .int r_2)] → W p l e rm_X3_speaks s m args below meth c H locs 0 0 Q (F0 m 50 ls [.int x_6]) := by
      intro H locs ls hP hl
      refine lv_istore (lv' := [(4, .int x_6), (0, .ref (G.2.2.1 0)), (1, .int a1), (2, .int a2), (3, .int r_2)]) hx hb dX3_speaks_50 hl (by decide) rfl (fun ls hl => ?_)
      refine lv_iload_n hx hb dX3_speaks_52 rfl (lv_at hl 4 rfl) ?_
      refine lv_aload_n hx hb dX3_speaks_53 rfl (lv_at hl 1 rfl) ?_
      refine r_geti X hP 0 tw_c0 lk_3 27 (Nat.le_of_ble_eq_true rfl) q1665 tw_f27 dX3_speaks_54 ?_
      refine lv_iconst (v := (1 : Int32)) hx hb dX3_speaks_57 (by decide) ?_
      refine lv_isub hx hb dX3_speaks_58 ?_
      obtain ⟨x_9, h_10, h⟩ := bo_ex h
      have hJ_11 : ∀ (H : Heap) (locs : List Loc) (ls : Array Slot), PS tw_ft G s σ H locs → lv_has ls 7 [(0, .ref (G.2.2.1 0)), (1, .int a1), (2, .int a2), (4, .int x_6)] → W p l e rm_X3_speaks s m args below meth c H locs 0 0 Q (F0 m 72 ls [.int x_9]) := by
        intro H locs ls hP hl
        refine lv_istore (lv' := [(5, .int x_9), (0, .ref (G.2.2.1 0)), (1, .int a1), (2, .int a2), (4, .int x_6)]) hx hb dX3_speaks_72 hl (by decide) rfl (fun ls hl => ?_)
        refine lv_aload_n hx hb dX3_speaks_74 rfl (lv_at hl 1 rfl) ?_
        refine lv_iload_n hx hb dX3_speaks_75 rfl (lv_at hl 2 rfl) ?_
        obtain ⟨r_13, e_12, h⟩ := bo_ex h
        refine r_calli (r_runV (rest := []) X hP 0 tw_c0 lk_3 (mt_X3_stopper l G σ a1 e_12) (cwV 1 hts (lw_V q2076 q2078 qs83 q113 q2079) rfl rfl rfl ⟨rfl, cdX3_stopper⟩ ⟨Nat.le_of_ble_eq_true rfl, Nat.le_of_ble_eq_true rfl⟩) rfl hl.1 rfl (Nat.le_of_ble_eq_true rfl) dX3_speaks_76 ⟨Nat.le_refl _, Nat.le_refl _⟩) hP (fun H locs hP => ?_)
        refine lv_istore (lv' := [(6, .int r_13), (5, .int x_9), (0, .ref (G.2.2.1 0)), (1, .int a1), (2, .int a2), (4, .int x_6)]) hx hb dX3_speaks_79 hl (by decide) rfl (fun ls hl => ?_)
        refine lv_iload hx hb dX3_speaks_81 (lv_at hl 0 rfl) ?_
        obtain ⟨y_14, y_15, h_16, h⟩ := bo2_ex h
        have hJ_17 : ∀ (H : Heap) (locs : List Loc) (ls : Array Slot), PS tw_ft G s σ H locs → lv_has ls 7 [(0, .ref (G.2.2.1 0)), (1, .int a1), (2, .int a2), (4, .int y_14), (5, .int y_15), (6, .int r_13)] → W p l e rm_X3_speaks s m args below meth c H locs 0 0 Q (F0 m 103 ls []) := by
          intro H locs ls hP hl
          refine lv_aload_n hx hb dX3_speaks_103 rfl (lv_at hl 0 rfl) ?_
          refine r_geta X hP 0 tw_c0 lk_3 34 (Nat.le_of_ble_eq_true rfl) q1672 tw_f34 dX3_speaks_104 ?_
          refine lv_iload_n hx hb dX3_speaks_107 rfl (lv_at hl 1 rfl) ?_
          refine lv_iload hx hb dX3_speaks_108 (lv_at hl 5 rfl) ?_
          refine r_iast X tw_w hP 14 tw_c14 (ck_in h) dX3_speaks_110 (fun σ_18 H locs e_19 hP => ?_)
          have h := st_k (ck_k h) e_19
          refine lv_aload_n hx hb dX3_speaks_111 rfl (lv_at hl 0 rfl) ?_
          refine r_geta X hP 0 tw_c0 lk_3 39 (Nat.le_of_ble_eq_true rfl) q1677 tw_f39 dX3_speaks_112 ?_
          refine lv_aload_n hx hb dX3_speaks_115 rfl (lv_at hl 0 rfl) ?_
          refine r_geti X hP 0 tw_c0 lk_3 30 (Nat.le_of_ble_eq_true rfl) q1668 tw_f30 dX3_speaks_116 ?_
          refine lv_iload_n hx hb dX3_speaks_119 rfl (lv_at hl 1 rfl) ?_
          refine r_iast X tw_w hP 19 tw_c19 (ck_in h) dX3_speaks_120 (fun σ_20 H locs e_21 hP => ?_)
          have h := st_k (ck_k h) e_21
          refine lv_aload_n hx hb dX3_speaks_121 rfl (lv_at hl 0 rfl) ?_
          refine r_geta X hP 0 tw_c0 lk_3 40 (Nat.le_of_ble_eq_true rfl) q1678 tw_f40 dX3_speaks_122 ?_
          refine lv_aload_n hx hb dX3_speaks_125 rfl (lv_at hl 0 rfl) ?_
          refine r_geti X hP 0 tw_c0 lk_3 30 (Nat.le_of_ble_eq_true rfl) q1668 tw_f30 dX3_speaks_126 ?_
          refine lv_iload_n hx hb dX3_speaks_129 rfl (lv_at hl 2 rfl) ?_
          refine r_iast X tw_w hP 20 tw_c20 (ck_in h) dX3_speaks_130 (fun σ_22 H locs e_23 hP => ?_)
          have h := st_k (ck_k h) e_23
          refine lv_aload_n hx hb dX3_speaks_131 rfl (lv_at hl 0 rfl) ?_
          refine r_geta X hP 0 tw_c0 lk_3 41 (Nat.le_of_ble_eq_true rfl) q1679 tw_f41 dX3_speaks_132 ?_
          refine lv_aload_n hx hb dX3_speaks_135 rfl (lv_at hl 0 rfl) ?_
          refine r_geti X hP 0 tw_c0 lk_3 30 (Nat.le_of_ble_eq_true rfl) q1668 tw_f30 dX3_speaks_136 ?_
          refine lv_aload_n hx hb dX3_speaks_139 rfl (lv_at hl 0 rfl) ?_
          refine r_geti X hP 0 tw_c0 lk_3 29 (Nat.le_of_ble_eq_true rfl) q1667 tw_f29 dX3_speaks_140 ?_
          refine r_iast X tw_w hP 21 tw_c21 (ck_in h) dX3_speaks_143 (fun σ_24 H locs e_25 hP => ?_)
          have h := st_k (ck_k h) e_25
          refine lv_aload_n hx hb dX3_speaks_144 rfl (lv_at hl 0 rfl) ?_
          refine r_geta X hP 0 tw_c0 lk_3 42 (Nat.le_of_ble_eq_true rfl) q1680 tw_f42 dX3_speaks_145 ?_
          refine lv_aload_n hx hb dX3_speaks_148 rfl (lv_at hl 0 rfl) ?_
          refine r_geti X hP 0 tw_c0 lk_3 30 (Nat.le_of_ble_eq_true rfl) q1668 tw_f30 dX3_speaks_149 ?_
          refine lv_iload hx hb dX3_speaks_152 (lv_at hl 3 rfl) ?_
          refine r_iast X tw_w hP 22 tw_c22 (ck_in h) dX3_speaks_154 (fun σ_26 H locs e_27 hP => ?_)
          have h := st_k (ck_k h) e_27
          refine lv_aload_n hx hb dX3_speaks_155 rfl (lv_at hl 0 rfl) ?_
          refine r_geta X hP 0 tw_c0 lk_3 43 (Nat.le_of_ble_eq_true rfl) q1681 tw_f43 dX3_speaks_156 ?_
          refine lv_aload_n hx hb dX3_speaks_159 rfl (lv_at hl 0 rfl) ?_
          refine r_geti X hP 0 tw_c0 lk_3 30 (Nat.le_of_ble_eq_true rfl) q1668 tw_f30 dX3_speaks_160 ?_
          refine lv_aload_n hx hb dX3_speaks_163 rfl (lv_at hl 0 rfl) ?_
          refine lv_iload_n hx hb dX3_speaks_164 rfl (lv_at hl 1 rfl) ?_
          refine lv_iload_n hx hb dX3_speaks_165 rfl (lv_at hl 2 rfl) ?_
          refine lv_iload hx hb dX3_speaks_166 (lv_at hl 4 rfl) ?_
          obtain ⟨r_29, σ_30, e_28, h⟩ := bo2_ex h
          refine r_calli (r_runV (rest := [.int (gI σ_26 0 30), .ref (G.2.2.1 23)]) X hP 0 tw_c0 lk_3 (mt_X3_saysNew l G σ_26 a1 a2 y_15 e_28) (cwV 3 hts (lw_V q2080 q2082 qs84 q113 q2083) rfl rfl rfl ⟨rfl, cdX3_saysNew⟩ ⟨Nat.le_of_ble_eq_true rfl, Nat.le_of_ble_eq_true rfl⟩) rfl hl.1 rfl (Nat.le_of_ble_eq_true rfl) dX3_speaks_168 ⟨Nat.le_refl _, Nat.le_refl _⟩) hP (fun H locs hP => ?_)
          refine r_iast X tw_w hP 23 tw_c23 (ck_in h) dX3_speaks_171 (fun σ_31 H locs e_32 hP => ?_)
          have h := st_k (ck_k h) e_32
          refine lv_aload_n hx hb dX3_speaks_172 rfl (lv_at hl 0 rfl) ?_
          refine r_geta X hP 0 tw_c0 lk_3 44 (Nat.le_of_ble_eq_true rfl) q1682 tw_f44 dX3_speaks_173 ?_
          refine lv_aload_n hx hb dX3_speaks_176 rfl (lv_at hl 0 rfl) ?_
          refine r_geti X hP 0 tw_c0 lk_3 30 (Nat.le_of_ble_eq_true rfl) q1668 tw_f30 dX3_speaks_177 ?_
          refine lv_aload_n hx hb dX3_speaks_180 rfl (lv_at hl 0 rfl) ?_
          refine r_geta X hP 0 tw_c0 lk_3 43 (Nat.le_of_ble_eq_true rfl) q1681 tw_f43 dX3_speaks_181 ?_
          refine lv_aload_n hx hb dX3_speaks_184 rfl (lv_at hl 0 rfl) ?_
          refine r_geti X hP 0 tw_c0 lk_3 30 (Nat.le_of_ble_eq_true rfl) q1668 tw_f30 dX3_speaks_185 ?_
          refine r_iald X hP 23 tw_c23 (ck_in h) dX3_speaks_188 ?_
          have h := ck_k h
          obtain ⟨x_33, h_34, h⟩ := bo_ex h
          have hJ_35 : ∀ (H : Heap) (locs : List Loc) (ls : Array Slot), PS tw_ft G s σ_31 H locs → lv_has ls 7 [(0, .ref (G.2.2.1 0)), (1, .int a1), (2, .int a2), (4, .int y_14), (6, .int r_13)] → W p l e rm_X3_speaks s m args below meth c H locs 0 0 Q (F0 m 203 ls [.int x_33, .int (gI σ_31 0 30), .ref (G.2.2.1 24)]) := by
            intro H locs ls hP hl
            refine r_iast X tw_w hP 24 tw_c24 (ck_in h) dX3_speaks_203 (fun σ_36 H locs e_37 hP => ?_)
            have h := st_k (ck_k h) e_37
            refine lv_aload_n hx hb dX3_speaks_204 rfl (lv_at hl 0 rfl) ?_
            refine r_geta X hP 0 tw_c0 lk_3 45 (Nat.le_of_ble_eq_true rfl) q1683 tw_f45 dX3_speaks_205 ?_
            refine lv_aload_n hx hb dX3_speaks_208 rfl (lv_at hl 0 rfl) ?_
            refine r_geti X hP 0 tw_c0 lk_3 30 (Nat.le_of_ble_eq_true rfl) q1668 tw_f30 dX3_speaks_209 ?_
            refine lv_iload hx hb dX3_speaks_212 (lv_at hl 4 rfl) ?_
            refine r_iast X tw_w hP 25 tw_c25 (ck_in h) dX3_speaks_214 (fun σ_38 H locs e_39 hP => ?_)
            have h := st_k (ck_k h) e_39
            refine lv_aload_n hx hb dX3_speaks_215 rfl (lv_at hl 0 rfl) ?_
            refine lv_dup hx hb dX3_speaks_216 rfl ?_
            refine r_geti X hP 0 tw_c0 lk_3 30 (Nat.le_of_ble_eq_true rfl) q1668 tw_f30 dX3_speaks_217 ?_
            refine lv_iconst (v := (1 : Int32)) hx hb dX3_speaks_220 (by decide) ?_
            refine lv_iadd hx hb dX3_speaks_221 ?_
            refine r_puti X tw_w hP 0 tw_c0 lk_3 30 (Nat.le_of_ble_eq_true rfl) q1668 tw_f30 rfl (tyX3_ok 30 (by decide)) rfl rfl dX3_speaks_222 (fun σ_40 H locs e_41 hP => ?_)
            have h := st_k h e_41
            refine lv_aload_n hx hb dX3_speaks_225 rfl (lv_at hl 0 rfl) ?_
            refine r_geta X hP 0 tw_c0 lk_3 32 (Nat.le_of_ble_eq_true rfl) q1670 tw_f32 dX3_speaks_226 ?_
            refine lv_iload_n hx hb dX3_speaks_229 rfl (lv_at hl 1 rfl) ?_
            refine lv_dup2_11 hx hb dX3_speaks_230 rfl rfl ?_
            refine r_iald X hP 12 tw_c12 (ck_in h) dX3_speaks_231 ?_
            have h := ck_k h
            refine lv_iconst (v := (1 : Int32)) hx hb dX3_speaks_232 (by decide) ?_
            refine lv_iadd hx hb dX3_speaks_233 ?_
            refine r_iast X tw_w hP 12 tw_c12 (ck_in h) dX3_speaks_234 (fun σ_42 H locs e_43 hP => ?_)
            have h := st_k (ck_k h) e_43
            refine lv_aload_n hx hb dX3_speaks_235 rfl (lv_at hl 0 rfl) ?_
            refine lv_iload_n hx hb dX3_speaks_236 rfl (lv_at hl 1 rfl) ?_
            refine r_puti X tw_w hP 0 tw_c0 lk_3 31 (Nat.le_of_ble_eq_true rfl) q1669 tw_f31 rfl (tyX3_ok 31 (by decide)) rfl rfl dX3_speaks_237 (fun σ_44 H locs e_45 hP => ?_)
            have h := st_k h e_45
            refine lv_aload_n hx hb dX3_speaks_240 rfl (lv_at hl 0 rfl) ?_
            refine lv_dup hx hb dX3_speaks_241 rfl ?_
            refine r_geti X hP 0 tw_c0 lk_3 29 (Nat.le_of_ble_eq_true rfl) q1667 tw_f29 dX3_speaks_242 ?_
            refine lv_iload hx hb dX3_speaks_245 (lv_at hl 3 rfl) ?_
            refine lv_iadd hx hb dX3_speaks_247 ?_
            refine r_puti X tw_w hP 0 tw_c0 lk_3 29 (Nat.le_of_ble_eq_true rfl) q1667 tw_f29 rfl (tyX3_ok 29 (by decide)) rfl rfl dX3_speaks_248 (fun σ_46 H locs e_47 hP => ?_)
            have h := st_k h e_47
            refine lv_aload_n hx hb dX3_speaks_251 rfl (lv_at hl 0 rfl) ?_
            refine r_geta X hP 0 tw_c0 lk_3 37 (Nat.le_of_ble_eq_true rfl) q1675 tw_f37 dX3_speaks_252 ?_
            refine lv_iload_n hx hb dX3_speaks_255 rfl (lv_at hl 2 rfl) ?_
            refine lv_dup2_11 hx hb dX3_speaks_256 rfl rfl ?_
            refine r_iald X hP 17 tw_c17 (ck_in h) dX3_speaks_257 ?_
            have h := ck_k h
            refine lv_iload hx hb dX3_speaks_258 (lv_at hl 3 rfl) ?_
            refine lv_iadd hx hb dX3_speaks_260 ?_
            refine r_iast X tw_w hP 17 tw_c17 (ck_in h) dX3_speaks_261 (fun σ_48 H locs e_49 hP => ?_)
            have h := st_k (ck_k h) e_49
            exact hret _ _ _ _ _ dX3_speaks_262 (Option.some.inj h) hP
          refine lv_if_ne (tgt := 201) hx hb dX3_speaks_189 (by decide) (fun c_50 => ?_) (fun c_50 => ?_)
          · have h_34 := it_f h_34 c_50
            refine lv_bipush (v := (-2 : Int32)) hx hb dX3_speaks_201 (by decide) ?_
            obtain rfl := Option.some.inj h_34
            exact hJ_35 _ _ _ hP (lv_sub hl [0, 1, 2, 3, 5] rfl)
          · have h_34 := it_t h_34 c_50
            refine lv_aload_n hx hb dX3_speaks_192 rfl (lv_at hl 0 rfl) ?_
            refine lv_iload_n hx hb dX3_speaks_193 rfl (lv_at hl 1 rfl) ?_
            refine lv_iload_n hx hb dX3_speaks_194 rfl (lv_at hl 2 rfl) ?_
            obtain ⟨r_52, e_51, h_34⟩ := bo_ex h_34
            refine r_calli (r_runV (rest := [.int (gI σ_31 0 30), .ref (G.2.2.1 24)]) X hP 0 tw_c0 lk_3 (mt_X3_saysAgain l G σ_31 a1 a2 e_51) (cwV 2 hts (lw_V q2084 q2086 qs85 q113 q2087) rfl rfl rfl ⟨rfl, cdX3_saysAgain⟩ ⟨Nat.le_of_ble_eq_true rfl, Nat.le_of_ble_eq_true rfl⟩) rfl hl.1 rfl (Nat.le_of_ble_eq_true rfl) dX3_speaks_195 ⟨Nat.le_refl _, Nat.le_refl _⟩) hP (fun H locs hP => ?_)
            refine lv_goto (tgt := 203) hx hb dX3_speaks_198 (by decide) ?_
            obtain rfl := Option.some.inj h_34
            exact hJ_35 _ _ _ hP (lv_sub hl [0, 1, 2, 3, 5] rfl)
        refine lv_if_lt (tgt := 103) hx hb dX3_speaks_83 (by decide) (fun c_53 => ?_) (fun c_53 => ?_)
        · have h_16 := it_t h_16 c_53
          obtain ⟨rfl, rfl⟩ := so2 h_16
          exact hJ_17 _ _ _ hP (lv_sub hl [2, 3, 4, 5, 1, 0] rfl)
        · have h_16 := it_f h_16 c_53
          refine lv_iconst (v := (1 : Int32)) hx hb dX3_speaks_86 (by decide) ?_
          refine lv_istore (lv' := [(4, .int (1 : Int32)), (6, .int r_13), (5, .int x_9), (0, .ref (G.2.2.1 0)), (1, .int a1), (2, .int a2)]) hx hb dX3_speaks_87 hl (by decide) rfl (fun ls hl => ?_)
          refine lv_iload hx hb dX3_speaks_89 (lv_at hl 2 rfl) ?_
          refine lv_iconst (v := (1 : Int32)) hx hb dX3_speaks_91 (by decide) ?_
          obtain ⟨x_54, h_55, h_16⟩ := bo_ex h_16
          have hJ_56 : ∀ (H : Heap) (locs : List Loc) (ls : Array Slot), PS tw_ft G s σ H locs → lv_has ls 7 [(0, .ref (G.2.2.1 0)), (1, .int a1), (2, .int a2), (4, .int (1 : Int32)), (6, .int r_13)] → W p l e rm_X3_speaks s m args below meth c H locs 0 0 Q (F0 m 101 ls [.int x_54]) := by
            intro H locs ls hP hl
            refine lv_istore (lv' := [(5, .int x_54), (0, .ref (G.2.2.1 0)), (1, .int a1), (2, .int a2), (4, .int (1 : Int32)), (6, .int r_13)]) hx hb dX3_speaks_101 hl (by decide) rfl (fun ls hl => ?_)
            obtain ⟨rfl, rfl⟩ := so2 h_16
            exact hJ_17 _ _ _ hP (lv_sub hl [1, 2, 3, 4, 0, 5] rfl)
          refine lv_icmp_le (tgt := 99) hx hb dX3_speaks_92 (by decide) (fun c_57 => ?_) (fun c_57 => ?_)
          · have h_55 := it_t h_55 c_57
            refine lv_iload hx hb dX3_speaks_99 (lv_at hl 2 rfl) ?_
            obtain rfl := Option.some.inj h_55
            exact hJ_56 _ _ _ hP (lv_sub hl [3, 4, 5, 0, 1] rfl)
          · have h_55 := it_f h_55 c_57
            refine lv_iconst (v := (1 : Int32)) hx hb dX3_speaks_95 (by decide) ?_
            refine lv_goto (tgt := 101) hx hb dX3_speaks_96 (by decide) ?_
            obtain rfl := Option.some.inj h_55
            exact hJ_56 _ _ _ hP (lv_sub hl [3, 4, 5, 0, 1] rfl)
      refine lv_icmp_ge (tgt := 66) hx hb dX3_speaks_59 (by decide) (fun c_58 => ?_) (fun c_58 => ?_)
      · have h_10 := it_t h_10 c_58
        refine lv_aload_n hx hb dX3_speaks_66 rfl (lv_at hl 1 rfl) ?_
        refine r_geti X hP 0 tw_c0 lk_3 27 (Nat.le_of_ble_eq_true rfl) q1665 tw_f27 dX3_speaks_67 ?_
        refine lv_iconst (v := (1 : Int32)) hx hb dX3_speaks_70 (by decide) ?_
        refine lv_isub hx hb dX3_speaks_71 ?_
        obtain rfl := Option.some.inj h_10
        exact hJ_11 _ _ _ hP (lv_sub hl [1, 2, 3, 0] rfl)
      · have h_10 := it_f h_10 c_58
        refine lv_iload_n hx hb dX3_speaks_62 rfl (lv_at hl 4 rfl) ?_
        refine lv_goto (tgt := 72) hx hb dX3_speaks_63 (by decide) ?_
        obtain rfl := Option.some.inj h_10
        exact hJ_11 _ _ _ hP (lv_sub hl [1, 2, 3, 0] rfl)
    refine lv_icmp_ne (tgt := 48) hx hb dX3_speaks_34 (by decide) (fun c_59 => ?_) (fun c_59 => ?_)
    · have h_7 := it_f h_7 c_59
      refine lv_iload hx hb dX3_speaks_48 (lv_at hl 0 rfl) ?_
      obtain rfl := Option.some.inj h_7
      exact hJ_8 _ _ _ hP (lv_sub hl [1, 2, 3, 4] rfl)
    · have h_7 := it_t h_7 c_59
      refine lv_iconst (v := (2 : Int32)) hx hb dX3_speaks_37 (by decide) ?_
      refine lv_iload hx hb dX3_speaks_38 (lv_at hl 0 rfl) ?_
      refine lv_imul hx hb dX3_speaks_40 ?_
      refine lv_iconst (v := (2 : Int32)) hx hb dX3_speaks_41 (by decide) ?_
      refine lv_iadd hx hb dX3_speaks_42 ?_
      refine lv_iconst (v := (3 : Int32)) hx hb dX3_speaks_43 (by decide) ?_
      refine lv_idiv hx hb dX3_speaks_44 (nz_ne h_7) ?_
      have h_7 := nz_k h_7
      refine lv_goto (tgt := 50) hx hb dX3_speaks_45 (by decide) ?_
      obtain rfl := Option.some.inj h_7
      exact hJ_8 _ _ _ hP (lv_sub hl [1, 2, 3, 4] rfl)
  refine lv_icmp_le (tgt := 24) hx hb dX3_speaks_14 (by decide) (fun c_60 => ?_) (fun c_60 => ?_)
  · have h_4 := it_t h_4 c_60
    refine lv_iconst (v := (1 : Int32)) hx hb dX3_speaks_24 (by decide) ?_
    refine lv_iload_n hx hb dX3_speaks_25 rfl (lv_at hl 0 rfl) ?_
    refine lv_iadd hx hb dX3_speaks_26 ?_
    obtain rfl := Option.some.inj h_4
    exact hJ_5 _ _ _ hP (lv_sub hl [1, 2, 3, 0] rfl)
  · have h_4 := it_f h_4 c_60
    refine lv_aload_n hx hb dX3_speaks_17 rfl (lv_at hl 1 rfl) ?_
    refine r_geti X hP 0 tw_c0 lk_3 27 (Nat.le_of_ble_eq_true rfl) q1665 tw_f27 dX3_speaks_18 ?_
    refine lv_goto (tgt := 27) hx hb dX3_speaks_21 (by decide) ?_
    obtain rfl := Option.some.inj h_4
    exact hJ_5 _ _ _ hP (lv_sub hl [1, 2, 3, 0] rfl)
